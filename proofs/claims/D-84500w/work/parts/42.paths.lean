theorem and_lo (a : Int) : 0 ≤ b32 (· &&& ·) a 32767 ∧ b32 (· &&& ·) a 32767 < 32768 := by
  unfold b32
  show 0 ≤ (Int32.ofInt a &&& Int32.ofInt 32767).toInt ∧ (Int32.ofInt a &&& Int32.ofInt 32767).toInt < 32768
  have h : (Int32.ofInt a &&& Int32.ofInt 32767).toBitVec.toNat ≤ 32767 := by
    rw [Int32.toBitVec_and, BitVec.toNat_and]
    exact Nat.and_le_right
  have e : (Int32.ofInt a &&& Int32.ofInt 32767).toInt = ((Int32.ofInt a &&& Int32.ofInt 32767).toBitVec.toNat : Int) := by
    show (Int32.ofInt a &&& Int32.ofInt 32767).toBitVec.toInt = _
    rw [BitVec.toInt_eq_toNat_of_lt (by omega)]
  omega
theorem and_mod {a : Int} (h0 : 0 ≤ a) (h1 : a < 2147483648) : b32 (· &&& ·) a 32767 = a % 32768 := by
  unfold b32
  show (Int32.ofInt a &&& Int32.ofInt 32767).toInt = a % 32768
  obtain ⟨n, rfl⟩ : ∃ n : Nat, a = n := ⟨a.toNat, by omega⟩
  have h : (Int32.ofInt n &&& Int32.ofInt 32767).toBitVec.toNat = n % 32768 := by
    rw [Int32.toBitVec_and, BitVec.toNat_and]
    have e1 : (Int32.ofInt (n : Int)).toBitVec.toNat = n := by
      show (BitVec.ofInt 32 (n : Int)).toNat = n
      rw [BitVec.toNat_ofInt]; omega
    have e2 : (Int32.ofInt 32767).toBitVec.toNat = 2 ^ 15 - 1 := by decide
    rw [e1, e2, Nat.and_two_pow_sub_one_eq_mod]
  have e : (Int32.ofInt n &&& Int32.ofInt 32767).toInt = ((Int32.ofInt n &&& Int32.ofInt 32767).toBitVec.toNat : Int) := by
    show (Int32.ofInt n &&& Int32.ofInt 32767).toBitVec.toInt = _
    rw [BitVec.toInt_eq_toNat_of_lt (by omega)]
  rw [e, h]; omega
theorem and31 (a : Int) : 0 ≤ b32 (· &&& ·) a 2147483647 := by
  unfold b32
  show 0 ≤ (Int32.ofInt a &&& Int32.ofInt 2147483647).toInt
  have h : (Int32.ofInt a &&& Int32.ofInt 2147483647).toBitVec.toNat ≤ 2147483647 := by
    rw [Int32.toBitVec_and, BitVec.toNat_and]
    exact Nat.and_le_right
  have e : (Int32.ofInt a &&& Int32.ofInt 2147483647).toInt = ((Int32.ofInt a &&& Int32.ofInt 2147483647).toBitVec.toNat : Int) := by
    show (Int32.ofInt a &&& Int32.ofInt 2147483647).toBitVec.toInt = _
    rw [BitVec.toInt_eq_toNat_of_lt (by omega)]
  omega
theorem shl32 {m : Int} (h0 : 0 ≤ m) (h1 : m < 24) : (Int64.ofInt (m + 1) <<< ((Int32.ofInt 32).toInt64 &&& 63)).toInt = (m + 1) * 4294967296 := by
  have h : ∀ i : Fin 24, (Int64.ofInt ((i.val : Int) + 1) <<< ((Int32.ofInt 32).toInt64 &&& 63)).toInt = ((i.val : Int) + 1) * 4294967296 := by decide
  have := h ⟨m.toNat, by omega⟩
  rw [show (((⟨m.toNat, by omega⟩ : Fin 24).val : Nat) : Int) = m from by show ((m.toNat : Nat) : Int) = m; omega] at this
  exact this
theorem ex_min {P : Nat → Prop} : ∀ n, P n → ∃ m, m ≤ n ∧ P m ∧ ∀ k, k < m → ¬ P k := by
  intro n
  induction n using Nat.strongRecOn with
  | _ n ih =>
    intro h
    by_cases q : ∃ k, k < n ∧ P k
    · obtain ⟨k, k1, k2⟩ := q
      obtain ⟨m, m1, m2, m3⟩ := ih k k1 k2
      exact ⟨m, by omega, m2, m3⟩
    · exact ⟨n, Nat.le_refl _, h, fun k k1 k2 => q ⟨k, k1, k2⟩⟩
/-- from h on, round about: the first place that stops -/
theorem oa_stop {N h e : Nat} {stop : Nat → Prop} (hh : h < N) (he : e < N) (hs : stop e) : ∃ J, J < N ∧ stop ((h + J) % N) ∧ ∀ s, s < J → ¬ stop ((h + s) % N) := by
  have e1 : (h + (e + N - h) % N) % N = e := by
    by_cases q : h ≤ e
    · rw [show e + N - h = (e - h) + N by omega, Nat.add_mod_right, Nat.mod_eq_of_lt (show e - h < N by omega), show h + (e - h) = e by omega, Nat.mod_eq_of_lt he]
    · rw [Nat.mod_eq_of_lt (show e + N - h < N by omega), show h + (e + N - h) = e + N by omega, Nat.add_mod_right, Nat.mod_eq_of_lt he]
  obtain ⟨J, j1, j2, j3⟩ := ex_min (P := fun J => stop ((h + J) % N)) ((e + N - h) % N) (by rw [e1]; exact hs)
  exact ⟨J, Nat.lt_of_le_of_lt j1 (Nat.mod_lt _ (by omega)), j2, j3⟩
/-- a table in which each entry is reached from its start over filled places -/
def oa (N : Nat) (E : Nat → Prop) (st : Nat → Nat) : Prop := ∀ i, i < N → E i → ∃ j, j < N ∧ i = (st i + j) % N ∧ ∀ t, t < j → E ((st i + t) % N)
theorem oa_hit {N h i J : Nat} {E mt : Nat → Prop} {st : Nat → Nat} (ho : oa N E st) (hi : i < N) (hE : E i) (hst : st i = h) (hm : mt i) (hu : ∀ k, k < N → E k → mt k → k = i) (hJ : ¬ E ((h + J) % N) ∨ mt ((h + J) % N)) (hmin : ∀ s, s < J → ¬ (¬ E ((h + s) % N) ∨ mt ((h + s) % N))) (hN : 0 < N) : (h + J) % N = i := by
  obtain ⟨j, j1, j2, j3⟩ := ho i hi hE
  rw [hst] at j2 j3
  have hle : J ≤ j := by
    apply Classical.byContradiction
    intro q
    exact hmin j (by omega) (Or.inr (j2 ▸ hm))
  by_cases q : J = j
  · rw [q]; exact j2.symm
  · have hE2 := j3 J (by omega)
    rcases hJ with g | g
    · exact absurd hE2 g
    · exact hu _ (Nat.mod_lt _ hN) hE2 g
theorem php : ∀ (n N : Nat) (g : Nat → Nat), n < N → (∀ p, p < N → g p < n) → ∃ p q, p < N ∧ q < N ∧ p ≠ q ∧ g p = g q := by
  intro n
  induction n with
  | zero => intro N g h1 h2; exact absurd (h2 0 h1) (Nat.not_lt_zero _)
  | succ n ih =>
    intro N g h1 h2
    by_cases hc : ∃ p, p < N - 1 ∧ g p = g (N - 1)
    · obtain ⟨p, p1, p2⟩ := hc
      exact ⟨p, N - 1, by omega, by omega, by omega, p2⟩
    · have hc : ∀ p, p < N - 1 → g p ≠ g (N - 1) := fun p p1 p2 => hc ⟨p, p1, p2⟩
      have hl := h2 (N - 1) (by omega)
      obtain ⟨p, q, p1, q1, pq, e⟩ := ih (N - 1) (fun p => if g p = n then g (N - 1) else g p) (by omega) (fun p hp => by
        have a := h2 p (by omega)
        have b := hc p hp
        show (if g p = n then g (N - 1) else g p) < n
        split <;> omega)
      refine ⟨p, q, by omega, by omega, pq, ?_⟩
      have b1 := hc p p1
      have b2 := hc q q1
      split at e <;> split at e <;> omega
theorem php_free {n N : Nat} {f : Nat → Nat} (h : n < N) : ∃ p, p < N ∧ ∀ j, j < n → f j ≠ p := by
  apply Classical.byContradiction
  intro q
  have : ∀ p, ∃ j, p < N → j < n ∧ f j = p := by
    intro p
    by_cases hp : p < N
    · apply Classical.byContradiction
      intro z
      exact q ⟨p, hp, fun j j1 j2 => z ⟨j, fun _ => ⟨j1, j2⟩⟩⟩
    · exact ⟨0, fun z => absurd z hp⟩
  obtain ⟨p, r, p1, r1, pr, e⟩ := php n N (fun p => Classical.choose (this p)) h (fun p hp => (Classical.choose_spec (this p) hp).1)
  have a := (Classical.choose_spec (this p) p1).2
  have b := (Classical.choose_spec (this r) r1).2
  have e : Classical.choose (this p) = Classical.choose (this r) := e
  rw [e] at a
  exact pr (a.symm.trans b)
def hKey (m x : Int) : Int := (m + 1) * 4294967296 + x
def hX (k : Int) : Int := (((Int64.ofInt ((b64 (· ^^^ ·) k (((Int64.ofInt k).toUInt64 >>> ((Int32.ofInt 27).toInt64.toUInt64 &&& Int64.toUInt64 63)).toInt64.toInt)) * ((2654435761)))).toUInt64 >>> ((Int32.ofInt 8).toInt64.toUInt64 &&& Int64.toUInt64 63)).toInt64.toInt)
def hS (k : Int) : Nat := (b32 (· &&& ·) (hX k) 32767).toNat
theorem hS_lt (k : Int) : hS k < 32768 := by
  have := and_lo (hX k); unfold hS; omega
def hZ (m x : Int) : Nat := ((w32 (b32 (· &&& ·) ((m * 40503) + (x * 9973)) 2147483647)).tmod 65536).toNat
theorem hZ_val (m x : Int) : ((w32 (b32 (· &&& ·) ((m * 40503) + (x * 9973)) 2147483647)).tmod 65536) = (hZ m x : Int) ∧ hZ m x < 65536 := by
  unfold hZ
  generalize hb : b32 (· &&& ·) ((m * 40503) + (x * 9973)) 2147483647 = b
  have h0 : 0 ≤ b := hb ▸ and31 _
  have h1 : b < 2147483648 := by
    rw [← hb]; unfold b32; exact Int32.toInt_lt _
  rw [w32_id (by omega) h1, Int.tmod_eq_emod_of_nonneg h0]
  omega
/-- the entries of both tables of paths: n of them, members M, numbers X -/
def hE (n : Nat) (M X : Nat → Int) : Prop := (∀ j, j < n → (0 ≤ M j ∧ M j < 24) ∧ 0 ≤ X j ∧ X j < 2000000) ∧ ∀ i j, i < n → j < n → M i = M j → X i = X j → i = j
def hC (n : Nat) (M X key tim use : Nat → Int) : Prop := (∀ j, j < n → ∃ p : Nat, p < 32768 ∧ use j = p ∧ key p = hKey (M j) (X j)) ∧ (∀ p, p < 32768 → key p ≠ 0 → ∃ j, j < n ∧ use j = (p : Int)) ∧ (∀ p, p < 32768 → key p = 0 → tim p = 0) ∧ oa 32768 (fun p => key p ≠ 0) (fun p => hS (key p))
def hT (n : Nat) (M X hsh : Nat → Int) : Prop := (∀ s, s < 65536 → hsh s = 0 ∨ ∃ j : Nat, j < n ∧ hsh s = (j : Int) + 1) ∧ (∀ j, j < n → ∃ s : Nat, s < 65536 ∧ hsh s = (j : Int) + 1) ∧ (∀ s t, s < 65536 → t < 65536 → hsh s = hsh t → hsh s ≠ 0 → s = t) ∧ oa 65536 (fun s => hsh s ≠ 0) (fun s => hZ (M (hsh s - 1).toNat) (X (hsh s - 1).toNat))
def hR (I I' : vJ) (n : Nat) : Prop := (I 1960 3090 = n ∧ I' 2075 7818 = n) ∧ n ≤ 24000 ∧ hE n (I' 2255) (I' 2256) ∧ hC n (I' 2255) (I' 2256) (I 1979) (I 1980) (I 1981) ∧ hT n (I' 2255) (I' 2256) (I' 2258) ∧ ∀ j, j < n → I 1980 (I 1981 j).toNat = I' 2257 j
theorem hKey_ne {m x : Int} (hm : 0 ≤ m ∧ m < 24) (hx : 0 ≤ x ∧ x < 2000000) : hKey m x ≠ 0 ∧ -9223372036854775808 ≤ hKey m x ∧ hKey m x < 9223372036854775808 := by
  unfold hKey; omega
theorem hKey_inj {m x m' x' : Int} (hx : 0 ≤ x ∧ x < 2000000) (hx' : 0 ≤ x' ∧ x' < 2000000) (h : hKey m x = hKey m' x') : m = m' ∧ x = x' := by
  unfold hKey at h; omega
/-- the house's search -/
theorem h_cloop {d : Nat} {Y : vY} {I : vJ} {Q : vE → Prop} {x1 x2 k : Int} {h J : Nat} (hL : vL Y) (hh : h < 32768) (hk : k ≠ 0 ∧ -9223372036854775808 ≤ k ∧ k < 9223372036854775808) (hr : ∀ p, p < 32768 → -9223372036854775808 ≤ I 1979 p ∧ I 1979 p < 9223372036854775808) (hJ : I 1979 ((h + J) % 32768) = 0 ∨ I 1979 ((h + J) % 32768) = k) (hmin : ∀ s, s < J → ¬ (I 1979 ((h + s) % 32768) = 0 ∨ I 1979 ((h + s) % 32768) = k)) (hQ : Q (.inl (some (vi ((h + J) % 32768 : Nat))), (I, Y))) :
    ∀ (t s : Nat), s + t = J → vW d 148 (31, [vr 1960, vi x1, vi x2, vl k, vu, vi ((h + s) % 32768 : Nat)], [], (I, Y)) Q := by
  intro t
  induction t with
  | zero =>
    intro s hs
    have hs : s = J := by omega
    subst hs
    have r := hr ((h + s) % 32768) (Nat.mod_lt _ (by decide))
    have l : (h + s) % 32768 < 32768 := Nat.mod_lt _ (by decide)
    generalize (h + s) % 32768 = p at *
    rcases hJ with e | e
    · rw [b148_31 hL (by omega) (by omega)]
      simp (disch := (first | assumption | omega | (simp only [up_app, Nat.reduceEqDiff, false_and, and_false, true_and, and_true, if_true, if_false, Nat.add_left_cancel_iff, Nat.add_right_cancel_iff, Nat.add_eq_left, Nat.left_eq_add, tn0, tn1, tn2, tn3, tn4, tn5, tn6, tn7, tn8, tn9]; omega))) only [b148_43, b148_68, vWC_n, vWC_s, vWC_x, if01a, if01b, if_pos, if_neg, tn0, tn1, tn2, tn3, tn4, tn5, tn6, tn7, tn8, tn9, w32_id, w64_id, Nat.reduceAdd, reduceIte, Int.reduceLT, Int.reduceLE, Int.reduceEq, Int.reduceNe, Int.reduceAdd, Int.reduceSub, Int.reduceMul, Int.reduceNeg, Int.reduceToNat, ne_eq, not_true_eq_false, not_false_eq_true, true_and, and_true, false_and, and_false, true_or, or_true, false_or, or_false, if_true, if_false, and_self, or_self, ite_self]
      exact hQ
    · rw [b148_31 hL (by omega) (by omega)]
      simp (disch := (first | assumption | omega | (simp only [up_app, Nat.reduceEqDiff, false_and, and_false, true_and, and_true, if_true, if_false, Nat.add_left_cancel_iff, Nat.add_right_cancel_iff, Nat.add_eq_left, Nat.left_eq_add, tn0, tn1, tn2, tn3, tn4, tn5, tn6, tn7, tn8, tn9]; omega))) only [b148_43, b148_68, vWC_n, vWC_s, vWC_x, if01a, if01b, if_pos, if_neg, tn0, tn1, tn2, tn3, tn4, tn5, tn6, tn7, tn8, tn9, w32_id, w64_id, Nat.reduceAdd, reduceIte, Int.reduceLT, Int.reduceLE, Int.reduceEq, Int.reduceNe, Int.reduceAdd, Int.reduceSub, Int.reduceMul, Int.reduceNeg, Int.reduceToNat, ne_eq, not_true_eq_false, not_false_eq_true, true_and, and_true, false_and, and_false, true_or, or_true, false_or, or_false, if_true, if_false, and_self, or_self, ite_self]
      exact hQ
  | succ t ih =>
    intro s hs
    have r := hr ((h + s) % 32768) (Nat.mod_lt _ (by decide))
    have l : (h + s) % 32768 < 32768 := Nat.mod_lt _ (by decide)
    have g := hmin s (by omega)
    have nx := ih (s + 1) (by omega)
    have e : ((h + (s + 1)) % 32768 : Nat) = (((h + s) % 32768) + 1) % 32768 := by omega
    rw [e] at nx
    generalize (h + s) % 32768 = p at *
    rw [b148_31 hL (by omega) (by omega)]
    simp (disch := (first | assumption | omega | (simp only [up_app, Nat.reduceEqDiff, false_and, and_false, true_and, and_true, if_true, if_false, Nat.add_left_cancel_iff, Nat.add_right_cancel_iff, Nat.add_eq_left, Nat.left_eq_add, tn0, tn1, tn2, tn3, tn4, tn5, tn6, tn7, tn8, tn9]; omega))) only [b148_43, b148_55, vWC_n, vWC_s, vWC_x, if01a, if01b, if_pos, if_neg, tn0, tn1, tn2, tn3, tn4, tn5, tn6, tn7, tn8, tn9, w32_id, w64_id, Nat.reduceAdd, reduceIte, Int.reduceLT, Int.reduceLE, Int.reduceEq, Int.reduceNe, Int.reduceAdd, Int.reduceSub, Int.reduceMul, Int.reduceNeg, Int.reduceToNat, ne_eq, not_true_eq_false, not_false_eq_true, true_and, and_true, false_and, and_false, true_or, or_true, false_or, or_false, if_true, if_false, and_self, or_self, ite_self]
    rw [and_mod (by omega) (by omega)]
    rw [show ((p : Int) + 1) % 32768 = ((p + 1) % 32768 : Nat) by omega]
    exact nx

theorem h_cfind {d : Nat} {Y : vY} {I : vJ} {Q : vE → Prop} {m x : Int} {n : Nat} {M X : Nat → Int} (hL : vL Y) (hn : n ≤ 24000) (hE0 : hE n M X) (hC0 : hC n M X (I 1979) (I 1980) (I 1981)) (hm : 0 ≤ m ∧ m < 24) (hx : 0 ≤ x ∧ x < 2000000)
    (h1 : ∀ j, j < n → M j = m → X j = x → Q (.inl (some (vi (I 1981 j))), (I, Y)))
    (h2 : (∀ j, j < n → ¬ (M j = m ∧ X j = x)) → ∀ J, J < 32768 → I 1979 ((hS (hKey m x) + J) % 32768) = 0 → (∀ t, t < J → I 1979 ((hS (hKey m x) + t) % 32768) ≠ 0) → Q (.inl (some (vi (((hS (hKey m x) + J) % 32768 : Nat) : Int))), (I, Y))) :
    vW d 148 (0, [vr 1960, vi m, vi x, vu, vu, vu], [], (I, Y)) Q := by
  obtain ⟨c1, c2, c3, c4⟩ := hC0
  have hk := hKey_ne hm hx
  have hr : ∀ p, p < 32768 → -9223372036854775808 ≤ I 1979 p ∧ I 1979 p < 9223372036854775808 := by
    intro p hp
    by_cases z : I 1979 p = 0
    · omega
    · obtain ⟨j, j1, j2⟩ := c2 p hp z
      obtain ⟨p', p1, p2, p3⟩ := c1 j j1
      have : p' = p := by omega
      subst this
      have a := (hE0.1 j j1)
      rw [p3]; exact (hKey_ne a.1 a.2).2
  have hfree : ∃ e, e < 32768 ∧ I 1979 e = 0 := by
    obtain ⟨p, p1, p2⟩ := php_free (n := n) (N := 32768) (f := fun j => (I 1981 j).toNat) (by omega)
    refine ⟨p, p1, ?_⟩
    apply Classical.byContradiction
    intro z
    obtain ⟨j, j1, j2⟩ := c2 p p1 z
    exact p2 j j1 (by rw [j2]; rfl)
  obtain ⟨e, e1, e2⟩ := hfree
  obtain ⟨J, J1, J2, J3⟩ := oa_stop (h := hS (hKey m x)) (stop := fun p => I 1979 p = 0 ∨ I 1979 p = hKey m x) (hS_lt _) e1 (Or.inl e2)
  rw [b148_0]
  have k1 : ((Int64.ofInt ((w32 m) + 1) <<< ((Int32.ofInt 32).toInt64 &&& 63)).toInt) + (w32 x) = hKey m x := by
    rw [w32_id (by omega) (by omega), w32_id (by omega) (by omega), shl32 hm.1 hm.2]; rfl
  rw [k1]
  have k2 := and_lo (hX (hKey m x))
  have k3 : b32 (· &&& ·) (hX (hKey m x)) 32767 = (((hS (hKey m x) + 0) % 32768 : Nat) : Int) := by
    have := hS_lt (hKey m x)
    rw [Nat.add_zero, Nat.mod_eq_of_lt this]; unfold hS; omega
  show vW d 148 (31, [vr 1960, vi m, vi x, vl (hKey m x), vu, vi (b32 (· &&& ·) (hX (hKey m x)) 32767)], [], (I, Y)) Q
  rw [k3]
  refine h_cloop hL (hS_lt _) hk hr J2 J3 ?_ J 0 (by omega)
  by_cases q : ∃ j, j < n ∧ M j = m ∧ X j = x
  · obtain ⟨j, j1, j2, j3⟩ := q
    obtain ⟨p, p1, p2, p3⟩ := c1 j j1
    rw [j2, j3] at p3
    have hit : (hS (hKey m x) + J) % 32768 = p := oa_hit (mt := fun p => I 1979 p = hKey m x) c4 p1 (by rw [p3]; exact hk.1) (by rw [p3]) p3 (fun k k1 k2 k3 => by
      obtain ⟨i, i1, i2⟩ := c2 k k1 k2
      obtain ⟨p', q1, q2, q3⟩ := c1 i i1
      have : p' = k := by omega
      subst this
      have a := hE0.1 i i1
      have b := hE0.1 j j1
      have := hKey_inj a.2 hx (q3.symm.trans k3)
      have : i = j := hE0.2 i j i1 j1 (by omega) (by omega)
      subst this
      omega) (by rcases J2 with z | z; exact Or.inl (fun w => w z); exact Or.inr z) (fun s s1 s2 => J3 s s1 (by rcases s2 with z | z; exact Or.inl (Classical.byContradiction z); exact Or.inr z)) (by decide)
    rw [hit]
    have := h1 j j1 j2 j3
    rw [p2] at this
    exact this
  · have q : ∀ j, j < n → ¬ (M j = m ∧ X j = x) := fun j j1 j2 => q ⟨j, j1, j2⟩
    have z0 : I 1979 ((hS (hKey m x) + J) % 32768) = 0 := by
      rcases J2 with z | z
      · exact z
      · exfalso
        have l : (hS (hKey m x) + J) % 32768 < 32768 := Nat.mod_lt _ (by decide)
        obtain ⟨j, j1, j2⟩ := c2 _ l (by rw [z]; exact hk.1)
        obtain ⟨p', q1, q2, q3⟩ := c1 j j1
        have : p' = (hS (hKey m x) + J) % 32768 := by omega
        subst this
        have a := hE0.1 j j1
        have := hKey_inj a.2 hx (q3.symm.trans z)
        exact q j j1 this
    exact h2 q J J1 z0 (fun t t1 t2 => J3 t t1 (Or.inl t2))
/-- the model's search -/
theorem h_tloop {d : Nat} {Y : vY} {I : vJ} {Q : vE → Prop} {m x : Int} {n h J : Nat} (hL : vL Y) (hh : h < 65536) (hn : n ≤ 24000) (hm : 0 ≤ m ∧ m < 24) (hx : 0 ≤ x ∧ x < 2000000) (hE0 : hE n (I 2255) (I 2256)) (hr : ∀ s, s < 65536 → I 2258 s = 0 ∨ ∃ j : Nat, j < n ∧ I 2258 s = (j : Int) + 1)
    (hJ : I 2258 ((h + J) % 65536) = 0 ∨ (I 2255 (I 2258 ((h + J) % 65536) - 1).toNat = m ∧ I 2256 (I 2258 ((h + J) % 65536) - 1).toNat = x)) (hmin : ∀ s, s < J → ¬ (I 2258 ((h + s) % 65536) = 0 ∨ (I 2255 (I 2258 ((h + s) % 65536) - 1).toNat = m ∧ I 2256 (I 2258 ((h + s) % 65536) - 1).toNat = x))) (hQ : Q (.inl (some (vi ((h + J) % 65536 : Nat))), (I, Y))) :
    ∀ (t s : Nat), s + t = J → vW d 408 (20, [vr 2075, vi m, vi x, vi ((h + s) % 65536 : Nat)], [], (I, Y)) Q := by
  intro t
  induction t with
  | zero =>
    intro s hs
    have hs : s = J := by omega
    subst hs
    have l : (h + s) % 65536 < 65536 := Nat.mod_lt _ (by decide)
    have r := hr _ l
    generalize (h + s) % 65536 = p at *
    by_cases z : I 2258 p = 0
    · rw [b408_20 hL (by omega) (by omega)]
      simp (disch := (first | assumption | omega | (simp only [up_app, Nat.reduceEqDiff, false_and, and_false, true_and, and_true, if_true, if_false, Nat.add_left_cancel_iff, Nat.add_right_cancel_iff, Nat.add_eq_left, Nat.left_eq_add, tn0, tn1, tn2, tn3, tn4, tn5, tn6, tn7, tn8, tn9]; omega))) only [b408_74, vWC_n, vWC_s, vWC_x, if01a, if01b, if_pos, if_neg, tn0, tn1, tn2, tn3, tn4, tn5, tn6, tn7, tn8, tn9, w32_id, w64_id, Nat.reduceAdd, reduceIte, Int.reduceLT, Int.reduceLE, Int.reduceEq, Int.reduceNe, Int.reduceAdd, Int.reduceSub, Int.reduceMul, Int.reduceNeg, Int.reduceToNat, ne_eq, not_true_eq_false, not_false_eq_true, true_and, and_true, false_and, and_false, true_or, or_true, false_or, or_false, if_true, if_false, and_self, or_self, ite_self]
      exact hQ
    · obtain ⟨j, j1, j2⟩ := r.resolve_left z
      have e := hJ.resolve_left z
      have e0 : (I 2258 p - 1).toNat = j := by omega
      rw [e0] at e
      have a := hE0.1 j j1
      rw [b408_20 hL (by omega) (by omega)]
      simp (disch := (first | assumption | omega | (simp only [up_app, Nat.reduceEqDiff, false_and, and_false, true_and, and_true, if_true, if_false, Nat.add_left_cancel_iff, Nat.add_right_cancel_iff, Nat.add_eq_left, Nat.left_eq_add, tn0, tn1, tn2, tn3, tn4, tn5, tn6, tn7, tn8, tn9]; omega))) only [b408_29, b408_46, b408_74, e0, e.1, e.2, vWC_n, vWC_s, vWC_x, if01a, if01b, if_pos, if_neg, tn0, tn1, tn2, tn3, tn4, tn5, tn6, tn7, tn8, tn9, w32_id, w64_id, Nat.reduceAdd, reduceIte, Int.reduceLT, Int.reduceLE, Int.reduceEq, Int.reduceNe, Int.reduceAdd, Int.reduceSub, Int.reduceMul, Int.reduceNeg, Int.reduceToNat, ne_eq, not_true_eq_false, not_false_eq_true, true_and, and_true, false_and, and_false, true_or, or_true, false_or, or_false, if_true, if_false, and_self, or_self, ite_self]
      exact hQ
  | succ t ih =>
    intro s hs
    have l : (h + s) % 65536 < 65536 := Nat.mod_lt _ (by decide)
    have g := hmin s (by omega)
    have nx := ih (s + 1) (by omega)
    have e : ((h + (s + 1)) % 65536 : Nat) = (((h + s) % 65536) + 1) % 65536 := by omega
    rw [e] at nx
    have r := hr _ l
    clear e
    generalize (h + s) % 65536 = p at *
    have z : ¬ I 2258 p = 0 := fun q => g (Or.inl q)
    obtain ⟨j, j1, j2⟩ := r.resolve_left z
    have e0 : (I 2258 p - 1).toNat = j := by omega
    rw [e0] at g
    have a := hE0.1 j j1
    have f3 : (0 : Int) ≤ (p : Int) + 1 := by omega
    have f2 : ((p : Int) + 1).tmod 65536 = ((p + 1) % 65536 : Nat) := by rw [Int.tmod_eq_emod_of_nonneg f3, Int.natCast_emod]; rfl
    rw [b408_20 hL (by omega) (by omega)]
    simp (disch := (first | assumption | omega | (simp only [up_app, Nat.reduceEqDiff, false_and, and_false, true_and, and_true, if_true, if_false, Nat.add_left_cancel_iff, Nat.add_right_cancel_iff, Nat.add_eq_left, Nat.left_eq_add, tn0, tn1, tn2, tn3, tn4, tn5, tn6, tn7, tn8, tn9]; omega))) only [b408_29, b408_46, b408_63, e0, f2, ite_self, vWC_n, vWC_s, vWC_x, if01a, if01b, if_pos, if_neg, tn0, tn1, tn2, tn3, tn4, tn5, tn6, tn7, tn8, tn9, w32_id, w64_id, Nat.reduceAdd, reduceIte, Int.reduceLT, Int.reduceLE, Int.reduceEq, Int.reduceNe, Int.reduceAdd, Int.reduceSub, Int.reduceMul, Int.reduceNeg, Int.reduceToNat, ne_eq, not_true_eq_false, not_false_eq_true, true_and, and_true, false_and, and_false, true_or, or_true, false_or, or_false, if_true, if_false, and_self, or_self, ite_self]
    exact nx
theorem h_tfind {d : Nat} {Y : vY} {I : vJ} {Q : vE → Prop} {m x : Int} {n : Nat} (hL : vL Y) (hn : n ≤ 24000) (hE0 : hE n (I 2255) (I 2256)) (hT0 : hT n (I 2255) (I 2256) (I 2258)) (hm : 0 ≤ m ∧ m < 24) (hx : 0 ≤ x ∧ x < 2000000)
    (h1 : ∀ j p : Nat, j < n → I 2255 j = m → I 2256 j = x → p < 65536 → I 2258 p = (j : Int) + 1 → Q (.inl (some (vi p)), (I, Y)))
    (h2 : (∀ j, j < n → ¬ (I 2255 j = m ∧ I 2256 j = x)) → ∀ J, J < 65536 → I 2258 ((hZ m x + J) % 65536) = 0 → (∀ t, t < J → I 2258 ((hZ m x + t) % 65536) ≠ 0) → Q (.inl (some (vi (((hZ m x + J) % 65536 : Nat) : Int))), (I, Y))) :
    vW d 408 (0, [vr 2075, vi m, vi x, vu], [], (I, Y)) Q := by
  obtain ⟨c1, c2, c3, c4⟩ := hT0
  have hz := hZ_val m x
  have hfree : ∃ e, e < 65536 ∧ I 2258 e = 0 := by
    have hc : ∀ j, ∃ s : Nat, j < n → s < 65536 ∧ I 2258 s = (j : Int) + 1 := by
      intro j
      by_cases z : j < n
      · obtain ⟨s, s1, s2⟩ := c2 j z
        exact ⟨s, fun _ => ⟨s1, s2⟩⟩
      · exact ⟨0, fun q => absurd q z⟩
    obtain ⟨p, p1, p2⟩ := php_free (n := n) (N := 65536) (f := fun j => Classical.choose (hc j)) (by omega)
    refine ⟨p, p1, ?_⟩
    rcases c1 p p1 with z | ⟨j, j1, j2⟩
    · exact z
    · exfalso
      have a := Classical.choose_spec (hc j) j1
      exact p2 j j1 (c3 _ _ a.1 p1 (a.2.trans j2.symm) (by rw [a.2]; omega))
  obtain ⟨e, e1, e2⟩ := hfree
  obtain ⟨J, J1, J2, J3⟩ := oa_stop (h := hZ m x) (stop := fun p => I 2258 p = 0 ∨ (I 2255 (I 2258 p - 1).toNat = m ∧ I 2256 (I 2258 p - 1).toNat = x)) hz.2 e1 (Or.inl e2)
  rw [b408_0]
  have k0 : w32 (65536 : Int) = 65536 := rfl
  rw [k0, hz.1]
  have k3 : ((hZ m x : Nat) : Int) = (((hZ m x + 0) % 65536 : Nat) : Int) := by
    rw [Nat.add_zero, Nat.mod_eq_of_lt hz.2]
  rw [k3]
  refine h_tloop hL hz.2 hn hm hx hE0 c1 J2 J3 ?_ J 0 (by omega)
  by_cases q : ∃ j, j < n ∧ I 2255 j = m ∧ I 2256 j = x
  · obtain ⟨j, j1, j2, j3⟩ := q
    obtain ⟨p, p1, p2⟩ := c2 j j1
    have e0 : (I 2258 p - 1).toNat = j := by omega
    have hit : (hZ m x + J) % 65536 = p := oa_hit (mt := fun p => I 2255 (I 2258 p - 1).toNat = m ∧ I 2256 (I 2258 p - 1).toNat = x) c4 p1 (by rw [p2]; omega) (by simp only [e0, j2, j3]) (by simp only [e0, j2, j3, and_self]) (fun k k1 k2 k3 => by
      obtain ⟨i, i1, i2⟩ := (c1 k k1).resolve_left k2
      have e0' : (I 2258 k - 1).toNat = i := by omega
      rw [e0'] at k3
      have : i = j := hE0.2 i j i1 j1 (by omega) (by omega)
      subst this
      exact c3 k p k1 p1 (by omega) k2) (by rcases J2 with z | z; exact Or.inl (fun w => w z); exact Or.inr z) (fun s s1 s2 => J3 s s1 (by rcases s2 with z | z; exact Or.inl (Classical.byContradiction z); exact Or.inr z)) (by decide)
    rw [hit]
    exact h1 j p j1 j2 j3 p1 p2
  · have q : ∀ j, j < n → ¬ (I 2255 j = m ∧ I 2256 j = x) := fun j j1 j2 => q ⟨j, j1, j2⟩
    have z0 : I 2258 ((hZ m x + J) % 65536) = 0 := by
      rcases J2 with z | z
      · exact z
      · apply Classical.byContradiction
        intro w
        have l : (hZ m x + J) % 65536 < 65536 := Nat.mod_lt _ (by decide)
        obtain ⟨j, j1, j2⟩ := (c1 _ l).resolve_left w
        rw [show (I 2258 ((hZ m x + J) % 65536) - 1).toNat = j by omega] at z
        exact q j j1 z
    exact h2 q J J1 z0 (fun t t1 t2 => J3 t t1 (Or.inl t2))
def frok (L : List Nat) (P : List (Nat × Nat)) (c f : Nat) : Bool := !(L.any (fun q => Nat.beq q c)) && !(P.any (fun q => Nat.beq q.1 c && Nat.beq q.2 f))
/-- all but the cells of L and the places of P is as it was -/
def fr (L : List Nat) (P : List (Nat × Nat)) (I J : vJ) : Prop := ∀ c f, frok L P c f = true → J c f = I c f
theorem fr_refl (L : List Nat) (P : List (Nat × Nat)) (I : vJ) : fr L P I I := fun _ _ _ => rfl
theorem fr_trans {L : List Nat} {P : List (Nat × Nat)} {I J K : vJ} (h : fr L P I J) (h' : fr L P J K) : fr L P I K := fun c f e => (h' c f e).trans (h c f e)
theorem fr_row {L : List Nat} {P : List (Nat × Nat)} {I J : vJ} (h : fr L P I J) (c : Nat) (e : ∀ f, frok L P c f = true) : J c = I c := funext fun f => h c f (e f)
theorem fr_upL {L : List Nat} {P : List (Nat × Nat)} {I J : vJ} (h : fr L P I J) {c : Nat} (hc : L.any (fun q => Nat.beq q c) = true) (j : Nat) (x : Int) : fr L P I (up J c j x) := by
  intro b f e
  rw [up_cell]
  · exact h b f e
  · intro q
    subst q
    unfold frok at e
    rw [hc] at e
    cases e
theorem fr_upP {L : List Nat} {P : List (Nat × Nat)} {I J : vJ} (h : fr L P I J) {c j : Nat} (hc : P.any (fun q => Nat.beq q.1 c && Nat.beq q.2 j) = true) (x : Int) : fr L P I (up J c j x) := by
  intro b f e
  by_cases q : b = c ∧ f = j
  · obtain ⟨rfl, rfl⟩ := q
    unfold frok at e
    rw [hc, Bool.not_true, Bool.and_false] at e
    cases e
  · rw [show up J c j x b f = J b f from if_neg q]; exact h b f e

theorem hE_new {n : Nat} {M X M' X' : Nat → Int} {m x : Int} (h : hE n M X) (hm : 0 ≤ m ∧ m < 24) (hx : 0 ≤ x ∧ x < 2000000) (hno : ∀ j, j < n → ¬ (M j = m ∧ X j = x)) (e1 : ∀ j, M' j = if j = n then m else M j) (e2 : ∀ j, X' j = if j = n then x else X j) : hE (n + 1) M' X' := by
  refine ⟨fun j hj => ?_, fun i j hi hj => ?_⟩
  · rw [e1, e2]
    by_cases q : j = n
    · simp only [q, if_true]; exact ⟨hm, hx⟩
    · simp only [q, if_false]; exact h.1 j (by omega)
  · rw [e1, e2, e1, e2]
    by_cases qi : i = n
    · by_cases qj : j = n
      · intro _ _; omega
      · simp only [qi, qj, if_true, if_false]
        intro a b
        exact absurd ⟨a.symm, b.symm⟩ (hno j (by omega))
    · by_cases qj : j = n
      · simp only [qi, qj, if_true, if_false]
        intro a b
        exact absurd ⟨a, b⟩ (hno i (by omega))
      · simp only [qi, qj, if_false]
        exact h.2 i j (by omega) (by omega)
theorem oa_new {N h J : Nat} {E E' : Nat → Prop} {st st' : Nat → Nat} (ho : oa N E st) (hN : 0 < N) (hJ : J < N) (hf : ∀ t, t < J → E ((h + t) % N)) (hE' : ∀ i, i < N → (E' i ↔ E i ∨ i = (h + J) % N)) (hst : ∀ i, i < N → E i → st' i = st i) (hst2 : st' ((h + J) % N) = h) (hne : ¬ E ((h + J) % N)) : oa N E' st' := by
  intro i hi hE
  by_cases q : i = (h + J) % N
  · refine ⟨J, hJ, by rw [q, hst2], fun t ht => ?_⟩
    rw [q, hst2]
    exact (hE' _ (Nat.mod_lt _ hN)).mpr (Or.inl (hf t ht))
  · have e := ((hE' i hi).mp hE).resolve_right q
    obtain ⟨j, j1, j2, j3⟩ := ho i hi e
    rw [hst i hi e]
    exact ⟨j, j1, j2, fun t ht => (hE' _ (Nat.mod_lt _ hN)).mpr (Or.inl (j3 t ht))⟩
theorem hR_new {I I' : vJ} {n p s J J' : Nat} {m x : Int} (hR0 : hR I I' n) (hn : n < 24000) (hm : 0 ≤ m ∧ m < 24) (hx : 0 ≤ x ∧ x < 2000000) (hno : ∀ j, j < n → ¬ (I' 2255 j = m ∧ I' 2256 j = x)) (hp : (hS (hKey m x) + J) % 32768 = p) (J1 : J < 32768) (J2 : I 1979 p = 0) (J3 : ∀ t, t < J → I 1979 ((hS (hKey m x) + t) % 32768) ≠ 0) (hs : (hZ m x + J') % 65536 = s) (J1' : J' < 65536) (J2' : I' 2258 s = 0) (J3' : ∀ t, t < J' → I' 2258 ((hZ m x + t) % 65536) ≠ 0) :
    hR (up (up (up (up I 1979 p (hKey m x)) 1981 n p) 1960 3090 (n + 1)) 1980 p 1) (up (up (up (up (up (up I' 2255 n m) 2256 n x) 2257 n 0) 2075 7818 (n + 1)) 2258 s (n + 1)) 2257 n 1) (n + 1) := by
  obtain ⟨⟨r1, r2⟩, r3, r4, r5, r6, r7⟩ := hR0
  have hk := hKey_ne hm hx
  have l : p < 32768 := hp ▸ Nat.mod_lt _ (by decide)
  have l' : s < 65536 := hs ▸ Nat.mod_lt _ (by decide)
  have m1 : ∀ j, up (up (up (up (up (up I' 2255 n m) 2256 n x) 2257 n 0) 2075 7818 (n + 1)) 2258 s (n + 1)) 2257 n 1 2255 j = if j = n then m else I' 2255 j := fun j => by simp only [up_app, Nat.reduceEqDiff, false_and, and_false, true_and, and_true, if_true, if_false, Nat.add_left_cancel_iff, Nat.add_right_cancel_iff, Nat.add_eq_left, Nat.left_eq_add]
  have m2 : ∀ j, up (up (up (up (up (up I' 2255 n m) 2256 n x) 2257 n 0) 2075 7818 (n + 1)) 2258 s (n + 1)) 2257 n 1 2256 j = if j = n then x else I' 2256 j := fun j => by simp only [up_app, Nat.reduceEqDiff, false_and, and_false, true_and, and_true, if_true, if_false, Nat.add_left_cancel_iff, Nat.add_right_cancel_iff, Nat.add_eq_left, Nat.left_eq_add]
  have m3 : ∀ j, up (up (up (up (up (up I' 2255 n m) 2256 n x) 2257 n 0) 2075 7818 (n + 1)) 2258 s (n + 1)) 2257 n 1 2258 j = if j = s then (n : Int) + 1 else I' 2258 j := fun j => by simp only [up_app, Nat.reduceEqDiff, false_and, and_false, true_and, and_true, if_true, if_false, Nat.add_left_cancel_iff, Nat.add_right_cancel_iff, Nat.add_eq_left, Nat.left_eq_add]
  have m4 : ∀ j, up (up (up (up (up (up I' 2255 n m) 2256 n x) 2257 n 0) 2075 7818 (n + 1)) 2258 s (n + 1)) 2257 n 1 2257 j = if j = n then 1 else I' 2257 j := fun j => by
    simp only [up_app, Nat.reduceEqDiff, false_and, and_false, true_and, and_true, if_true, if_false, Nat.add_left_cancel_iff, Nat.add_right_cancel_iff, Nat.add_eq_left, Nat.left_eq_add]; by_cases q : j = n
    · simp only [q, if_true]
    · simp only [q, if_false]
  have c1 : ∀ j, up (up (up (up I 1979 p (hKey m x)) 1981 n p) 1960 3090 (n + 1)) 1980 p 1 1979 j = if j = p then hKey m x else I 1979 j := fun j => by simp only [up_app, Nat.reduceEqDiff, false_and, and_false, true_and, and_true, if_true, if_false, Nat.add_left_cancel_iff, Nat.add_right_cancel_iff, Nat.add_eq_left, Nat.left_eq_add]
  have c2 : ∀ j, up (up (up (up I 1979 p (hKey m x)) 1981 n p) 1960 3090 (n + 1)) 1980 p 1 1981 j = if j = n then (p : Int) else I 1981 j := fun j => by simp only [up_app, Nat.reduceEqDiff, false_and, and_false, true_and, and_true, if_true, if_false, Nat.add_left_cancel_iff, Nat.add_right_cancel_iff, Nat.add_eq_left, Nat.left_eq_add]
  have c3 : ∀ j, up (up (up (up I 1979 p (hKey m x)) 1981 n p) 1960 3090 (n + 1)) 1980 p 1 1980 j = if j = p then 1 else I 1980 j := fun j => by simp only [up_app, Nat.reduceEqDiff, false_and, and_false, true_and, and_true, if_true, if_false, Nat.add_left_cancel_iff, Nat.add_right_cancel_iff, Nat.add_eq_left, Nat.left_eq_add]
  have up_ne : ∀ j, j < n → ∀ q : Nat, I 1981 j = q → q ≠ p := by
    intro j hj q hq e
    subst e
    obtain ⟨p', q1, q2, q3⟩ := r5.1 j hj
    have : p' = q := by omega
    subst this
    have a := r4.1 j hj
    have := (hKey_ne a.1 a.2).1
    rw [← q3] at this
    exact this J2
  refine ⟨?_, by omega, hE_new r4 hm hx hno m1 m2, ⟨fun j hj => ?_, fun q q1 q2 => ?_, fun q q1 q2 => ?_, ?_⟩, ⟨fun q q1 => ?_, fun j hj => ?_, fun q t q1 t1 => ?_, ?_⟩, fun j hj => ?_⟩
  · simp only [up_app, Nat.reduceEqDiff, false_and, and_false, true_and, and_true, if_true, if_false, Nat.add_left_cancel_iff, Nat.add_right_cancel_iff, Nat.add_eq_left, Nat.left_eq_add]; omega
  · rw [m1, m2, c2]
    by_cases z : j = n
    · simp only [z, if_true]
      exact ⟨p, l, rfl, by rw [c1, if_pos rfl]⟩
    · simp only [z, if_false]
      obtain ⟨p', q1, q2, q3⟩ := r5.1 j (by omega)
      exact ⟨p', q1, q2, by rw [c1, if_neg (up_ne j (by omega) p' q2)]; exact q3⟩
  · rw [c1] at q2
    by_cases z : q = p
    · exact ⟨n, by omega, by rw [c2, if_pos rfl, z]⟩
    · rw [if_neg z] at q2
      obtain ⟨j, j1, j2⟩ := r5.2.1 q q1 q2
      exact ⟨j, by omega, by rw [c2, if_neg (by omega)]; exact j2⟩
  · rw [c1] at q2
    by_cases z : q = p
    · rw [if_pos z] at q2; exact absurd q2 hk.1
    · rw [if_neg z] at q2
      rw [c3, if_neg z]; exact r5.2.2.1 q q1 q2
  · refine oa_new r5.2.2.2 (by decide) J1 J3 (fun i hi => ?_) (fun i hi hE => ?_) ?_ (by rw [hp]; exact fun z => z J2)
    · simp only [c1]
      rw [hp]
      by_cases z : i = p
      · simp only [z, if_true]; exact ⟨fun _ => Or.inr trivial, fun _ => hk.1⟩
      · simp only [z, if_false, or_false]
    · simp only [c1]
      by_cases z : i = p
      · exact absurd (z ▸ J2) hE
      · rw [if_neg z]
    · simp only [c1]; rw [hp, if_pos rfl]
  · rw [m3]
    by_cases z : q = s
    · exact Or.inr ⟨n, by omega, by rw [if_pos z]⟩
    · rw [if_neg z]
      rcases r6.1 q q1 with w | ⟨j, j1, j2⟩
      · exact Or.inl w
      · exact Or.inr ⟨j, by omega, j2⟩
  · by_cases z : j = n
    · exact ⟨s, l', by rw [m3, if_pos rfl, z]⟩
    · obtain ⟨q, q1, q2⟩ := r6.2.1 j (by omega)
      refine ⟨q, q1, ?_⟩
      rw [m3, if_neg]
      · exact q2
      · intro w; rw [w, J2'] at q2; omega
  · rw [m3, m3]
    by_cases zq : q = s
    · by_cases zt : t = s
      · intro _ _; omega
      · rw [if_pos zq, if_neg zt]
        intro a _
        rcases r6.1 t t1 with w | ⟨j, j1, j2⟩ <;> omega
    · by_cases zt : t = s
      · rw [if_neg zq, if_pos zt]
        intro a _
        rcases r6.1 q q1 with w | ⟨j, j1, j2⟩ <;> omega
      · rw [if_neg zq, if_neg zt]
        exact r6.2.2.1 q t q1 t1
  · have hs1 : ∀ i, i < 65536 → I' 2258 i ≠ 0 → i ≠ s ∧ ∃ j, j < n ∧ (I' 2258 i - 1).toNat = j := by
      intro i hi hE
      refine ⟨fun z => hE (z ▸ J2'), ?_⟩
      obtain ⟨j, j1, j2⟩ := (r6.1 i hi).resolve_left hE
      exact ⟨j, j1, by omega⟩
    refine oa_new r6.2.2.2 (by decide) J1' J3' (fun i hi => ?_) (fun i hi hE => ?_) ?_ (by rw [hs]; exact fun z => z J2')
    · simp only [m3]
      rw [hs]
      by_cases z : i = s
      · simp only [z, if_true]; exact ⟨fun _ => Or.inr trivial, fun _ => by omega⟩
      · simp only [z, if_false, or_false]
    · obtain ⟨a, j, b, c⟩ := hs1 i hi hE
      simp only [m1, m2, m3]
      rw [if_neg a, c, if_neg (by omega), if_neg (by omega)]
    · simp only [m1, m2, m3]
      rw [hs, if_pos rfl, show ((n : Int) + 1 - 1).toNat = n by omega, if_pos rfl, if_pos rfl]
  · rw [c2, m4, c3]
    by_cases z : j = n
    · simp only [z, if_true, tn0]
    · simp only [z, if_false]
      obtain ⟨p', q1, q2, q3⟩ := r5.1 j (by omega)
      have a := up_ne j (by omega) p' q2
      have e := r7 j (by omega)
      rw [q2] at e ⊢
      simp only [tn0] at e ⊢
      rw [if_neg a]; exact e
/-- a path is gone once more -/
theorem h_path {d d' : Nat} {Y Y' : vY} {I I' : vJ} {Q : vE → vE → Prop} {n a : Nat} {m x : Int} (hL : vL Y) (hL' : vL Y') (hR0 : hR I I' n) (hm : 0 ≤ m ∧ m < 24) (hx : 0 ≤ x ∧ x < 2000000) (ha : a < 320) (hs : 0 ≤ I' 2202 a ∧ I' 2202 a < 1400) (hxe : I' 2178 (I' 2202 a).toNat + I' 2203 a = x)
    (hroom : (∀ j, j < n → ¬ (I' 2255 j = m ∧ I' 2256 j = x)) → n < 24000)
    (hQ : ∀ (J J' : vJ) (n' : Nat), hR J J' n' → (n' = n ∨ n' = n + 1 ∧ (∀ j, j < n → ¬ (I' 2255 j = m ∧ I' 2256 j = x)) ∧ J' 2255 n = m ∧ J' 2256 n = x) → (∀ j, j < n → J' 2255 j = I' 2255 j ∧ J' 2256 j = I' 2256 j) → (∀ j, j < n' → j < n ∧ (J' 2257 j = I' 2257 j ∨ J' 2257 j = I' 2257 j + 1) ∨ J' 2257 j = 1) → fr [1979, 1980, 1981] [(1960, 3090)] I J → fr [2255, 2256, 2257, 2258] [(2075, 7818)] I' J' → Q (.inl none, (J, Y)) (.inl none, (J', Y'))) :
    vW (d + 1) 147 (0, [vr 1960, vi m, vi x, vu], [], (I, Y)) (fun r => vW (d' + 1) 407 (17, [vr 2075, vi a, vi m, vu, vu], [], (I', Y')) (fun r' => Q r r')) := by
  obtain ⟨⟨r1, r2⟩, r3, r4, r5, r6, r7⟩ := hR0
  have hk := hKey_ne hm hx
  rw [b147_0 hL]
  refine h_cfind hL r3 r4 r5 hm hx (fun j j1 j2 j3 => ?_) (fun hno J J1 J2 J3 => ?_)
  · obtain ⟨p, p1, p2, p3⟩ := r5.1 j j1
    rw [j2, j3] at p3
    have p4 : I 1979 p ≠ 0 := by rw [p3]; exact hk.1
    have p5 : -9223372036854775808 ≤ I 1979 p ∧ I 1979 p < 9223372036854775808 := by rw [p3]; exact hk.2
    have e7 := r7 j j1
    rw [p2] at e7
    simp only [tn0] at e7
    simp (disch := (first | assumption | omega | (simp only [up_app, Nat.reduceEqDiff, false_and, and_false, true_and, and_true, if_true, if_false, Nat.add_left_cancel_iff, Nat.add_right_cancel_iff, Nat.add_eq_left, Nat.left_eq_add, tn0, tn1, tn2, tn3, tn4, tn5, tn6, tn7, tn8, tn9]; omega))) only [p2, b147_6, b147_7, b147_18, b147_54, vWC_n, vWC_s, vWC_x, if01a, if01b, if_pos, if_neg, tn0, tn1, tn2, tn3, tn4, tn5, tn6, tn7, tn8, tn9, w32_id, w64_id, Nat.reduceAdd, reduceIte, Int.reduceLT, Int.reduceLE, Int.reduceEq, Int.reduceNe, Int.reduceAdd, Int.reduceSub, Int.reduceMul, Int.reduceNeg, Int.reduceToNat, ne_eq, not_true_eq_false, not_false_eq_true, true_and, and_true, false_and, and_false, true_or, or_true, false_or, or_false, if_true, if_false, and_self, or_self, ite_self]
    simp (disch := (first | assumption | omega | (simp only [up_app, Nat.reduceEqDiff, false_and, and_false, true_and, and_true, if_true, if_false, Nat.add_left_cancel_iff, Nat.add_right_cancel_iff, Nat.add_eq_left, Nat.left_eq_add, tn0, tn1, tn2, tn3, tn4, tn5, tn6, tn7, tn8, tn9]; omega))) only [b407_17, hxe, vWC_n, vWC_s, vWC_x, if01a, if01b, if_pos, if_neg, tn0, tn1, tn2, tn3, tn4, tn5, tn6, tn7, tn8, tn9, w32_id, w64_id, Nat.reduceAdd, reduceIte, Int.reduceLT, Int.reduceLE, Int.reduceEq, Int.reduceNe, Int.reduceAdd, Int.reduceSub, Int.reduceMul, Int.reduceNeg, Int.reduceToNat, ne_eq, not_true_eq_false, not_false_eq_true, true_and, and_true, false_and, and_false, true_or, or_true, false_or, or_false, if_true, if_false, and_self, or_self, ite_self]
    refine h_tfind hL' r3 r4 r6 hm hx (fun i s i1 i2 i3 s1 s2 => ?_) (fun hno _ _ _ _ => absurd ⟨j2, j3⟩ (hno j j1))
    have : i = j := r4.2 i j i1 j1 (by omega) (by omega)
    subst this
    have s3 : (I' 2258 s - 1).toNat = i := by omega
    simp (disch := (first | assumption | omega | (simp only [up_app, Nat.reduceEqDiff, false_and, and_false, true_and, and_true, if_true, if_false, Nat.add_left_cancel_iff, Nat.add_right_cancel_iff, Nat.add_eq_left, Nat.left_eq_add, tn0, tn1, tn2, tn3, tn4, tn5, tn6, tn7, tn8, tn9]; omega))) only [b407_7, b407_42, b407_44, b407_54, b407_105, s3, vWC_n, vWC_s, vWC_x, if01a, if01b, if_pos, if_neg, tn0, tn1, tn2, tn3, tn4, tn5, tn6, tn7, tn8, tn9, w32_id, w64_id, Nat.reduceAdd, reduceIte, Int.reduceLT, Int.reduceLE, Int.reduceEq, Int.reduceNe, Int.reduceAdd, Int.reduceSub, Int.reduceMul, Int.reduceNeg, Int.reduceToNat, ne_eq, not_true_eq_false, not_false_eq_true, true_and, and_true, false_and, and_false, true_or, or_true, false_or, or_false, if_true, if_false, and_self, or_self, ite_self]
    refine hQ _ _ n ?_ (Or.inl rfl) (fun k _ => ⟨up_cell _ (by decide) _ _ _, up_cell _ (by decide) _ _ _⟩) (fun k hk => Or.inl ⟨hk, by
      by_cases z : k = i
      · subst z; rw [up_same]; exact Or.inr rfl
      · rw [up_place _ _ z]; exact Or.inl rfl⟩) (fr_upL (fr_refl _ _ _) rfl _ _) (fr_upL (fr_refl _ _ _) rfl _ _)
    refine ⟨?_, r3, ?_, ?_, ?_, fun k k1 => ?_⟩
    · simp only [up_app, Nat.reduceEqDiff, false_and, and_false, true_and, and_true, if_true, if_false, Nat.add_left_cancel_iff, Nat.add_right_cancel_iff, Nat.add_eq_left, Nat.left_eq_add]; exact ⟨r1, r2⟩
    · rw [up_row _ (by decide), up_row _ (by decide)]; exact r4
    · rw [up_row _ (show 2255 ≠ 2257 by decide), up_row _ (show 2256 ≠ 2257 by decide), up_row _ (show 1979 ≠ 1980 by decide), up_row _ (show 1981 ≠ 1980 by decide)]
      refine ⟨r5.1, r5.2.1, fun q q1 q2 => ?_, r5.2.2.2⟩
      have : ¬ q = p := fun z => p4 (z ▸ q2)
      simp only [up_app, Nat.reduceEqDiff, false_and, and_false, true_and, and_true, if_true, if_false, Nat.add_left_cancel_iff, Nat.add_right_cancel_iff, Nat.add_eq_left, Nat.left_eq_add, this]; exact r5.2.2.1 q q1 q2
    · rw [up_row _ (show 2255 ≠ 2257 by decide), up_row _ (show 2256 ≠ 2257 by decide), up_row _ (show 2258 ≠ 2257 by decide)]; exact r6
    · obtain ⟨p', q1, q2, q3⟩ := r5.1 k k1
      have e := r7 k k1
      simp only [up_app, Nat.reduceEqDiff, false_and, and_false, true_and, and_true, if_true, if_false, Nat.add_left_cancel_iff, Nat.add_right_cancel_iff, Nat.add_eq_left, Nat.left_eq_add, q2, tn0]
      rw [q2] at e
      simp only [tn0] at e
      by_cases z : k = i
      · subst z
        have : p' = p := by omega
        subst this
        simp only [if_true]; rw [e7]
      · have : ¬ p' = p := by
          intro w
          subst w
          have a1 := r4.1 k k1
          have a2 := hKey_inj a1.2 hx (q3.symm.trans p3)
          exact z (r4.2 k i k1 i1 (by omega) (by omega))
        simp only [z, this, if_false]; exact e
  · have hn := hroom hno
    have l : (hS (hKey m x) + J) % 32768 < 32768 := Nat.mod_lt _ (by decide)
    have k1 : ((Int64.ofInt ((w32 m) + 1) <<< ((Int32.ofInt 32).toInt64 &&& 63)).toInt) + (w32 x) = hKey m x := by
      rw [w32_id (by omega) (by omega), w32_id (by omega) (by omega), shl32 hm.1 hm.2]; rfl
    obtain ⟨p, hp⟩ : ∃ p, (hS (hKey m x) + J) % 32768 = p := ⟨_, rfl⟩
    rw [hp] at l J2
    have z0 := r5.2.2.1 p l J2
    rw [hp]
    have b1 := b147_18 (d := d + 1) (I := I) (x1 := m) (x2 := x) (x3 := (p : Int)) (Q := (fun r => vW (d' + 1) 407 (17, [vr 2075, vi a, vi m, vu, vu], [], (I', Y')) (fun r' => Q r r'))) hL (by omega) (by omega) (by omega) (by omega)
    rw [k1] at b1
    simp (disch := (first | assumption | omega | (simp only [up_app, Nat.reduceEqDiff, false_and, and_false, true_and, and_true, if_true, if_false, Nat.add_left_cancel_iff, Nat.add_right_cancel_iff, Nat.add_eq_left, Nat.left_eq_add, tn0, tn1, tn2, tn3, tn4, tn5, tn6, tn7, tn8, tn9]; omega))) only [b147_6, b147_7, b1, r1, vWC_n, vWC_s, vWC_x, if01a, if01b, if_pos, if_neg, tn0, tn1, tn2, tn3, tn4, tn5, tn6, tn7, tn8, tn9, w32_id, w64_id, Nat.reduceAdd, reduceIte, Int.reduceLT, Int.reduceLE, Int.reduceEq, Int.reduceNe, Int.reduceAdd, Int.reduceSub, Int.reduceMul, Int.reduceNeg, Int.reduceToNat, ne_eq, not_true_eq_false, not_false_eq_true, true_and, and_true, false_and, and_false, true_or, or_true, false_or, or_false, if_true, if_false, and_self, or_self, ite_self]
    simp (disch := (first | assumption | omega | (simp only [up_app, Nat.reduceEqDiff, false_and, and_false, true_and, and_true, if_true, if_false, Nat.add_left_cancel_iff, Nat.add_right_cancel_iff, Nat.add_eq_left, Nat.left_eq_add, tn0, tn1, tn2, tn3, tn4, tn5, tn6, tn7, tn8, tn9]; omega))) only [b147_54, up_app, Nat.reduceEqDiff, false_and, and_false, true_and, and_true, if_true, if_false, Nat.add_left_cancel_iff, Nat.add_right_cancel_iff, Nat.add_eq_left, Nat.left_eq_add, z0, b407_17, hxe, vWC_n, vWC_s, vWC_x, if01a, if01b, if_pos, if_neg, tn0, tn1, tn2, tn3, tn4, tn5, tn6, tn7, tn8, tn9, w32_id, w64_id, Nat.reduceAdd, reduceIte, Int.reduceLT, Int.reduceLE, Int.reduceEq, Int.reduceNe, Int.reduceAdd, Int.reduceSub, Int.reduceMul, Int.reduceNeg, Int.reduceToNat, ne_eq, not_true_eq_false, not_false_eq_true, true_and, and_true, false_and, and_false, true_or, or_true, false_or, or_false, if_true, if_false, and_self, or_self, ite_self]
    refine h_tfind hL' r3 r4 r6 hm hx (fun i s i1 i2 i3 s1 s2 => absurd ⟨i2, i3⟩ (hno i i1)) (fun _ J' J1' J2' J3' => ?_)
    have l' : (hZ m x + J') % 65536 < 65536 := Nat.mod_lt _ (by decide)
    obtain ⟨s, hs'⟩ : ∃ s, (hZ m x + J') % 65536 = s := ⟨_, rfl⟩
    rw [hs'] at l' J2'
    rw [hs']
    have n1 : ((n : Int) + 1 - 1).toNat = n := by omega
    simp (disch := (first | assumption | omega | (simp only [up_app, Nat.reduceEqDiff, false_and, and_false, true_and, and_true, if_true, if_false, Nat.add_left_cancel_iff, Nat.add_right_cancel_iff, Nat.add_eq_left, Nat.left_eq_add, tn0, tn1, tn2, tn3, tn4, tn5, tn6, tn7, tn8, tn9]; omega))) only [b407_7, b407_42, b407_44, b407_54, b407_105, r2, up_app, Nat.reduceEqDiff, false_and, and_false, true_and, and_true, if_true, if_false, Nat.add_left_cancel_iff, Nat.add_right_cancel_iff, Nat.add_eq_left, Nat.left_eq_add, n1, vWC_n, vWC_s, vWC_x, if01a, if01b, if_pos, if_neg, tn0, tn1, tn2, tn3, tn4, tn5, tn6, tn7, tn8, tn9, w32_id, w64_id, Nat.reduceAdd, reduceIte, Int.reduceLT, Int.reduceLE, Int.reduceEq, Int.reduceNe, Int.reduceAdd, Int.reduceSub, Int.reduceMul, Int.reduceNeg, Int.reduceToNat, ne_eq, not_true_eq_false, not_false_eq_true, true_and, and_true, false_and, and_false, true_or, or_true, false_or, or_false, if_true, if_false, and_self, or_self, ite_self]
    refine hQ _ _ (n + 1) (hR_new ⟨⟨r1, r2⟩, r3, r4, r5, r6, r7⟩ hn hm hx hno hp J1 J2 J3 hs' J1' J2' J3') (Or.inr ⟨rfl, hno, ?_, ?_⟩) (fun j hj => ?_) (fun j hj => ?_) ?_ ?_
    · simp only [up_app, Nat.reduceEqDiff, false_and, and_false, true_and, and_true, if_true, if_false, Nat.add_left_cancel_iff, Nat.add_right_cancel_iff, Nat.add_eq_left, Nat.left_eq_add]
    · simp only [up_app, Nat.reduceEqDiff, false_and, and_false, true_and, and_true, if_true, if_false, Nat.add_left_cancel_iff, Nat.add_right_cancel_iff, Nat.add_eq_left, Nat.left_eq_add]
    · have : ¬ j = n := by omega
      simp only [up_app, Nat.reduceEqDiff, false_and, and_false, true_and, and_true, if_true, if_false, Nat.add_left_cancel_iff, Nat.add_right_cancel_iff, Nat.add_eq_left, Nat.left_eq_add, this]
    · by_cases z : j = n
      · subst z; refine Or.inr ?_
        simp only [up_app, Nat.reduceEqDiff, false_and, and_false, true_and, and_true, if_true, if_false, Nat.add_left_cancel_iff, Nat.add_right_cancel_iff, Nat.add_eq_left, Nat.left_eq_add]
      · refine Or.inl ⟨by omega, Or.inl ?_⟩
        simp only [up_app, Nat.reduceEqDiff, false_and, and_false, true_and, and_true, if_true, if_false, Nat.add_left_cancel_iff, Nat.add_right_cancel_iff, Nat.add_eq_left, Nat.left_eq_add, z, if_false]
    · exact fr_upL (fr_upP (fr_upL (fr_upL (fr_refl _ _ _) rfl _ _) rfl _ _) rfl _) rfl _ _
    · exact fr_upL (fr_upL (fr_upP (fr_upL (fr_upL (fr_upL (fr_refl _ _ _) rfl _ _) rfl _ _) rfl _ _) rfl _) rfl _ _) rfl _ _

/-- how often a path was gone -/
theorem h_times {d d' : Nat} {Y Y' : vY} {I I' : vJ} {Q : vE → vE → Prop} {n : Nat} {m x : Int} (hL : vL Y) (hL' : vL Y') (hR0 : hR I I' n) (hm : 0 ≤ m ∧ m < 24) (hx : 0 ≤ x ∧ x < 2000000)
    (hQ : ∀ c : Int, Q (.inl (some (vi c)), (I, Y)) (.inl (some (vi c)), (I', Y'))) :
    vW (d + 1) 153 (0, [vr 1960, vi m, vi x], [], (I, Y)) (fun r => vW (d' + 1) 460 (42, [vr 2075, vi m, vi x, vu], [], (I', Y')) (fun r' => Q r r')) := by
  obtain ⟨⟨r1, r2⟩, r3, r4, r5, r6, r7⟩ := hR0
  rw [b153_0 hL]
  refine h_cfind hL r3 r4 r5 hm hx (fun j j1 j2 j3 => ?_) (fun hno J J1 J2 J3 => ?_)
  · obtain ⟨p, p1, p2, p3⟩ := r5.1 j j1
    have e7 := r7 j j1
    rw [p2] at e7
    simp only [tn0] at e7
    simp (disch := (first | assumption | omega | (simp only [up_app, Nat.reduceEqDiff, false_and, and_false, true_and, and_true, if_true, if_false, Nat.add_left_cancel_iff, Nat.add_right_cancel_iff, Nat.add_eq_left, Nat.left_eq_add, tn0, tn1, tn2, tn3, tn4, tn5, tn6, tn7, tn8, tn9]; omega))) only [p2, b153_10, b460_42, vWC_n, vWC_s, vWC_x, if01a, if01b, if_pos, if_neg, tn0, tn1, tn2, tn3, tn4, tn5, tn6, tn7, tn8, tn9, w32_id, w64_id, Nat.reduceAdd, reduceIte, Int.reduceLT, Int.reduceLE, Int.reduceEq, Int.reduceNe, Int.reduceAdd, Int.reduceSub, Int.reduceMul, Int.reduceNeg, Int.reduceToNat, ne_eq, not_true_eq_false, not_false_eq_true, true_and, and_true, false_and, and_false, true_or, or_true, false_or, or_false, if_true, if_false, and_self, or_self, ite_self]
    refine h_tfind hL' r3 r4 r6 hm hx (fun i s i1 i2 i3 s1 s2 => ?_) (fun hno _ _ _ _ => absurd ⟨j2, j3⟩ (hno j j1))
    have : i = j := r4.2 i j i1 j1 (by omega) (by omega)
    subst this
    have s3 : (I' 2258 s - 1).toNat = i := by omega
    simp (disch := (first | assumption | omega | (simp only [up_app, Nat.reduceEqDiff, false_and, and_false, true_and, and_true, if_true, if_false, Nat.add_left_cancel_iff, Nat.add_right_cancel_iff, Nat.add_eq_left, Nat.left_eq_add, tn0, tn1, tn2, tn3, tn4, tn5, tn6, tn7, tn8, tn9]; omega))) only [b460_48, b460_49, b460_58, b460_62, b460_75, s3, vWC_n, vWC_s, vWC_x, if01a, if01b, if_pos, if_neg, tn0, tn1, tn2, tn3, tn4, tn5, tn6, tn7, tn8, tn9, w32_id, w64_id, Nat.reduceAdd, reduceIte, Int.reduceLT, Int.reduceLE, Int.reduceEq, Int.reduceNe, Int.reduceAdd, Int.reduceSub, Int.reduceMul, Int.reduceNeg, Int.reduceToNat, ne_eq, not_true_eq_false, not_false_eq_true, true_and, and_true, false_and, and_false, true_or, or_true, false_or, or_false, if_true, if_false, and_self, or_self, ite_self]
    rw [e7]; exact hQ _
  · have l : (hS (hKey m x) + J) % 32768 < 32768 := Nat.mod_lt _ (by decide)
    obtain ⟨p, hp⟩ : ∃ p, (hS (hKey m x) + J) % 32768 = p := ⟨_, rfl⟩
    rw [hp] at l J2
    have z0 := r5.2.2.1 p l J2
    rw [hp]
    simp (disch := (first | assumption | omega | (simp only [up_app, Nat.reduceEqDiff, false_and, and_false, true_and, and_true, if_true, if_false, Nat.add_left_cancel_iff, Nat.add_right_cancel_iff, Nat.add_eq_left, Nat.left_eq_add, tn0, tn1, tn2, tn3, tn4, tn5, tn6, tn7, tn8, tn9]; omega))) only [b153_10, z0, b460_42, vWC_n, vWC_s, vWC_x, if01a, if01b, if_pos, if_neg, tn0, tn1, tn2, tn3, tn4, tn5, tn6, tn7, tn8, tn9, w32_id, w64_id, Nat.reduceAdd, reduceIte, Int.reduceLT, Int.reduceLE, Int.reduceEq, Int.reduceNe, Int.reduceAdd, Int.reduceSub, Int.reduceMul, Int.reduceNeg, Int.reduceToNat, ne_eq, not_true_eq_false, not_false_eq_true, true_and, and_true, false_and, and_false, true_or, or_true, false_or, or_false, if_true, if_false, and_self, or_self, ite_self]
    refine h_tfind hL' r3 r4 r6 hm hx (fun i s i1 i2 i3 s1 s2 => absurd ⟨i2, i3⟩ (hno i i1)) (fun _ J' J1' J2' J3' => ?_)
    have l' : (hZ m x + J') % 65536 < 65536 := Nat.mod_lt _ (by decide)
    obtain ⟨s, hs'⟩ : ∃ s, (hZ m x + J') % 65536 = s := ⟨_, rfl⟩
    rw [hs'] at l' J2'
    rw [hs']
    simp (disch := (first | assumption | omega | (simp only [up_app, Nat.reduceEqDiff, false_and, and_false, true_and, and_true, if_true, if_false, Nat.add_left_cancel_iff, Nat.add_right_cancel_iff, Nat.add_eq_left, Nat.left_eq_add, tn0, tn1, tn2, tn3, tn4, tn5, tn6, tn7, tn8, tn9]; omega))) only [b460_48, b460_49, b460_58, b460_62, b460_75, J2', vWC_n, vWC_s, vWC_x, if01a, if01b, if_pos, if_neg, tn0, tn1, tn2, tn3, tn4, tn5, tn6, tn7, tn8, tn9, w32_id, w64_id, Nat.reduceAdd, reduceIte, Int.reduceLT, Int.reduceLE, Int.reduceEq, Int.reduceNe, Int.reduceAdd, Int.reduceSub, Int.reduceMul, Int.reduceNeg, Int.reduceToNat, ne_eq, not_true_eq_false, not_false_eq_true, true_and, and_true, false_and, and_false, true_or, or_true, false_or, or_false, if_true, if_false, and_self, or_self, ite_self]
    exact hQ _
