/-! ===== most: the order of paths; the house takes one behind the other ===== -/
set_option maxRecDepth 20000
set_option maxHeartbeats 4000000
/-- a path stands ahead of another: times down, numbers up -/
abbrev prc (T X : Nat → Int) (a b : Nat) : Prop := T b < T a ∨ T a = T b ∧ X a < X b
theorem sW_zero {f : Nat → Int} : ∀ n, (∀ j, j < n → f j = 0) → sW f n = 0 := by
  intro n
  induction n with
  | zero => intro _; rfl
  | succ n ih => intro h; show sW f n + f n = 0; rw [ih (fun j hj => h j (by omega)), h n (by omega)]; rfl
theorem sW_le {f g : Nat → Int} : ∀ n, (∀ j, j < n → f j ≤ g j) → sW f n ≤ sW g n := by
  intro n
  induction n with
  | zero => intro _; exact Int.le_refl _
  | succ n ih =>
    intro h
    have a := ih (fun j hj => h j (by omega))
    have b := h n (by omega)
    show sW f n + f n ≤ sW g n + g n
    omega
/-- how many paths of a member stand ahead of one; how many there are -/
def rkN (M T X : Nat → Int) (m : Int) (n j : Nat) : Int := sW (fun k => if M k = m ∧ prc T X k j then 1 else 0) n
def cnN (M : Nat → Int) (m : Int) (n : Nat) : Int := sW (fun k => if M k = m then 1 else 0) n
section
variable {M T X : Nat → Int} {m : Int} {n j k : Nat}
theorem cn_le : ∀ n, cnN M m n ≤ (n : Int) := by
  intro n
  induction n with
  | zero => exact Int.le_refl _
  | succ n ih =>
    have : cnN M m (n + 1) = cnN M m n + (if M n = m then 1 else 0) := rfl
    rw [this]
    split <;> omega
theorem rk_first (hmin : ∀ i, i < n → M i = m → ¬ prc T X i j) : rkN M T X m n j = 0 := sW_zero n (fun i hi => if_neg (fun q => hmin i hi q.1 q.2))
theorem rk_next (hj : j < n) (mj : M j = m) (hd : ∀ i, i < n → M i = m → X i = X j → i = j) (hjk : prc T X j k) (hmin : ∀ i, i < n → M i = m → prc T X j i → ¬ prc T X i k) : rkN M T X m n k = rkN M T X m n j + 1 := by
  refine sW_one n hj (fun i hi ij => ?_) ?_
  · show (if M i = m ∧ prc T X i k then (1 : Int) else 0) = if M i = m ∧ prc T X i j then 1 else 0
    by_cases mi : M i = m
    · have a := hmin i hi mi
      have b : X i ≠ X j := fun q => ij (hd i hi mi q)
      have c : prc T X i k ↔ prc T X i j := by
        unfold prc at *
        constructor
        · intro q
          omega
        · intro q
          omega
      simp only [mi, true_and, c]
    · rw [if_neg (fun q => mi q.1), if_neg (fun q => mi q.1)]
  · show (if M j = m ∧ prc T X j k then (1 : Int) else 0) = (if M j = m ∧ prc T X j j then 1 else 0) + 1
    rw [if_pos ⟨mj, hjk⟩, if_neg (fun q => by have := q.2; unfold prc at this; omega)]; rfl
theorem rk_lt (hj : j < n) (mj : M j = m) (hjk : prc T X j k) : rkN M T X m n j + 1 ≤ rkN M T X m n k := by
  have e : sW (fun i => (if M i = m ∧ prc T X i j then (1 : Int) else 0) + if i = j then 1 else 0) n = rkN M T X m n j + 1 := by
    refine sW_one n hj (fun i hi ij => ?_) ?_
    · show _ + (if i = j then (1 : Int) else 0) = _
      rw [if_neg ij]; exact Int.add_zero _
    · show _ + (if j = j then (1 : Int) else 0) = _
      rw [if_pos rfl]
  rw [← e]
  refine sW_le n (fun i hi => ?_)
  show (if M i = m ∧ prc T X i j then (1 : Int) else 0) + (if i = j then 1 else 0) ≤ if M i = m ∧ prc T X i k then 1 else 0
  by_cases ij : i = j
  · subst ij
    rw [if_pos rfl, if_neg (fun q => by have := q.2; unfold prc at this; omega), if_pos ⟨mj, hjk⟩]; decide
  · rw [if_neg ij]
    by_cases q : M i = m ∧ prc T X i j
    · rw [if_pos q, if_pos ⟨q.1, by have := q.2; unfold prc at *; omega⟩]; decide
    · rw [if_neg q]
      split <;> decide
theorem rk_inj (hj : j < n) (hk : k < n) (mj : M j = m) (mk : M k = m) (hd : ∀ i i', i < n → i' < n → M i = m → M i' = m → X i = X i' → i = i') (e : rkN M T X m n j = rkN M T X m n k) : j = k := by
  apply Classical.byContradiction
  intro jk
  have b : X j ≠ X k := fun q => jk (hd j k hj hk mj mk q)
  by_cases q : prc T X j k
  · have := rk_lt hj mj q
    omega
  · have := rk_lt (T := T) (X := X) (j := k) (k := j) hk mk (by unfold prc at *; omega)
    omega
theorem rk_last (hj : j < n) (mj : M j = m) (hd : ∀ i, i < n → M i = m → X i = X j → i = j) (hno : ∀ i, i < n → M i = m → ¬ prc T X j i) : cnN M m n = rkN M T X m n j + 1 := by
  refine sW_one n hj (fun i hi ij => ?_) ?_
  · show (if M i = m then (1 : Int) else 0) = if M i = m ∧ prc T X i j then 1 else 0
    by_cases mi : M i = m
    · have b : X i ≠ X j := fun q => ij (hd i hi mi q)
      have a := hno i hi mi
      rw [if_pos mi, if_pos ⟨mi, by unfold prc at *; omega⟩]
    · rw [if_neg mi, if_neg (fun q => mi q.1)]
  · show (if M j = m then (1 : Int) else 0) = (if M j = m ∧ prc T X j j then 1 else 0) + 1
    rw [if_pos mj, if_neg (fun q => by have := q.2; unfold prc at this; omega)]; rfl
theorem rk_less (hj : j < n) (mj : M j = m) : rkN M T X m n j + 1 ≤ cnN M m n := by
  have e : sW (fun i => (if M i = m ∧ prc T X i j then (1 : Int) else 0) + if i = j then 1 else 0) n = rkN M T X m n j + 1 := by
    refine sW_one n hj (fun i hi ij => ?_) ?_
    · show _ + (if i = j then (1 : Int) else 0) = _
      rw [if_neg ij]; exact Int.add_zero _
    · show _ + (if j = j then (1 : Int) else 0) = _
      rw [if_pos rfl]
  rw [← e]
  refine sW_le n (fun i hi => ?_)
  show (if M i = m ∧ prc T X i j then (1 : Int) else 0) + (if i = j then 1 else 0) ≤ if M i = m then 1 else 0
  by_cases ij : i = j
  · subst ij
    rw [if_pos rfl, if_neg (fun q => by have := q.2; unfold prc at this; omega), if_pos mj]; decide
  · rw [if_neg ij]
    by_cases q : M i = m ∧ prc T X i j
    · rw [if_pos q, if_pos q.1]; decide
    · rw [if_neg q]
      split <;> decide
end
theorem shr32 {e : Int} (h0 : -9223372036854775808 ≤ e) (h1 : e < 9223372036854775808) : (Int64.ofInt e >>> ((Int32.ofInt 32).toInt64 &&& 63)).toInt = e / 4294967296 := by
  have e0 : (Int32.ofInt 32).toInt64 &&& 63 = (32 : Int64) := by decide
  rw [e0]
  have e1 : (Int64.ofInt e).toInt = e := by
    rw [Int64.toInt_ofInt]; exact w64_id h0 h1
  show (Int64.ofInt e >>> (32 : Int64)).toBitVec.toInt = e / 4294967296
  rw [Int64.toBitVec_shiftRight]
  have e2 : (32 : Int64).toBitVec.smod 64 = 32#64 := by decide
  rw [e2]
  show ((Int64.ofInt e).toBitVec.sshiftRight 32).toInt = e / 4294967296
  rw [BitVec.toInt_sshiftRight]
  show (Int64.ofInt e).toInt >>> 32 = e / 4294967296
  rw [e1, Int.shiftRight_eq_div_pow]
  rfl
theorem w32_key {m x : Int} (h : 0 ≤ x ∧ x < 2000000) : w32 (hKey m x) = x := by
  unfold w32 hKey
  rw [Int.bmod_def]
  split <;> omega
/-- the entries of the house's table -/
def entC (I : vJ) (n : Nat) (M T X : Nat → Int) : Prop := I 1960 3090 = n ∧ n ≤ 24000 ∧ ∀ j, j < n → ∃ p : Nat, p < 32768 ∧ I 1981 j = p ∧ I 1979 p = hKey (M j) (X j) ∧ I 1980 p = T j ∧ (0 ≤ M j ∧ M j < 24) ∧ (0 ≤ X j ∧ X j < 2000000) ∧ 1 ≤ T j ∧ T j < 2147483647
/-- a path stands behind a pair of times and number -/
abbrev bhP (M T X : Nat → Int) (m p0 p1 : Int) (k : Nat) : Prop := M k = m ∧ (T k < p0 ∨ T k = p0 ∧ p1 < X k)
section
variable {d : Nat} {Y : vY} {I : vJ} {P : vE → Prop} {m n : Nat} {M T X : Nat → Int} {p0 p1 : Int}
/-- the house's search: the first behind a pair -/
theorem c_next (hL : vL Y) (hE : entC I n M T X) (hm : m < 24) (e0 : I 2067 0 = p0) (w0 : w32 p0 = p0) (e1 : w32 (I 2067 1) = p1)
    (hQ0 : (∀ k, k < n → ¬ bhP M T X m p0 p1 k) → P (.inl (some (vi 0)), (up (up I 2067 0 0) 2067 1 (-1), Y)))
    (hQ1 : ∀ (k : Nat) (v : Int), k < n → bhP M T X m p0 p1 k → w32 v = X k → (∀ i, i < n → bhP M T X m p0 p1 i → ¬ prc T X i k) → P (.inl (some (vi 1)), (up (up I 2067 0 (T k)) 2067 1 v, Y))) :
    vW d 154 (0, [vr 1960, vi m, vr 2067, vu, vu, vu, vu, vu, vu], [], (I, Y)) P := by
  obtain ⟨u1, u2, u3⟩ := hE
  have l0 : (0 : Int) < (Y.2.2.1 2067 : Int) := by rw [lLn hL 2067 2 rfl]; decide
  have l1 : (1 : Int) < (Y.2.2.1 2067 : Int) := by rw [lLn hL 2067 2 rfl]; decide
  have kd : Y.2.1 2067 = 100 := lK hL 2067 100 rfl
  have key : ∀ (s j : Nat) (b0 b1 : Int) (x6 x7 x8 : vV), j + s = n → ((b0 = 0 ∧ b1 = -1 ∧ ∀ k, k < j → ¬ bhP M T X m p0 p1 k) ∨ ∃ k, k < j ∧ k < n ∧ bhP M T X m p0 p1 k ∧ b0 = T k ∧ w32 b1 = X k ∧ ∀ i, i < j → bhP M T X m p0 p1 i → ¬ prc T X i k) → vW d 154 (8, [vr 1960, vi m, vr 2067, vi b0, vi b1, vi (j : Int), x6, x7, x8], [], (I, Y)) P := by
    intro s
    induction s with
    | zero =>
      intro j b0 b1 x6 x7 x8 hj hB
      have ej : j = n := by omega
      subst ej
      rw [b154_8 hL, u1, if_pos (by rw [w32_id (by omega) (by omega)]; exact Int.le_refl _), b154_140 l0 (by decide) kd, b154_144 l1 (by decide) kd, m154_149]
      rcases hB with ⟨c1, c2, c3⟩ | ⟨k, k1, k2, k3, k4, k5, k6⟩
      · rw [c2, if_pos rfl, b154_160 (Or.inl rfl), c1]
        exact hQ0 c3
      · obtain ⟨p, _, _, _, _, _, q6, _⟩ := u3 k k2
        rw [k5, if_neg (by rw [show w32 (-1) = -1 from by decide]; omega), b154_160 (Or.inr rfl), k4]
        exact hQ1 k b1 k2 k3 k5 k6
    | succ s ih =>
      intro j b0 b1 x6 x7 x8 hj hB
      obtain ⟨p, q1, q2, q3, q4, q5, q6, q7⟩ := u3 j (by omega)
      have hk := hKey_ne q5 q6
      have eb : w32 b0 = b0 ∧ 0 ≤ b0 := by
        rcases hB with ⟨c1, _⟩ | ⟨k, _, k2, _, k4, _⟩
        · rw [c1]; exact ⟨by decide, by decide⟩
        · obtain ⟨_, _, _, _, _, _, _, q8⟩ := u3 k k2
          rw [k4]; exact ⟨w32_id (by omega) (by omega), by omega⟩
      have ej : (j : Int) + 1 = ((j + 1 : Nat) : Int) := by omega
      have eT : w32 (T j) = T j := w32_id (by omega) (by omega)
      have eX : w32 (hKey (M j) (X j)) = X j := w32_key q6
      have em : hKey (M j) (X j) / 4294967296 = M j + 1 := by unfold hKey; omega
      rw [b154_8 hL, u1, if_neg (by rw [w32_id (by omega) (by omega), w32_id (by omega) (by omega)]; omega), b154_17 hL (by omega) (by omega) (by rw [tn0, q2]; omega) (by rw [tn0, q2]; omega), tn0, q2, tn0, q3, shr32 hk.2.1 hk.2.2, em, w32_id (show -2147483648 ≤ (m : Int) by omega) (by omega), w64_id (by omega) (by omega), w64_id (by omega) (by omega)]
      by_cases z : M j = m
      · rw [if_pos (by omega), b154_43 hL (by omega) (by omega) (by rw [tn0, q2]; omega) (by rw [tn0, q2]; omega), tn0, q2, tn0, q3, q4, m154_72 l0 kd (fun _ _ => l1), e0, e1, eT, eX, w0, b154_101]
        have ec : (T j < p0 ∨ ¬ T j ≠ p0 ∧ ¬ X j ≤ p1) ↔ bhP M T X m p0 p1 j := by
          unfold bhP
          constructor
          · intro q; exact ⟨z, by omega⟩
          · intro q; have := q.2; omega
        simp only [ec]
        rw [m154_103, eT, eX, eb.1]
        by_cases y : bhP M T X m p0 p1 j
        · rw [if_pos y]
          by_cases t : b0 < T j ∨ T j = b0 ∧ X j < w32 b1
          · rw [if_neg (fun q => by
              rcases q with q | q
              · exact absurd q (by decide)
              · omega), b154_127, b154_134, ej]
            refine ih (j + 1) _ _ _ _ _ (by omega) (Or.inr ⟨j, by omega, by omega, y, rfl, eX, fun i hi hb => ?_⟩)
            by_cases ij : i = j
            · rw [ij]; unfold prc; omega
            · rcases hB with ⟨_, _, c3⟩ | ⟨k, k1, k2, k3, k4, k5, k6⟩
              · exact absurd hb (c3 i (by omega))
              · have w := k6 i (by omega) hb
                rw [k4, k5] at t
                unfold prc at *
                omega
          · rw [if_pos (Or.inr (by omega)), b154_134, ej]
            refine ih (j + 1) _ _ _ _ _ (by omega) ?_
            rcases hB with ⟨c1, _, _⟩ | ⟨k, k1, k2, k3, k4, k5, k6⟩
            · exact absurd (Or.inl (by omega)) t
            · refine Or.inr ⟨k, by omega, k2, k3, k4, k5, fun i hi hb => ?_⟩
              by_cases ij : i = j
              · rw [ij]
                rw [k4, k5] at t
                exact t
              · exact k6 i (by omega) hb
        · rw [if_neg y, if_pos (Or.inl (by decide)), b154_134, ej]
          refine ih (j + 1) _ _ _ _ _ (by omega) ?_
          rcases hB with ⟨c1, c2, c3⟩ | ⟨k, k1, k2, k3, k4, k5, k6⟩
          · refine Or.inl ⟨c1, c2, fun i hi => ?_⟩
            by_cases ij : i = j
            · rw [ij]; exact y
            · exact c3 i (by omega)
          · refine Or.inr ⟨k, by omega, k2, k3, k4, k5, fun i hi hb => ?_⟩
            by_cases ij : i = j
            · rw [ij] at hb; exact absurd hb y
            · exact k6 i (by omega) hb
      · have y : ¬ bhP M T X m p0 p1 j := fun q => z q.1
        rw [if_neg (by omega), b154_40, b154_134, ej]
        refine ih (j + 1) _ _ _ _ _ (by omega) ?_
        rcases hB with ⟨c1, c2, c3⟩ | ⟨k, k1, k2, k3, k4, k5, k6⟩
        · refine Or.inl ⟨c1, c2, fun i hi => ?_⟩
          by_cases ij : i = j
          · rw [ij]; exact y
          · exact c3 i (by omega)
        · refine Or.inr ⟨k, by omega, k2, k3, k4, k5, fun i hi hb => ?_⟩
          by_cases ij : i = j
          · rw [ij] at hb; exact absurd hb y
          · exact k6 i (by omega) hb
  rw [b154_0]
  exact key n 0 0 (-1) vu vu vu (by omega) (Or.inl ⟨rfl, rfl, fun k hk => absurd hk (Nat.not_lt_zero _)⟩)
theorem entC_fr {J : vJ} (h : entC I n M T X) (F : fr [2067] [] I J) : entC J n M T X := by
  unfold entC at *
  rw [fr_row F 1960 (fun _ => rfl), fr_row F 1979 (fun _ => rfl), fr_row F 1980 (fun _ => rfl), fr_row F 1981 (fun _ => rfl)]
  exact h
/-- the house's answer: the path with exactly x2 ahead of it -/
theorem c_most {x2 : Int} (hL : vL Y) (hE : entC I n M T X) (hd : ∀ i i', i < n → i' < n → M i = m → M i' = m → X i = X i' → i = i') (hm : m < 24) (h2 : 0 ≤ x2 ∧ x2 < 2147483648)
    (hQ : ∀ (J : vJ) (v : Int), fr [2067] [] I J → (x2 < cnN M m n → ∃ j, j < n ∧ M j = m ∧ rkN M T X m n j = x2 ∧ w32 v = X j) → (¬ x2 < cnN M m n → v = -1) → P (.inl (some (vi v)), (J, Y))) :
    vW (d + 1) 27 (24, [vr 18, vi m, vi x2, vu, vu], [], (I, Y)) P := by
  have key : ∀ (s i : Nat) (J : vJ) (b : Int), (i : Int) + s = x2 + 1 → fr [2067] [] I J → ((b = 1 ∧ i = 0 ∧ J 2067 0 = 2147483647 ∧ w32 (J 2067 1) = -1) ∨ (b = 1 ∧ 1 ≤ i ∧ ∃ j, j < n ∧ M j = m ∧ rkN M T X m n j = (i : Int) - 1 ∧ J 2067 0 = T j ∧ w32 (J 2067 1) = X j) ∨ (b = 0 ∧ 1 ≤ i ∧ cnN M m n = (i : Int) - 1)) → vW (d + 1) 27 (45, [vr 18, vi m, vi x2, vi b, vi (i : Int)], [], (J, Y)) P := by
    have w2 : w32 x2 = x2 := w32_id (by omega) (by omega)
    have fin : ∀ (i : Nat) (J : vJ) (b : Int), fr [2067] [] I J → ((b = 1 ∧ (i : Int) = x2 + 1 ∧ ∃ j, j < n ∧ M j = m ∧ rkN M T X m n j = (i : Int) - 1 ∧ J 2067 0 = T j ∧ w32 (J 2067 1) = X j) ∨ (b = 0 ∧ (i : Int) ≤ x2 + 1 ∧ cnN M m n = (i : Int) - 1)) → vW (d + 1) 27 (74, [vr 18, vi m, vi x2, vi b, vi (i : Int)], [], (J, Y)) P := by
      intro i J b F hB
      rw [m27_74 hL, b27_88]
      rcases hB with ⟨c1, c2, j, j1, j2, j3, j4, j5⟩ | ⟨c1, c2, c3⟩
      · rw [c1, if_neg (by decide)]
        refine hQ J _ F (fun _ => ⟨j, j1, j2, by omega, j5⟩) (fun q => ?_)
        have := rk_less (T := T) (X := X) j1 j2
        omega
      · rw [c1, if_pos (by decide)]
        exact hQ J _ F (fun q => by omega) (fun _ => rfl)
    intro s
    induction s with
    | zero =>
      intro i J b hi F hB
      have cl : cnN M m n ≤ n := cn_le n
      have u2 := hE.2.1
      have wi : (i : Int) ≤ 24001 := by
        rcases hB with ⟨_, c2, _⟩ | ⟨c1, c2, j, j1, j2, j3, _⟩ | ⟨c1, c2, c3⟩
        · omega
        · have := rk_less (T := T) (X := X) j1 j2
          omega
        · omega
      rw [b27_45, if_pos (by rw [w2, w32_id (by omega) (by omega)]; omega)]
      refine fin i J b F ?_
      rcases hB with ⟨c1, c2, _⟩ | ⟨c1, c2, c3⟩ | ⟨c1, c2, c3⟩
      · omega
      · exact Or.inl ⟨c1, by omega, c3⟩
      · exact Or.inr ⟨c1, by omega, c3⟩
    | succ s ih =>
      intro i J b hi F hB
      have wi : w32 (i : Int) = i := w32_id (by omega) (by omega)
      rw [b27_45, if_neg (by rw [w2, wi]; omega), b27_51]
      clear wi
      have ei : (i : Int) + 1 = ((i + 1 : Nat) : Int) := by omega
      have EJ := entC_fr hE F
      have nx : ∀ (p0 p1 : Int), b = 1 → J 2067 0 = p0 → w32 p0 = p0 → w32 (J 2067 1) = p1 → ((∀ k, k < n → ¬ bhP M T X m p0 p1 k) → cnN M m n = (i : Int)) → (∀ k, k < n → bhP M T X m p0 p1 k → (∀ i, i < n → bhP M T X m p0 p1 i → ¬ prc T X i k) → rkN M T X m n k = (i : Int)) → vW (d + 1) 27 (55, [vr 18, vi m, vi x2, vi b, vi (i : Int)], [], (J, Y)) P := by
        intro p0 p1 b1 g0 g1 g2 h0 h1
        rw [b27_55 hL]
        refine c_next (d := d) hL EJ hm g0 g1 g2 (fun hno => ?_) (fun k v k1 k2 k3 k4 => ?_)
        · simp only [vWC_s, Nat.reduceAdd]
          rw [b27_67, ei]
          refine ih (i + 1) _ _ (by omega) (fr_upL (fr_upL F rfl _ _) rfl _ _) (Or.inr (Or.inr ⟨rfl, by omega, ?_⟩))
          rw [h0 hno]; omega
        · simp only [vWC_s, Nat.reduceAdd]
          rw [b27_67, ei]
          refine ih (i + 1) _ _ (by omega) (fr_upL (fr_upL F rfl _ _) rfl _ _) (Or.inr (Or.inl ⟨rfl, by omega, k, k1, k2.1, ?_, ?_, ?_⟩))
          · rw [h1 k k1 k2 k4]; omega
          · rw [up_place _ _ (by decide), up_same]
          · rw [up_same]; exact k3
      rcases hB with ⟨c1, c2, c3, c4⟩ | ⟨c1, c2, j, j1, j2, j3, j4, j5⟩ | ⟨c1, c2, c3⟩
      · rw [if_neg (by rw [c1]; decide)]
        have al : ∀ k, k < n → M k = m → bhP M T X m 2147483647 (-1) k := fun k hk hmk => by
          obtain ⟨_, _, _, _, _, _, q6, q7⟩ := hE.2.2 k hk
          exact ⟨hmk, Or.inl (by omega)⟩
        refine nx 2147483647 (-1) c1 c3 (by decide) c4 (fun hno => ?_) (fun k k1 k2 k3 => ?_)
        · have e : cnN M m n = 0 := sW_zero n (fun k hk => if_neg (fun q => hno k hk (al k hk q)))
          rw [e, c2]; rfl
        · rw [rk_first (fun i hi mi => k3 i hi (al i hi mi)), c2]; rfl
      · rw [if_neg (by rw [c1]; decide)]
        obtain ⟨_, _, _, _, _, _, q6, q7⟩ := hE.2.2 j j1
        refine nx (T j) (X j) c1 j4 (w32_id (by omega) (by omega)) j5 (fun hno => ?_) (fun k k1 k2 k3 => ?_)
        · rw [rk_last (T := T) (X := X) j1 j2 (fun i hi mi hx => hd i j hi j1 mi j2 hx) (fun i hi mi q => hno i hi ⟨mi, by unfold prc at q; omega⟩), j3]; omega
        · rw [rk_next (j := j) j1 j2 (fun i hi mi hx => hd i j hi j1 mi j2 hx) (by have := k2.2; unfold prc; omega) (fun i hi mi q => k3 i hi ⟨mi, by unfold prc at q; omega⟩), j3]; omega
      · rw [if_pos (by rw [c1]; decide)]
        exact fin i J b F (Or.inr ⟨c1, by omega, c3⟩)
  rw [b27_24 hL]
  obtain ⟨X2, hX2⟩ : ∃ X2 : Nat, x2 = X2 := ⟨x2.toNat, by omega⟩
  refine key (X2 + 1) 0 _ 1 (by omega) (fr_upL (fr_upL (fr_refl _ _ _) rfl _ _) rfl _ _) (Or.inl ⟨rfl, rfl, ?_, ?_⟩)
  · rw [up_place _ _ (by decide), up_same]
  · rw [up_same]; decide
end
