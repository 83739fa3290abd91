/-! ===== the tree of calls in both houses (partly printed) ===== -/
set_option maxRecDepth 20000
set_option maxHeartbeats 4000000
def fst1 (f : Nat → Int) (p : Int) : Nat → Nat → Int
  | 0, _ => -1
  | m + 1, i => if f i = p then (i : Int) else fst1 f p m (i + 1)
theorem fst1_congr {f g : Nat → Int} {p : Int} : ∀ (m i : Nat), (∀ j, i ≤ j → j < i + m → f j = g j) → fst1 f p m i = fst1 g p m i := by
  intro m
  induction m with
  | zero => intro i _; rfl
  | succ m ih =>
    intro i h
    show (if f i = p then (i : Int) else fst1 f p m (i + 1)) = (if g i = p then (i : Int) else fst1 g p m (i + 1))
    rw [h i (Nat.le_refl _) (by omega), ih (i + 1) (fun j h1 h2 => h j (by omega) (by omega))]
theorem fst1_skip {f : Nat → Int} {p : Int} {m : Nat} : ∀ (s i : Nat), (∀ j, i ≤ j → j < i + s → f j ≠ p) → fst1 f p (m + s) i = fst1 f p m (i + s) := by
  intro s
  induction s with
  | zero => intro i _; rfl
  | succ s ih =>
    intro i h
    show (if f i = p then (i : Int) else fst1 f p (m + s) (i + 1)) = fst1 f p m (i + (s + 1))
    rw [if_neg (h i (Nat.le_refl _) (by omega)), ih (i + 1) (fun j h1 h2 => h j (by omega) (by omega)), show i + 1 + s = i + (s + 1) by omega]
section
variable {d d' : Nat} {Y Y' : vY} {I I' : vJ}
theorem c_nx {P : vE → Prop} {p a : Int} {n : Nat} (hL : vL Y) (hn : I 1960 3079 = n) (n2 : n ≤ 200) (hp : inI p) (hr : ∀ i, i < n → -1 ≤ I 1961 i ∧ I 1961 i < 200) : ∀ (m i : Nat), i + m = n → (vW d 30 (4, [vr 18, vi p, vi a, vi (i : Int)], [], (I, Y)) P ↔ P (.inl (some (vi (fst1 (I 1961) p m i))), (I, Y))) := by
  unfold inI at hp
  intro m
  induction m with
  | zero =>
    intro i hi
    have hi : i = n := by omega
    rw [hi, b30_4 hL, hn, if_pos (Int.le_refl _), b30_36]
    exact Iff.rfl
  | succ m ih =>
    intro i hi
    have q := hr i (by omega)
    rw [b30_4 hL, hn, if_neg (by rw [w32_id (by omega) (by omega), w32_id (by omega) (by omega)]; omega), b30_15 hL (by omega) (by omega), tn0, w32_id (x := I 1961 i) (by omega) (by omega), w32_id hp.1 hp.2]
    show _ ↔ P (.inl (some (vi (if I 1961 i = p then (i : Int) else fst1 (I 1961) p m (i + 1)))), (I, Y))
    by_cases z : I 1961 i = p
    · rw [if_neg (fun w => w z), if_pos z, b30_28]
    · rw [if_pos z, if_neg z, b30_30]
      exact ih (i + 1) (by omega)
theorem t_nx1 {P : vE → Prop} {x b : Nat} {n : Nat} (hL' : vL Y') (hn : I' 2075 7799 = n) (n2 : n ≤ 200) (hx : x < n) (hr : ∀ i, i < n → -1 ≤ I' 2237 i ∧ I' 2237 i < 200) : ∀ (m i : Nat), i + m = n → (vW d' 464 (104, [vr 2075, vi (x : Int), vi (b : Int), vi (i : Int)], [], (I', Y')) P ↔ P (.inl (some (vi (fst1 (I' 2237) (x : Int) m i))), (I', Y'))) := by
  intro m
  induction m with
  | zero =>
    intro i hi
    have hi : i = n := by omega
    rw [hi, b464_104 hL', hn, if_pos (Int.le_refl _), b464_130]
    exact Iff.rfl
  | succ m ih =>
    intro i hi
    have q := hr i (by omega)
    rw [b464_104 hL', hn, if_neg (by rw [w32_id (by omega) (by omega), w32_id (by omega) (by omega)]; omega), b464_112 hL' (by omega) (by omega), tn0, w32_id (x := I' 2237 i) (by omega) (by omega), w32_id (x := (x : Int)) (by omega) (by omega)]
    show _ ↔ P (.inl (some (vi (if I' 2237 i = (x : Int) then (i : Int) else fst1 (I' 2237) (x : Int) m (i + 1)))), (I', Y'))
    by_cases z : I' 2237 i = (x : Int)
    · rw [if_neg (fun w => w z), if_pos z, b464_122]
    · rw [if_pos z, if_neg z, b464_124]
      exact ih (i + 1) (by omega)
theorem t_nx2 {P : vE → Prop} {x b : Nat} {n : Nat} (hL' : vL Y') (hn : I' 2075 7799 = n) (n2 : n ≤ 200) (hx : x < n) (hr : ∀ i, i < n → -1 ≤ I' 2237 i ∧ I' 2237 i < 200) : ∀ (m i : Nat), i + m = n → (vW d' 464 (136, [vr 2075, vi (x : Int), vi (b : Int), vi (i : Int)], [], (I', Y')) P ↔ P (.inl (some (vi (if x = 0 then -1 else fst1 (I' 2237) (I' 2237 x) m i))), (I', Y'))) := by
  intro m
  induction m with
  | zero =>
    intro i hi
    have hi : i = n := by omega
    have e : (if x = 0 then (-1 : Int) else fst1 (I' 2237) (I' 2237 x) 0 i) = -1 := by split <;> rfl
    rw [e, hi, b464_136 hL', hn, if_pos (Int.le_refl _), b464_171]
  | succ m ih =>
    intro i hi
    have q := hr i (by omega)
    have q2 := hr x hx
    have k := ih (i + 1) (by omega)
    rw [b464_136 hL', hn, if_neg (by rw [w32_id (by omega) (by omega), w32_id (by omega) (by omega)]; omega), b464_144]
    by_cases y : x = 0
    · rw [if_pos y] at k ⊢
      rw [if_pos (by rw [w32_id (by omega) (by omega)]; omega), b464_165]
      exact k
    · rw [if_neg y] at k ⊢
      rw [if_neg (by rw [w32_id (by omega) (by omega)]; omega), b464_148 hL' (by omega) (by omega) (by omega) (by omega), tn0, tn0, w32_id (x := I' 2237 i) (by omega) (by omega), w32_id (x := I' 2237 x) (by omega) (by omega)]
      show _ ↔ P (.inl (some (vi (if I' 2237 i = I' 2237 x then (i : Int) else fst1 (I' 2237) (I' 2237 x) m (i + 1)))), (I', Y'))
      by_cases z : I' 2237 i = I' 2237 x
      · rw [if_neg (fun w => w z), if_pos z, b464_163]
      · rw [if_pos z, if_neg z, b464_165]
        exact k
/-- the house: costs of whole branches -/
theorem c_br {P : vE → Prop} {n x : Nat} {par : Nat → Nat} (hL : vL Y) (hn : I 1960 3079 = n) (n1 : 1 ≤ n) (n2 : n ≤ 200) (hx : x < n) (hp : stP1 par n) (hr : ∀ i, 1 ≤ i → i < n → I 1961 i = par i) (hQ : ∀ K : vJ, fr [1965] [] I K → P (.inl (some (vi (sT (I 1964) par n x x))), (K, Y))) : vW d 155 (0, [vr 1960, vi (x : Int), vu], [], (I, Y)) P := by
  have down : ∀ (m : Nat) (K : vJ), m < n → fr [1965] [] I K → (∀ v, v ≤ m → K 1965 v = sT (I 1964) par n v m) → (∀ v, m < v → v < n → K 1965 v = sT (I 1964) par n v v) → vW d 155 (35, [vr 1960, vi (x : Int), vi (m : Int)], [], (K, Y)) P := by
    intro m
    induction m with
    | zero =>
      intro K _ hf h1 h2
      rw [b155_35, if_pos (by decide), b155_65 hL (by omega) (by omega), tn0]
      have e : K 1965 x = sT (I 1964) par n x x := by
        by_cases z : x = 0
        · rw [z]; exact h1 0 (Nat.le_refl _)
        · exact h2 x (by omega) hx
      rw [e]
      exact hQ K hf
    | succ m ih =>
      intro K hm hf h1 h2
      have pm := hp (m + 1) (by omega) hm
      have e1 : K 1961 (m + 1) = par (m + 1) := by rw [hf 1961 _ rfl]; exact hr (m + 1) (by omega) hm
      have e2 : ((m + 1 : Nat) : Int) + (-1) = (m : Int) := by omega
      rw [b155_35, if_neg (by rw [w32_id (by omega) (by omega)]; omega), b155_39 hL (by omega) (by omega) (by rw [tn0, e1]; omega) (by rw [tn0, e1]; omega), tn0, e1, tn0, e2]
      refine ih _ (by omega) (fr_upL hf rfl _ _) (fun v hv => ?_) (fun v h3 h4 => ?_)
      · have s := sT_step (own := I 1964) (v := v) hp (show 1 ≤ m + 1 by omega) hm (by omega)
        rw [show m + 1 - 1 = m by omega] at s
        rw [s, up_at]
        by_cases z : v = par (m + 1)
        · rw [if_pos z, if_pos z.symm, z, h1 (par (m + 1)) (by omega), h1 (m + 1) (Nat.le_refl _)]
        · rw [if_neg z, if_neg (fun q => z q.symm), h1 v (by omega), Int.add_zero]
      · rw [up_place _ _ (by omega)]
        by_cases z : v = m + 1
        · rw [z]; exact h1 (m + 1) (Nat.le_refl _)
        · exact h2 v (by omega) h4
  have copy : ∀ (m i : Nat) (K : vJ), i + m = n → fr [1965] [] I K → (∀ v, v < i → K 1965 v = I 1964 v) → vW d 155 (2, [vr 1960, vi (x : Int), vi (i : Int)], [], (K, Y)) P := by
    intro m
    induction m with
    | zero =>
      intro i K hi hf h1
      have hi : i = n := by omega
      have e2 : (n : Int) - 1 = ((n - 1 : Nat) : Int) := by omega
      rw [hi, b155_2 hL, hf 1960 _ rfl, hn, if_pos (Int.le_refl _), b155_28 hL, hf 1960 _ rfl, hn, e2]
      refine down (n - 1) K (by omega) hf (fun v hv => ?_) (fun v h3 h4 => absurd h3 (by omega))
      rw [sT_top (by omega)]; exact h1 v (by omega)
    | succ m ih =>
      intro i K hi hf h1
      rw [b155_2 hL, hf 1960 _ rfl, hn, if_neg (by rw [w32_id (by omega) (by omega), w32_id (by omega) (by omega)]; omega), b155_10 hL (by omega) (by omega), tn0, hf 1964 _ rfl]
      refine ih (i + 1) _ (by omega) (fr_upL hf rfl _ _) (fun v hv => ?_)
      rw [up_at]
      by_cases z : v = i
      · rw [if_pos z, z]
      · rw [if_neg z]; exact h1 v (by omega)
  rw [b155_0]
  exact copy n 0 I (by omega) (fr_refl _ _ _) (fun v hv => absurd hv (Nat.not_lt_zero _))
/-- the model: those that hang on x -/
theorem t_br {P : vE → Prop} {n x : Nat} {own : Nat → Int} {par : Nat → Nat} (hL' : vL Y') (hn : I' 2075 7799 = n) (n2 : n ≤ 200) (hx : x < n) (hp : stP1 par n) (hr : ∀ i, 1 ≤ i → i < n → I' 2237 i = par i) (ho : ∀ i, i < n → I' 2240 i = own i) : vW d' 465 (0, [vr 2075, vi (x : Int), vu, vu, vu], [], (I', Y')) P ↔ P (.inl (some (vi (sT own par n x x))), (I', Y')) := by
  have inner : ∀ (j : Nat) (s i : Int), j < n → (vW d' 465 (22, [vr 2075, vi (x : Int), vi s, vi i, vi (j : Int)], [], (I', Y')) P ↔ vW d' 465 (40, [vr 2075, vi (x : Int), vi s, vi i, vi (stF par x j j : Int)], [], (I', Y')) P) := by
    intro j
    induction j using Nat.strongRecOn with
    | _ j ih =>
      intro s i hj
      rw [b465_22]
      by_cases z : j ≤ x
      · rw [if_pos (by rw [w32_id (by omega) (by omega), w32_id (by omega) (by omega)]; omega), stF_low z]
      · have pj := hp j (by omega) hj
        rw [if_neg (by rw [w32_id (by omega) (by omega), w32_id (by omega) (by omega)]; omega), b465_28 hL' (by omega) (by omega), tn0, hr j (by omega) hj, stF_step hp hj (by omega)]
        exact ih (par j) pj s i (by omega)
  have outer : ∀ (m i : Nat) (x4 : vV), x < i → i + m = n → (vW d' 465 (11, [vr 2075, vi (x : Int), vi (own x + smM own (fun i => if x < i ∧ stF par x i i = x then 1 else 0) i), vi (i : Int), x4], [], (I', Y')) P ↔ P (.inl (some (vi (sT own par n x x))), (I', Y'))) := by
    intro m
    induction m with
    | zero =>
      intro i x4 h1 hi
      have hi : i = n := by omega
      rw [hi, b465_11 hL', hn, if_pos (Int.le_refl _), b465_61]
      exact Iff.rfl
    | succ m ih =>
      intro i x4 h1 hi
      have e : smM own (fun i => if x < i ∧ stF par x i i = x then 1 else 0) (i + 1) = smM own (fun i => if x < i ∧ stF par x i i = x then 1 else 0) i + (if (if x < i ∧ stF par x i i = x then (1 : Int) else 0) = 1 then own i else 0) := rfl
      have sl := stF_le (m := x) hp i i (by omega) (Nat.le_refl _)
      rw [b465_11 hL', hn, if_neg (by rw [w32_id (by omega) (by omega), w32_id (by omega) (by omega)]; omega), b465_19, inner i _ _ (by omega), b465_40, w32_id (x := ((stF par x i i : Nat) : Int)) (by omega) (by omega), w32_id (x := (x : Int)) (by omega) (by omega)]
      by_cases z : stF par x i i = x
      · have k := ih (i + 1) (vi ((stF par x i i : Nat) : Int)) (by omega) (by omega)
        rw [e, if_pos (show (if x < i ∧ stF par x i i = x then (1 : Int) else 0) = 1 from if_pos ⟨h1, z⟩), ← Int.add_assoc] at k
        rw [if_neg (fun w => w (by rw [z])), b465_46 hL' (by omega) (by omega), b465_55, tn0, ho i (by omega)]
        exact k
      · have k := ih (i + 1) (vi ((stF par x i i : Nat) : Int)) (by omega) (by omega)
        rw [e, if_neg (show ¬ (if x < i ∧ stF par x i i = x then (1 : Int) else 0) = 1 by rw [if_neg (fun q => z q.2)]; decide), Int.add_zero] at k
        rw [if_pos (by omega), b465_55]
        exact k
  have k := outer (n - (x + 1)) (x + 1) vu (by omega) (by omega)
  have e0 : own x + smM own (fun i => if x < i ∧ stF par x i i = x then 1 else 0) (x + 1) = own x := sT_top (own := own) (par := par) (n := x + 1) (v := x) (m := x) (Nat.le_refl _)
  rw [e0] at k
  rw [b465_0 hL' (by omega) (by omega), tn0, ho x hx]
  exact k
end
section
variable {d d' : Nat} {Y Y' : vY} {X mm Nn Lp : Nat} {nm pr ht : Nat → Nat} {I I' : vJ} {th W N : Nat} {Q : vE → vE → Prop}
theorem o_tree {a b : Int} (hL : vL Y) (hL' : vL Y') (ha : inI a) (hb : inI b) (h : RQ Y Y' X mm Nn Lp nm pr ht I I' th W N) (hi : I 1990 3398 = 1) (hQ : ∀ (J : vJ) (x : Int), fr [1965] [] I J → Q (.inl (some (vi x)), (J, Y)) (.inl (some (vi x)), (I', Y'))) : vW (d + 1) 29 (0, [vr 18, vi a, vi b], [], (I, Y)) (fun r => vW (d' + 1) 464 (0, [vr 2075, vi a, vi b, vu], [], (I', Y')) (fun r' => Q r r')) := by
  have sb := (RQ_status (d := 0) (P := fun _ => True) hL h).2
  obtain ⟨_, _, ⟨⟨n, ⟨n2, n3⟩, e1, e2, e3, ⟨w1, w2, _, _⟩, w4, _⟩, _⟩, _⟩ := h
  have hp : inI ((n : Int) - 1) := by unfold inI; omega
  have hb2 := hb
  unfold inI at hb2
  have hr : ∀ i, i < n → -1 ≤ I 1961 i ∧ I 1961 i < 200 ∧ I 1961 i < i := fun i hi => by
    by_cases z : i = 0
    · rw [z, w1]; decide
    · by_cases y : i = 1
      · rw [y, w2]; decide
      · have := w4 i (by omega) hi
        omega
  have hp0 : ∀ i, 1 ≤ i → i < n → 0 ≤ I 1961 i := fun i h1 h2 => by
    by_cases y : i = 1
    · rw [y, w2]; decide
    · exact (w4 i (by omega) h2).1
  have st : stP1 (fun i => (I 1961 i).toNat) n := fun i h1 h2 => by
    have q := hr i h2
    have q0 := hp0 i h1 h2
    show (I 1961 i).toNat < i
    omega
  have pe : ∀ i, 1 ≤ i → i < n → I 1961 i = (((fun i => (I 1961 i).toNat) i : Nat) : Int) := fun i h1 h2 => by
    have q0 := hp0 i h1 h2
    show I 1961 i = ((I 1961 i).toNat : Int)
    omega
  clear w4
  have hr' : ∀ i, i < n → -1 ≤ I' 2237 i ∧ I' 2237 i < 200 := fun i hi => by
    rw [← (e3 i hi).1]; exact ⟨(hr i hi).1, (hr i hi).2.1⟩
  by_cases z : 0 ≤ a ∧ a ≤ (n : Int) - 1
  · obtain ⟨u, hu⟩ : ∃ u : Nat, a = u := ⟨a.toNat, by omega⟩
    subst hu
    have un : u < n := by omega
    have r := e3 u un
    have c0 : ∀ P : vE → Prop, vW (d + 1) 29 (0, [vr 18, vi (u : Int), vi b], [], (I, Y)) P ↔ vW (d + 1) 29 (29, [vr 18, vi (u : Int), vi b], [], (I, Y)) P := fun P => by
      rw [b29_0 hL, hi, if_neg (by decide), b29_10 hL, e1, c_in ha in0 hp, if_pos z]
      simp only [vWC_s, Nat.reduceAdd]
      rw [b29_24, if_pos (by decide)]
    have t0 : ∀ P : vE → Prop, vW (d' + 1) 464 (0, [vr 2075, vi (u : Int), vi b, vu], [], (I', Y')) P ↔ vW (d' + 1) 464 (23, [vr 2075, vi (u : Int), vi b, vu], [], (I', Y')) P := fun P => by
      rw [b464_0 hL', if_neg (by rw [w32_id (by omega) (by omega)]; omega), b464_7 hL', e2, t_in ha in0 hp, if_pos z]
      simp only [vWC_s, Nat.reduceAdd]
      rw [b464_18, if_pos (by decide)]
    have cs : b = 0 ∨ b = 1 ∨ b = 2 ∨ b = 3 ∨ b = 4 ∨ b = 5 ∨ b = 6 ∨ (b < 0 ∨ 6 < b) := by omega
    rcases cs with rfl | rfl | rfl | rfl | rfl | rfl | rfl | zb
    · have hm : ∀ P : vE → Prop, vW (d' + 1) 464 (0, [vr 2075, vi (u : Int), vi 0, vu], [], (I', Y')) P ↔ P (.inl (some (vi (I 1961 u))), (I', Y')) := fun P => by
        rw [t0, b464_23, if_pos (by decide), b464_68 hL' (by omega) (by omega), tn0, r.1]
      simp only [hm]
      rw [c0, b29_29, if_pos (by decide), b29_72 hL (by omega) (by omega), tn0]
      exact hQ I _ (fr_refl _ _ _)
    · have hm : ∀ P : vE → Prop, vW (d' + 1) 464 (0, [vr 2075, vi (u : Int), vi 1, vu], [], (I', Y')) P ↔ P (.inl (some (vi (I 1962 u))), (I', Y')) := fun P => by
        rw [t0, b464_23, if_neg (by decide), if_pos (by decide), b464_75 hL' (by omega) (by omega), tn0, r.2.1]
      simp only [hm]
      rw [c0, b29_29, if_neg (by decide), if_pos (by decide), b29_82 hL (by omega) (by omega), tn0]
      exact hQ I _ (fr_refl _ _ _)
    · have hm : ∀ P : vE → Prop, vW (d' + 1) 464 (0, [vr 2075, vi (u : Int), vi 2, vu], [], (I', Y')) P ↔ P (.inl (some (vi (I 1963 u))), (I', Y')) := fun P => by
        rw [t0, b464_23, if_neg (by decide), if_neg (by decide), if_pos (by decide), b464_82 hL' (by omega) (by omega), tn0, r.2.2.1]
      simp only [hm]
      rw [c0, b29_29, if_neg (by decide), if_neg (by decide), if_pos (by decide), b29_92 hL (by omega) (by omega), tn0]
      exact hQ I _ (fr_refl _ _ _)
    · have hm : ∀ P : vE → Prop, vW (d' + 1) 464 (0, [vr 2075, vi (u : Int), vi 3, vu], [], (I', Y')) P ↔ P (.inl (some (vi (I 1964 u))), (I', Y')) := fun P => by
        rw [t0, b464_23, if_neg (by decide), if_neg (by decide), if_neg (by decide), if_pos (by decide), b464_89 hL' (by omega) (by omega), tn0, r.2.2.2]
      simp only [hm]
      rw [c0, b29_29, if_neg (by decide), if_neg (by decide), if_neg (by decide), if_pos (by decide), b29_102 hL (by omega) (by omega), tn0]
      exact hQ I _ (fr_refl _ _ _)
    · have hm : ∀ P : vE → Prop, vW (d' + 1) 464 (0, [vr 2075, vi (u : Int), vi 4, vu], [], (I', Y')) P ↔ P (.inl (some (vi (sT (I 1964) (fun i => (I 1961 i).toNat) n u u))), (I', Y')) := fun P => by
        rw [t0, b464_23, if_neg (by decide), if_neg (by decide), if_neg (by decide), if_neg (by decide), if_pos (by decide), b464_96 hL', t_br (own := I 1964) (par := fun i => (I 1961 i).toNat) hL' e2 (by omega) un st (fun i h1 h2 => by rw [← (e3 i h2).1]; exact pe i h1 h2) (fun i h2 => (e3 i h2).2.2.2.symm)]
        simp only [vWC_s, Nat.reduceAdd]
        rw [b464_101]
      simp only [hm]
      rw [c0, b29_29, if_neg (by decide), if_neg (by decide), if_neg (by decide), if_neg (by decide), if_pos (by decide), b29_112 hL]
      refine c_br (par := fun i => (I 1961 i).toNat) hL e1 (by omega) (by omega) un st pe (fun K hK => ?_)
      simp only [vWC_s, Nat.reduceAdd]
      rw [b29_120]
      exact hQ K _ hK
    · have hm : ∀ P : vE → Prop, vW (d' + 1) 464 (0, [vr 2075, vi (u : Int), vi 5, vu], [], (I', Y')) P ↔ P (.inl (some (vi (fst1 (I 1961) (u : Int) (n - (u + 1)) (u + 1)))), (I', Y')) := fun P => by
        have k := t_nx1 (d' := d' + 1) (Y' := Y') (P := P) (x := u) (b := 5) hL' e2 (by omega) un hr' (n - 1) 1 (by omega)
        have sk := fst1_skip (f := I' 2237) (p := (u : Int)) (m := n - (u + 1)) u 1 (fun j h1 h2 => by rw [← (e3 j (by omega)).1]; have := (hr j (by omega)).2.2; omega)
        rw [show n - (u + 1) + u = n - 1 by omega, show 1 + u = u + 1 by omega] at sk
        rw [sk, ← fst1_congr (f := I 1961) (n - (u + 1)) (u + 1) (fun j h1 h2 => (e3 j (by omega)).1)] at k
        rw [t0, b464_23, if_neg (by decide), if_neg (by decide), if_neg (by decide), if_neg (by decide), if_neg (by decide), if_pos (by decide), b464_102]
        exact k
      simp only [hm]
      rw [c0, b29_29, if_neg (by decide), if_neg (by decide), if_neg (by decide), if_neg (by decide), if_neg (by decide), if_pos (by decide), b29_121 hL, b30_0]
      refine (c_nx (d := d) (a := (u : Int)) hL e1 (by omega) (by unfold inI; omega) (fun i hi => ⟨(hr i hi).1, (hr i hi).2.1⟩) (n - (u + 1)) (u + 1) (by omega)).mpr ?_
      simp only [vWC_s, Nat.reduceAdd]
      rw [b29_127]
      exact hQ I _ (fr_refl _ _ _)
    · have hm : ∀ P : vE → Prop, vW (d' + 1) 464 (0, [vr 2075, vi (u : Int), vi 6, vu], [], (I', Y')) P ↔ P (.inl (some (vi (if u = 0 then -1 else fst1 (I 1961) (I 1961 u) (n - (u + 1)) (u + 1)))), (I', Y')) := fun P => by
        have k := t_nx2 (d' := d' + 1) (Y' := Y') (P := P) (x := u) (b := 6) hL' e2 (by omega) un hr' (n - (u + 1)) (u + 1) (by omega)
        rw [← fst1_congr (f := I 1961) (n - (u + 1)) (u + 1) (fun j h1 h2 => (e3 j (by omega)).1), ← r.1] at k
        rw [t0, b464_23, if_neg (by decide), if_neg (by decide), if_neg (by decide), if_neg (by decide), if_neg (by decide), if_neg (by decide), if_pos (by decide), b464_132]
        exact k
      simp only [hm]
      by_cases y : u = 0
      · rw [if_pos y, c0, b29_29, if_neg (by decide), if_neg (by decide), if_neg (by decide), if_neg (by decide), if_neg (by decide), if_neg (by decide), if_pos (by decide), b29_128, if_neg (by rw [y]; decide), b29_132, b29_150]
        exact hQ I _ (fr_refl _ _ _)
      · rw [if_neg y, c0, b29_29, if_neg (by decide), if_neg (by decide), if_neg (by decide), if_neg (by decide), if_neg (by decide), if_neg (by decide), if_pos (by decide), b29_128, if_pos (by rw [w32_id (by omega) (by omega)]; omega), b29_136 hL (by omega) (by omega), tn0, b30_0]
        refine (c_nx (d := d) (a := (u : Int)) hL e1 (by omega) (by have := hr u un; unfold inI; omega) (fun i hi => ⟨(hr i hi).1, (hr i hi).2.1⟩) (n - (u + 1)) (u + 1) (by omega)).mpr ?_
        simp only [vWC_s, Nat.reduceAdd]
        rw [b29_150]
        exact hQ I _ (fr_refl _ _ _)
    · have w : w32 b = b := w32_id hb2.1 hb2.2
      have hm : ∀ P : vE → Prop, vW (d' + 1) 464 (0, [vr 2075, vi (u : Int), vi b, vu], [], (I', Y')) P ↔ P (.inl (some (vi (-1))), (I', Y')) := fun P => by
        rw [t0, b464_23, w, if_neg (show ¬ b = 0 by omega), if_neg (show ¬ b = 1 by omega), if_neg (show ¬ b = 2 by omega), if_neg (show ¬ b = 3 by omega), if_neg (show ¬ b = 4 by omega), if_neg (show ¬ b = 5 by omega), if_neg (show ¬ b = 6 by omega), b464_173]
      simp only [hm]
      rw [c0, b29_29, w, if_neg (show ¬ b = 0 by omega), if_neg (show ¬ b = 1 by omega), if_neg (show ¬ b = 2 by omega), if_neg (show ¬ b = 3 by omega), if_neg (show ¬ b = 4 by omega), if_neg (show ¬ b = 5 by omega), if_neg (show ¬ b = 6 by omega), b29_151]
      exact hQ I _ (fr_refl _ _ _)
  · have hm : ∀ P : vE → Prop, vW (d' + 1) 464 (0, [vr 2075, vi a, vi b, vu], [], (I', Y')) P ↔ P (.inl (some (vi (-1))), (I', Y')) := fun P => by
      rw [b464_0 hL', if_neg (by rw [w32_id (by omega) (by omega)]; omega), b464_7 hL', e2, t_in ha in0 hp, if_neg z]
      simp only [vWC_s, Nat.reduceAdd]
      rw [b464_18, if_neg (by decide), b464_21]
    simp only [hm]
    rw [b29_0 hL, hi, if_neg (by decide), b29_10 hL, e1, c_in ha in0 hp, if_neg z]
    simp only [vWC_s, Nat.reduceAdd]
    rw [b29_24, if_neg (by decide), b29_27]
    exact hQ I _ (fr_refl _ _ _)
end
