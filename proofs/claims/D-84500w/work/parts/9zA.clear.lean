/-! ===== begin: rows are cleared (printed by gen/loops.py) ===== -/
set_option maxRecDepth 20000
set_option maxHeartbeats 4000000
theorem bc_locks {d : Nat} {Y : vY} {I : vJ} {P : vE → Prop} {x1 x2 x3 x4 x7 : Int} {x5 x6 : Nat} (hL : vL Y) (hQ : ∀ K : vJ, fr [2017, 2018, 2019, 2020, 2021, 2022, 2023, 2025, 2026] [] I K → (∀ j : Nat, j < 8 → K 2017 j = -1 ∧ K 2018 j = 0 ∧ K 2019 j = 0 ∧ K 2020 j = 0 ∧ K 2021 j = 0 ∧ K 2022 j = 0 ∧ K 2023 j = 0 ∧ K 2025 j = 0 ∧ K 2026 j = 0) → vW d 157 (183, [vr 1990, vi x1, vi x2, vi x3, vi x4, vr x5, vr x6, vi x7, vi ((8 : Nat) : Int), vu], [], (K, Y)) P) : vW d 157 (98, [vr 1990, vi x1, vi x2, vi x3, vi x4, vr x5, vr x6, vi x7, vi 0, vu], [], (I, Y)) P := by
  have key : ∀ (m i : Nat) (K : vJ), i + m = 8 → fr [2017, 2018, 2019, 2020, 2021, 2022, 2023, 2025, 2026] [] I K → (∀ j : Nat, j < i → K 2017 j = -1 ∧ K 2018 j = 0 ∧ K 2019 j = 0 ∧ K 2020 j = 0 ∧ K 2021 j = 0 ∧ K 2022 j = 0 ∧ K 2023 j = 0 ∧ K 2025 j = 0 ∧ K 2026 j = 0) → vW d 157 (98, [vr 1990, vi x1, vi x2, vi x3, vi x4, vr x5, vr x6, vi x7, vi (i : Int), vu], [], (K, Y)) P := by
    intro m
    induction m with
    | zero =>
      intro i K hi hf h1
      have hi : i = 8 := by omega
      rw [hi, b157_98, if_pos (by decide)]
      exact hQ K hf (fun j hj => h1 j (by omega))
    | succ m ih =>
      intro i K hi hf h1
      rw [b157_98, if_neg (by rw [w32_id (by omega) (by omega), w32_id (by omega) (by omega)]; omega), b157_105 hL (by omega) (by omega), tn0]
      refine ih (i + 1) _ (by omega) (fr_upL (fr_upL (fr_upL (fr_upL (fr_upL (fr_upL (fr_upL (fr_upL (fr_upL hf rfl _ _) rfl _ _) rfl _ _) rfl _ _) rfl _ _) rfl _ _) rfl _ _) rfl _ _) rfl _ _) (fun j hj => ?_)
      by_cases z : j = i
      · rw [z]; exact ⟨by rw [up_cell _ (by decide), up_cell _ (by decide), up_cell _ (by decide), up_cell _ (by decide), up_cell _ (by decide), up_cell _ (by decide), up_cell _ (by decide), up_cell _ (by decide), up_same], by rw [up_cell _ (by decide), up_cell _ (by decide), up_cell _ (by decide), up_cell _ (by decide), up_cell _ (by decide), up_cell _ (by decide), up_cell _ (by decide), up_same], by rw [up_cell _ (by decide), up_cell _ (by decide), up_cell _ (by decide), up_cell _ (by decide), up_cell _ (by decide), up_cell _ (by decide), up_same], by rw [up_cell _ (by decide), up_cell _ (by decide), up_cell _ (by decide), up_cell _ (by decide), up_cell _ (by decide), up_same], by rw [up_cell _ (by decide), up_cell _ (by decide), up_cell _ (by decide), up_cell _ (by decide), up_same], by rw [up_cell _ (by decide), up_cell _ (by decide), up_cell _ (by decide), up_same], by rw [up_cell _ (by decide), up_cell _ (by decide), up_same], by rw [up_cell _ (by decide), up_same], by rw [up_same]⟩
      · have q := h1 j (by omega)
        exact ⟨by rw [up_cell _ (by decide), up_cell _ (by decide), up_cell _ (by decide), up_cell _ (by decide), up_cell _ (by decide), up_cell _ (by decide), up_cell _ (by decide), up_cell _ (by decide), up_place _ _ z]; exact q.1, by rw [up_cell _ (by decide), up_cell _ (by decide), up_cell _ (by decide), up_cell _ (by decide), up_cell _ (by decide), up_cell _ (by decide), up_cell _ (by decide), up_place _ _ z, up_cell _ (by decide)]; exact q.2.1, by rw [up_cell _ (by decide), up_cell _ (by decide), up_cell _ (by decide), up_cell _ (by decide), up_cell _ (by decide), up_cell _ (by decide), up_place _ _ z, up_cell _ (by decide), up_cell _ (by decide)]; exact q.2.2.1, by rw [up_cell _ (by decide), up_cell _ (by decide), up_cell _ (by decide), up_cell _ (by decide), up_cell _ (by decide), up_place _ _ z, up_cell _ (by decide), up_cell _ (by decide), up_cell _ (by decide)]; exact q.2.2.2.1, by rw [up_cell _ (by decide), up_cell _ (by decide), up_cell _ (by decide), up_cell _ (by decide), up_place _ _ z, up_cell _ (by decide), up_cell _ (by decide), up_cell _ (by decide), up_cell _ (by decide)]; exact q.2.2.2.2.1, by rw [up_cell _ (by decide), up_cell _ (by decide), up_cell _ (by decide), up_place _ _ z, up_cell _ (by decide), up_cell _ (by decide), up_cell _ (by decide), up_cell _ (by decide), up_cell _ (by decide)]; exact q.2.2.2.2.2.1, by rw [up_cell _ (by decide), up_cell _ (by decide), up_place _ _ z, up_cell _ (by decide), up_cell _ (by decide), up_cell _ (by decide), up_cell _ (by decide), up_cell _ (by decide), up_cell _ (by decide)]; exact q.2.2.2.2.2.2.1, by rw [up_cell _ (by decide), up_place _ _ z, up_cell _ (by decide), up_cell _ (by decide), up_cell _ (by decide), up_cell _ (by decide), up_cell _ (by decide), up_cell _ (by decide), up_cell _ (by decide)]; exact q.2.2.2.2.2.2.2.1, by rw [up_place _ _ z, up_cell _ (by decide), up_cell _ (by decide), up_cell _ (by decide), up_cell _ (by decide), up_cell _ (by decide), up_cell _ (by decide), up_cell _ (by decide), up_cell _ (by decide)]; exact q.2.2.2.2.2.2.2.2⟩
  exact key 8 0 I (by omega) (fr_refl _ _ _) (fun j hj => absurd hj (Nat.not_lt_zero _))
theorem bc_plan {d : Nat} {Y : vY} {I : vJ} {P : vE → Prop} {n : Nat} (hL : vL Y) (hB : I 35 1554 = n) (hn : n ≤ 2100) (hQ : ∀ K : vJ, fr [65] [] I K → (∀ j : Nat, j < n → K 65 j = 0) → vW d 122 (26, [vr 57, vi ((n : Nat) : Int)], [], (K, Y)) P) : vW d 122 (2, [vr 57, vi 0], [], (I, Y)) P := by
  have key : ∀ (m i : Nat) (K : vJ), i + m = n → fr [65] [] I K → (∀ j : Nat, j < i → K 65 j = 0) → vW d 122 (2, [vr 57, vi (i : Int)], [], (K, Y)) P := by
    intro m
    induction m with
    | zero =>
      intro i K hi hf h1
      have hi : i = n := by omega
      rw [hi, b122_2 hL, hf 35 _ rfl, hB, if_pos (Int.le_refl _)]
      exact hQ K hf (fun j hj => h1 j (by omega))
    | succ m ih =>
      intro i K hi hf h1
      rw [b122_2 hL, hf 35 _ rfl, hB, if_neg (by rw [w32_id (by omega) (by omega), w32_id (by omega) (by omega)]; omega), b122_13 hL (by omega) (by omega), tn0]
      refine ih (i + 1) _ (by omega) (fr_upL hf rfl _ _) (fun j hj => ?_)
      by_cases z : j = i
      · rw [z]; exact by rw [up_same]
      · have q := h1 j (by omega)
        exact by rw [up_place _ _ z]; exact q
  exact key n 0 I (by omega) (fr_refl _ _ _) (fun j hj => absurd hj (Nat.not_lt_zero _))
theorem bc_rows1 {d : Nat} {Y : vY} {I : vJ} {P : vE → Prop} (hL : vL Y) (hQ : ∀ K : vJ, fr [1968, 1969] [] I K → (∀ j : Nat, j < 24 → K 1968 j = 0 ∧ K 1969 j = 0) → vW d 145 (96, [vr 1960, vi ((24 : Nat) : Int), vu], [], (K, Y)) P) : vW d 145 (70, [vr 1960, vi 0, vu], [], (I, Y)) P := by
  have key : ∀ (m i : Nat) (K : vJ), i + m = 24 → fr [1968, 1969] [] I K → (∀ j : Nat, j < i → K 1968 j = 0 ∧ K 1969 j = 0) → vW d 145 (70, [vr 1960, vi (i : Int), vu], [], (K, Y)) P := by
    intro m
    induction m with
    | zero =>
      intro i K hi hf h1
      have hi : i = 24 := by omega
      rw [hi, b145_70, if_pos (by decide)]
      exact hQ K hf (fun j hj => h1 j (by omega))
    | succ m ih =>
      intro i K hi hf h1
      rw [b145_70, if_neg (by rw [w32_id (by omega) (by omega), w32_id (by omega) (by omega)]; omega), b145_76 hL (by omega) (by omega), tn0]
      refine ih (i + 1) _ (by omega) (fr_upL (fr_upL hf rfl _ _) rfl _ _) (fun j hj => ?_)
      by_cases z : j = i
      · rw [z]; exact ⟨by rw [up_cell _ (by decide), up_same], by rw [up_same]⟩
      · have q := h1 j (by omega)
        exact ⟨by rw [up_cell _ (by decide), up_place _ _ z]; exact q.1, by rw [up_place _ _ z, up_cell _ (by decide)]; exact q.2⟩
  exact key 24 0 I (by omega) (fr_refl _ _ _) (fun j hj => absurd hj (Nat.not_lt_zero _))
theorem bt_hash {d : Nat} {Y : vY} {I : vJ} {P : vE → Prop} {x1 x2 x3 x4 : Int} (hL : vL Y) (hQ : ∀ K : vJ, fr [2258] [] I K → (∀ j : Nat, j < 65536 → K 2258 j = 0) → vW d 397 (133, [vr 2075, vi x1, vi x2, vi x3, vi x4, vi ((65536 : Nat) : Int)], [], (K, Y)) P) : vW d 397 (111, [vr 2075, vi x1, vi x2, vi x3, vi x4, vi 0], [], (I, Y)) P := by
  have key : ∀ (m i : Nat) (K : vJ), i + m = 65536 → fr [2258] [] I K → (∀ j : Nat, j < i → K 2258 j = 0) → vW d 397 (111, [vr 2075, vi x1, vi x2, vi x3, vi x4, vi (i : Int)], [], (K, Y)) P := by
    intro m
    induction m with
    | zero =>
      intro i K hi hf h1
      have hi : i = 65536 := by omega
      rw [hi, b397_111, if_pos (by decide)]
      exact hQ K hf (fun j hj => h1 j (by omega))
    | succ m ih =>
      intro i K hi hf h1
      rw [b397_111, if_neg (by rw [w32_id (by omega) (by omega), w32_id (by omega) (by omega)]; omega), b397_119 hL (by omega) (by omega), tn0]
      refine ih (i + 1) _ (by omega) (fr_upL hf rfl _ _) (fun j hj => ?_)
      by_cases z : j = i
      · rw [z]; exact by rw [up_same]
      · have q := h1 j (by omega)
        exact by rw [up_place _ _ z]; exact q
  exact key 65536 0 I (by omega) (fr_refl _ _ _) (fun j hj => absurd hj (Nat.not_lt_zero _))
theorem bt_ways {d : Nat} {Y : vY} {I : vJ} {P : vE → Prop} {x1 x2 x3 x4 : Int} {n X : Nat} (hL : vL Y) (hX : Y.1 2075 7689 = X) (hX2 : X = 2081 ∨ X = 2119) (hV : vreg Y 2081 38 (Y.1 2075 7689)) (hB : I X 7939 = n) (hn : n ≤ 3200) (hQ : ∀ K : vJ, fr [2183] [] I K → (∀ j : Nat, j < n → K 2183 j = 0) → vW d 397 (192, [vr 2075, vi x1, vi x2, vi x3, vi x4, vi ((n : Nat) : Int)], [], (K, Y)) P) : vW d 397 (166, [vr 2075, vi x1, vi x2, vi x3, vi x4, vi 0], [], (I, Y)) P := by
  have key : ∀ (m i : Nat) (K : vJ), i + m = n → fr [2183] [] I K → (∀ j : Nat, j < i → K 2183 j = 0) → vW d 397 (166, [vr 2075, vi x1, vi x2, vi x3, vi x4, vi (i : Int)], [], (K, Y)) P := by
    intro m
    induction m with
    | zero =>
      intro i K hi hf h1
      have hi : i = n := by omega
      rw [hi, b397_166 hL hV, hX, show K X = I X from fr_out hf 2081 2182 (by rfl) (by omega) (by omega), hB, if_pos (Int.le_refl _)]
      exact hQ K hf (fun j hj => h1 j (by omega))
    | succ m ih =>
      intro i K hi hf h1
      rw [b397_166 hL hV, hX, show K X = I X from fr_out hf 2081 2182 (by rfl) (by omega) (by omega), hB, if_neg (by rw [w32_id (by omega) (by omega), w32_id (by omega) (by omega)]; omega), b397_178 hL (by omega) (by omega), tn0]
      refine ih (i + 1) _ (by omega) (fr_upL hf rfl _ _) (fun j hj => ?_)
      by_cases z : j = i
      · rw [z]; exact by rw [up_same]
      · have q := h1 j (by omega)
        exact by rw [up_place _ _ z]; exact q
  exact key n 0 I (by omega) (fr_refl _ _ _) (fun j hj => absurd hj (Nat.not_lt_zero _))
theorem bt_thr {d : Nat} {Y : vY} {I : vJ} {P : vE → Prop} {x1 x2 x3 x4 : Int} (hL : vL Y) (hQ : ∀ K : vJ, fr [2249, 2250, 2251, 2252] [] I K → (∀ j : Nat, j < 10 → K 2249 j = 0 ∧ K 2250 j = 0 ∧ K 2251 j = 0 ∧ K 2252 j = 0) → vW d 397 (356, [vr 2075, vi x1, vi x2, vi x3, vi x4, vi ((10 : Nat) : Int)], [], (K, Y)) P) : vW d 397 (311, [vr 2075, vi x1, vi x2, vi x3, vi x4, vi 0], [], (I, Y)) P := by
  have key : ∀ (m i : Nat) (K : vJ), i + m = 10 → fr [2249, 2250, 2251, 2252] [] I K → (∀ j : Nat, j < i → K 2249 j = 0 ∧ K 2250 j = 0 ∧ K 2251 j = 0 ∧ K 2252 j = 0) → vW d 397 (311, [vr 2075, vi x1, vi x2, vi x3, vi x4, vi (i : Int)], [], (K, Y)) P := by
    intro m
    induction m with
    | zero =>
      intro i K hi hf h1
      have hi : i = 10 := by omega
      rw [hi, b397_311, if_pos (by decide)]
      exact hQ K hf (fun j hj => h1 j (by omega))
    | succ m ih =>
      intro i K hi hf h1
      rw [b397_311, if_neg (by rw [w32_id (by omega) (by omega), w32_id (by omega) (by omega)]; omega), b397_318 hL (by omega) (by omega), tn0]
      refine ih (i + 1) _ (by omega) (fr_upL (fr_upL (fr_upL (fr_upL hf rfl _ _) rfl _ _) rfl _ _) rfl _ _) (fun j hj => ?_)
      by_cases z : j = i
      · rw [z]; exact ⟨by rw [up_cell _ (by decide), up_cell _ (by decide), up_cell _ (by decide), up_same], by rw [up_cell _ (by decide), up_cell _ (by decide), up_same], by rw [up_cell _ (by decide), up_same], by rw [up_same]⟩
      · have q := h1 j (by omega)
        exact ⟨by rw [up_cell _ (by decide), up_cell _ (by decide), up_cell _ (by decide), up_place _ _ z]; exact q.1, by rw [up_cell _ (by decide), up_cell _ (by decide), up_place _ _ z, up_cell _ (by decide)]; exact q.2.1, by rw [up_cell _ (by decide), up_place _ _ z, up_cell _ (by decide), up_cell _ (by decide)]; exact q.2.2.1, by rw [up_place _ _ z, up_cell _ (by decide), up_cell _ (by decide), up_cell _ (by decide)]; exact q.2.2.2⟩
  exact key 10 0 I (by omega) (fr_refl _ _ _) (fun j hj => absurd hj (Nat.not_lt_zero _))
theorem bt_calls {d : Nat} {Y : vY} {I : vJ} {P : vE → Prop} {x1 x2 x3 x4 : Int} (hL : vL Y) (hQ : ∀ K : vJ, fr [2253, 2254] [] I K → (∀ j : Nat, j < 24 → K 2253 j = 0 ∧ K 2254 j = 0) → vW d 397 (388, [vr 2075, vi x1, vi x2, vi x3, vi x4, vi ((24 : Nat) : Int)], [], (K, Y)) P) : vW d 397 (359, [vr 2075, vi x1, vi x2, vi x3, vi x4, vi 0], [], (I, Y)) P := by
  have key : ∀ (m i : Nat) (K : vJ), i + m = 24 → fr [2253, 2254] [] I K → (∀ j : Nat, j < i → K 2253 j = 0 ∧ K 2254 j = 0) → vW d 397 (359, [vr 2075, vi x1, vi x2, vi x3, vi x4, vi (i : Int)], [], (K, Y)) P := by
    intro m
    induction m with
    | zero =>
      intro i K hi hf h1
      have hi : i = 24 := by omega
      rw [hi, b397_359, if_pos (by decide)]
      exact hQ K hf (fun j hj => h1 j (by omega))
    | succ m ih =>
      intro i K hi hf h1
      rw [b397_359, if_neg (by rw [w32_id (by omega) (by omega), w32_id (by omega) (by omega)]; omega), b397_366 hL (by omega) (by omega), tn0]
      refine ih (i + 1) _ (by omega) (fr_upL (fr_upL hf rfl _ _) rfl _ _) (fun j hj => ?_)
      by_cases z : j = i
      · rw [z]; exact ⟨by rw [up_cell _ (by decide), up_same], by rw [up_same]⟩
      · have q := h1 j (by omega)
        exact ⟨by rw [up_cell _ (by decide), up_place _ _ z]; exact q.1, by rw [up_place _ _ z, up_cell _ (by decide)]; exact q.2⟩
  exact key 24 0 I (by omega) (fr_refl _ _ _) (fun j hj => absurd hj (Nat.not_lt_zero _))
theorem bt_tree {d : Nat} {Y : vY} {I : vJ} {P : vE → Prop} {x1 x2 x3 x4 : Int} (hL : vL Y) (hQ : ∀ K : vJ, fr [2238, 2239, 2240] [] I K → (∀ j : Nat, j < 2 → K 2238 j = -1 ∧ K 2239 j = 0 ∧ K 2240 j = 0) → vW d 397 (477, [vr 2075, vi x1, vi x2, vi x3, vi x4, vi ((2 : Nat) : Int)], [], (K, Y)) P) : vW d 397 (441, [vr 2075, vi x1, vi x2, vi x3, vi x4, vi 0], [], (I, Y)) P := by
  have key : ∀ (m i : Nat) (K : vJ), i + m = 2 → fr [2238, 2239, 2240] [] I K → (∀ j : Nat, j < i → K 2238 j = -1 ∧ K 2239 j = 0 ∧ K 2240 j = 0) → vW d 397 (441, [vr 2075, vi x1, vi x2, vi x3, vi x4, vi (i : Int)], [], (K, Y)) P := by
    intro m
    induction m with
    | zero =>
      intro i K hi hf h1
      have hi : i = 2 := by omega
      rw [hi, b397_441, if_pos (by decide)]
      exact hQ K hf (fun j hj => h1 j (by omega))
    | succ m ih =>
      intro i K hi hf h1
      rw [b397_441, if_neg (by rw [w32_id (by omega) (by omega), w32_id (by omega) (by omega)]; omega), b397_447 hL (by omega) (by omega), tn0]
      refine ih (i + 1) _ (by omega) (fr_upL (fr_upL (fr_upL hf rfl _ _) rfl _ _) rfl _ _) (fun j hj => ?_)
      by_cases z : j = i
      · rw [z]; exact ⟨by rw [up_cell _ (by decide), up_cell _ (by decide), up_same], by rw [up_cell _ (by decide), up_same], by rw [up_same]⟩
      · have q := h1 j (by omega)
        exact ⟨by rw [up_cell _ (by decide), up_cell _ (by decide), up_place _ _ z]; exact q.1, by rw [up_cell _ (by decide), up_place _ _ z, up_cell _ (by decide)]; exact q.2.1, by rw [up_place _ _ z, up_cell _ (by decide), up_cell _ (by decide)]; exact q.2.2⟩
  exact key 2 0 I (by omega) (fr_refl _ _ _) (fun j hj => absurd hj (Nat.not_lt_zero _))
theorem bt_loops {d : Nat} {Y : vY} {I : vJ} {P : vE → Prop} {n X : Nat} (hL : vL Y) (hX : Y.1 2075 7689 = X) (hX2 : X = 2081 ∨ X = 2119) (hV : vreg Y 2081 38 (Y.1 2075 7689)) (hB : I X 7938 = n) (hn : n ≤ 1400) (hQ : ∀ K : vJ, fr [2241, 2242, 2243, 2244, 2245, 2246, 2247, 2248] [] I K → (∀ j : Nat, j < n → K 2241 j = 0 ∧ K 2242 j = 0 ∧ K 2243 j = -1 ∧ K 2244 j = -1 ∧ K 2245 j = 0 ∧ K 2246 j = 0 ∧ K 2247 j = 0 ∧ K 2248 j = 0) → vW d 398 (75, [vr 2075, vi ((n : Nat) : Int)], [], (K, Y)) P) : vW d 398 (2, [vr 2075, vi 0], [], (I, Y)) P := by
  have key : ∀ (m i : Nat) (K : vJ), i + m = n → fr [2241, 2242, 2243, 2244, 2245, 2246, 2247, 2248] [] I K → (∀ j : Nat, j < i → K 2241 j = 0 ∧ K 2242 j = 0 ∧ K 2243 j = -1 ∧ K 2244 j = -1 ∧ K 2245 j = 0 ∧ K 2246 j = 0 ∧ K 2247 j = 0 ∧ K 2248 j = 0) → vW d 398 (2, [vr 2075, vi (i : Int)], [], (K, Y)) P := by
    intro m
    induction m with
    | zero =>
      intro i K hi hf h1
      have hi : i = n := by omega
      rw [hi, b398_2 hL hV, hX, show K X = I X from fr_out hf 2081 2182 (by rfl) (by omega) (by omega), hB, if_pos (Int.le_refl _)]
      exact hQ K hf (fun j hj => h1 j (by omega))
    | succ m ih =>
      intro i K hi hf h1
      rw [b398_2 hL hV, hX, show K X = I X from fr_out hf 2081 2182 (by rfl) (by omega) (by omega), hB, if_neg (by rw [w32_id (by omega) (by omega), w32_id (by omega) (by omega)]; omega), b398_13 hL (by omega) (by omega), tn0]
      refine ih (i + 1) _ (by omega) (fr_upL (fr_upL (fr_upL (fr_upL (fr_upL (fr_upL (fr_upL (fr_upL hf rfl _ _) rfl _ _) rfl _ _) rfl _ _) rfl _ _) rfl _ _) rfl _ _) rfl _ _) (fun j hj => ?_)
      by_cases z : j = i
      · rw [z]; exact ⟨by rw [up_cell _ (by decide), up_cell _ (by decide), up_cell _ (by decide), up_cell _ (by decide), up_cell _ (by decide), up_cell _ (by decide), up_cell _ (by decide), up_same], by rw [up_cell _ (by decide), up_cell _ (by decide), up_cell _ (by decide), up_cell _ (by decide), up_cell _ (by decide), up_cell _ (by decide), up_same], by rw [up_cell _ (by decide), up_cell _ (by decide), up_cell _ (by decide), up_cell _ (by decide), up_cell _ (by decide), up_same], by rw [up_cell _ (by decide), up_cell _ (by decide), up_cell _ (by decide), up_cell _ (by decide), up_same], by rw [up_cell _ (by decide), up_cell _ (by decide), up_cell _ (by decide), up_same], by rw [up_cell _ (by decide), up_cell _ (by decide), up_same], by rw [up_cell _ (by decide), up_same], by rw [up_same]⟩
      · have q := h1 j (by omega)
        exact ⟨by rw [up_cell _ (by decide), up_cell _ (by decide), up_cell _ (by decide), up_cell _ (by decide), up_cell _ (by decide), up_cell _ (by decide), up_cell _ (by decide), up_place _ _ z]; exact q.1, by rw [up_cell _ (by decide), up_cell _ (by decide), up_cell _ (by decide), up_cell _ (by decide), up_cell _ (by decide), up_cell _ (by decide), up_place _ _ z, up_cell _ (by decide)]; exact q.2.1, by rw [up_cell _ (by decide), up_cell _ (by decide), up_cell _ (by decide), up_cell _ (by decide), up_cell _ (by decide), up_place _ _ z, up_cell _ (by decide), up_cell _ (by decide)]; exact q.2.2.1, by rw [up_cell _ (by decide), up_cell _ (by decide), up_cell _ (by decide), up_cell _ (by decide), up_place _ _ z, up_cell _ (by decide), up_cell _ (by decide), up_cell _ (by decide)]; exact q.2.2.2.1, by rw [up_cell _ (by decide), up_cell _ (by decide), up_cell _ (by decide), up_place _ _ z, up_cell _ (by decide), up_cell _ (by decide), up_cell _ (by decide), up_cell _ (by decide)]; exact q.2.2.2.2.1, by rw [up_cell _ (by decide), up_cell _ (by decide), up_place _ _ z, up_cell _ (by decide), up_cell _ (by decide), up_cell _ (by decide), up_cell _ (by decide), up_cell _ (by decide)]; exact q.2.2.2.2.2.1, by rw [up_cell _ (by decide), up_place _ _ z, up_cell _ (by decide), up_cell _ (by decide), up_cell _ (by decide), up_cell _ (by decide), up_cell _ (by decide), up_cell _ (by decide)]; exact q.2.2.2.2.2.2.1, by rw [up_place _ _ z, up_cell _ (by decide), up_cell _ (by decide), up_cell _ (by decide), up_cell _ (by decide), up_cell _ (by decide), up_cell _ (by decide), up_cell _ (by decide)]; exact q.2.2.2.2.2.2.2⟩
  exact key n 0 I (by omega) (fr_refl _ _ _) (fun j hj => absurd hj (Nat.not_lt_zero _))
theorem bt_locks {d : Nat} {Y : vY} {I : vJ} {P : vE → Prop} {x1 x2 x3 x4 : Int} (hL : vL Y) (hQ : ∀ K : vJ, fr [2185, 2211, 2212, 2213, 2214, 2215, 2216, 2217, 2218, 2219, 2220, 2222] [] I K → (∀ j : Nat, j < 8 → K 2185 j = 0 ∧ K 2211 j = -1 ∧ K 2212 j = 0 ∧ K 2213 j = 0 ∧ K 2214 j = 0 ∧ K 2215 j = 0 ∧ K 2216 j = 0 ∧ K 2217 j = 0 ∧ K 2218 j = 0 ∧ K 2219 j = 0 ∧ K 2220 j = 0 ∧ K 2222 j = 0) → vW d 397 (304, [vr 2075, vi x1, vi x2, vi x3, vi x4, vi ((8 : Nat) : Int)], [], (K, Y)) P) : vW d 397 (195, [vr 2075, vi x1, vi x2, vi x3, vi x4, vi 0], [], (I, Y)) P := by
  have key : ∀ (m i : Nat) (K : vJ), i + m = 8 → fr [2185, 2211, 2212, 2213, 2214, 2215, 2216, 2217, 2218, 2219, 2220, 2222] [] I K → (∀ j : Nat, j < i → K 2185 j = 0 ∧ K 2211 j = -1 ∧ K 2212 j = 0 ∧ K 2213 j = 0 ∧ K 2214 j = 0 ∧ K 2215 j = 0 ∧ K 2216 j = 0 ∧ K 2217 j = 0 ∧ K 2218 j = 0 ∧ K 2219 j = 0 ∧ K 2220 j = 0 ∧ K 2222 j = 0) → vW d 397 (195, [vr 2075, vi x1, vi x2, vi x3, vi x4, vi (i : Int)], [], (K, Y)) P := by
    intro m
    induction m with
    | zero =>
      intro i K hi hf h1
      have hi : i = 8 := by omega
      rw [hi, b397_195, if_pos (by decide)]
      exact hQ K hf (fun j hj => h1 j (by omega))
    | succ m ih =>
      intro i K hi hf h1
      rw [b397_195, if_neg (by rw [w32_id (by omega) (by omega), w32_id (by omega) (by omega)]; omega), b397_202 hL (by omega) (by omega), tn0]
      refine ih (i + 1) _ (by omega) (fr_upL (fr_upL (fr_upL (fr_upL (fr_upL (fr_upL (fr_upL (fr_upL (fr_upL (fr_upL (fr_upL (fr_upL hf rfl _ _) rfl _ _) rfl _ _) rfl _ _) rfl _ _) rfl _ _) rfl _ _) rfl _ _) rfl _ _) rfl _ _) rfl _ _) rfl _ _) (fun j hj => ?_)
      by_cases z : j = i
      · rw [z]; exact ⟨by rw [up_cell _ (by decide), up_cell _ (by decide), up_cell _ (by decide), up_cell _ (by decide), up_cell _ (by decide), up_cell _ (by decide), up_cell _ (by decide), up_cell _ (by decide), up_cell _ (by decide), up_cell _ (by decide), up_cell _ (by decide), up_same], by rw [up_cell _ (by decide), up_cell _ (by decide), up_cell _ (by decide), up_cell _ (by decide), up_cell _ (by decide), up_cell _ (by decide), up_cell _ (by decide), up_cell _ (by decide), up_cell _ (by decide), up_cell _ (by decide), up_same], by rw [up_cell _ (by decide), up_cell _ (by decide), up_cell _ (by decide), up_cell _ (by decide), up_cell _ (by decide), up_cell _ (by decide), up_cell _ (by decide), up_cell _ (by decide), up_cell _ (by decide), up_same], by rw [up_cell _ (by decide), up_cell _ (by decide), up_cell _ (by decide), up_cell _ (by decide), up_cell _ (by decide), up_cell _ (by decide), up_cell _ (by decide), up_cell _ (by decide), up_same], by rw [up_cell _ (by decide), up_cell _ (by decide), up_cell _ (by decide), up_cell _ (by decide), up_cell _ (by decide), up_cell _ (by decide), up_cell _ (by decide), up_same], by rw [up_cell _ (by decide), up_cell _ (by decide), up_cell _ (by decide), up_cell _ (by decide), up_cell _ (by decide), up_cell _ (by decide), up_same], by rw [up_cell _ (by decide), up_cell _ (by decide), up_cell _ (by decide), up_cell _ (by decide), up_cell _ (by decide), up_same], by rw [up_cell _ (by decide), up_cell _ (by decide), up_cell _ (by decide), up_cell _ (by decide), up_same], by rw [up_cell _ (by decide), up_cell _ (by decide), up_cell _ (by decide), up_same], by rw [up_cell _ (by decide), up_cell _ (by decide), up_same], by rw [up_cell _ (by decide), up_same], by rw [up_same]⟩
      · have q := h1 j (by omega)
        exact ⟨by rw [up_cell _ (by decide), up_cell _ (by decide), up_cell _ (by decide), up_cell _ (by decide), up_cell _ (by decide), up_cell _ (by decide), up_cell _ (by decide), up_cell _ (by decide), up_cell _ (by decide), up_cell _ (by decide), up_cell _ (by decide), up_place _ _ z]; exact q.1, by rw [up_cell _ (by decide), up_cell _ (by decide), up_cell _ (by decide), up_cell _ (by decide), up_cell _ (by decide), up_cell _ (by decide), up_cell _ (by decide), up_cell _ (by decide), up_cell _ (by decide), up_cell _ (by decide), up_place _ _ z, up_cell _ (by decide)]; exact q.2.1, by rw [up_cell _ (by decide), up_cell _ (by decide), up_cell _ (by decide), up_cell _ (by decide), up_cell _ (by decide), up_cell _ (by decide), up_cell _ (by decide), up_cell _ (by decide), up_cell _ (by decide), up_place _ _ z, up_cell _ (by decide), up_cell _ (by decide)]; exact q.2.2.1, by rw [up_cell _ (by decide), up_cell _ (by decide), up_cell _ (by decide), up_cell _ (by decide), up_cell _ (by decide), up_cell _ (by decide), up_cell _ (by decide), up_cell _ (by decide), up_place _ _ z, up_cell _ (by decide), up_cell _ (by decide), up_cell _ (by decide)]; exact q.2.2.2.1, by rw [up_cell _ (by decide), up_cell _ (by decide), up_cell _ (by decide), up_cell _ (by decide), up_cell _ (by decide), up_cell _ (by decide), up_cell _ (by decide), up_place _ _ z, up_cell _ (by decide), up_cell _ (by decide), up_cell _ (by decide), up_cell _ (by decide)]; exact q.2.2.2.2.1, by rw [up_cell _ (by decide), up_cell _ (by decide), up_cell _ (by decide), up_cell _ (by decide), up_cell _ (by decide), up_cell _ (by decide), up_place _ _ z, up_cell _ (by decide), up_cell _ (by decide), up_cell _ (by decide), up_cell _ (by decide), up_cell _ (by decide)]; exact q.2.2.2.2.2.1, by rw [up_cell _ (by decide), up_cell _ (by decide), up_cell _ (by decide), up_cell _ (by decide), up_cell _ (by decide), up_place _ _ z, up_cell _ (by decide), up_cell _ (by decide), up_cell _ (by decide), up_cell _ (by decide), up_cell _ (by decide), up_cell _ (by decide)]; exact q.2.2.2.2.2.2.1, by rw [up_cell _ (by decide), up_cell _ (by decide), up_cell _ (by decide), up_cell _ (by decide), up_place _ _ z, up_cell _ (by decide), up_cell _ (by decide), up_cell _ (by decide), up_cell _ (by decide), up_cell _ (by decide), up_cell _ (by decide), up_cell _ (by decide)]; exact q.2.2.2.2.2.2.2.1, by rw [up_cell _ (by decide), up_cell _ (by decide), up_cell _ (by decide), up_place _ _ z, up_cell _ (by decide), up_cell _ (by decide), up_cell _ (by decide), up_cell _ (by decide), up_cell _ (by decide), up_cell _ (by decide), up_cell _ (by decide), up_cell _ (by decide)]; exact q.2.2.2.2.2.2.2.2.1, by rw [up_cell _ (by decide), up_cell _ (by decide), up_place _ _ z, up_cell _ (by decide), up_cell _ (by decide), up_cell _ (by decide), up_cell _ (by decide), up_cell _ (by decide), up_cell _ (by decide), up_cell _ (by decide), up_cell _ (by decide), up_cell _ (by decide)]; exact q.2.2.2.2.2.2.2.2.2.1, by rw [up_cell _ (by decide), up_place _ _ z, up_cell _ (by decide), up_cell _ (by decide), up_cell _ (by decide), up_cell _ (by decide), up_cell _ (by decide), up_cell _ (by decide), up_cell _ (by decide), up_cell _ (by decide), up_cell _ (by decide), up_cell _ (by decide)]; exact q.2.2.2.2.2.2.2.2.2.2.1, by rw [up_place _ _ z, up_cell _ (by decide), up_cell _ (by decide), up_cell _ (by decide), up_cell _ (by decide), up_cell _ (by decide), up_cell _ (by decide), up_cell _ (by decide), up_cell _ (by decide), up_cell _ (by decide), up_cell _ (by decide), up_cell _ (by decide)]; exact q.2.2.2.2.2.2.2.2.2.2.2⟩
  exact key 8 0 I (by omega) (fr_refl _ _ _) (fun j hj => absurd hj (Nat.not_lt_zero _))
