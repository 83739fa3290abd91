/-! ===== begin: the house's rows (printed by gen/begin2.py) ===== -/
set_option maxRecDepth 20000
set_option maxHeartbeats 4000000
theorem bc_thr0 {d : Nat} {Y : vY} {I : vJ} {P : vE → Prop} {x1 x2 x3 x4 x7 : Int} {x5 x6 : Nat} (hL : vL Y) (hQ : ∀ K : vJ, fr [2037] [] I K → (∀ j : Nat, j < 10 → K 2037 j = 0) → vW d 157 (219, [vr 1990, vi x1, vi x2, vi x3, vi x4, vr x5, vr x6, vi x7, vi 0, vi ((10 : Nat) : Int)], [], (K, Y)) P) : vW d 157 (195, [vr 1990, vi x1, vi x2, vi x3, vi x4, vr x5, vr x6, vi x7, vi 0, vi 0], [], (I, Y)) P := by
  have e : Y.1 2036 (Int.toNat 0) = 2037 := lP hL 2036 0 2037 rfl
  have key : ∀ (m i : Nat) (K : vJ), i + m = 10 → fr [2037] [] I K → (∀ j : Nat, j < i → K 2037 j = 0) → vW d 157 (195, [vr 1990, vi x1, vi x2, vi x3, vi x4, vr x5, vr x6, vi x7, vi 0, vi (i : Int)], [], (K, Y)) P := by
    intro m
    induction m with
    | zero =>
      intro i K hi hf h1
      have hi : i = 10 := by omega
      rw [hi, b157_195, if_pos (by decide)]
      exact hQ K hf (fun j hj => h1 j (by omega))
    | succ m ih =>
      intro i K hi hf h1
      rw [b157_195, if_neg (by rw [w32_id (by omega) (by omega), w32_id (by omega) (by omega)]; omega), b157_202 hL (by decide) (by decide) (by omega) (by rw [e, lLn hL 2037 10 rfl]; omega) (by omega) (by rw [e]; decide) (by rw [e]; exact lK hL 2037 100 rfl), e, tn0, b157_213]
      refine ih (i + 1) _ (by omega) (fr_upL hf rfl _ _) (fun j hj => ?_)
      rw [up_at]
      by_cases z : j = i
      · rw [if_pos z]
      · rw [if_neg z]; exact h1 j (by omega)
  exact key 10 0 I (by omega) (fr_refl _ _ _) (fun j hj => absurd hj (Nat.not_lt_zero _))
theorem bc_tk0 {d : Nat} {Y : vY} {I : vJ} {P : vE → Prop} {x1 x2 x3 x4 x7 : Int} {x5 x6 : Nat} {x9 : vV} (hL : vL Y) (hQ : ∀ K : vJ, fr [2037] [(2048, 3587), (2048, 3588), (2048, 3589), (2048, 3590), (2048, 3591), (2048, 3592)] I K → (∀ j : Nat, j < 10 → K 2037 j = 0) → (K 2048 3587 = 0 ∧ K 2048 3588 = 0 ∧ K 2048 3589 = 0 ∧ K 2048 3590 = 0 ∧ K 2048 3591 = 0 ∧ K 2048 3592 = 0) → vW (d + 1) 157 (186, [vr 1990, vi x1, vi x2, vi x3, vi x4, vr x5, vr x6, vi x7, vi 1, vi ((10 : Nat) : Int)], [], (K, Y)) P) : vW (d + 1) 157 (186, [vr 1990, vi x1, vi x2, vi x3, vi x4, vr x5, vr x6, vi x7, vi 0, x9], [], (I, Y)) P := by
  rw [b157_186, if_neg (by decide), b157_192]
  refine bc_thr0 hL (fun K hf h0 => ?_)
  have vk := vreg_k hL (k := 0) (by decide)
  have vk2 : vreg Y 2048 3 2048 := vk.2
  have ve : Y.1 1991 (Int.toNat 0) = 2048 := vk.1
  rw [b157_219 hL (by decide) (by decide) (by rw [ve]; exact vk2), ve, b199_0 vk2, b199_5 vk2, b199_10 vk2, b199_15 vk2, b199_20 vk2, b199_25 vk2, b199_30]
  simp only [vWC_n, Nat.reduceAdd]
  rw [b157_229]
  exact hQ _ (fr_upP (fr_upP (fr_upP (fr_upP (fr_upP (fr_upP (fr_weak hf (by decide) (by decide)) rfl _) rfl _) rfl _) rfl _) rfl _) rfl _) (fun j hj => by rw [up_cell _ (by decide), up_cell _ (by decide), up_cell _ (by decide), up_cell _ (by decide), up_cell _ (by decide), up_cell _ (by decide)]; exact h0 j hj) ⟨by rw [up_place _ _ (by decide), up_place _ _ (by decide), up_place _ _ (by decide), up_place _ _ (by decide), up_place _ _ (by decide), up_same], by rw [up_place _ _ (by decide), up_place _ _ (by decide), up_place _ _ (by decide), up_place _ _ (by decide), up_same], by rw [up_place _ _ (by decide), up_place _ _ (by decide), up_place _ _ (by decide), up_same], by rw [up_place _ _ (by decide), up_place _ _ (by decide), up_same], by rw [up_place _ _ (by decide), up_same], by rw [up_same]⟩
theorem bc_thr1 {d : Nat} {Y : vY} {I : vJ} {P : vE → Prop} {x1 x2 x3 x4 x7 : Int} {x5 x6 : Nat} (hL : vL Y) (hQ : ∀ K : vJ, fr [2038] [] I K → (∀ j : Nat, j < 10 → K 2038 j = 0) → vW d 157 (219, [vr 1990, vi x1, vi x2, vi x3, vi x4, vr x5, vr x6, vi x7, vi 1, vi ((10 : Nat) : Int)], [], (K, Y)) P) : vW d 157 (195, [vr 1990, vi x1, vi x2, vi x3, vi x4, vr x5, vr x6, vi x7, vi 1, vi 0], [], (I, Y)) P := by
  have e : Y.1 2036 (Int.toNat 1) = 2038 := lP hL 2036 1 2038 rfl
  have key : ∀ (m i : Nat) (K : vJ), i + m = 10 → fr [2038] [] I K → (∀ j : Nat, j < i → K 2038 j = 0) → vW d 157 (195, [vr 1990, vi x1, vi x2, vi x3, vi x4, vr x5, vr x6, vi x7, vi 1, vi (i : Int)], [], (K, Y)) P := by
    intro m
    induction m with
    | zero =>
      intro i K hi hf h1
      have hi : i = 10 := by omega
      rw [hi, b157_195, if_pos (by decide)]
      exact hQ K hf (fun j hj => h1 j (by omega))
    | succ m ih =>
      intro i K hi hf h1
      rw [b157_195, if_neg (by rw [w32_id (by omega) (by omega), w32_id (by omega) (by omega)]; omega), b157_202 hL (by decide) (by decide) (by omega) (by rw [e, lLn hL 2038 10 rfl]; omega) (by omega) (by rw [e]; decide) (by rw [e]; exact lK hL 2038 100 rfl), e, tn0, b157_213]
      refine ih (i + 1) _ (by omega) (fr_upL hf rfl _ _) (fun j hj => ?_)
      rw [up_at]
      by_cases z : j = i
      · rw [if_pos z]
      · rw [if_neg z]; exact h1 j (by omega)
  exact key 10 0 I (by omega) (fr_refl _ _ _) (fun j hj => absurd hj (Nat.not_lt_zero _))
theorem bc_tk1 {d : Nat} {Y : vY} {I : vJ} {P : vE → Prop} {x1 x2 x3 x4 x7 : Int} {x5 x6 : Nat} {x9 : vV} (hL : vL Y) (hQ : ∀ K : vJ, fr [2038] [(2051, 3587), (2051, 3588), (2051, 3589), (2051, 3590), (2051, 3591), (2051, 3592)] I K → (∀ j : Nat, j < 10 → K 2038 j = 0) → (K 2051 3587 = 0 ∧ K 2051 3588 = 0 ∧ K 2051 3589 = 0 ∧ K 2051 3590 = 0 ∧ K 2051 3591 = 0 ∧ K 2051 3592 = 0) → vW (d + 1) 157 (186, [vr 1990, vi x1, vi x2, vi x3, vi x4, vr x5, vr x6, vi x7, vi 2, vi ((10 : Nat) : Int)], [], (K, Y)) P) : vW (d + 1) 157 (186, [vr 1990, vi x1, vi x2, vi x3, vi x4, vr x5, vr x6, vi x7, vi 1, x9], [], (I, Y)) P := by
  rw [b157_186, if_neg (by decide), b157_192]
  refine bc_thr1 hL (fun K hf h0 => ?_)
  have vk := vreg_k hL (k := 1) (by decide)
  have vk2 : vreg Y 2048 3 2051 := vk.2
  have ve : Y.1 1991 (Int.toNat 1) = 2051 := vk.1
  rw [b157_219 hL (by decide) (by decide) (by rw [ve]; exact vk2), ve, b199_0 vk2, b199_5 vk2, b199_10 vk2, b199_15 vk2, b199_20 vk2, b199_25 vk2, b199_30]
  simp only [vWC_n, Nat.reduceAdd]
  rw [b157_229]
  exact hQ _ (fr_upP (fr_upP (fr_upP (fr_upP (fr_upP (fr_upP (fr_weak hf (by decide) (by decide)) rfl _) rfl _) rfl _) rfl _) rfl _) rfl _) (fun j hj => by rw [up_cell _ (by decide), up_cell _ (by decide), up_cell _ (by decide), up_cell _ (by decide), up_cell _ (by decide), up_cell _ (by decide)]; exact h0 j hj) ⟨by rw [up_place _ _ (by decide), up_place _ _ (by decide), up_place _ _ (by decide), up_place _ _ (by decide), up_place _ _ (by decide), up_same], by rw [up_place _ _ (by decide), up_place _ _ (by decide), up_place _ _ (by decide), up_place _ _ (by decide), up_same], by rw [up_place _ _ (by decide), up_place _ _ (by decide), up_place _ _ (by decide), up_same], by rw [up_place _ _ (by decide), up_place _ _ (by decide), up_same], by rw [up_place _ _ (by decide), up_same], by rw [up_same]⟩
theorem bc_thr2 {d : Nat} {Y : vY} {I : vJ} {P : vE → Prop} {x1 x2 x3 x4 x7 : Int} {x5 x6 : Nat} (hL : vL Y) (hQ : ∀ K : vJ, fr [2039] [] I K → (∀ j : Nat, j < 10 → K 2039 j = 0) → vW d 157 (219, [vr 1990, vi x1, vi x2, vi x3, vi x4, vr x5, vr x6, vi x7, vi 2, vi ((10 : Nat) : Int)], [], (K, Y)) P) : vW d 157 (195, [vr 1990, vi x1, vi x2, vi x3, vi x4, vr x5, vr x6, vi x7, vi 2, vi 0], [], (I, Y)) P := by
  have e : Y.1 2036 (Int.toNat 2) = 2039 := lP hL 2036 2 2039 rfl
  have key : ∀ (m i : Nat) (K : vJ), i + m = 10 → fr [2039] [] I K → (∀ j : Nat, j < i → K 2039 j = 0) → vW d 157 (195, [vr 1990, vi x1, vi x2, vi x3, vi x4, vr x5, vr x6, vi x7, vi 2, vi (i : Int)], [], (K, Y)) P := by
    intro m
    induction m with
    | zero =>
      intro i K hi hf h1
      have hi : i = 10 := by omega
      rw [hi, b157_195, if_pos (by decide)]
      exact hQ K hf (fun j hj => h1 j (by omega))
    | succ m ih =>
      intro i K hi hf h1
      rw [b157_195, if_neg (by rw [w32_id (by omega) (by omega), w32_id (by omega) (by omega)]; omega), b157_202 hL (by decide) (by decide) (by omega) (by rw [e, lLn hL 2039 10 rfl]; omega) (by omega) (by rw [e]; decide) (by rw [e]; exact lK hL 2039 100 rfl), e, tn0, b157_213]
      refine ih (i + 1) _ (by omega) (fr_upL hf rfl _ _) (fun j hj => ?_)
      rw [up_at]
      by_cases z : j = i
      · rw [if_pos z]
      · rw [if_neg z]; exact h1 j (by omega)
  exact key 10 0 I (by omega) (fr_refl _ _ _) (fun j hj => absurd hj (Nat.not_lt_zero _))
theorem bc_tk2 {d : Nat} {Y : vY} {I : vJ} {P : vE → Prop} {x1 x2 x3 x4 x7 : Int} {x5 x6 : Nat} {x9 : vV} (hL : vL Y) (hQ : ∀ K : vJ, fr [2039] [(2054, 3587), (2054, 3588), (2054, 3589), (2054, 3590), (2054, 3591), (2054, 3592)] I K → (∀ j : Nat, j < 10 → K 2039 j = 0) → (K 2054 3587 = 0 ∧ K 2054 3588 = 0 ∧ K 2054 3589 = 0 ∧ K 2054 3590 = 0 ∧ K 2054 3591 = 0 ∧ K 2054 3592 = 0) → vW (d + 1) 157 (186, [vr 1990, vi x1, vi x2, vi x3, vi x4, vr x5, vr x6, vi x7, vi 3, vi ((10 : Nat) : Int)], [], (K, Y)) P) : vW (d + 1) 157 (186, [vr 1990, vi x1, vi x2, vi x3, vi x4, vr x5, vr x6, vi x7, vi 2, x9], [], (I, Y)) P := by
  rw [b157_186, if_neg (by decide), b157_192]
  refine bc_thr2 hL (fun K hf h0 => ?_)
  have vk := vreg_k hL (k := 2) (by decide)
  have vk2 : vreg Y 2048 3 2054 := vk.2
  have ve : Y.1 1991 (Int.toNat 2) = 2054 := vk.1
  rw [b157_219 hL (by decide) (by decide) (by rw [ve]; exact vk2), ve, b199_0 vk2, b199_5 vk2, b199_10 vk2, b199_15 vk2, b199_20 vk2, b199_25 vk2, b199_30]
  simp only [vWC_n, Nat.reduceAdd]
  rw [b157_229]
  exact hQ _ (fr_upP (fr_upP (fr_upP (fr_upP (fr_upP (fr_upP (fr_weak hf (by decide) (by decide)) rfl _) rfl _) rfl _) rfl _) rfl _) rfl _) (fun j hj => by rw [up_cell _ (by decide), up_cell _ (by decide), up_cell _ (by decide), up_cell _ (by decide), up_cell _ (by decide), up_cell _ (by decide)]; exact h0 j hj) ⟨by rw [up_place _ _ (by decide), up_place _ _ (by decide), up_place _ _ (by decide), up_place _ _ (by decide), up_place _ _ (by decide), up_same], by rw [up_place _ _ (by decide), up_place _ _ (by decide), up_place _ _ (by decide), up_place _ _ (by decide), up_same], by rw [up_place _ _ (by decide), up_place _ _ (by decide), up_place _ _ (by decide), up_same], by rw [up_place _ _ (by decide), up_place _ _ (by decide), up_same], by rw [up_place _ _ (by decide), up_same], by rw [up_same]⟩
theorem bc_thr3 {d : Nat} {Y : vY} {I : vJ} {P : vE → Prop} {x1 x2 x3 x4 x7 : Int} {x5 x6 : Nat} (hL : vL Y) (hQ : ∀ K : vJ, fr [2040] [] I K → (∀ j : Nat, j < 10 → K 2040 j = 0) → vW d 157 (219, [vr 1990, vi x1, vi x2, vi x3, vi x4, vr x5, vr x6, vi x7, vi 3, vi ((10 : Nat) : Int)], [], (K, Y)) P) : vW d 157 (195, [vr 1990, vi x1, vi x2, vi x3, vi x4, vr x5, vr x6, vi x7, vi 3, vi 0], [], (I, Y)) P := by
  have e : Y.1 2036 (Int.toNat 3) = 2040 := lP hL 2036 3 2040 rfl
  have key : ∀ (m i : Nat) (K : vJ), i + m = 10 → fr [2040] [] I K → (∀ j : Nat, j < i → K 2040 j = 0) → vW d 157 (195, [vr 1990, vi x1, vi x2, vi x3, vi x4, vr x5, vr x6, vi x7, vi 3, vi (i : Int)], [], (K, Y)) P := by
    intro m
    induction m with
    | zero =>
      intro i K hi hf h1
      have hi : i = 10 := by omega
      rw [hi, b157_195, if_pos (by decide)]
      exact hQ K hf (fun j hj => h1 j (by omega))
    | succ m ih =>
      intro i K hi hf h1
      rw [b157_195, if_neg (by rw [w32_id (by omega) (by omega), w32_id (by omega) (by omega)]; omega), b157_202 hL (by decide) (by decide) (by omega) (by rw [e, lLn hL 2040 10 rfl]; omega) (by omega) (by rw [e]; decide) (by rw [e]; exact lK hL 2040 100 rfl), e, tn0, b157_213]
      refine ih (i + 1) _ (by omega) (fr_upL hf rfl _ _) (fun j hj => ?_)
      rw [up_at]
      by_cases z : j = i
      · rw [if_pos z]
      · rw [if_neg z]; exact h1 j (by omega)
  exact key 10 0 I (by omega) (fr_refl _ _ _) (fun j hj => absurd hj (Nat.not_lt_zero _))
theorem bc_tk3 {d : Nat} {Y : vY} {I : vJ} {P : vE → Prop} {x1 x2 x3 x4 x7 : Int} {x5 x6 : Nat} {x9 : vV} (hL : vL Y) (hQ : ∀ K : vJ, fr [2040] [(2057, 3587), (2057, 3588), (2057, 3589), (2057, 3590), (2057, 3591), (2057, 3592)] I K → (∀ j : Nat, j < 10 → K 2040 j = 0) → (K 2057 3587 = 0 ∧ K 2057 3588 = 0 ∧ K 2057 3589 = 0 ∧ K 2057 3590 = 0 ∧ K 2057 3591 = 0 ∧ K 2057 3592 = 0) → vW (d + 1) 157 (186, [vr 1990, vi x1, vi x2, vi x3, vi x4, vr x5, vr x6, vi x7, vi 4, vi ((10 : Nat) : Int)], [], (K, Y)) P) : vW (d + 1) 157 (186, [vr 1990, vi x1, vi x2, vi x3, vi x4, vr x5, vr x6, vi x7, vi 3, x9], [], (I, Y)) P := by
  rw [b157_186, if_neg (by decide), b157_192]
  refine bc_thr3 hL (fun K hf h0 => ?_)
  have vk := vreg_k hL (k := 3) (by decide)
  have vk2 : vreg Y 2048 3 2057 := vk.2
  have ve : Y.1 1991 (Int.toNat 3) = 2057 := vk.1
  rw [b157_219 hL (by decide) (by decide) (by rw [ve]; exact vk2), ve, b199_0 vk2, b199_5 vk2, b199_10 vk2, b199_15 vk2, b199_20 vk2, b199_25 vk2, b199_30]
  simp only [vWC_n, Nat.reduceAdd]
  rw [b157_229]
  exact hQ _ (fr_upP (fr_upP (fr_upP (fr_upP (fr_upP (fr_upP (fr_weak hf (by decide) (by decide)) rfl _) rfl _) rfl _) rfl _) rfl _) rfl _) (fun j hj => by rw [up_cell _ (by decide), up_cell _ (by decide), up_cell _ (by decide), up_cell _ (by decide), up_cell _ (by decide), up_cell _ (by decide)]; exact h0 j hj) ⟨by rw [up_place _ _ (by decide), up_place _ _ (by decide), up_place _ _ (by decide), up_place _ _ (by decide), up_place _ _ (by decide), up_same], by rw [up_place _ _ (by decide), up_place _ _ (by decide), up_place _ _ (by decide), up_place _ _ (by decide), up_same], by rw [up_place _ _ (by decide), up_place _ _ (by decide), up_place _ _ (by decide), up_same], by rw [up_place _ _ (by decide), up_place _ _ (by decide), up_same], by rw [up_place _ _ (by decide), up_same], by rw [up_same]⟩
theorem bc_rows2 {d : Nat} {Y : vY} {I : vJ} {P : vE → Prop} {x2 : vV} (hL : vL Y) (hQ : ∀ (K : vJ) (x2 : vV), fr [1970, 1971, 1972, 1973, 1975, 1976, 1977, 1978] [] I K → (∀ j : Nat, j < 260 → K 1970 j = 0 ∧ K 1971 j = 0 ∧ K 1972 j = -1 ∧ K 1973 j = -1 ∧ K 1975 j = 0 ∧ K 1976 j = 0 ∧ K 1977 j = 0 ∧ K 1978 j = 0) → vW d 145 (161, [vr 1960, vi ((260 : Nat) : Int), x2], [], (K, Y)) P) : vW d 145 (98, [vr 1960, vi 0, x2], [], (I, Y)) P := by
  have e0 : Y.1 1974 0 = 1975 := lP hL 1974 0 1975 rfl
  have e1 : Y.1 1974 1 = 1976 := lP hL 1974 1 1976 rfl
  have e2 : Y.1 1974 2 = 1977 := lP hL 1974 2 1977 rfl
  have e3 : Y.1 1974 3 = 1978 := lP hL 1974 3 1978 rfl
  have key : ∀ (m i : Nat) (K : vJ) (x2 : vV), i + m = 260 → fr [1970, 1971, 1972, 1973, 1975, 1976, 1977, 1978] [] I K → (∀ j : Nat, j < i → K 1970 j = 0 ∧ K 1971 j = 0 ∧ K 1972 j = -1 ∧ K 1973 j = -1 ∧ K 1975 j = 0 ∧ K 1976 j = 0 ∧ K 1977 j = 0 ∧ K 1978 j = 0) → vW d 145 (98, [vr 1960, vi (i : Int), x2], [], (K, Y)) P := by
    intro m
    induction m with
    | zero =>
      intro i K x2 hi hf h1
      have hi : i = 260 := by omega
      rw [hi, b145_98, if_pos (by decide)]
      exact hQ K x2 hf (fun j hj => h1 j (by omega))
    | succ m ih =>
      intro i K x2 hi hf h1
      rw [b145_98, if_neg (by rw [w32_id (by omega) (by omega), w32_id (by omega) (by omega)]; omega), b145_105 hL (by omega) (by omega), tn0]
      have st : ∀ (h : Nat) (c : Nat) (M : vJ), h < 4 → Y.1 1974 h = c → 18 ≤ c → Y.2.1 c = 100 → Y.2.2.1 c = 260 → (vW d 145 (135, [vr 1960, vi (i : Int), vi (h : Int)], [], (M, Y)) P ↔ vW d 145 (135, [vr 1960, vi (i : Int), vi ((h + 1 : Nat) : Int)], [], (up M c i 0, Y)) P) := fun h c M h4 ec c18 ck cn => by
        rw [b145_135, if_neg (by rw [w32_id (by omega) (by omega), w32_id (by omega) (by omega)]; omega), b145_140 hL (by omega) (by omega) (by omega) (by rw [tn0, ec, cn]; omega) (by omega) (by rw [tn0, ec]; exact c18) (by rw [tn0, ec]; exact ck), tn0, ec, tn0, b145_149]
        exact Iff.rfl
      refine (st 0 1975 _ (by decide) e0 (by decide) (lK hL 1975 100 rfl) (lLn hL 1975 260 rfl)).mpr ((st 1 1976 _ (by decide) e1 (by decide) (lK hL 1976 100 rfl) (lLn hL 1976 260 rfl)).mpr ((st 2 1977 _ (by decide) e2 (by decide) (lK hL 1977 100 rfl) (lLn hL 1977 260 rfl)).mpr ((st 3 1978 _ (by decide) e3 (by decide) (lK hL 1978 100 rfl) (lLn hL 1978 260 rfl)).mpr ?_)))
      rw [b145_135, if_pos (by decide), b145_155]
      refine ih (i + 1) _ _ (by omega) (fr_upL (fr_upL (fr_upL (fr_upL (fr_upL (fr_upL (fr_upL (fr_upL (hf) rfl _ _) rfl _ _) rfl _ _) rfl _ _) rfl _ _) rfl _ _) rfl _ _) rfl _ _) (fun j hj => ?_)
      by_cases z : j = i
      · rw [z]; exact ⟨by rw [up_cell _ (by decide), up_cell _ (by decide), up_cell _ (by decide), up_cell _ (by decide), up_cell _ (by decide), up_cell _ (by decide), up_cell _ (by decide), up_same], by rw [up_cell _ (by decide), up_cell _ (by decide), up_cell _ (by decide), up_cell _ (by decide), up_cell _ (by decide), up_cell _ (by decide), up_same], by rw [up_cell _ (by decide), up_cell _ (by decide), up_cell _ (by decide), up_cell _ (by decide), up_cell _ (by decide), up_same], by rw [up_cell _ (by decide), up_cell _ (by decide), up_cell _ (by decide), up_cell _ (by decide), up_same], by rw [up_cell _ (by decide), up_cell _ (by decide), up_cell _ (by decide), up_same], by rw [up_cell _ (by decide), up_cell _ (by decide), up_same], by rw [up_cell _ (by decide), up_same], by rw [up_same]⟩
      · have q := h1 j (by omega)
        exact ⟨by rw [up_cell _ (by decide), up_cell _ (by decide), up_cell _ (by decide), up_cell _ (by decide), up_cell _ (by decide), up_cell _ (by decide), up_cell _ (by decide), up_place _ _ z]; exact q.1, by rw [up_cell _ (by decide), up_cell _ (by decide), up_cell _ (by decide), up_cell _ (by decide), up_cell _ (by decide), up_cell _ (by decide), up_place _ _ z, up_cell _ (by decide)]; exact q.2.1, by rw [up_cell _ (by decide), up_cell _ (by decide), up_cell _ (by decide), up_cell _ (by decide), up_cell _ (by decide), up_place _ _ z, up_cell _ (by decide), up_cell _ (by decide)]; exact q.2.2.1, by rw [up_cell _ (by decide), up_cell _ (by decide), up_cell _ (by decide), up_cell _ (by decide), up_place _ _ z, up_cell _ (by decide), up_cell _ (by decide), up_cell _ (by decide)]; exact q.2.2.2.1, by rw [up_cell _ (by decide), up_cell _ (by decide), up_cell _ (by decide), up_place _ _ z, up_cell _ (by decide), up_cell _ (by decide), up_cell _ (by decide), up_cell _ (by decide)]; exact q.2.2.2.2.1, by rw [up_cell _ (by decide), up_cell _ (by decide), up_place _ _ z, up_cell _ (by decide), up_cell _ (by decide), up_cell _ (by decide), up_cell _ (by decide), up_cell _ (by decide)]; exact q.2.2.2.2.2.1, by rw [up_cell _ (by decide), up_place _ _ z, up_cell _ (by decide), up_cell _ (by decide), up_cell _ (by decide), up_cell _ (by decide), up_cell _ (by decide), up_cell _ (by decide)]; exact q.2.2.2.2.2.2.1, by rw [up_place _ _ z, up_cell _ (by decide), up_cell _ (by decide), up_cell _ (by decide), up_cell _ (by decide), up_cell _ (by decide), up_cell _ (by decide), up_cell _ (by decide)]; exact q.2.2.2.2.2.2.2⟩
  exact key 260 0 I _ (by omega) (fr_refl _ _ _) (fun j hj => absurd hj (Nat.not_lt_zero _))
/-- the table of paths is emptied -/
theorem bc_rows3 {d n : Nat} {Y : vY} {I : vJ} {P : vE → Prop} {x2 : vV} (hL : vL Y) (hu : I 1960 3090 = n) (hn : n ≤ 24000) (hp : ∀ j, j < n → ∃ p : Nat, p < 32768 ∧ I 1981 j = p) (hk : ∀ p : Nat, p < 32768 → I 1979 p ≠ 0 → ∃ j, j < n ∧ I 1981 j = (p : Int)) (hz : ∀ p, p < 32768 → I 1979 p = 0 → I 1980 p = 0) (hQ : ∀ K : vJ, fr [1979, 1980] [] I K → (∀ p, p < 32768 → K 1979 p = 0 ∧ K 1980 p = 0) → vW d 145 (201, [vr 1960, vi (n : Int), x2], [], (K, Y)) P) : vW d 145 (163, [vr 1960, vi 0, x2], [], (I, Y)) P := by
  have key : ∀ (m i : Nat) (K : vJ), i + m = n → fr [1979, 1980] [] I K → (∀ j, j < i → ∀ p : Nat, I 1981 j = p → K 1979 p = 0 ∧ K 1980 p = 0) → (∀ p, (K 1979 p = 0 ∧ K 1980 p = 0) ∨ (K 1979 p = I 1979 p ∧ K 1980 p = I 1980 p)) → vW d 145 (163, [vr 1960, vi (i : Int), x2], [], (K, Y)) P := by
    intro m
    induction m with
    | zero =>
      intro i K hi hf h1 h2
      have hi : i = n := by omega
      rw [hi, b145_163 hL, hf 1960 _ rfl, hu, if_pos (Int.le_refl _)]
      refine hQ K hf (fun p hp => ?_)
      rcases h2 p with q | q
      · exact q
      · by_cases z : I 1979 p = 0
        · rw [q.1, q.2]; exact ⟨z, hz p hp z⟩
        · obtain ⟨j, j1, j2⟩ := hk p hp z
          exact h1 j (by omega) p j2
    | succ m ih =>
      intro i K hi hf h1 h2
      obtain ⟨p, p1, p2⟩ := hp i (by omega)
      have e : K 1981 i = p := by rw [hf 1981 _ rfl]; exact p2
      rw [b145_163 hL, hf 1960 _ rfl, hu, if_neg (by rw [w32_id (by omega) (by omega), w32_id (by omega) (by omega)]; omega), b145_171 hL (by omega) (by omega) (by rw [tn0, e]; omega) (by rw [tn0, e]; omega), tn0, e, tn0]
      refine ih (i + 1) _ (by omega) (fr_upL (fr_upL hf rfl _ _) rfl _ _) (fun j hj r hr => ?_) (fun r => ?_)
      · rw [up_cell _ (by decide), up_at, up_at, up_cell _ (by decide)]
        by_cases z : r = p
        · rw [if_pos z, if_pos z]; exact ⟨rfl, rfl⟩
        · rw [if_neg z, if_neg z]
          refine h1 j ?_ r hr
          have : j ≠ i := fun q => z (by rw [q, p2] at hr; omega)
          omega
      · rw [up_cell _ (by decide), up_at, up_at, up_cell _ (by decide)]
        by_cases z : r = p
        · rw [if_pos z, if_pos z]; exact Or.inl ⟨rfl, rfl⟩
        · rw [if_neg z, if_neg z]; exact h2 r
  exact key n 0 I (by omega) (fr_refl _ _ _) (fun j hj => absurd hj (Nat.not_lt_zero _)) (fun _ => Or.inr ⟨rfl, rfl⟩)
/-- what Rows.clear leaves -/
def bcR (K : vJ) : Prop := (K 1960 3079 = 2 ∧ K 1960 3090 = 0 ∧ K 1960 3094 = 0) ∧ (K 1961 0 = -1 ∧ K 1961 1 = 0) ∧ (∀ i, i < 2 → K 1962 i = -1 ∧ K 1963 i = 0 ∧ K 1964 i = 0 ∧ K 1966 i = -1 ∧ K 1967 i = -1) ∧ (∀ j : Nat, j < 24 → K 1968 j = 0 ∧ K 1969 j = 0) ∧ (∀ j : Nat, j < 260 → K 1970 j = 0 ∧ K 1971 j = 0 ∧ K 1972 j = -1 ∧ K 1973 j = -1 ∧ K 1975 j = 0 ∧ K 1976 j = 0 ∧ K 1977 j = 0 ∧ K 1978 j = 0) ∧ ∀ p, p < 32768 → K 1979 p = 0 ∧ K 1980 p = 0
theorem bc_rows {d n : Nat} {Y : vY} {I : vJ} {P : vE → Prop} (hL : vL Y) (hu : I 1960 3090 = n) (hn : n ≤ 24000) (hp : ∀ j, j < n → ∃ p : Nat, p < 32768 ∧ I 1981 j = p) (hk : ∀ p : Nat, p < 32768 → I 1979 p ≠ 0 → ∃ j, j < n ∧ I 1981 j = (p : Int)) (hz : ∀ p, p < 32768 → I 1979 p = 0 → I 1980 p = 0) (hQ : ∀ K : vJ, fr [1961, 1962, 1963, 1964, 1966, 1967, 1968, 1969, 1970, 1971, 1972, 1973, 1975, 1976, 1977, 1978, 1979, 1980] [(1960, 3079), (1960, 3090), (1960, 3094)] I K → bcR K → P (.inl none, (K, Y))) : vW d 145 (0, [vr 1960, vu, vu], [], (I, Y)) P := by
  have st : ∀ (i : Nat) (v : Int) (M : vJ), i < 2 → v = (if i = 0 then -1 else 0) → (vW d 145 (7, [vr 1960, vi (i : Int), vu], [], (M, Y)) P ↔ vW d 145 (7, [vr 1960, vi ((i + 1 : Nat) : Int), vu], [], (up (up (up (up (up (up M 1961 i v) 1962 i (-1)) 1963 i 0) 1964 i 0) 1966 i (-1)) 1967 i (-1), Y)) P) := fun i v M hi hv => by
    rw [b145_7, if_neg (by rw [w32_id (by omega) (by omega), w32_id (by omega) (by omega)]; omega), b145_12 hL]
    by_cases z : i = 0
    · rw [if_neg (by rw [z]; exact fun q => q rfl), b145_21, b145_26 hL (by omega) (by omega) (by omega) (by omega), tn0, hv, if_pos z]
      exact Iff.rfl
    · rw [if_pos (by rw [w32_id (by omega) (by omega)]; omega), b145_25, b145_26 hL (by omega) (by omega) (by omega) (by omega), tn0, hv, if_neg z]
      exact Iff.rfl
  rw [b145_0 hL]
  refine (st 0 (-1) _ (by decide) rfl).mpr ((st 1 0 _ (by decide) rfl).mpr ?_)
  generalize hM : up (up (up (up (up (up (up (up (up (up (up (up (up I 1960 3079 2) 1961 0 (-1)) 1962 0 (-1)) 1963 0 0) 1964 0 0) 1966 0 (-1)) 1967 0 (-1)) 1961 1 0) 1962 1 (-1)) 1963 1 0) 1964 1 0) 1966 1 (-1)) 1967 1 (-1) = M
  have F0 : fr [1961, 1962, 1963, 1964, 1966, 1967] [(1960, 3079)] I M := by
    rw [← hM]
    exact fr_upL (fr_upL (fr_upL (fr_upL (fr_upL (fr_upL (fr_upL (fr_upL (fr_upL (fr_upL (fr_upL (fr_upL (fr_upP (fr_refl _ _ _) rfl _) rfl _ _) rfl _ _) rfl _ _) rfl _ _) rfl _ _) rfl _ _) rfl _ _) rfl _ _) rfl _ _) rfl _ _) rfl _ _) rfl _ _
  have m0 : M 1960 3079 = 2 := by
    rw [← hM, up_cell _ (by decide), up_cell _ (by decide), up_cell _ (by decide), up_cell _ (by decide), up_cell _ (by decide), up_cell _ (by decide), up_cell _ (by decide), up_cell _ (by decide), up_cell _ (by decide), up_cell _ (by decide), up_cell _ (by decide), up_cell _ (by decide), up_same]
  have m1 : M 1961 0 = -1 ∧ M 1961 1 = 0 := by rw [← hM]; exact ⟨rfl, rfl⟩
  have m2 : ∀ i, i < 2 → M 1962 i = -1 ∧ M 1963 i = 0 ∧ M 1964 i = 0 ∧ M 1966 i = -1 ∧ M 1967 i = -1 := fun i hi => by
    rw [← hM]
    have : i = 0 ∨ i = 1 := by omega
    rcases this with rfl | rfl
    · exact ⟨rfl, rfl, rfl, rfl, rfl⟩
    · exact ⟨rfl, rfl, rfl, rfl, rfl⟩
  clear hM st
  rw [b145_7, if_pos (by decide), b145_68]
  refine bc_rows1 hL (fun K1 F1 k1 => ?_)
  rw [b145_96]
  refine bc_rows2 hL (fun K2 x2 F2 k2 => ?_)
  rw [b145_161]
  have G : fr [1961, 1962, 1963, 1964, 1966, 1967, 1968, 1969, 1970, 1971, 1972, 1973, 1975, 1976, 1977, 1978] [(1960, 3079)] I K2 := fr_trans (fr_weak F0 (by decide) (by decide)) (fr_trans (fr_weak F1 (by decide) (by decide)) (fr_weak F2 (by decide) (by decide)))
  refine bc_rows3 (n := n) hL (by rw [G 1960 _ rfl]; exact hu) hn (fun j hj => by rw [G 1981 _ rfl]; exact hp j hj) (fun p h1 h2 => by rw [G 1979 _ rfl] at h2; obtain ⟨j, j1, j2⟩ := hk p h1 h2; exact ⟨j, j1, by rw [G 1981 _ rfl]; exact j2⟩) (fun p h1 h2 => by rw [G 1979 _ rfl] at h2; rw [G 1980 _ rfl]; exact hz p h1 h2) (fun K3 F3 k3 => ?_)
  rw [b145_201 hL]
  refine hQ _ (fr_upP (fr_upP (fr_trans (fr_weak G (by decide) (by decide)) (fr_weak F3 (by decide) (by decide))) rfl _) rfl _) ⟨⟨?_, ?_, ?_⟩, ?_, fun i hi => ?_, fun j hj => ?_, fun j hj => ?_, fun p hp => ?_⟩
  · rw [up_place _ _ (by decide), up_place _ _ (by decide), F3 1960 _ rfl, F2 1960 _ rfl, F1 1960 _ rfl]; exact m0
  · rw [up_place _ _ (by decide), up_same]
  · exact up_same _ _ _ _
  · rw [up_cell _ (by decide), up_cell _ (by decide), F3 1961 _ rfl, F2 1961 _ rfl, F1 1961 _ rfl, up_cell _ (by decide), up_cell _ (by decide), F3 1961 _ rfl, F2 1961 _ rfl, F1 1961 _ rfl]; exact m1
  · rw [up_row _ (by decide), up_row _ (by decide), up_row _ (by decide), up_row _ (by decide), up_row _ (by decide), up_row _ (by decide), up_row _ (by decide), up_row _ (by decide), up_row _ (by decide), up_row _ (by decide), F3 1962 _ rfl, F2 1962 _ rfl, F1 1962 _ rfl, F3 1963 _ rfl, F2 1963 _ rfl, F1 1963 _ rfl, F3 1964 _ rfl, F2 1964 _ rfl, F1 1964 _ rfl, F3 1966 _ rfl, F2 1966 _ rfl, F1 1966 _ rfl, F3 1967 _ rfl, F2 1967 _ rfl, F1 1967 _ rfl]; exact m2 i hi
  · rw [up_row _ (by decide), up_row _ (by decide), up_row _ (by decide), up_row _ (by decide), F3 1968 _ rfl, F2 1968 _ rfl, F3 1969 _ rfl, F2 1969 _ rfl]; exact k1 j hj
  · have q := k2 j hj
    refine ⟨?_, ?_, ?_, ?_, ?_, ?_, ?_, ?_⟩
    · rw [up_cell _ (by decide), up_cell _ (by decide), F3 1970 _ rfl]; exact q.1
    · rw [up_cell _ (by decide), up_cell _ (by decide), F3 1971 _ rfl]; exact q.2.1
    · rw [up_cell _ (by decide), up_cell _ (by decide), F3 1972 _ rfl]; exact q.2.2.1
    · rw [up_cell _ (by decide), up_cell _ (by decide), F3 1973 _ rfl]; exact q.2.2.2.1
    · rw [up_cell _ (by decide), up_cell _ (by decide), F3 1975 _ rfl]; exact q.2.2.2.2.1
    · rw [up_cell _ (by decide), up_cell _ (by decide), F3 1976 _ rfl]; exact q.2.2.2.2.2.1
    · rw [up_cell _ (by decide), up_cell _ (by decide), F3 1977 _ rfl]; exact q.2.2.2.2.2.2.1
    · rw [up_cell _ (by decide), up_cell _ (by decide), F3 1978 _ rfl]; exact q.2.2.2.2.2.2.2
  · rw [up_cell _ (by decide), up_cell _ (by decide), up_cell _ (by decide), up_cell _ (by decide)]; exact k3 p hp
/-- the variables -/
theorem bc_vars {d V : Nat} {Y : vY} {I : vJ} {P : vE → Prop} {x1 x2 x3 x4 : Int} {x5 x6 : Nat} {x9 : vV} (hL : vL Y) (V8 : V ≤ 8) (hQ : ∀ K : vJ, fr [1992, 1993] [] I K → (∀ v, v < V → K 1992 v = 0 ∧ K 1993 v = 0) → vW (d + 1) 157 (259, [vr 1990, vi x1, vi x2, vi x3, vi x4, vr x5, vr x6, vi (V : Int), vi (V : Int), x9], [], (K, Y)) P) : vW (d + 1) 157 (238, [vr 1990, vi x1, vi x2, vi x3, vi x4, vr x5, vr x6, vi (V : Int), vi 0, x9], [], (I, Y)) P := by
  have w0 : w8 (w8 0) = 0 := by decide
  have key : ∀ (m i : Nat) (K : vJ), i + m = V → fr [1992, 1993] [] I K → (∀ v, v < i → K 1992 v = 0 ∧ K 1993 v = 0) → vW (d + 1) 157 (238, [vr 1990, vi x1, vi x2, vi x3, vi x4, vr x5, vr x6, vi (V : Int), vi (i : Int), x9], [], (K, Y)) P := by
    intro m
    induction m with
    | zero =>
      intro i K hi hf h1
      have hi : i = V := by omega
      rw [hi, b157_238, if_pos (Int.le_refl _)]
      exact hQ K hf (fun j hj => h1 j (by omega))
    | succ m ih =>
      intro i K hi hf h1
      rw [b157_238, if_neg (by rw [w32_id (by omega) (by omega), w32_id (by omega) (by omega)]; omega), b157_245 hL, b158_0 hL (by omega) (by omega), tn0, w0]
      simp only [vWC_n, Nat.reduceAdd]
      rw [b157_253]
      refine ih (i + 1) _ (by omega) (fr_upL (fr_upL hf rfl _ _) rfl _ _) (fun j hj => ?_)
      rw [up_cell _ (by decide), up_at, up_at, up_cell _ (by decide)]
      by_cases z : j = i
      · rw [if_pos z, if_pos z]; exact ⟨rfl, rfl⟩
      · rw [if_neg z, if_neg z]; exact h1 j (by omega)
  exact key V 0 I (by omega) (fr_refl _ _ _) (fun j hj => absurd hj (Nat.not_lt_zero _))
/-- the arguments -/
theorem bc_args {d p m o : Nat} {Y : vY} {I : vJ} {P : vE → Prop} {x2 x3 x4 x7 : Int} {x6 : Nat} (hL : vL Y) (mb : m < 24) (ho : Y.1 1989 m = o ∧ 2297 ≤ o ∧ Y.2.1 o = 15) (hp : I o 3844 = p) (p4 : p ≤ 4) (h94 : I 1994 0 = 8) (hQ : ∀ K : vJ, fr [1992, 1993, 1994] [] I K → (∀ q, K 1992 q = if 8 ≤ q ∧ q < 8 + p then 0 else I 1992 q) → (∀ q, K 1993 q = if 8 ≤ q ∧ q < 8 + p then I 2063 (q - 8) else I 1993 q) → (∀ u, K 1994 u = if u = 0 then ((8 + p : Nat) : Int) else I 1994 u) → vW (d + 2) 157 (314, [vr 1990, vi (m : Int), vi x2, vi x3, vi x4, vr 2063, vr x6, vi x7, vi 0, vi (p : Int)], [], (K, Y)) P) : vW (d + 2) 157 (282, [vr 1990, vi (m : Int), vi x2, vi x3, vi x4, vr 2063, vr x6, vi x7, vi 0, vi 0], [], (I, Y)) P := by
  have w0 : w8 (w8 0) = 0 := by decide
  have key : ∀ (r i : Nat) (K : vJ), i + r = p → fr [1992, 1993, 1994] [] I K → (∀ q, K 1992 q = if 8 ≤ q ∧ q < 8 + i then 0 else I 1992 q) → (∀ q, K 1993 q = if 8 ≤ q ∧ q < 8 + i then I 2063 (q - 8) else I 1993 q) → (∀ u, K 1994 u = if u = 0 then ((8 + i : Nat) : Int) else I 1994 u) → vW (d + 2) 157 (282, [vr 1990, vi (m : Int), vi x2, vi x3, vi x4, vr 2063, vr x6, vi x7, vi 0, vi (i : Int)], [], (K, Y)) P := by
    intro r
    induction r with
    | zero =>
      intro i K hi hf h1 h2 h3
      have hi : i = p := by omega
      rw [b157_282 hL (by omega) (by omega) (by rw [tn0, ho.1]; omega) (by rw [tn0, ho.1]; exact ho.2.2), tn0, ho.1, show K o 3844 = p from (by rw [fr_ge hf 2297 (by rfl) ho.2.1]; exact hp), hi, if_pos (Int.le_refl _)]
      rw [hi] at h1 h2 h3
      exact hQ K hf h1 h2 h3
    | succ r ih =>
      intro i K hi hf h1 h2 h3
      have t0 : K 1994 (Int.toNat 0) = ((8 + i : Nat) : Int) := by rw [show Int.toNat 0 = 0 from rfl, h3, if_pos rfl]
      rw [b157_282 hL (by omega) (by omega) (by rw [tn0, ho.1]; omega) (by rw [tn0, ho.1]; exact ho.2.2), tn0, ho.1, show K o 3844 = p from (by rw [fr_ge hf 2297 (by rfl) ho.2.1]; exact hp), if_neg (by rw [w32_id (by omega) (by omega), w32_id (by omega) (by omega)]; omega), b157_296 hL (by omega) (by rw [lLn hL 2063 4 rfl]; omega) (by omega) (lK hL 2063 100 rfl), tn0, hf 2063 _ rfl, b160_0 hL (by decide) (by decide), t0, b158_0 hL (by omega) (by omega), tn0, w0]
      simp only [vWC_n, Nat.reduceAdd]
      rw [b160_12 hL (by decide) (by decide), show Int.toNat 0 = 0 from rfl, up_cell _ (by decide), up_cell _ (by decide), h3 0, if_pos rfl]
      simp only [vWC_n, Nat.reduceAdd]
      rw [b157_308]
      refine ih (i + 1) _ (by omega) (fr_upL (fr_upL (fr_upL hf rfl _ _) rfl _ _) rfl _ _) (fun q => ?_) (fun q => ?_) (fun u => ?_)
      · rw [up_cell _ (by decide), up_cell _ (by decide), up_at, h1]
        by_cases z : q = 8 + i
        · rw [if_pos z, if_pos (by omega)]
        · rw [if_neg z]
          by_cases y : 8 ≤ q ∧ q < 8 + i
          · rw [if_pos y, if_pos (by omega)]
          · rw [if_neg y, if_neg (by omega)]
      · rw [up_cell _ (by decide), up_at, up_cell _ (by decide), h2]
        by_cases z : q = 8 + i
        · rw [if_pos z, if_pos (by omega), show q - 8 = i by omega]
        · rw [if_neg z]
          by_cases y : 8 ≤ q ∧ q < 8 + i
          · rw [if_pos y, if_pos (by omega)]
          · rw [if_neg y, if_neg (by omega)]
      · rw [up_at, up_cell _ (by decide), up_cell _ (by decide), h3]
        by_cases z : u = 0
        · rw [if_pos z, if_pos z]; omega
        · rw [if_neg z, if_neg z, if_neg z]
  refine key p 0 I (by omega) (fr_refl _ _ _) (fun q => by rw [if_neg (by omega)]) (fun q => by rw [if_neg (by omega)]) (fun u => ?_)
  by_cases z : u = 0
  · rw [if_pos z, z, h94]; rfl
  · rw [if_neg z]
