/-! ===== begin: the model's rows ===== -/
set_option maxRecDepth 20000
set_option maxHeartbeats 4000000
section
variable {d : Nat} {Y : vY} {I : vJ} {P : vE → Prop} {x1 x2 x3 x4 : Int}
theorem bt_prices (hL : vL Y) (hQ : ∀ K : vJ, fr [2181] [] I K → (∀ j : Nat, j < 18 → K 2181 j = I 2180 j) → vW d 397 (163, [vr 2075, vi x1, vi x2, vi x3, vi x4, vi ((18 : Nat) : Int)], [], (K, Y)) P) : vW d 397 (136, [vr 2075, vi x1, vi x2, vi x3, vi x4, vi 0], [], (I, Y)) P := by
  have key : ∀ (m i : Nat) (K : vJ), i + m = 18 → fr [2181] [] I K → (∀ j : Nat, j < i → K 2181 j = I 2180 j) → vW d 397 (136, [vr 2075, vi x1, vi x2, vi x3, vi x4, vi (i : Int)], [], (K, Y)) P := by
    intro m
    induction m with
    | zero =>
      intro i K hi hf h1
      have hi : i = 18 := by omega
      rw [hi, b397_136, if_pos (by decide)]
      exact hQ K hf (fun j hj => h1 j (by omega))
    | succ m ih =>
      intro i K hi hf h1
      rw [b397_136, if_neg (by rw [w32_id (by omega) (by omega), w32_id (by omega) (by omega)]; omega), b397_143 hL (by omega) (by omega), tn0, hf 2180 _ rfl]
      refine ih (i + 1) _ (by omega) (fr_upL hf rfl _ _) (fun j hj => ?_)
      rw [up_at]
      by_cases z : j = i
      · rw [if_pos z, z]
      · rw [if_neg z]; exact h1 j (by omega)
  exact key 18 0 I (by omega) (fr_refl _ _ _) (fun j hj => absurd hj (Nat.not_lt_zero _))
theorem bt_keep (hL : vL Y) (hQ : ∀ K : vJ, fr [2269, 2270, 2271, 2273, 2274, 2275] [] I K → (∀ j : Nat, j < 4 → K 2269 j = 0 ∧ K 2270 j = 0 ∧ K 2271 j = 0 ∧ K 2273 j = 0 ∧ K 2274 j = 0 ∧ K 2275 j = 0) → vW (d + 1) 397 (409, [vr 2075, vi x1, vi x2, vi x3, vi x4, vi ((4 : Nat) : Int)], [], (K, Y)) P) : vW (d + 1) 397 (391, [vr 2075, vi x1, vi x2, vi x3, vi x4, vi 0], [], (I, Y)) P := by
  have key : ∀ (m i : Nat) (K : vJ), i + m = 4 → fr [2269, 2270, 2271, 2273, 2274, 2275] [] I K → (∀ j : Nat, j < i → K 2269 j = 0 ∧ K 2270 j = 0 ∧ K 2271 j = 0 ∧ K 2273 j = 0 ∧ K 2274 j = 0 ∧ K 2275 j = 0) → vW (d + 1) 397 (391, [vr 2075, vi x1, vi x2, vi x3, vi x4, vi (i : Int)], [], (K, Y)) P := by
    intro m
    induction m with
    | zero =>
      intro i K hi hf h1
      have hi : i = 4 := by omega
      rw [hi, b397_391, if_pos (by decide)]
      exact hQ K hf (fun j hj => h1 j (by omega))
    | succ m ih =>
      intro i K hi hf h1
      rw [b397_391, if_neg (by rw [w32_id (by omega) (by omega), w32_id (by omega) (by omega)]; omega), b397_397 hL, b352_0 hL (by omega) (by omega), tn0]
      simp only [vWC_n, Nat.reduceAdd]
      rw [b397_403]
      refine ih (i + 1) _ (by omega) (fr_upL (fr_upL (fr_upL (fr_upL (fr_upL (fr_upL hf rfl _ _) rfl _ _) rfl _ _) rfl _ _) rfl _ _) rfl _ _) (fun j hj => ?_)
      rw [up_cell _ (by decide), up_cell _ (by decide), up_cell _ (by decide), up_cell _ (by decide), up_cell _ (by decide), up_at, up_cell _ (by decide), up_cell _ (by decide), up_cell _ (by decide), up_cell _ (by decide), up_at, up_cell _ (by decide), up_cell _ (by decide), up_cell _ (by decide), up_cell _ (by decide), up_at, up_cell _ (by decide), up_cell _ (by decide), up_cell _ (by decide), up_cell _ (by decide), up_at, up_cell _ (by decide), up_cell _ (by decide), up_cell _ (by decide), up_cell _ (by decide), up_at, up_cell _ (by decide), up_cell _ (by decide), up_cell _ (by decide), up_cell _ (by decide), up_at, up_cell _ (by decide), up_cell _ (by decide), up_cell _ (by decide), up_cell _ (by decide), up_cell _ (by decide)]
      by_cases z : j = i
      · simp only [if_pos z]; exact ⟨trivial, trivial, trivial, trivial, trivial, trivial⟩
      · simp only [if_neg z]; exact h1 j (by omega)
  exact key 4 0 I (by omega) (fr_refl _ _ _) (fun j hj => absurd hj (Nat.not_lt_zero _))
theorem bt_args (hL : vL Y) (ha : ∀ j : Nat, j < 4 → inI (I 2182 j)) (hQ : ∀ K : vJ, fr [2263] [] I K → (∀ j : Nat, j < 4 → K 2263 j = 4 * I 2182 j) → vW (d + 1) 397 (515, [vr 2075, vi x1, vi x2, vi x3, vi x4, vi ((4 : Nat) : Int)], [], (K, Y)) P) : vW (d + 1) 397 (485, [vr 2075, vi x1, vi x2, vi x3, vi x4, vi 0], [], (I, Y)) P := by
  have key : ∀ (m i : Nat) (K : vJ), i + m = 4 → fr [2263] [] I K → (∀ j : Nat, j < i → K 2263 j = 4 * I 2182 j) → vW (d + 1) 397 (485, [vr 2075, vi x1, vi x2, vi x3, vi x4, vi (i : Int)], [], (K, Y)) P := by
    intro m
    induction m with
    | zero =>
      intro i K hi hf h1
      have hi : i = 4 := by omega
      rw [hi, b397_485, if_pos (by decide)]
      exact hQ K hf (fun j hj => h1 j (by omega))
    | succ m ih =>
      intro i K hi hf h1
      have q := ha i (by omega)
      unfold inI at q
      rw [b397_485, if_neg (by rw [w32_id (by omega) (by omega), w32_id (by omega) (by omega)]; omega), b397_491 hL (by omega) (by omega), tn0, hf 2182 _ rfl, b399_0]
      simp only [vWC_s, Nat.reduceAdd]
      rw [b397_508 hL (by omega) (by omega), tn0, w32_id (by omega) (by omega)]
      refine ih (i + 1) _ (by omega) (fr_upL hf rfl _ _) (fun j hj => ?_)
      rw [up_at]
      by_cases z : j = i
      · rw [if_pos z, z]; omega
      · rw [if_neg z]; exact h1 j (by omega)
  exact key 4 0 I (by omega) (fr_refl _ _ _) (fun j hj => absurd hj (Nat.not_lt_zero _))
end
