/-! ===== looks: all that is reached, in both houses ===== -/
set_option maxRecDepth 20000
set_option maxHeartbeats 4000000
def lkQ (I I' : vJ) (n : Nat) (J J' : vJ) : Prop := mkR J J' n ∧ fr [1986, 1987, 1988] [(1960, 3099)] I J ∧ fr [2264, 2265, 2266] [(2075, 7830)] I' J'
theorem mkR_le {I I' : vJ} {n k : Nat} (h1 : ∀ j, j < k → ∃ x : Nat, x < n ∧ I 1986 j = x ∧ I' 2264 j = x ∧ I 1988 x = 1) (h2 : ∀ i j, i < j → j < k → I 1986 i ≠ I 1986 j) : k ≤ n :=
  pig n k (fun j => (I 1986 j).toNat) (fun j hj => by
    obtain ⟨y, y1, y2, _⟩ := h1 j hj
    show (I 1986 j).toNat < n
    rw [y2, tn0]; exact y1) (fun i j hij hj => by
    obtain ⟨y, y1, y2, _⟩ := h1 i (by omega)
    obtain ⟨w, w1, w2, _⟩ := h1 j hj
    have q := h2 i j hij hj
    show (I 1986 i).toNat ≠ (I 1986 j).toNat
    rw [y2, w2] at q
    rw [y2, w2, tn0, tn0]
    omega)
section
variable {d d' : Nat} {Y Y' : vY} {I I' : vJ} {Q : vE → vE → Prop} {n : Nat}
theorem lk_two {J J' : vJ} {kd v e fr' : Int} (hL : vL Y) (hL' : vL Y') (hn : n ≤ 300) (h : lkQ I I' n J J') (hv : vv n kd v e) (hQ : ∀ K K' : vJ, lkQ I I' n K K' → lkG J J' K K' → Q (.inl none, (K, Y)) (.inl none, (K', Y'))) : vW d 152 (0, [vr 1960, vr 1990, vi kd, vi v, vi fr'], [], (J, Y)) (fun r => vW (d' + 1) 455 (0, [vr 2075, vl e, vu, vi fr', vu], [], (J', Y')) (fun r' => Q r r')) :=
  m_mark hL hL' hn h.1 hv (fun K K' k1 k0 k2 k3 => hQ K K' ⟨k1, fr_trans h.2.1 k2, fr_trans h.2.2 k3⟩ k0)
theorem lk_one {J' : vJ} {e fr' : Int} {P : vE → Prop} (h0 : 0 ≤ e) (h1 : e < 32) (h2 : e % 4 = 0) : vW (d' + 1) 455 (0, [vr 2075, vl e, vu, vi fr', vu], [], (J', Y')) P ↔ P (.inl none, (J', Y')) := by
  rw [b455_0, t_isArr (⟨by omega, by omega⟩ : inV e), if_neg (show ¬ e % 4 = 1 by omega)]
  simp only [vWC_s, Nat.reduceAdd]
  rw [b455_4, if_neg (by decide), b455_7]
/-- marks are taken away -/
theorem r_clrC {P : vE → Prop} {x2 : Int} (hL : vL Y) (hn : n ≤ 300) (hA : I 1990 3376 = n) (hQ : ∀ J : vJ, fr [1986, 1987, 1988] [(1960, 3099)] I J → J 1960 3099 = 0 → (∀ x, x < n → J 1988 x = 0 ∧ J 1987 x = -1) → vW d 151 (37, [vr 1960, vr 1990, vi x2, vi 0, vu, vu], [], (J, Y)) P) : vW d 151 (0, [vr 1960, vr 1990, vi x2, vu, vu, vu], [], (I, Y)) P := by
  have key : ∀ (m i : Nat) (J : vJ), i + m = n → fr [1986, 1987, 1988] [(1960, 3099)] I J → (∀ x, x < i → J 1988 x = 0 ∧ J 1987 x = -1) → vW d 151 (2, [vr 1960, vr 1990, vi x2, vi (i : Int), vu, vu], [], (J, Y)) P := by
    intro m
    induction m with
    | zero =>
      intro i J hi hf hx
      rw [b151_2 (by decide) (lK hL 1990 13 rfl), if_pos (by rw [hf 1990 _ rfl, hA, w32_id (by omega) (by omega), w32_id (by omega) (by omega)]; omega), b151_30 hL]
      refine hQ _ (fr_upP hf rfl _) (up_same _ _ _ _) (fun x h => ?_)
      rw [up_cell _ (by decide), up_cell _ (by decide)]; exact hx x (by omega)
    | succ m ih =>
      intro i J hi hf hx
      rw [b151_2 (by decide) (lK hL 1990 13 rfl), if_neg (by rw [hf 1990 _ rfl, hA, w32_id (by omega) (by omega), w32_id (by omega) (by omega)]; omega), b151_10 hL (by omega) (by omega), tn0]
      refine ih (i + 1) _ (by omega) (fr_upL (fr_upL hf rfl _ _) rfl _ _) (fun x h => ?_)
      rw [up_cell _ (by decide), up_at, up_at, up_cell _ (by decide)]
      by_cases z : x = i
      · rw [if_pos z, if_pos z]; exact ⟨rfl, rfl⟩
      · rw [if_neg z, if_neg z]; exact hx x (by omega)
  rw [b151_0]
  exact key n 0 I (by omega) (fr_refl _ _ _) (fun x h => absurd h (Nat.not_lt_zero _))
theorem r_clrT {P : vE → Prop} (hL' : vL Y') (hn : n ≤ 300) (hA : I' 2075 7737 = n) (hQ : ∀ J' : vJ, fr [2264, 2265, 2266] [(2075, 7830)] I' J' → J' 2075 7830 = 0 → (∀ x, x < n → J' 2266 x = 0) → vW d' 454 (30, [vr 2075, vi 0, vu, vu, vu], [], (J', Y')) P) : vW d' 454 (0, [vr 2075, vu, vu, vu, vu], [], (I', Y')) P := by
  have key : ∀ (m i : Nat) (J : vJ), i + m = n → fr [2264, 2265, 2266] [(2075, 7830)] I' J → J 2075 7830 = 0 → (∀ x, x < i → J 2266 x = 0) → vW d' 454 (7, [vr 2075, vi (i : Int), vu, vu, vu], [], (J, Y')) P := by
    intro m
    induction m with
    | zero =>
      intro i J hi hf h0 hx
      rw [b454_7 hL', if_pos (by rw [hf 2075 _ rfl, hA, w32_id (by omega) (by omega), w32_id (by omega) (by omega)]; omega), b454_28]
      exact hQ _ hf h0 (fun x h => hx x (by omega))
    | succ m ih =>
      intro i J hi hf h0 hx
      rw [b454_7 hL', if_neg (by rw [hf 2075 _ rfl, hA, w32_id (by omega) (by omega), w32_id (by omega) (by omega)]; omega), b454_15 hL' (by omega) (by omega), tn0]
      refine ih (i + 1) _ (by omega) (fr_upL hf rfl _ _) (by rw [up_cell _ (by decide)]; exact h0) (fun x h => ?_)
      rw [up_at]
      by_cases z : x = i
      · rw [if_pos z]
      · rw [if_neg z]; exact hx x (by omega)
  rw [b454_0 hL']
  exact key n 0 _ (by omega) (fr_upP (fr_refl _ _ _) rfl _) (up_same _ _ _ _) (fun x h => absurd h (Nat.not_lt_zero _))
/-- the house's rows, for the run -/
theorem h151_42 {P : vE → Prop} {J : vJ} {x2 x3 : Int} (hL : vL Y) (h0 : 0 ≤ x3) (h1 : x3 < 46088) : vW (d + 1) 151 (42, [vr 1960, vr 1990, vi x2, vi x3, vu, vu], [], (J, Y)) P ↔ vW d 152 (0, [vr 1960, vr 1990, vi (J 1992 x3.toNat), vi (J 1993 x3.toNat), vi (-2)], [], (J, Y)) (vWC (d + 1) 151 58 3 [vr 1960, vr 1990, vi x2, vi x3, vu, vu] [] P) := by
  have e1 : Y.1 1990 3333 = 1992 := lP hL 1990 3333 1992 rfl
  have e2 : Y.1 1990 3334 = 1993 := lP hL 1990 3334 1993 rfl
  rw [b151_42 hL (by decide) (lK hL 1990 13 rfl) h0 (by rw [e1, lLn hL 1992 46088 rfl]; omega) (by omega) (by rw [e1]; exact Or.inl (lK hL 1992 102 rfl)) (by rw [e2, lLn hL 1993 46088 rfl]; omega) (by rw [e2]; exact lK hL 1993 100 rfl), e1, e2]
theorem h151_98 {P : vE → Prop} {J : vJ} {x2 x3 x4 : Int} (hL : vL Y) (h0 : 0 ≤ x4) (h1 : x4 < 46088) : vW (d + 1) 151 (98, [vr 1960, vr 1990, vi x2, vi x3, vi x4, vu], [], (J, Y)) P ↔ vW d 152 (0, [vr 1960, vr 1990, vi (J 1992 x4.toNat), vi (J 1993 x4.toNat), vi (-2)], [], (J, Y)) (vWC (d + 1) 151 116 3 [vr 1960, vr 1990, vi x2, vi x3, vi x4, vu] [] P) := by
  have e1 : Y.1 1990 3333 = 1992 := lP hL 1990 3333 1992 rfl
  have e2 : Y.1 1990 3334 = 1993 := lP hL 1990 3334 1993 rfl
  rw [b151_98 hL (by decide) (lK hL 1990 13 rfl) h0 (by rw [e1, lLn hL 1992 46088 rfl]; omega) (by omega) (by rw [e1]; exact Or.inl (lK hL 1992 102 rfl)) (by rw [e2, lLn hL 1993 46088 rfl]; omega) (by rw [e2]; exact lK hL 1993 100 rfl), e1, e2]
theorem h151_87 {P : vE → Prop} {J : vJ} {x2 x3 x4 : Int} (hL : vL Y) (h0 : 0 ≤ x3) (h1 : x3 < 8) : vW d 151 (87, [vr 1960, vr 1990, vi x2, vi x3, vi x4, vu], [], (J, Y)) P ↔ if w32 (J 1994 x3.toNat) ≤ w32 x4 then vW d 151 (125, [vr 1960, vr 1990, vi x2, vi x3, vi x4, vu], [], (J, Y)) P else vW d 151 (98, [vr 1960, vr 1990, vi x2, vi x3, vi x4, vu], [], (J, Y)) P := by
  have e1 : Y.1 1990 3335 = 1994 := lP hL 1990 3335 1994 rfl
  rw [b151_87 (by decide) (lK hL 1990 13 rfl) h0 (by rw [e1, lLn hL 1994 8 rfl]; omega) (by omega) (by rw [e1]; exact lK hL 1994 100 rfl), e1]
theorem h151_141 {P : vE → Prop} {J : vJ} {x2 x3 : Int} {x4 x5 : vV} (hL : vL Y) (h0 : 0 ≤ x3) (h1 : x3 < 300) (h2 : 0 ≤ J 1986 x3.toNat) (h3 : J 1986 x3.toNat < 300) : vW d 151 (141, [vr 1960, vr 1990, vi x2, vi x3, x4, x5], [], (J, Y)) P ↔ vW d 151 (158, [vr 1960, vr 1990, vi x2, vi x3, vi (J 1986 x3.toNat), vi (J 2027 (J 1986 x3.toNat).toNat)], [], (J, Y)) P := by
  have e1 : Y.1 1990 3368 = 2027 := lP hL 1990 3368 2027 rfl
  rw [b151_141 hL h0 h1 (by decide) (lK hL 1990 13 rfl) h2 (by rw [e1, lLn hL 2027 300 rfl]; omega) (by omega) (by rw [e1]; exact lK hL 2027 100 rfl), e1]
theorem h151_158 {P : vE → Prop} {J : vJ} {x2 x3 x4 x5 : Int} (hL : vL Y) (h0 : 0 ≤ x4) (h1 : x4 < 300) : vW d 151 (158, [vr 1960, vr 1990, vi x2, vi x3, vi x4, vi x5], [], (J, Y)) P ↔ if w32 (J 2027 x4.toNat + J 2028 x4.toNat) ≤ w32 x5 then vW d 151 (205, [vr 1960, vr 1990, vi x2, vi x3, vi x4, vi x5], [], (J, Y)) P else vW d 151 (178, [vr 1960, vr 1990, vi x2, vi x3, vi x4, vi x5], [], (J, Y)) P := by
  have e1 : Y.1 1990 3368 = 2027 := lP hL 1990 3368 2027 rfl
  have e2 : Y.1 1990 3369 = 2028 := lP hL 1990 3369 2028 rfl
  rw [b151_158 (by decide) (lK hL 1990 13 rfl) h0 (by rw [e1, lLn hL 2027 300 rfl]; omega) (by omega) (by rw [e1]; exact lK hL 2027 100 rfl) (by rw [e2, lLn hL 2028 300 rfl]; omega) (by rw [e2]; exact lK hL 2028 100 rfl), e1, e2]
theorem h151_178 {P : vE → Prop} {J : vJ} {x2 x3 x4 x5 : Int} (hL : vL Y) (h0 : 0 ≤ x5) (h1 : x5 < 6000) : vW (d + 1) 151 (178, [vr 1960, vr 1990, vi x2, vi x3, vi x4, vi x5], [], (J, Y)) P ↔ vW d 152 (0, [vr 1960, vr 1990, vi (J 2033 x5.toNat), vi (J 2034 x5.toNat), vi x4], [], (J, Y)) (vWC (d + 1) 151 196 3 [vr 1960, vr 1990, vi x2, vi x3, vi x4, vi x5] [] P) := by
  have e1 : Y.1 1990 3374 = 2033 := lP hL 1990 3374 2033 rfl
  have e2 : Y.1 1990 3375 = 2034 := lP hL 1990 3375 2034 rfl
  rw [b151_178 hL (by decide) (lK hL 1990 13 rfl) h0 (by rw [e1, lLn hL 2033 6000 rfl]; omega) (by omega) (by rw [e1]; exact Or.inl (lK hL 2033 102 rfl)) (by rw [e2, lLn hL 2034 6000 rfl]; omega) (by rw [e2]; exact lK hL 2034 100 rfl), e1, e2]
end
