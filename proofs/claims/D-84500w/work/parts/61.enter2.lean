/-- what going a way leaves in the house, in the model -/
def goC (I J : vJ) : Prop := fr [65, 2011, 1979, 1980, 1981, 1970, 1971, 1972, 1973, 1975, 1976, 1977, 1978, 2014] [(1990, 3392), (1960, 3090)] I J
def goT (I J : vJ) : Prop := fr [2183, 2202, 2203, 2255, 2256, 2257, 2258, 2241, 2242, 2243, 2244, 2245, 2246, 2247, 2248, 2209, 2198, 2199, 2200] [(2075, 7736), (2075, 7818)] I J
theorem enC_fr {L : List Nat} {P : List (Nat × Nat)} {I J : vJ} (h : fr L P I J) (h1 : L.any (fun q => Nat.beq q 1970) = true) (h2 : L.any (fun q => Nat.beq q 2014) = true) (a : Nat) (ky : Int) (dy : Nat) (e : Bool) : fr L P I (enC J a ky dy e) := by
  unfold enC; split
  · exact fr_upL (fr_upL h h1 _ _) h2 _ _
  · exact h
theorem tuC_fr {L : List Nat} {P : List (Nat × Nat)} {I J : vJ} (h : fr L P I J) (h1 : L.any (fun q => Nat.beq q 1971) = true) (h2 : L.any (fun q => Nat.beq q 2014) = true) (a : Nat) (ky : Int) (dy : Nat) (e : Bool) : fr L P I (tuC J a ky dy e) := by
  unfold tuC; split
  · exact fr_upL (fr_upL h h1 _ _) h2 _ _
  · exact h
theorem enT_fr {L : List Nat} {P : List (Nat × Nat)} {I J : vJ} (h : fr L P I J) (h1 : L.any (fun q => Nat.beq q 2241) = true) (h2 : L.any (fun q => Nat.beq q 2209) = true) (a y dy : Nat) (e : Bool) : fr L P I (enT J a y dy e) := by
  unfold enT; split
  · exact fr_upL (fr_upL h h1 _ _) h2 _ _
  · exact h
theorem tuT_fr {L : List Nat} {P : List (Nat × Nat)} {I J : vJ} (h : fr L P I J) (h1 : L.any (fun q => Nat.beq q 2242) = true) (h2 : L.any (fun q => Nat.beq q 2209) = true) (a y dy : Nat) (e : Bool) : fr L P I (tuT J a y dy e) := by
  unfold tuT; split
  · exact fr_upL (fr_upL h h1 _ _) h2 _ _
  · exact h
theorem loR_same {I I' J J' : vJ} {Lp : Nat} {nd : Nat → Nat} (h : loR I I' Lp nd) (h1 : ∀ c, 1970 ≤ c → c ≤ 1978 → c ≠ 1974 → J c = I c) (h2 : ∀ c, 2241 ≤ c → c ≤ 2248 → J' c = I' c) : loR J J' Lp nd := by
  refine ⟨h.1, h.2.1, fun l hl => ?_⟩
  have w := h.2.2 l hl
  rw [h1 1970 (by decide) (by decide) (by decide), h1 1971 (by decide) (by decide) (by decide), h1 1972 (by decide) (by decide) (by decide), h1 1973 (by decide) (by decide) (by decide), h2 2241 (by decide) (by decide), h2 2242 (by decide) (by decide), h2 2243 (by decide) (by decide), h2 2244 (by decide) (by decide)]
  refine ⟨w.1, w.2.1, w.2.2.1, w.2.2.2.1, fun k hk => ?_⟩
  rw [h1 (1975 + k) (by omega) (by omega) (by omega), h2 (2245 + k) (by omega) (by omega)]
  exact w.2.2.2.2 k hk
/-- entering and turning keeps what is told of loops -/
theorem lo_ent {I I' : vJ} {Lp a x y dx dy : Nat} {kx ky : Int} {ex ey : Bool} {nd : Nat → Nat} (h : loR I I' Lp nd) (hy : ey = true → 0 ≤ ky ∧ ky < Lp ∧ nd ky.toNat = y) (hx : ex = true → 0 ≤ kx ∧ kx < Lp ∧ nd kx.toNat = x) : loR (tuC (enC I a ky dy ey) a kx dx ex) (enT (tuT I' a x dx ex) a y dy ey) Lp nd := by
  obtain ⟨h1, h2, h3⟩ := h
  have c1 : ∀ c, c ≠ 1970 → c ≠ 1971 → c ≠ 2014 → tuC (enC I a ky dy ey) a kx dx ex c = I c := by
    intro c a1 a2 a3
    unfold tuC enC
    cases ex <;> cases ey <;> simp only [Bool.false_eq_true, if_false, if_true]
    · rw [up_row _ a3, up_row _ a1]
    · rw [up_row _ a3, up_row _ a2]
    · rw [up_row _ a3, up_row _ a2, up_row _ a3, up_row _ a1]
  have c2 : ∀ c, c ≠ 2241 → c ≠ 2242 → c ≠ 2209 → enT (tuT I' a x dx ex) a y dy ey c = I' c := by
    intro c a1 a2 a3
    unfold tuT enT
    cases ex <;> cases ey <;> simp only [Bool.false_eq_true, if_false, if_true]
    · rw [up_row _ a3, up_row _ a1]
    · rw [up_row _ a3, up_row _ a2]
    · rw [up_row _ a3, up_row _ a1, up_row _ a3, up_row _ a2]
  have e1 : ∀ l, tuC (enC I a ky dy ey) a kx dx ex 1970 l = if ey = true ∧ l = ky.toNat then I 1970 l + 1 else I 1970 l := by
    intro l
    unfold tuC enC
    by_cases z : l = ky.toNat
    · cases ex <;> cases ey <;> simp only [Bool.false_eq_true, if_false, if_true, z, true_and, false_and, and_self, up_app, Nat.reduceEqDiff, false_and, and_false, true_and, and_true, if_true, if_false, Nat.add_left_cancel_iff, Nat.add_right_cancel_iff, Nat.add_eq_left, Nat.left_eq_add]
    · cases ex <;> cases ey <;> simp only [Bool.false_eq_true, if_false, if_true, z, true_and, false_and, up_app, Nat.reduceEqDiff, false_and, and_false, true_and, and_true, if_true, if_false, Nat.add_left_cancel_iff, Nat.add_right_cancel_iff, Nat.add_eq_left, Nat.left_eq_add]
  have e2 : ∀ l, tuC (enC I a ky dy ey) a kx dx ex 1971 l = if ex = true ∧ l = kx.toNat then I 1971 l + 1 else I 1971 l := by
    intro l
    unfold tuC enC
    by_cases z : l = kx.toNat
    · cases ex <;> cases ey <;> simp only [Bool.false_eq_true, if_false, if_true, z, true_and, false_and, and_self, up_app, Nat.reduceEqDiff, false_and, and_false, true_and, and_true, if_true, if_false, Nat.add_left_cancel_iff, Nat.add_right_cancel_iff, Nat.add_eq_left, Nat.left_eq_add]
    · cases ex <;> cases ey <;> simp only [Bool.false_eq_true, if_false, if_true, z, true_and, false_and, up_app, Nat.reduceEqDiff, false_and, and_false, true_and, and_true, if_true, if_false, Nat.add_left_cancel_iff, Nat.add_right_cancel_iff, Nat.add_eq_left, Nat.left_eq_add]
  have g1 : ∀ v, enT (tuT I' a x dx ex) a y dy ey 2241 v = if ey = true ∧ v = y then I' 2241 v + 1 else I' 2241 v := by
    intro v
    unfold tuT enT
    by_cases z : v = y
    · cases ex <;> cases ey <;> simp only [Bool.false_eq_true, if_false, if_true, z, true_and, false_and, and_self, up_app, Nat.reduceEqDiff, false_and, and_false, true_and, and_true, if_true, if_false, Nat.add_left_cancel_iff, Nat.add_right_cancel_iff, Nat.add_eq_left, Nat.left_eq_add]
    · cases ex <;> cases ey <;> simp only [Bool.false_eq_true, if_false, if_true, z, true_and, false_and, up_app, Nat.reduceEqDiff, false_and, and_false, true_and, and_true, if_true, if_false, Nat.add_left_cancel_iff, Nat.add_right_cancel_iff, Nat.add_eq_left, Nat.left_eq_add]
  have g2 : ∀ v, enT (tuT I' a x dx ex) a y dy ey 2242 v = if ex = true ∧ v = x then I' 2242 v + 1 else I' 2242 v := by
    intro v
    unfold tuT enT
    by_cases z : v = x
    · cases ex <;> cases ey <;> simp only [Bool.false_eq_true, if_false, if_true, z, true_and, false_and, and_self, up_app, Nat.reduceEqDiff, false_and, and_false, true_and, and_true, if_true, if_false, Nat.add_left_cancel_iff, Nat.add_right_cancel_iff, Nat.add_eq_left, Nat.left_eq_add]
    · cases ex <;> cases ey <;> simp only [Bool.false_eq_true, if_false, if_true, z, true_and, false_and, up_app, Nat.reduceEqDiff, false_and, and_false, true_and, and_true, if_true, if_false, Nat.add_left_cancel_iff, Nat.add_right_cancel_iff, Nat.add_eq_left, Nat.left_eq_add]
  refine ⟨h1, h2, fun l hl => ?_⟩
  have w := h3 l hl
  rw [e1, e2, g1, g2, c1 1972 (by decide) (by decide) (by decide), c1 1973 (by decide) (by decide) (by decide), c2 2243 (by decide) (by decide) (by decide), c2 2244 (by decide) (by decide) (by decide)]
  refine ⟨?_, ?_, w.2.2.1, w.2.2.2.1, fun k hk => ?_⟩
  · by_cases q : ey = true
    · obtain ⟨a1, a2, a3⟩ := hy q
      by_cases z : l = ky.toNat
      · rw [if_pos ⟨q, z⟩, if_pos ⟨q, by rw [z]; exact a3⟩, w.1]
      · rw [if_neg (fun t => z t.2), if_neg (fun t => z (h2 l ky.toNat hl (by omega) (t.2.trans a3.symm)))]; exact w.1
    · rw [if_neg (fun t => q t.1), if_neg (fun t => q t.1)]; exact w.1
  · by_cases q : ex = true
    · obtain ⟨a1, a2, a3⟩ := hx q
      by_cases z : l = kx.toNat
      · rw [if_pos ⟨q, z⟩, if_pos ⟨q, by rw [z]; exact a3⟩, w.2.1]
      · rw [if_neg (fun t => z t.2), if_neg (fun t => z (h2 l kx.toNat hl (by omega) (t.2.trans a3.symm)))]; exact w.2.1
    · rw [if_neg (fun t => q t.1), if_neg (fun t => q t.1)]; exact w.2.1
  · rw [c1 (1975 + k) (by omega) (by omega) (by omega), c2 (2245 + k) (by omega) (by omega) (by omega)]; exact w.2.2.2.2 k hk
/-- the rows of turns stay alike -/
theorem tn_ent {I I' : vJ} {a x y dx dy : Nat} {kx ky : Int} {ex ey : Bool} (h : ∀ j, j < 3840 → I 2014 j = I' 2209 j) (hd : ex = true → ey = true → dx ≠ dy) : ∀ j, j < 3840 → tuC (enC I a ky dy ey) a kx dx ex 2014 j = enT (tuT I' a x dx ex) a y dy ey 2209 j := by
  intro j hj
  have w := h j hj
  unfold tuC enC enT tuT
  by_cases z : j = 12 * a + dx
  · by_cases z2 : j = 12 * a + dy
    · cases ex <;> cases ey <;> simp only [Bool.false_eq_true, if_false, if_true, up_app, Nat.reduceEqDiff, false_and, and_false, true_and, and_true, if_true, if_false, Nat.add_left_cancel_iff, Nat.add_right_cancel_iff, Nat.add_eq_left, Nat.left_eq_add]
      · exact w
      · simp only [z2, if_true]
      · subst z; simp only [if_true]; rw [w]
      · have := hd rfl rfl; omega
    · have z3 : ¬ 12 * a + dx = 12 * a + dy := by omega
      cases ex <;> cases ey <;> simp only [Bool.false_eq_true, if_false, if_true, up_app, Nat.reduceEqDiff, false_and, and_false, true_and, and_true, if_true, if_false, Nat.add_left_cancel_iff, Nat.add_right_cancel_iff, Nat.add_eq_left, Nat.left_eq_add]
      · exact w
      · simp only [z2, if_false]; exact w
      · subst z; simp only [if_true]; rw [w]
      · have z4 : ¬ dx = dy := by omega
        subst z
        simp only [z3, z4, if_true, if_false, Nat.add_left_cancel_iff]; rw [w]
  · cases ex <;> cases ey <;> simp only [Bool.false_eq_true, if_false, if_true, z, up_app, Nat.reduceEqDiff, false_and, and_false, true_and, and_true, if_true, if_false, Nat.add_left_cancel_iff, Nat.add_right_cancel_iff, Nat.add_eq_left, Nat.left_eq_add]
    · exact w
    · by_cases z2 : j = 12 * a + dy
      · simp only [z2, if_true]
      · simp only [z2, if_false]; exact w
    · exact w
    · by_cases z2 : j = 12 * a + dy
      · simp only [z2, if_true]
      · simp only [z2, if_false]; exact w
