/-! ===== loops are entered, turned ===== -/
def enC (I : vJ) (a : Nat) (ky : Int) (dy : Nat) (e : Bool) : vJ := if e = true then up (up I 1970 ky.toNat (I 1970 ky.toNat + 1)) 2014 (12 * a + dy) 0 else I
def tuC (I : vJ) (a : Nat) (kx : Int) (dx : Nat) (e : Bool) : vJ := if e = true then up (up I 1971 kx.toNat (I 1971 kx.toNat + 1)) 2014 (12 * a + dx) (I 2014 (12 * a + dx) + 1) else I
def enT (I : vJ) (a y dy : Nat) (e : Bool) : vJ := if e = true then up (up I 2241 y (I 2241 y + 1)) 2209 (12 * a + dy) 0 else I
def tuT (I : vJ) (a x dx : Nat) (e : Bool) : vJ := if e = true then up (up I 2242 x (I 2242 x + 1)) 2209 (12 * a + dx) (I 2209 (12 * a + dx) + 1) else I
section
variable {d d' : Nat} {I I' : vJ} {Y Y' : vY} {Q : vE → Prop}
theorem c_ent {t w a x y dx dy : Nat} {kx ky so : Int} {ey ex : Bool} (hL : vL Y) (ha : a < 320) (hx : x < 700) (hy : y < 700) (hw1 : w < 2100) (hs : I 52 w = so ∧ 0 ≤ so ∧ so ≤ 3) (hb : I 53 w = 0 ∨ I 53 w = 1) (hkx : I 41 x = kx) (kx2 : kx = -1 ∨ 0 ≤ kx ∧ kx < 260) (ky2 : ky = -1 ∨ 0 ≤ ky ∧ ky < 260)
    (nx : kx ≠ -1 → 0 ≤ I 54 kx.toNat ∧ I 54 kx.toNat < 700 ∧ I 56 kx.toNat = (dx : Int) + 1 ∧ dx < 12) (ny : ky ≠ -1 → 0 ≤ I 54 ky.toNat ∧ I 54 ky.toNat < 700 ∧ I 56 ky.toNat = (dy : Int) + 1 ∧ dy < 12)
    (hey : ey = true ↔ ky ≠ -1 ∧ I 54 ky.toNat = y ∧ I 53 w = 0) (hex : ex = true ↔ so = 1 ∧ kx ≠ -1 ∧ I 54 kx.toNat = x) :
    vW d 164 (354, [vr 1990, vi t, vi w, vi a, vi x, vi y, vi ky], [], (I, Y)) Q ↔ Q (.inl none, (tuC (enC I a ky dy ey) a kx dx ex, Y)) := by
  have st2 : ∀ (J : vJ), J 52 = I 52 → J 54 = I 54 → J 56 = I 56 → J 41 = I 41 → (vW d 164 (424, [vr 1990, vi t, vi w, vi a, vi x, vi y, vi ky], [], (J, Y)) Q ↔ Q (.inl none, (tuC J a kx dx ex, Y))) := by
    intro J r1 r2 r3 r4
    have q0 : J 41 x = kx := by rw [r4]; exact hkx
    have q1 : J 52 w = so := by rw [r1]; exact hs.1
    unfold tuC
    by_cases c : ex = true
    · obtain ⟨e1, e2, e3⟩ := hex.mp c
      obtain ⟨l, rfl⟩ : ∃ l : Nat, kx = l := ⟨kx.toNat, by omega⟩
      simp only [tn0] at nx e3
      obtain ⟨n1, n2, n3, n4⟩ := nx e2
      have q2 : J 54 l = x := by rw [r2]; exact e3
      have q3 : J 56 l = (dx : Int) + 1 := by rw [r3]; exact n3
      have ix : (a : Int) * 12 + ((dx : Int) + 1) - 1 = ((12 * a + dx : Nat) : Int) := by omega
      rw [if_pos c]
      simp (disch := (first | assumption | omega | (simp only [up_app, Nat.reduceEqDiff, false_and, and_false, true_and, and_true, if_true, if_false, Nat.add_left_cancel_iff, Nat.add_right_cancel_iff, Nat.add_eq_left, Nat.left_eq_add, q0, q1, q2, q3, ix, tn0, tn1, tn2, tn3, tn4, tn5, tn6, tn7, tn8, tn9]; omega))) only [b164_424, b164_436, b164_449, b164_455, b164_470, b164_510, q0, q1, q2, q3, ix, up_app, Nat.reduceEqDiff, false_and, and_false, true_and, and_true, if_true, if_false, Nat.add_left_cancel_iff, Nat.add_right_cancel_iff, Nat.add_eq_left, Nat.left_eq_add, vWC_n, vWC_s, vWC_x, if01a, if01b, if_pos, if_neg, tn0, tn1, tn2, tn3, tn4, tn5, tn6, tn7, tn8, tn9, w32_id, w64_id, Nat.reduceAdd, reduceIte, Int.reduceLT, Int.reduceLE, Int.reduceEq, Int.reduceNe, Int.reduceAdd, Int.reduceSub, Int.reduceMul, Int.reduceNeg, Int.reduceToNat, ne_eq, not_true_eq_false, not_false_eq_true, true_and, and_true, false_and, and_false, true_or, or_true, false_or, or_false, if_true, if_false, and_self, or_self, ite_self]
    · rw [if_neg c]
      by_cases e1 : so = 1
      · by_cases e2 : kx = -1
        · simp (disch := (first | assumption | omega | (simp only [up_app, Nat.reduceEqDiff, false_and, and_false, true_and, and_true, if_true, if_false, Nat.add_left_cancel_iff, Nat.add_right_cancel_iff, Nat.add_eq_left, Nat.left_eq_add, q0, q1, tn0, tn1, tn2, tn3, tn4, tn5, tn6, tn7, tn8, tn9]; omega))) only [b164_424, b164_436, b164_449, b164_510, q0, q1, vWC_n, vWC_s, vWC_x, if01a, if01b, if_pos, if_neg, tn0, tn1, tn2, tn3, tn4, tn5, tn6, tn7, tn8, tn9, w32_id, w64_id, Nat.reduceAdd, reduceIte, Int.reduceLT, Int.reduceLE, Int.reduceEq, Int.reduceNe, Int.reduceAdd, Int.reduceSub, Int.reduceMul, Int.reduceNeg, Int.reduceToNat, ne_eq, not_true_eq_false, not_false_eq_true, true_and, and_true, false_and, and_false, true_or, or_true, false_or, or_false, if_true, if_false, and_self, or_self, ite_self]
        · obtain ⟨l, rfl⟩ : ∃ l : Nat, kx = l := ⟨kx.toNat, by omega⟩
          simp only [tn0] at nx hex
          obtain ⟨n1, n2, n3, n4⟩ := nx e2
          have e3 : I 54 l ≠ x := fun z => c (hex.mpr ⟨e1, e2, z⟩)
          have q2 : J 54 l = I 54 l := by rw [r2]
          simp (disch := (first | assumption | omega | (simp only [up_app, Nat.reduceEqDiff, false_and, and_false, true_and, and_true, if_true, if_false, Nat.add_left_cancel_iff, Nat.add_right_cancel_iff, Nat.add_eq_left, Nat.left_eq_add, q0, q1, q2, tn0, tn1, tn2, tn3, tn4, tn5, tn6, tn7, tn8, tn9]; omega))) only [b164_424, b164_436, b164_449, b164_455, b164_510, q0, q1, q2, vWC_n, vWC_s, vWC_x, if01a, if01b, if_pos, if_neg, tn0, tn1, tn2, tn3, tn4, tn5, tn6, tn7, tn8, tn9, w32_id, w64_id, Nat.reduceAdd, reduceIte, Int.reduceLT, Int.reduceLE, Int.reduceEq, Int.reduceNe, Int.reduceAdd, Int.reduceSub, Int.reduceMul, Int.reduceNeg, Int.reduceToNat, ne_eq, not_true_eq_false, not_false_eq_true, true_and, and_true, false_and, and_false, true_or, or_true, false_or, or_false, if_true, if_false, and_self, or_self, ite_self]
      · simp (disch := (first | assumption | omega | (simp only [up_app, Nat.reduceEqDiff, false_and, and_false, true_and, and_true, if_true, if_false, Nat.add_left_cancel_iff, Nat.add_right_cancel_iff, Nat.add_eq_left, Nat.left_eq_add, q0, q1, tn0, tn1, tn2, tn3, tn4, tn5, tn6, tn7, tn8, tn9]; omega))) only [b164_424, b164_436, b164_510, q0, q1, vWC_n, vWC_s, vWC_x, if01a, if01b, if_pos, if_neg, tn0, tn1, tn2, tn3, tn4, tn5, tn6, tn7, tn8, tn9, w32_id, w64_id, Nat.reduceAdd, reduceIte, Int.reduceLT, Int.reduceLE, Int.reduceEq, Int.reduceNe, Int.reduceAdd, Int.reduceSub, Int.reduceMul, Int.reduceNeg, Int.reduceToNat, ne_eq, not_true_eq_false, not_false_eq_true, true_and, and_true, false_and, and_false, true_or, or_true, false_or, or_false, if_true, if_false, and_self, or_self, ite_self]
  by_cases c : ey = true
  · obtain ⟨e1, e2, e3⟩ := hey.mp c
    obtain ⟨l, rfl⟩ : ∃ l : Nat, ky = l := ⟨ky.toNat, by omega⟩
    simp only [tn0] at ny e2
    obtain ⟨n1, n2, n3, n4⟩ := ny e1
    have ix : (a : Int) * 12 + ((dy : Int) + 1) - 1 = ((12 * a + dy : Nat) : Int) := by omega
    have : enC I a (l : Int) dy ey = up (up I 1970 l (I 1970 l + 1)) 2014 (12 * a + dy) 0 := by unfold enC; rw [if_pos c]; rfl
    rw [this]
    simp (disch := (first | assumption | omega | (simp only [up_app, Nat.reduceEqDiff, false_and, and_false, true_and, and_true, if_true, if_false, Nat.add_left_cancel_iff, Nat.add_right_cancel_iff, Nat.add_eq_left, Nat.left_eq_add, n3, ix, tn0, tn1, tn2, tn3, tn4, tn5, tn6, tn7, tn8, tn9]; omega))) only [b164_354, b164_360, b164_375, b164_387, n3, ix, up_app, Nat.reduceEqDiff, false_and, and_false, true_and, and_true, if_true, if_false, Nat.add_left_cancel_iff, Nat.add_right_cancel_iff, Nat.add_eq_left, Nat.left_eq_add, vWC_n, vWC_s, vWC_x, if01a, if01b, if_pos, if_neg, tn0, tn1, tn2, tn3, tn4, tn5, tn6, tn7, tn8, tn9, w32_id, w64_id, Nat.reduceAdd, reduceIte, Int.reduceLT, Int.reduceLE, Int.reduceEq, Int.reduceNe, Int.reduceAdd, Int.reduceSub, Int.reduceMul, Int.reduceNeg, Int.reduceToNat, ne_eq, not_true_eq_false, not_false_eq_true, true_and, and_true, false_and, and_false, true_or, or_true, false_or, or_false, if_true, if_false, and_self, or_self, ite_self]
    exact st2 _ (by rw [up_row _ (by decide), up_row _ (by decide)]) (by rw [up_row _ (by decide), up_row _ (by decide)]) (by rw [up_row _ (by decide), up_row _ (by decide)]) (by rw [up_row _ (by decide), up_row _ (by decide)])
  · have : enC I a ky dy ey = I := by unfold enC; rw [if_neg c]
    rw [this]
    have s0 := st2 I rfl rfl rfl rfl
    by_cases e1 : ky = -1
    · simp (disch := (first | assumption | omega | (simp only [up_app, Nat.reduceEqDiff, false_and, and_false, true_and, and_true, if_true, if_false, Nat.add_left_cancel_iff, Nat.add_right_cancel_iff, Nat.add_eq_left, Nat.left_eq_add, tn0, tn1, tn2, tn3, tn4, tn5, tn6, tn7, tn8, tn9]; omega))) only [b164_354, vWC_n, vWC_s, vWC_x, if01a, if01b, if_pos, if_neg, tn0, tn1, tn2, tn3, tn4, tn5, tn6, tn7, tn8, tn9, w32_id, w64_id, Nat.reduceAdd, reduceIte, Int.reduceLT, Int.reduceLE, Int.reduceEq, Int.reduceNe, Int.reduceAdd, Int.reduceSub, Int.reduceMul, Int.reduceNeg, Int.reduceToNat, ne_eq, not_true_eq_false, not_false_eq_true, true_and, and_true, false_and, and_false, true_or, or_true, false_or, or_false, if_true, if_false, and_self, or_self, ite_self]
      exact s0
    · obtain ⟨l, rfl⟩ : ∃ l : Nat, ky = l := ⟨ky.toNat, by omega⟩
      simp only [tn0] at ny hey
      obtain ⟨n1, n2, n3, n4⟩ := ny e1
      by_cases e2 : I 54 l = y
      · have e3 : I 53 w = 1 := by
          rcases hb with z | z
          · exact absurd (hey.mpr ⟨e1, e2, z⟩) c
          · exact z
        simp (disch := (first | assumption | omega | (simp only [up_app, Nat.reduceEqDiff, false_and, and_false, true_and, and_true, if_true, if_false, Nat.add_left_cancel_iff, Nat.add_right_cancel_iff, Nat.add_eq_left, Nat.left_eq_add, tn0, tn1, tn2, tn3, tn4, tn5, tn6, tn7, tn8, tn9]; omega))) only [b164_354, b164_360, b164_375, vWC_n, vWC_s, vWC_x, if01a, if01b, if_pos, if_neg, tn0, tn1, tn2, tn3, tn4, tn5, tn6, tn7, tn8, tn9, w32_id, w64_id, Nat.reduceAdd, reduceIte, Int.reduceLT, Int.reduceLE, Int.reduceEq, Int.reduceNe, Int.reduceAdd, Int.reduceSub, Int.reduceMul, Int.reduceNeg, Int.reduceToNat, ne_eq, not_true_eq_false, not_false_eq_true, true_and, and_true, false_and, and_false, true_or, or_true, false_or, or_false, if_true, if_false, and_self, or_self, ite_self]
        exact s0
      · simp (disch := (first | assumption | omega | (simp only [up_app, Nat.reduceEqDiff, false_and, and_false, true_and, and_true, if_true, if_false, Nat.add_left_cancel_iff, Nat.add_right_cancel_iff, Nat.add_eq_left, Nat.left_eq_add, tn0, tn1, tn2, tn3, tn4, tn5, tn6, tn7, tn8, tn9]; omega))) only [b164_354, b164_360, vWC_n, vWC_s, vWC_x, if01a, if01b, if_pos, if_neg, tn0, tn1, tn2, tn3, tn4, tn5, tn6, tn7, tn8, tn9, w32_id, w64_id, Nat.reduceAdd, reduceIte, Int.reduceLT, Int.reduceLE, Int.reduceEq, Int.reduceNe, Int.reduceAdd, Int.reduceSub, Int.reduceMul, Int.reduceNeg, Int.reduceToNat, ne_eq, not_true_eq_false, not_false_eq_true, true_and, and_true, false_and, and_false, true_or, or_true, false_or, or_false, if_true, if_false, and_self, or_self, ite_self]
        exact s0
theorem t_ent {X w a x y dx dy : Nat} {so z5 : Int} {ey ex : Bool} (hL : vL Y) (hX : Y.1 2075 7689 = X) (hX2 : X = 2081 ∨ X = 2119) (hV : vreg Y 2081 38 (Y.1 2075 7689)) (ha : a < 320) (hx : x < 700) (hy : y < 700) (hw1 : w < 2100) (hs : I (X + 24) w = so ∧ 0 ≤ so ∧ so ≤ 3) (hb : I (X + 25) w = 0 ∨ I (X + 25) w = 1) (lx : I (X + 26) x = 0 ∨ I (X + 26) x = 1) (ly : I (X + 26) y = 0 ∨ I (X + 26) y = 1)
    (nx : I (X + 26) x = 1 → I (X + 19) x = dx ∧ dx < 12) (ny : I (X + 26) y = 1 → I (X + 19) y = dy ∧ dy < 12)
    (hey : ey = true ↔ I (X + 26) y = 1 ∧ I (X + 25) w = 0) (hex : ex = true ↔ so = 1 ∧ I (X + 26) x = 1) :
    vW d 403 (101, [vr 2075, vi a, vi w, vi x, vi y, vi z5], [], (I, Y)) Q ↔ vW d 403 (216, [vr 2075, vi a, vi w, vi x, vi y, vi z5], [], (enT (tuT I a x dx ex) a y dy ey, Y)) Q := by
  have st2 : ∀ (J : vJ), J (X + 25) = I (X + 25) → J (X + 26) = I (X + 26) → J (X + 19) = I (X + 19) → (vW d 403 (159, [vr 2075, vi a, vi w, vi x, vi y, vi z5], [], (J, Y)) Q ↔ vW d 403 (216, [vr 2075, vi a, vi w, vi x, vi y, vi z5], [], (enT J a y dy ey, Y)) Q) := by
    intro J r1 r2 r3
    have q1 : J (X + 25) w = I (X + 25) w := by rw [r1]
    have q2 : J (X + 26) y = I (X + 26) y := by rw [r2]
    unfold enT
    by_cases c : ey = true
    · obtain ⟨e1, e2⟩ := hey.mp c
      obtain ⟨n1, n2⟩ := ny e1
      have q3 : J (X + 19) y = dy := by rw [r3]; exact n1
      have q4 : ∀ v, up J 2241 y v (X + 19) y = dy := fun v => by rw [up_cell _ (by omega)]; exact q3
      rw [if_pos c]
      simp (disch := (first | assumption | omega | (simp only [up_app, Nat.reduceEqDiff, false_and, and_false, true_and, and_true, if_true, if_false, Nat.add_left_cancel_iff, Nat.add_right_cancel_iff, Nat.add_eq_left, Nat.left_eq_add, hX, q1, q2, q4, tn0, tn1, tn2, tn3, tn4, tn5, tn6, tn7, tn8, tn9]; omega))) only [b403_159, b403_172, b403_184, hX, q1, q2, q4, up_app, Nat.reduceEqDiff, false_and, and_false, true_and, and_true, if_true, if_false, Nat.add_left_cancel_iff, Nat.add_right_cancel_iff, Nat.add_eq_left, Nat.left_eq_add, vWC_n, vWC_s, vWC_x, if01a, if01b, if_pos, if_neg, tn0, tn1, tn2, tn3, tn4, tn5, tn6, tn7, tn8, tn9, w32_id, w64_id, Nat.reduceAdd, reduceIte, Int.reduceLT, Int.reduceLE, Int.reduceEq, Int.reduceNe, Int.reduceAdd, Int.reduceSub, Int.reduceMul, Int.reduceNeg, Int.reduceToNat, ne_eq, not_true_eq_false, not_false_eq_true, true_and, and_true, false_and, and_false, true_or, or_true, false_or, or_false, if_true, if_false, and_self, or_self, ite_self]
    · rw [if_neg c]
      by_cases e1 : I (X + 26) y = 1
      · have e2 : I (X + 25) w = 1 := by
          rcases hb with z | z
          · exact absurd (hey.mpr ⟨e1, z⟩) c
          · exact z
        simp (disch := (first | assumption | omega | (simp only [up_app, Nat.reduceEqDiff, false_and, and_false, true_and, and_true, if_true, if_false, Nat.add_left_cancel_iff, Nat.add_right_cancel_iff, Nat.add_eq_left, Nat.left_eq_add, hX, q1, q2, tn0, tn1, tn2, tn3, tn4, tn5, tn6, tn7, tn8, tn9]; omega))) only [b403_159, b403_172, hX, q1, q2, vWC_n, vWC_s, vWC_x, if01a, if01b, if_pos, if_neg, tn0, tn1, tn2, tn3, tn4, tn5, tn6, tn7, tn8, tn9, w32_id, w64_id, Nat.reduceAdd, reduceIte, Int.reduceLT, Int.reduceLE, Int.reduceEq, Int.reduceNe, Int.reduceAdd, Int.reduceSub, Int.reduceMul, Int.reduceNeg, Int.reduceToNat, ne_eq, not_true_eq_false, not_false_eq_true, true_and, and_true, false_and, and_false, true_or, or_true, false_or, or_false, if_true, if_false, and_self, or_self, ite_self]
      · simp (disch := (first | assumption | omega | (simp only [up_app, Nat.reduceEqDiff, false_and, and_false, true_and, and_true, if_true, if_false, Nat.add_left_cancel_iff, Nat.add_right_cancel_iff, Nat.add_eq_left, Nat.left_eq_add, hX, q1, q2, tn0, tn1, tn2, tn3, tn4, tn5, tn6, tn7, tn8, tn9]; omega))) only [b403_159, hX, q1, q2, vWC_n, vWC_s, vWC_x, if01a, if01b, if_pos, if_neg, tn0, tn1, tn2, tn3, tn4, tn5, tn6, tn7, tn8, tn9, w32_id, w64_id, Nat.reduceAdd, reduceIte, Int.reduceLT, Int.reduceLE, Int.reduceEq, Int.reduceNe, Int.reduceAdd, Int.reduceSub, Int.reduceMul, Int.reduceNeg, Int.reduceToNat, ne_eq, not_true_eq_false, not_false_eq_true, true_and, and_true, false_and, and_false, true_or, or_true, false_or, or_false, if_true, if_false, and_self, or_self, ite_self]
  unfold tuT
  by_cases c : ex = true
  · obtain ⟨e1, e2⟩ := hex.mp c
    obtain ⟨n1, n2⟩ := nx e2
    have q4 : ∀ v, up I 2242 x v (X + 19) x = dx := fun v => by rw [up_cell _ (by omega)]; exact n1
    rw [if_pos c]
    simp (disch := (first | assumption | omega | (simp only [up_app, Nat.reduceEqDiff, false_and, and_false, true_and, and_true, if_true, if_false, Nat.add_left_cancel_iff, Nat.add_right_cancel_iff, Nat.add_eq_left, Nat.left_eq_add, hX, hs.1, q4, tn0, tn1, tn2, tn3, tn4, tn5, tn6, tn7, tn8, tn9]; omega))) only [b403_101, b403_114, b403_126, hX, hs.1, q4, up_app, Nat.reduceEqDiff, false_and, and_false, true_and, and_true, if_true, if_false, Nat.add_left_cancel_iff, Nat.add_right_cancel_iff, Nat.add_eq_left, Nat.left_eq_add, vWC_n, vWC_s, vWC_x, if01a, if01b, if_pos, if_neg, tn0, tn1, tn2, tn3, tn4, tn5, tn6, tn7, tn8, tn9, w32_id, w64_id, Nat.reduceAdd, reduceIte, Int.reduceLT, Int.reduceLE, Int.reduceEq, Int.reduceNe, Int.reduceAdd, Int.reduceSub, Int.reduceMul, Int.reduceNeg, Int.reduceToNat, ne_eq, not_true_eq_false, not_false_eq_true, true_and, and_true, false_and, and_false, true_or, or_true, false_or, or_false, if_true, if_false, and_self, or_self, ite_self]
    exact st2 _ (by rw [up_row _ (by omega), up_row _ (by omega)]) (by rw [up_row _ (by omega), up_row _ (by omega)]) (by rw [up_row _ (by omega), up_row _ (by omega)])
  · rw [if_neg c]
    have s0 := st2 I rfl rfl rfl
    by_cases e1 : so = 1
    · have e2 : I (X + 26) x = 0 := by
        rcases lx with z | z
        · exact z
        · exact absurd (hex.mpr ⟨e1, z⟩) c
      simp (disch := (first | assumption | omega | (simp only [up_app, Nat.reduceEqDiff, false_and, and_false, true_and, and_true, if_true, if_false, Nat.add_left_cancel_iff, Nat.add_right_cancel_iff, Nat.add_eq_left, Nat.left_eq_add, hX, hs.1, tn0, tn1, tn2, tn3, tn4, tn5, tn6, tn7, tn8, tn9]; omega))) only [b403_101, b403_114, hX, hs.1, vWC_n, vWC_s, vWC_x, if01a, if01b, if_pos, if_neg, tn0, tn1, tn2, tn3, tn4, tn5, tn6, tn7, tn8, tn9, w32_id, w64_id, Nat.reduceAdd, reduceIte, Int.reduceLT, Int.reduceLE, Int.reduceEq, Int.reduceNe, Int.reduceAdd, Int.reduceSub, Int.reduceMul, Int.reduceNeg, Int.reduceToNat, ne_eq, not_true_eq_false, not_false_eq_true, true_and, and_true, false_and, and_false, true_or, or_true, false_or, or_false, if_true, if_false, and_self, or_self, ite_self]
      exact s0
    · simp (disch := (first | assumption | omega | (simp only [up_app, Nat.reduceEqDiff, false_and, and_false, true_and, and_true, if_true, if_false, Nat.add_left_cancel_iff, Nat.add_right_cancel_iff, Nat.add_eq_left, Nat.left_eq_add, hX, hs.1, tn0, tn1, tn2, tn3, tn4, tn5, tn6, tn7, tn8, tn9]; omega))) only [b403_101, hX, hs.1, vWC_n, vWC_s, vWC_x, if01a, if01b, if_pos, if_neg, tn0, tn1, tn2, tn3, tn4, tn5, tn6, tn7, tn8, tn9, w32_id, w64_id, Nat.reduceAdd, reduceIte, Int.reduceLT, Int.reduceLE, Int.reduceEq, Int.reduceNe, Int.reduceAdd, Int.reduceSub, Int.reduceMul, Int.reduceNeg, Int.reduceToNat, ne_eq, not_true_eq_false, not_false_eq_true, true_and, and_true, false_and, and_false, true_or, or_true, false_or, or_false, if_true, if_false, and_self, or_self, ite_self]
      exact s0
end
