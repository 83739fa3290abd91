theorem fr_lt {L : List Nat} {I J : vJ} {b c : Nat} (h : fr L [] I J) (hb : ∀ q, q ∈ L → b ≤ q) (hc : c < b) : J c = I c := by
  refine fr_row h c (fun f => frok_ne ?_ (fun p hp => by cases hp))
  rw [List.any_eq_false]
  intro q hq z
  have := hb q hq
  have := Nat.eq_of_beq_eq_true z
  omega
theorem gL_same {I I' J J' : vJ} {X Nn Lp : Nat} (h : gL I I' X Nn Lp) (h1 : J 41 = I 41) (h2 : J 54 = I 54) (h3 : J 55 = I 55) (h4 : J 56 = I 56) (h5 : J' (X + 15) = I' (X + 15)) (h6 : J' (X + 18) = I' (X + 18)) (h7 : J' (X + 19) = I' (X + 19)) (h8 : J' (X + 26) = I' (X + 26)) : gL J J' X Nn Lp := by
  unfold gL at *
  rw [h1, h2, h3, h4, h5, h6, h7, h8]; exact h
theorem leC_fr {I J : vJ} (h : fr [1972, 1973, 1975, 1976, 1977, 1978] [] I J) {l k : Nat} (n : Int) (hk : k < 4) : fr [1972, 1973, 1975, 1976, 1977, 1978] [] I (leC J l n k) := by
  refine fr_upL (fr_upL (fr_upL h rfl _ _) rfl _ _) ?_ _ _
  have : k = 0 ∨ k = 1 ∨ k = 2 ∨ k = 3 := by omega
  rcases this with rfl | rfl | rfl | rfl <;> rfl
theorem leT_fr {I J : vJ} (h : fr [2243, 2244, 2245, 2246, 2247, 2248] [] I J) {l k : Nat} (n : Int) (hk : k < 4) : fr [2243, 2244, 2245, 2246, 2247, 2248] [] I (leT J l n k) := by
  refine fr_upL (fr_upL (fr_upL h ?_ _ _) rfl _ _) rfl _ _
  have : k = 0 ∨ k = 1 ∨ k = 2 ∨ k = 3 := by omega
  rcases this with rfl | rfl | rfl | rfl <;> rfl
theorem hw_int (so ku : Int) (h : so ≠ 3) : (if ku ≠ 16 then (if ku ≠ 9 then (0 : Int) else 2) else 1) = (hw so ku : Nat) := by
  unfold hw
  rw [if_neg h]
  by_cases c : ku = 16
  · simp [c]
  · by_cases c2 : ku = 9
    · simp [c2]
    · simp [c, c2]
section
variable {d d' : Nat} {I I' : vJ} {Y Y' : vY} {Q : vE → vE → Prop}
theorem g_leave {X Nn Lp t w a x y : Nat} {so ku : Int} (hL : vL Y) (hL' : vL Y') (hX : Y'.1 2075 7689 = X) (hX2 : X = 2081 ∨ X = 2119) (hV : vreg Y' 2081 38 (Y'.1 2075 7689)) (hG : gL I I' X Nn Lp) (ha : a < 320) (hx : x < Nn) (hy : y < Nn) (hw1 : w < 2100)
    (hs : I 52 w = so ∧ I' (X + 24) w = so ∧ 0 ≤ so ∧ so ≤ 3) (hk : I 38 x = ku ∧ I' (X + 9) x = ku ∧ 0 ≤ ku ∧ ku ≤ 16) (hT : ∀ j, j < 3840 → I 2014 j = I' 2209 j ∧ 0 ≤ I 2014 j ∧ I 2014 j < 100000000)
    (hQ : ∀ (J J' : vJ) (z z' : Int), loR J J' Lp (fun l => (I 54 l).toNat) → fr [1972, 1973, 1975, 1976, 1977, 1978] [] I J → fr [2243, 2244, 2245, 2246, 2247, 2248] [] I' J' → vW (d + 2) 164 (342, [vr 1990, vi t, vi w, vi a, vi x, vi y, vi z], [], (J, Y)) (fun r => vW (d' + 2) 403 (101, [vr 2075, vi a, vi w, vi x, vi y, vi z'], [], (J', Y')) (fun r' => Q r r'))) :
    ∀ (k : Nat) (J J' : vJ), k < Lp → loR J J' Lp (fun l => (I 54 l).toNat) → fr [1972, 1973, 1975, 1976, 1977, 1978] [] I J → fr [2243, 2244, 2245, 2246, 2247, 2248] [] I' J' → vW (d + 2) 164 (220, [vr 1990, vi t, vi w, vi a, vi x, vi y, vi k], [], (J, Y)) (fun r => vW (d' + 2) 403 (61, [vr 2075, vi a, vi w, vi x, vi y, vi (I 54 k)], [], (J', Y')) (fun r' => Q r r')) := by
  intro k
  induction k using Nat.strongRecOn with
  | _ k ih =>
    intro J J' hk1 hR f1 f2
    have hG0 := hG
    obtain ⟨⟨g0, g0'⟩, g1, g2, g3, g4⟩ := hG
    obtain ⟨⟨a1, a2⟩, ⟨a3, a4, a5⟩, a6, a7, a8⟩ := g2 k hk1
    have r1 := fr_row f1 41 (fun _ => rfl)
    have r2 := fr_row f1 54 (fun _ => rfl)
    have r3 := fr_row f1 55 (fun _ => rfl)
    have r4 := fr_row f1 56 (fun _ => rfl)
    have r5 := fr_row f1 52 (fun _ => rfl)
    have r6 := fr_row f1 38 (fun _ => rfl)
    have r7 := fr_row f1 2014 (fun _ => rfl)
    have s : ∀ c, c < 2243 → J' c = I' c := fun c hc => fr_lt f2 (by decide) hc
    have hGJ : gL J J' X Nn Lp := gL_same hG0 r1 r2 r3 r4 (s _ (by omega)) (s _ (by omega)) (s _ (by omega)) (s _ (by omega))
    rw [b164_220]
    simp only [b403_61 (x5 := I 54 k)]
    simp (disch := (first | assumption | omega | (simp only [up_app, Nat.reduceEqDiff, false_and, and_false, true_and, and_true, if_true, if_false, Nat.add_left_cancel_iff, Nat.add_right_cancel_iff, Nat.add_eq_left, Nat.left_eq_add, tn0, tn1, tn2, tn3, tn4, tn5, tn6, tn7, tn8, tn9]; omega))) only [b164_226, vWC_n, vWC_s, vWC_x, if01a, if01b, if_pos, if_neg, tn0, tn1, tn2, tn3, tn4, tn5, tn6, tn7, tn8, tn9, w32_id, w64_id, Nat.reduceAdd, reduceIte, Int.reduceLT, Int.reduceLE, Int.reduceEq, Int.reduceNe, Int.reduceAdd, Int.reduceSub, Int.reduceMul, Int.reduceNeg, Int.reduceToNat, ne_eq, not_true_eq_false, not_false_eq_true, true_and, and_true, false_and, and_false, true_or, or_true, false_or, or_false, if_true, if_false, and_self, or_self, ite_self]
    apply vW_out
    simp (disch := (first | assumption | omega | (simp only [up_app, Nat.reduceEqDiff, false_and, and_false, true_and, and_true, if_true, if_false, Nat.add_left_cancel_iff, Nat.add_right_cancel_iff, Nat.add_eq_left, Nat.left_eq_add, tn0, tn1, tn2, tn3, tn4, tn5, tn6, tn7, tn8, tn9]; omega))) only [b403_66, vWC_n, vWC_s, vWC_x, if01a, if01b, if_pos, if_neg, tn0, tn1, tn2, tn3, tn4, tn5, tn6, tn7, tn8, tn9, w32_id, w64_id, Nat.reduceAdd, reduceIte, Int.reduceLT, Int.reduceLE, Int.reduceEq, Int.reduceNe, Int.reduceAdd, Int.reduceSub, Int.reduceMul, Int.reduceNeg, Int.reduceToNat, ne_eq, not_true_eq_false, not_false_eq_true, true_and, and_true, false_and, and_false, true_or, or_true, false_or, or_false, if_true, if_false, and_self, or_self, ite_self]
    have : vW (d + 1) 105 (0, [vr 35, vi k, vi y, vu], [], (J, Y)) (fun q => vW (d' + 1) 404 (0, [vr 2075, vi y, vi (I 54 k), vu], [], (J', Y')) (fun q' => vWC (d' + 2) 403 71 3 [vr 2075, vi a, vi w, vi x, vi y, vi (I 54 k)] [] (fun r' => vWC (d + 2) 164 234 3 [vr 1990, vi t, vi w, vi a, vi x, vi y, vi k] [] (fun r => Q r r') q) q')) := by
      rw [← r2]
      refine g_has (l := k) (n := y) hL hL' hX hV hGJ hk1 hy (fun b hb => ?_)
      rw [r2]
      simp only [vWC_s, Nat.reduceAdd]
      apply vW_swap.mp
      rcases hb with rfl | rfl
      · have q1 := a8
        obtain ⟨dp, hdp⟩ : ∃ dp : Nat, I 56 k = (dp : Int) + 1 := ⟨(I 56 k - 1).toNat, by omega⟩
        obtain ⟨nn, hnn⟩ : ∃ nn : Nat, I 54 k = nn := ⟨(I 54 k).toNat, by omega⟩
        have tt := hT (12 * a + dp) (by omega)
        have ix : (a : Int) * 12 + ((dp : Int) + 1) - 1 = ((12 * a + dp : Nat) : Int) := by omega
        have rr := hR.2.2 k hk1
        simp only [hnn, tn0] at rr
        have hwl := hw_lt so ku
        have nx : loR (leC J k (I 2014 (12 * a + dp)) (hw so ku)) (leT J' nn (I 2014 (12 * a + dp)) (hw so ku)) Lp (fun l => (I 54 l).toNat) := by
          have := lo_leave (l := k) (n := I 2014 (12 * a + dp)) (h := hw so ku) hR hk1 tt.2 hwl
          simp only [hnn, tn0] at this
          exact this
        have ce : ∀ K : vE → Prop, vW (d + 2) 164 (237, [vr 1990, vi t, vi w, vi a, vi x, vi y, vi k], [vi 0], (J, Y)) K ↔ vW (d + 2) 164 (220, [vr 1990, vi t, vi w, vi a, vi x, vi y, vi (I 55 k)], [], (leC J k (I 2014 (12 * a + dp)) (hw so ku), Y)) K := by
          intro K
          have j1 : J 52 w = so := by rw [r5]; exact hs.1
          have j2 : J 38 x = ku := by rw [r6]; exact hk.1
          have j3 : J 56 k = (dp : Int) + 1 := by rw [r4]; exact hdp
          have j4 : J 2014 (12 * a + dp) = I 2014 (12 * a + dp) := by rw [r7]
          have j5 : J 55 k = I 55 k := by rw [r3]
          have le := fun K => c_loopEnds (d := d) (I := J) (Y := Y) (Q := K) (l := k) (h := hw so ku) (n := I 2014 (12 * a + dp)) hL (by omega) hwl rr.2.2.1.2 rr.2.2.2.1.2 tt.2
          have tl : vW (d + 2) 164 (324, [vr 1990, vi t, vi w, vi a, vi x, vi y, vi k], [vi (hw so ku : Nat), vi (I 2014 (12 * a + dp)), vi k, vr 1960], (J, Y)) K ↔ vW (d + 2) 164 (220, [vr 1990, vi t, vi w, vi a, vi x, vi y, vi (I 55 k)], [], (leC J k (I 2014 (12 * a + dp)) (hw so ku), Y)) K := by
            rw [b164_324 hL, le]
            have j6 : leC J k (I 2014 (12 * a + dp)) (hw so ku) 55 k = I 55 k := by
              rw [(leC_fr (I := I) f1 (l := k) (I 2014 (12 * a + dp)) hwl) 55 k rfl]
            simp (disch := (first | assumption | omega | (simp only [up_app, Nat.reduceEqDiff, false_and, and_false, true_and, and_true, if_true, if_false, Nat.add_left_cancel_iff, Nat.add_right_cancel_iff, Nat.add_eq_left, Nat.left_eq_add, tn0, tn1, tn2, tn3, tn4, tn5, tn6, tn7, tn8, tn9]; omega))) only [vWC_n, b164_327, j6, vWC_n, vWC_s, vWC_x, if01a, if01b, if_pos, if_neg, tn0, tn1, tn2, tn3, tn4, tn5, tn6, tn7, tn8, tn9, w32_id, w64_id, Nat.reduceAdd, reduceIte, Int.reduceLT, Int.reduceLE, Int.reduceEq, Int.reduceNe, Int.reduceAdd, Int.reduceSub, Int.reduceMul, Int.reduceNeg, Int.reduceToNat, ne_eq, not_true_eq_false, not_false_eq_true, true_and, and_true, false_and, and_false, true_or, or_true, false_or, or_false, if_true, if_false, and_self, or_self, ite_self]
          rw [← tl]
          by_cases c3 : so = 3
          · have h3 : ((hw so ku : Nat) : Int) = 3 := by unfold hw; rw [if_pos c3]; rfl
            rw [h3]
            simp (disch := (first | assumption | omega | (simp only [up_app, Nat.reduceEqDiff, false_and, and_false, true_and, and_true, if_true, if_false, Nat.add_left_cancel_iff, Nat.add_right_cancel_iff, Nat.add_eq_left, Nat.left_eq_add, j1, j3, ix, tn0, tn1, tn2, tn3, tn4, tn5, tn6, tn7, tn8, tn9]; omega))) only [b164_237, b164_240, b164_281, j1, j3, j4, ix, vWC_n, vWC_s, vWC_x, if01a, if01b, if_pos, if_neg, tn0, tn1, tn2, tn3, tn4, tn5, tn6, tn7, tn8, tn9, w32_id, w64_id, Nat.reduceAdd, reduceIte, Int.reduceLT, Int.reduceLE, Int.reduceEq, Int.reduceNe, Int.reduceAdd, Int.reduceSub, Int.reduceMul, Int.reduceNeg, Int.reduceToNat, ne_eq, not_true_eq_false, not_false_eq_true, true_and, and_true, false_and, and_false, true_or, or_true, false_or, or_false, if_true, if_false, and_self, or_self, ite_self]
          · rw [← hw_int so ku c3]
            simp (disch := (first | assumption | omega | (simp only [up_app, Nat.reduceEqDiff, false_and, and_false, true_and, and_true, if_true, if_false, Nat.add_left_cancel_iff, Nat.add_right_cancel_iff, Nat.add_eq_left, Nat.left_eq_add, j1, j2, j3, ix, tn0, tn1, tn2, tn3, tn4, tn5, tn6, tn7, tn8, tn9]; omega))) only [b164_237, b164_240, m164_285, j1, j2, j3, j4, ix, vWC_n, vWC_s, vWC_x, if01a, if01b, if_pos, if_neg, tn0, tn1, tn2, tn3, tn4, tn5, tn6, tn7, tn8, tn9, w32_id, w64_id, Nat.reduceAdd, reduceIte, Int.reduceLT, Int.reduceLE, Int.reduceEq, Int.reduceNe, Int.reduceAdd, Int.reduceSub, Int.reduceMul, Int.reduceNeg, Int.reduceToNat, ne_eq, not_true_eq_false, not_false_eq_true, true_and, and_true, false_and, and_false, true_or, or_true, false_or, or_false, if_true, if_false, and_self, or_self, ite_self]
        have te : ∀ K : vE → Prop, vW (d' + 2) 403 (74, [vr 2075, vi a, vi w, vi x, vi y, vi (I 54 k)], [vi 0], (J', Y')) K ↔ vW (d' + 2) 403 (61, [vr 2075, vi a, vi w, vi x, vi y, vi (I' (X + 18) nn)], [], (leT J' nn (I 2014 (12 * a + dp)) (hw so ku), Y')) K := by
          intro K
          clear q1 a8 g1 g4
          have le := fun K => t_leave (d := d') (I := J') (Y := Y') (Q := K) (X := X) (a := a) (v := nn) (u := x) (w := w) (n := I 2014 (12 * a + dp)) (so := so) (ku := ku) hL' hX hX2 hV ha (by omega) (by omega) (by omega) (by rw [s (X + 24) (by omega)]; exact hs.2) (by rw [s (X + 9) (by omega)]; exact hk.2) (by rw [s (X + 19) (by omega)]; rw [hnn] at a5; simp only [tn0] at a5; omega) (by
            rw [s (X + 19) (by omega), s 2209 (by omega)]
            rw [hnn] at a5
            simp only [tn0] at a5
            rw [a5, hdp, show ((dp : Int) + 1 - 1).toNat = dp by omega]
            exact tt.1.symm) (by have := rr.2.2.1; omega) (by have := rr.2.2.2.1; omega) tt.2
          have j6 : leT J' nn (I 2014 (12 * a + dp)) (hw so ku) (X + 18) nn = I' (X + 18) nn := by
            rw [fr_lt (leT_fr (I := I') f2 (l := nn) (I 2014 (12 * a + dp)) hwl) (by decide) (show X + 18 < 2243 by omega)]
          rw [hnn]
          simp (disch := (first | assumption | omega | (simp only [up_app, Nat.reduceEqDiff, false_and, and_false, true_and, and_true, if_true, if_false, Nat.add_left_cancel_iff, Nat.add_right_cancel_iff, Nat.add_eq_left, Nat.left_eq_add, tn0, tn1, tn2, tn3, tn4, tn5, tn6, tn7, tn8, tn9]; omega))) only [b403_74, vWC_n, vWC_s, vWC_x, if01a, if01b, if_pos, if_neg, tn0, tn1, tn2, tn3, tn4, tn5, tn6, tn7, tn8, tn9, w32_id, w64_id, Nat.reduceAdd, reduceIte, Int.reduceLT, Int.reduceLE, Int.reduceEq, Int.reduceNe, Int.reduceAdd, Int.reduceSub, Int.reduceMul, Int.reduceNeg, Int.reduceToNat, ne_eq, not_true_eq_false, not_false_eq_true, true_and, and_true, false_and, and_false, true_or, or_true, false_or, or_false, if_true, if_false, and_self, or_self, ite_self]
          rw [b403_77 hL', le]
          simp (disch := (first | assumption | omega | (simp only [up_app, Nat.reduceEqDiff, false_and, and_false, true_and, and_true, if_true, if_false, Nat.add_left_cancel_iff, Nat.add_right_cancel_iff, Nat.add_eq_left, Nat.left_eq_add, hX, j6, tn0, tn1, tn2, tn3, tn4, tn5, tn6, tn7, tn8, tn9]; omega))) only [vWC_n, b403_86, hX, j6, vWC_n, vWC_s, vWC_x, if01a, if01b, if_pos, if_neg, tn0, tn1, tn2, tn3, tn4, tn5, tn6, tn7, tn8, tn9, w32_id, w64_id, Nat.reduceAdd, reduceIte, Int.reduceLT, Int.reduceLE, Int.reduceEq, Int.reduceNe, Int.reduceAdd, Int.reduceSub, Int.reduceMul, Int.reduceNeg, Int.reduceToNat, ne_eq, not_true_eq_false, not_false_eq_true, true_and, and_true, false_and, and_false, true_or, or_true, false_or, or_false, if_true, if_false, and_self, or_self, ite_self]
        simp only [ce, te]
        rcases q1 with ⟨c1, c2⟩ | ⟨k', c0, c1, c2⟩
        · rw [hnn] at c2
          simp only [tn0] at c2
          rw [c1, c2]
          simp (disch := (first | assumption | omega | (simp only [up_app, Nat.reduceEqDiff, false_and, and_false, true_and, and_true, if_true, if_false, Nat.add_left_cancel_iff, Nat.add_right_cancel_iff, Nat.add_eq_left, Nat.left_eq_add, tn0, tn1, tn2, tn3, tn4, tn5, tn6, tn7, tn8, tn9]; omega))) only [b164_220, vWC_n, vWC_s, vWC_x, if01a, if01b, if_pos, if_neg, tn0, tn1, tn2, tn3, tn4, tn5, tn6, tn7, tn8, tn9, w32_id, w64_id, Nat.reduceAdd, reduceIte, Int.reduceLT, Int.reduceLE, Int.reduceEq, Int.reduceNe, Int.reduceAdd, Int.reduceSub, Int.reduceMul, Int.reduceNeg, Int.reduceToNat, ne_eq, not_true_eq_false, not_false_eq_true, true_and, and_true, false_and, and_false, true_or, or_true, false_or, or_false, if_true, if_false, and_self, or_self, ite_self]
          simp (disch := (first | assumption | omega | (simp only [up_app, Nat.reduceEqDiff, false_and, and_false, true_and, and_true, if_true, if_false, Nat.add_left_cancel_iff, Nat.add_right_cancel_iff, Nat.add_eq_left, Nat.left_eq_add, tn0, tn1, tn2, tn3, tn4, tn5, tn6, tn7, tn8, tn9]; omega))) only [b403_61, vWC_n, vWC_s, vWC_x, if01a, if01b, if_pos, if_neg, tn0, tn1, tn2, tn3, tn4, tn5, tn6, tn7, tn8, tn9, w32_id, w64_id, Nat.reduceAdd, reduceIte, Int.reduceLT, Int.reduceLE, Int.reduceEq, Int.reduceNe, Int.reduceAdd, Int.reduceSub, Int.reduceMul, Int.reduceNeg, Int.reduceToNat, ne_eq, not_true_eq_false, not_false_eq_true, true_and, and_true, false_and, and_false, true_or, or_true, false_or, or_false, if_true, if_false, and_self, or_self, ite_self]
          exact hQ _ _ _ _ nx (leC_fr f1 _ hwl) (leT_fr f2 _ hwl)
        · rw [hnn] at c2
          simp only [tn0] at c2
          rw [c1, c2]
          exact ih k' c0 _ _ (by omega) nx (leC_fr f1 _ hwl) (leT_fr f2 _ hwl)
      · simp (disch := (first | assumption | omega | (simp only [up_app, Nat.reduceEqDiff, false_and, and_false, true_and, and_true, if_true, if_false, Nat.add_left_cancel_iff, Nat.add_right_cancel_iff, Nat.add_eq_left, Nat.left_eq_add, tn0, tn1, tn2, tn3, tn4, tn5, tn6, tn7, tn8, tn9]; omega))) only [b164_237, vWC_n, vWC_s, vWC_x, if01a, if01b, if_pos, if_neg, tn0, tn1, tn2, tn3, tn4, tn5, tn6, tn7, tn8, tn9, w32_id, w64_id, Nat.reduceAdd, reduceIte, Int.reduceLT, Int.reduceLE, Int.reduceEq, Int.reduceNe, Int.reduceAdd, Int.reduceSub, Int.reduceMul, Int.reduceNeg, Int.reduceToNat, ne_eq, not_true_eq_false, not_false_eq_true, true_and, and_true, false_and, and_false, true_or, or_true, false_or, or_false, if_true, if_false, and_self, or_self, ite_self]
        simp (disch := (first | assumption | omega | (simp only [up_app, Nat.reduceEqDiff, false_and, and_false, true_and, and_true, if_true, if_false, Nat.add_left_cancel_iff, Nat.add_right_cancel_iff, Nat.add_eq_left, Nat.left_eq_add, tn0, tn1, tn2, tn3, tn4, tn5, tn6, tn7, tn8, tn9]; omega))) only [b403_74, vWC_n, vWC_s, vWC_x, if01a, if01b, if_pos, if_neg, tn0, tn1, tn2, tn3, tn4, tn5, tn6, tn7, tn8, tn9, w32_id, w64_id, Nat.reduceAdd, reduceIte, Int.reduceLT, Int.reduceLE, Int.reduceEq, Int.reduceNe, Int.reduceAdd, Int.reduceSub, Int.reduceMul, Int.reduceNeg, Int.reduceToNat, ne_eq, not_true_eq_false, not_false_eq_true, true_and, and_true, false_and, and_false, true_or, or_true, false_or, or_false, if_true, if_false, and_self, or_self, ite_self]
        exact hQ J J' _ _ hR f1 f2
    exact this
end
