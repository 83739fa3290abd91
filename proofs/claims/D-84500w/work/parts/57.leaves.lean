/-- loops from k on that a way to a node of loop ky leaves -/
def lvC (ar : Nat → Int) (n : Nat → Int) (h : Nat) (ky : Int) : Nat → vJ → Int → vJ
  | 0, J, _ => J
  | f + 1, J, k => if k = -1 ∨ inb ar k 301 ky = 1 then J else lvC ar n h ky f (leC J k.toNat (n k.toNat) h) (ar k.toNat)
def lvT (ar ln : Nat → Int) (n : Nat → Int) (h : Nat) (ky : Int) : Nat → vJ → Int → vJ
  | 0, J, _ => J
  | f + 1, J, k => if k = -1 ∨ inb ar k 301 ky = 1 then J else lvT ar ln n h ky f (leT J (ln k.toNat).toNat (n k.toNat) h) (ar k.toNat)
theorem lvC_fr {ar n : Nat → Int} {h : Nat} {ky : Int} (hh : h < 4) {I : vJ} : ∀ (f : Nat) (J : vJ) (k : Int), fr [1972, 1973, 1975, 1976, 1977, 1978] [] I J → fr [1972, 1973, 1975, 1976, 1977, 1978] [] I (lvC ar n h ky f J k) := by
  intro f
  induction f with
  | zero => intro J k hf; exact hf
  | succ f ih =>
    intro J k hf
    unfold lvC
    split
    · exact hf
    · exact ih _ _ (leC_fr hf _ hh)
theorem lvT_fr {ar ln n : Nat → Int} {h : Nat} {ky : Int} (hh : h < 4) {I : vJ} : ∀ (f : Nat) (J : vJ) (k : Int), fr [2243, 2244, 2245, 2246, 2247, 2248] [] I J → fr [2243, 2244, 2245, 2246, 2247, 2248] [] I (lvT ar ln n h ky f J k) := by
  intro f
  induction f with
  | zero => intro J k hf; exact hf
  | succ f ih =>
    intro J k hf
    unfold lvT
    split
    · exact hf
    · exact ih _ _ (leT_fr hf _ hh)
theorem lv_R {ar ln n : Nat → Int} {h Lp : Nat} {ky : Int} (hh : h < 4) (hn : ∀ k, k < Lp → 0 ≤ n k ∧ n k < 100000000) (har : ∀ k : Nat, k < Lp → ar k = -1 ∨ 0 ≤ ar k ∧ ar k < k) : ∀ (f : Nat) (J J' : vJ) (k : Int), (k = -1 ∨ 0 ≤ k ∧ k < Lp) → loR J J' Lp (fun l => (ln l).toNat) → loR (lvC ar n h ky f J k) (lvT ar ln n h ky f J' k) Lp (fun l => (ln l).toNat) := by
  intro f
  induction f with
  | zero => intro J J' k _ hR; exact hR
  | succ f ih =>
    intro J J' k hk hR
    unfold lvC lvT
    by_cases c : k = -1 ∨ inb ar k 301 ky = 1
    · rw [if_pos c, if_pos c]; exact hR
    · rw [if_neg c, if_neg c]
      have hk2 := hk.resolve_left (fun z => c (Or.inl z))
      have a := har k.toNat (by omega)
      refine ih _ _ _ (by omega) ?_
      exact lo_leave (l := k.toNat) hR (by omega) (hn _ (by omega)) hh
section
variable {d d' : Nat} {I I' : vJ} {Y Y' : vY}
theorem c_leaves {t w a x y Lp : Nat} {so ku ky : Int} {n : Nat → Int} (hL : vL Y) (hLp : Lp ≤ 260) (ha : a < 320) (hx : x < 700) (hy : y < 700) (hw1 : w < 2100) (hs : I 52 w = so ∧ 0 ≤ so ∧ so ≤ 3) (hk : I 38 x = ku ∧ 0 ≤ ku ∧ ku ≤ 16) (hky : I 41 y = ky ∧ (ky = -1 ∨ 0 ≤ ky ∧ ky < Lp))
    (har : ∀ k : Nat, k < Lp → I 55 k = -1 ∨ 0 ≤ I 55 k ∧ I 55 k < k) (hn : ∀ k : Nat, k < Lp → (1 ≤ I 56 k ∧ I 56 k ≤ 12) ∧ n k = I 2014 (12 * a + (I 56 k - 1).toNat) ∧ 0 ≤ n k ∧ n k < 100000000) :
    ∀ (f : Nat) (J : vJ) (k : Int), (k = -1 ∨ 0 ≤ k ∧ k < Lp) → k < f → fr [1972, 1973, 1975, 1976, 1977, 1978] [] I J → (∀ l, l < Lp → (-1 ≤ J 1972 l ∧ J 1972 l < 100000000) ∧ -1 ≤ J 1973 l ∧ J 1973 l < 100000000) → ∀ Q : vE → Prop, (vW (d + 2) 164 (220, [vr 1990, vi t, vi w, vi a, vi x, vi y, vi k], [], (J, Y)) Q ↔ vW (d + 2) 164 (354, [vr 1990, vi t, vi w, vi a, vi x, vi y, vi ky], [], (lvC (I 55) n (hw so ku) ky (f + 1) J k, Y)) Q) := by
  intro f
  induction f with
  | zero =>
    intro J k hk1 hk2 hf _ Q
    have : k = -1 := by omega
    subst this
    have r1 := fr_row hf 41 (fun _ => rfl)
    simp (disch := (first | assumption | omega | (simp only [up_app, Nat.reduceEqDiff, false_and, and_false, true_and, and_true, if_true, if_false, Nat.add_left_cancel_iff, Nat.add_right_cancel_iff, Nat.add_eq_left, Nat.left_eq_add, r1, tn0, tn1, tn2, tn3, tn4, tn5, tn6, tn7, tn8, tn9]; omega))) only [b164_220, b164_342, r1, hky.1, vWC_n, vWC_s, vWC_x, if01a, if01b, if_pos, if_neg, tn0, tn1, tn2, tn3, tn4, tn5, tn6, tn7, tn8, tn9, w32_id, w64_id, Nat.reduceAdd, reduceIte, Int.reduceLT, Int.reduceLE, Int.reduceEq, Int.reduceNe, Int.reduceAdd, Int.reduceSub, Int.reduceMul, Int.reduceNeg, Int.reduceToNat, ne_eq, not_true_eq_false, not_false_eq_true, true_and, and_true, false_and, and_false, true_or, or_true, false_or, or_false, if_true, if_false, and_self, or_self, ite_self]
    unfold lvC
    rw [if_pos (Or.inl rfl)]
  | succ f ih =>
    intro J k hk1 hk2 hf hrg Q
    have r1 := fr_row hf 41 (fun _ => rfl)
    have r3 := fr_row hf 55 (fun _ => rfl)
    have r4 := fr_row hf 56 (fun _ => rfl)
    have r5 := fr_row hf 52 (fun _ => rfl)
    have r6 := fr_row hf 38 (fun _ => rfl)
    have r7 := fr_row hf 2014 (fun _ => rfl)
    unfold lvC
    by_cases c0 : k = -1
    · subst c0
      simp (disch := (first | assumption | omega | (simp only [up_app, Nat.reduceEqDiff, false_and, and_false, true_and, and_true, if_true, if_false, Nat.add_left_cancel_iff, Nat.add_right_cancel_iff, Nat.add_eq_left, Nat.left_eq_add, r1, tn0, tn1, tn2, tn3, tn4, tn5, tn6, tn7, tn8, tn9]; omega))) only [b164_220, b164_342, r1, hky.1, vWC_n, vWC_s, vWC_x, if01a, if01b, if_pos, if_neg, tn0, tn1, tn2, tn3, tn4, tn5, tn6, tn7, tn8, tn9, w32_id, w64_id, Nat.reduceAdd, reduceIte, Int.reduceLT, Int.reduceLE, Int.reduceEq, Int.reduceNe, Int.reduceAdd, Int.reduceSub, Int.reduceMul, Int.reduceNeg, Int.reduceToNat, ne_eq, not_true_eq_false, not_false_eq_true, true_and, and_true, false_and, and_false, true_or, or_true, false_or, or_false, if_true, if_false, and_self, or_self, ite_self]
    · obtain ⟨l, rfl⟩ : ∃ l : Nat, k = l := ⟨k.toNat, by omega⟩
      have hl : l < Lp := by omega
      have hasv : ∀ Q : vE → Prop, vW (d + 1) 105 (0, [vr 35, vi l, vi y, vu], [], (J, Y)) Q ↔ Q (.inl (some (vi (inb (I 55) l 301 ky))), (J, Y)) := by
        intro Q
        simp (disch := (first | assumption | omega | (simp only [up_app, Nat.reduceEqDiff, false_and, and_false, true_and, and_true, if_true, if_false, Nat.add_left_cancel_iff, Nat.add_right_cancel_iff, Nat.add_eq_left, Nat.left_eq_add, r1, tn0, tn1, tn2, tn3, tn4, tn5, tn6, tn7, tn8, tn9]; omega))) only [b105_0, r1, hky.1, vWC_n, vWC_s, vWC_x, if01a, if01b, if_pos, if_neg, tn0, tn1, tn2, tn3, tn4, tn5, tn6, tn7, tn8, tn9, w32_id, w64_id, Nat.reduceAdd, reduceIte, Int.reduceLT, Int.reduceLE, Int.reduceEq, Int.reduceNe, Int.reduceAdd, Int.reduceSub, Int.reduceMul, Int.reduceNeg, Int.reduceToNat, ne_eq, not_true_eq_false, not_false_eq_true, true_and, and_true, false_and, and_false, true_or, or_true, false_or, or_false, if_true, if_false, and_self, or_self, ite_self]
        rcases hky.2 with z | ⟨z1, z2⟩
        · rw [z]
          simp (disch := (first | assumption | omega | (simp only [up_app, Nat.reduceEqDiff, false_and, and_false, true_and, and_true, if_true, if_false, Nat.add_left_cancel_iff, Nat.add_right_cancel_iff, Nat.add_eq_left, Nat.left_eq_add, tn0, tn1, tn2, tn3, tn4, tn5, tn6, tn7, tn8, tn9]; omega))) only [b105_7, m105_27, b105_37, vWC_n, vWC_s, vWC_x, if01a, if01b, if_pos, if_neg, tn0, tn1, tn2, tn3, tn4, tn5, tn6, tn7, tn8, tn9, w32_id, w64_id, Nat.reduceAdd, reduceIte, Int.reduceLT, Int.reduceLE, Int.reduceEq, Int.reduceNe, Int.reduceAdd, Int.reduceSub, Int.reduceMul, Int.reduceNeg, Int.reduceToNat, ne_eq, not_true_eq_false, not_false_eq_true, true_and, and_true, false_and, and_false, true_or, or_true, false_or, or_false, if_true, if_false, and_self, or_self, ite_self]
          rfl
        · obtain ⟨j, rfl⟩ : ∃ j : Nat, ky = j := ⟨ky.toNat, by omega⟩
          rw [c_chain hL hLp hl (by rw [r3]; exact har) 300 j (by omega) (by omega), r3]
      have st : vW (d + 2) 164 (220, [vr 1990, vi t, vi w, vi a, vi x, vi y, vi (l : Int)], [], (J, Y)) Q ↔ vW (d + 2) 164 (237, [vr 1990, vi t, vi w, vi a, vi x, vi y, vi (l : Int)], [vi (inb (I 55) l 301 ky)], (J, Y)) Q := by
        rw [b164_220]
        simp (disch := (first | assumption | omega | (simp only [up_app, Nat.reduceEqDiff, false_and, and_false, true_and, and_true, if_true, if_false, Nat.add_left_cancel_iff, Nat.add_right_cancel_iff, Nat.add_eq_left, Nat.left_eq_add, tn0, tn1, tn2, tn3, tn4, tn5, tn6, tn7, tn8, tn9]; omega))) only [b164_226, hasv, vWC_n, vWC_s, vWC_x, if01a, if01b, if_pos, if_neg, tn0, tn1, tn2, tn3, tn4, tn5, tn6, tn7, tn8, tn9, w32_id, w64_id, Nat.reduceAdd, reduceIte, Int.reduceLT, Int.reduceLE, Int.reduceEq, Int.reduceNe, Int.reduceAdd, Int.reduceSub, Int.reduceMul, Int.reduceNeg, Int.reduceToNat, ne_eq, not_true_eq_false, not_false_eq_true, true_and, and_true, false_and, and_false, true_or, or_true, false_or, or_false, if_true, if_false, and_self, or_self, ite_self]
      rw [st]
      rcases inb_01 (I 55) l 301 ky with b | b
      · rw [b, if_neg (by intro z; rcases z with z | z <;> omega)]
        obtain ⟨⟨n1, n2⟩, n3, n4, n5⟩ := hn l hl
        obtain ⟨dp, hdp⟩ : ∃ dp : Nat, I 56 l = (dp : Int) + 1 := ⟨(I 56 l - 1).toNat, by omega⟩
        have n6 : n l = I 2014 (12 * a + dp) := by rw [n3, hdp, show ((dp : Int) + 1 - 1).toNat = dp by omega]
        have ix : (a : Int) * 12 + ((dp : Int) + 1) - 1 = ((12 * a + dp : Nat) : Int) := by omega
        have hwl := hw_lt so ku
        have j1 : J 52 w = so := by rw [r5]; exact hs.1
        have j2 : J 38 x = ku := by rw [r6]; exact hk.1
        have j3 : J 56 l = (dp : Int) + 1 := by rw [r4]; exact hdp
        have j4 : J 2014 (12 * a + dp) = n l := by rw [r7, n6]
        have rg := hrg l hl
        have le := fun K => c_loopEnds (d := d) (I := J) (Y := Y) (Q := K) (l := l) (h := hw so ku) (n := n l) hL (by omega) hwl rg.1 rg.2 ⟨n4, n5⟩
        have tl : vW (d + 2) 164 (324, [vr 1990, vi t, vi w, vi a, vi x, vi y, vi (l : Int)], [vi (hw so ku : Nat), vi (n l), vi (l : Int), vr 1960], (J, Y)) Q ↔ vW (d + 2) 164 (220, [vr 1990, vi t, vi w, vi a, vi x, vi y, vi (I 55 l)], [], (leC J l (n l) (hw so ku), Y)) Q := by
          rw [b164_324 hL, le]
          have j6 : leC J l (n l) (hw so ku) 55 l = I 55 l := by
            rw [(leC_fr (I := I) hf (l := l) (n l) hwl) 55 l rfl]
          simp (disch := (first | assumption | omega | (simp only [up_app, Nat.reduceEqDiff, false_and, and_false, true_and, and_true, if_true, if_false, Nat.add_left_cancel_iff, Nat.add_right_cancel_iff, Nat.add_eq_left, Nat.left_eq_add, tn0, tn1, tn2, tn3, tn4, tn5, tn6, tn7, tn8, tn9]; omega))) only [vWC_n, b164_327, j6, vWC_n, vWC_s, vWC_x, if01a, if01b, if_pos, if_neg, tn0, tn1, tn2, tn3, tn4, tn5, tn6, tn7, tn8, tn9, w32_id, w64_id, Nat.reduceAdd, reduceIte, Int.reduceLT, Int.reduceLE, Int.reduceEq, Int.reduceNe, Int.reduceAdd, Int.reduceSub, Int.reduceMul, Int.reduceNeg, Int.reduceToNat, ne_eq, not_true_eq_false, not_false_eq_true, true_and, and_true, false_and, and_false, true_or, or_true, false_or, or_false, if_true, if_false, and_self, or_self, ite_self]
        have a1 := har l hl
        have nx := ih (leC J l (n l) (hw so ku)) (I 55 l) (by omega) (by omega) (leC_fr hf _ hwl) (fun k hk0 => by
          have g := hrg k hk0
          have p3 : ¬ (1972 = 1975 + hw so ku) := by omega
          have p4 : ¬ (1973 = 1975 + hw so ku) := by omega
          unfold leC lst1 grt1
          simp only [up_app, Nat.reduceEqDiff, false_and, and_false, true_and, and_true, if_true, if_false, Nat.add_left_cancel_iff, Nat.add_right_cancel_iff, Nat.add_eq_left, Nat.left_eq_add, p3, p4]
          by_cases z : k = l
          · subst z; simp only [if_true]; refine ⟨⟨?_, ?_⟩, ?_, ?_⟩ <;> (split <;> omega)
          · simp only [z, if_false]; exact g) Q
        show _ ↔ vW (d + 2) 164 (354, [vr 1990, vi t, vi w, vi a, vi x, vi y, vi ky], [], (lvC (I 55) n (hw so ku) ky (f + 1) (leC J l (n l) (hw so ku)) (I 55 l), Y)) Q
        rw [← nx, ← tl]
        by_cases c3 : so = 3
        · have h3 : ((hw so ku : Nat) : Int) = 3 := by unfold hw; rw [if_pos c3]; rfl
          rw [h3]
          simp (disch := (first | assumption | omega | (simp only [up_app, Nat.reduceEqDiff, false_and, and_false, true_and, and_true, if_true, if_false, Nat.add_left_cancel_iff, Nat.add_right_cancel_iff, Nat.add_eq_left, Nat.left_eq_add, j1, j3, ix, tn0, tn1, tn2, tn3, tn4, tn5, tn6, tn7, tn8, tn9]; omega))) only [b164_237, b164_240, b164_281, j1, j3, j4, ix, vWC_n, vWC_s, vWC_x, if01a, if01b, if_pos, if_neg, tn0, tn1, tn2, tn3, tn4, tn5, tn6, tn7, tn8, tn9, w32_id, w64_id, Nat.reduceAdd, reduceIte, Int.reduceLT, Int.reduceLE, Int.reduceEq, Int.reduceNe, Int.reduceAdd, Int.reduceSub, Int.reduceMul, Int.reduceNeg, Int.reduceToNat, ne_eq, not_true_eq_false, not_false_eq_true, true_and, and_true, false_and, and_false, true_or, or_true, false_or, or_false, if_true, if_false, and_self, or_self, ite_self]
        · rw [← hw_int so ku c3]
          simp (disch := (first | assumption | omega | (simp only [up_app, Nat.reduceEqDiff, false_and, and_false, true_and, and_true, if_true, if_false, Nat.add_left_cancel_iff, Nat.add_right_cancel_iff, Nat.add_eq_left, Nat.left_eq_add, j1, j2, j3, ix, tn0, tn1, tn2, tn3, tn4, tn5, tn6, tn7, tn8, tn9]; omega))) only [b164_237, b164_240, m164_285, j1, j2, j3, j4, ix, vWC_n, vWC_s, vWC_x, if01a, if01b, if_pos, if_neg, tn0, tn1, tn2, tn3, tn4, tn5, tn6, tn7, tn8, tn9, w32_id, w64_id, Nat.reduceAdd, reduceIte, Int.reduceLT, Int.reduceLE, Int.reduceEq, Int.reduceNe, Int.reduceAdd, Int.reduceSub, Int.reduceMul, Int.reduceNeg, Int.reduceToNat, ne_eq, not_true_eq_false, not_false_eq_true, true_and, and_true, false_and, and_false, true_or, or_true, false_or, or_false, if_true, if_false, and_self, or_self, ite_self]
      · rw [b, if_pos (Or.inr rfl)]
        simp (disch := (first | assumption | omega | (simp only [up_app, Nat.reduceEqDiff, false_and, and_false, true_and, and_true, if_true, if_false, Nat.add_left_cancel_iff, Nat.add_right_cancel_iff, Nat.add_eq_left, Nat.left_eq_add, r1, tn0, tn1, tn2, tn3, tn4, tn5, tn6, tn7, tn8, tn9]; omega))) only [b164_237, b164_342, r1, hky.1, vWC_n, vWC_s, vWC_x, if01a, if01b, if_pos, if_neg, tn0, tn1, tn2, tn3, tn4, tn5, tn6, tn7, tn8, tn9, w32_id, w64_id, Nat.reduceAdd, reduceIte, Int.reduceLT, Int.reduceLE, Int.reduceEq, Int.reduceNe, Int.reduceAdd, Int.reduceSub, Int.reduceMul, Int.reduceNeg, Int.reduceToNat, ne_eq, not_true_eq_false, not_false_eq_true, true_and, and_true, false_and, and_false, true_or, or_true, false_or, or_false, if_true, if_false, and_self, or_self, ite_self]
theorem t_leaves {X w a x y Lp Nn : Nat} {so ku ky : Int} {ar ln n : Nat → Int} (hL : vL Y') (hX : Y'.1 2075 7689 = X) (hX2 : X = 2081 ∨ X = 2119) (hV : vreg Y' 2081 38 (Y'.1 2075 7689)) (hLp : Lp ≤ 260) (hNn : Nn ≤ 700) (ha : a < 320) (hx : x < 700) (hy : y < 700) (hw1 : w < 2100) (hs : I' (X + 24) w = so ∧ 0 ≤ so ∧ so ≤ 3) (hk : I' (X + 9) x = ku ∧ 0 ≤ ku ∧ ku ≤ 16) (hky : ky = -1 ∧ I' (X + 15) y = -1 ∨ (0 ≤ ky ∧ ky < Lp) ∧ I' (X + 15) y = ln ky.toNat)
    (har : ∀ k : Nat, k < Lp → (0 ≤ ln k ∧ ln k < Nn) ∧ (ar k = -1 ∧ I' (X + 18) (ln k).toNat = -1 ∨ 0 ≤ ar k ∧ ar k < k ∧ I' (X + 18) (ln k).toNat = ln (ar k).toNat)) (hinj : ∀ i j, i < Lp → j < Lp → ln i = ln j → i = j)
    (hn : ∀ k : Nat, k < Lp → (0 ≤ I' (X + 19) (ln k).toNat ∧ I' (X + 19) (ln k).toNat < 12) ∧ n k = I' 2209 (12 * a + (I' (X + 19) (ln k).toNat).toNat) ∧ 0 ≤ n k ∧ n k < 100000000) :
    ∀ (f : Nat) (J : vJ) (k k5 : Int), (k = -1 ∧ k5 = -1 ∨ (0 ≤ k ∧ k < Lp) ∧ k5 = ln k.toNat) → k < f → fr [2243, 2244, 2245, 2246, 2247, 2248] [] I' J → (∀ l, l < Lp → (-1 ≤ J 2243 (ln l).toNat ∧ J 2243 (ln l).toNat < 100000000) ∧ -1 ≤ J 2244 (ln l).toNat ∧ J 2244 (ln l).toNat < 100000000) → ∃ z : Int, ∀ Q : vE → Prop, (vW (d' + 2) 403 (61, [vr 2075, vi a, vi w, vi x, vi y, vi k5], [], (J, Y')) Q ↔ vW (d' + 2) 403 (101, [vr 2075, vi a, vi w, vi x, vi y, vi z], [], (lvT ar ln n (hw so ku) ky (f + 1) J k, Y')) Q) := by
  intro f
  induction f with
  | zero =>
    intro J k k5 hk1 hk2 hf _
    have e : k = -1 ∧ k5 = -1 := by rcases hk1 with z | z <;> omega
    obtain ⟨e1, e2⟩ := e
    subst e1; subst e2
    refine ⟨-1, fun Q => ?_⟩
    simp (disch := (first | assumption | omega | (simp only [up_app, Nat.reduceEqDiff, false_and, and_false, true_and, and_true, if_true, if_false, Nat.add_left_cancel_iff, Nat.add_right_cancel_iff, Nat.add_eq_left, Nat.left_eq_add, tn0, tn1, tn2, tn3, tn4, tn5, tn6, tn7, tn8, tn9]; omega))) only [b403_61, vWC_n, vWC_s, vWC_x, if01a, if01b, if_pos, if_neg, tn0, tn1, tn2, tn3, tn4, tn5, tn6, tn7, tn8, tn9, w32_id, w64_id, Nat.reduceAdd, reduceIte, Int.reduceLT, Int.reduceLE, Int.reduceEq, Int.reduceNe, Int.reduceAdd, Int.reduceSub, Int.reduceMul, Int.reduceNeg, Int.reduceToNat, ne_eq, not_true_eq_false, not_false_eq_true, true_and, and_true, false_and, and_false, true_or, or_true, false_or, or_false, if_true, if_false, and_self, or_self, ite_self]
    unfold lvT
    rw [if_pos (Or.inl rfl)]
  | succ f ih =>
    intro J k k5 hk1 hk2 hf hrg
    have s : ∀ c, c < 2243 → J c = I' c := fun c hc => fr_lt hf (by decide) hc
    unfold lvT
    by_cases c0 : k = -1
    · have e2 : k5 = -1 := by rcases hk1 with z | z <;> omega
      subst c0; subst e2
      refine ⟨-1, fun Q => ?_⟩
      simp (disch := (first | assumption | omega | (simp only [up_app, Nat.reduceEqDiff, false_and, and_false, true_and, and_true, if_true, if_false, Nat.add_left_cancel_iff, Nat.add_right_cancel_iff, Nat.add_eq_left, Nat.left_eq_add, tn0, tn1, tn2, tn3, tn4, tn5, tn6, tn7, tn8, tn9]; omega))) only [b403_61, vWC_n, vWC_s, vWC_x, if01a, if01b, if_pos, if_neg, tn0, tn1, tn2, tn3, tn4, tn5, tn6, tn7, tn8, tn9, w32_id, w64_id, Nat.reduceAdd, reduceIte, Int.reduceLT, Int.reduceLE, Int.reduceEq, Int.reduceNe, Int.reduceAdd, Int.reduceSub, Int.reduceMul, Int.reduceNeg, Int.reduceToNat, ne_eq, not_true_eq_false, not_false_eq_true, true_and, and_true, false_and, and_false, true_or, or_true, false_or, or_false, if_true, if_false, and_self, or_self, ite_self]
    · have hk3 := hk1.resolve_left (fun z => c0 z.1)
      obtain ⟨l, rfl⟩ : ∃ l : Nat, k = l := ⟨k.toNat, by omega⟩
      have hl : l < Lp := by omega
      have e5 : k5 = ln l := hk3.2
      subst e5
      have b0 := har l hl
      obtain ⟨⟨l1, l2⟩, l3⟩ := b0
      have harJ : ∀ k : Nat, k < Lp → (0 ≤ ln k ∧ ln k < Nn) ∧ (ar k = -1 ∧ J (X + 18) (ln k).toNat = -1 ∨ 0 ≤ ar k ∧ ar k < k ∧ J (X + 18) (ln k).toNat = ln (ar k).toNat) := by rw [s (X + 18) (by omega)]; exact har
      have hasv : ∀ Q : vE → Prop, vW (d' + 1) 404 (0, [vr 2075, vi y, vi (ln l), vu], [], (J, Y')) Q ↔ Q (.inl (some (vi (inb ar l 301 ky))), (J, Y')) := by
        intro Q
        have s15 := s (X + 15) (by omega)
        simp (disch := (first | assumption | omega | (simp only [up_app, Nat.reduceEqDiff, false_and, and_false, true_and, and_true, if_true, if_false, Nat.add_left_cancel_iff, Nat.add_right_cancel_iff, Nat.add_eq_left, Nat.left_eq_add, hX, tn0, tn1, tn2, tn3, tn4, tn5, tn6, tn7, tn8, tn9]; omega))) only [b404_0, hX, s15, vWC_n, vWC_s, vWC_x, if01a, if01b, if_pos, if_neg, tn0, tn1, tn2, tn3, tn4, tn5, tn6, tn7, tn8, tn9, w32_id, w64_id, Nat.reduceAdd, reduceIte, Int.reduceLT, Int.reduceLE, Int.reduceEq, Int.reduceNe, Int.reduceAdd, Int.reduceSub, Int.reduceMul, Int.reduceNeg, Int.reduceToNat, ne_eq, not_true_eq_false, not_false_eq_true, true_and, and_true, false_and, and_false, true_or, or_true, false_or, or_false, if_true, if_false, and_self, or_self, ite_self]
        rcases hky with ⟨z1, z2⟩ | ⟨z1, z2⟩
        · rw [z1, z2]
          simp (disch := (first | assumption | omega | (simp only [up_app, Nat.reduceEqDiff, false_and, and_false, true_and, and_true, if_true, if_false, Nat.add_left_cancel_iff, Nat.add_right_cancel_iff, Nat.add_eq_left, Nat.left_eq_add, tn0, tn1, tn2, tn3, tn4, tn5, tn6, tn7, tn8, tn9]; omega))) only [b404_10, b404_34, vWC_n, vWC_s, vWC_x, if01a, if01b, if_pos, if_neg, tn0, tn1, tn2, tn3, tn4, tn5, tn6, tn7, tn8, tn9, w32_id, w64_id, Nat.reduceAdd, reduceIte, Int.reduceLT, Int.reduceLE, Int.reduceEq, Int.reduceNe, Int.reduceAdd, Int.reduceSub, Int.reduceMul, Int.reduceNeg, Int.reduceToNat, ne_eq, not_true_eq_false, not_false_eq_true, true_and, and_true, false_and, and_false, true_or, or_true, false_or, or_false, if_true, if_false, and_self, or_self, ite_self]
          rfl
        · obtain ⟨j, rfl⟩ : ∃ j : Nat, ky = j := ⟨ky.toNat, by omega⟩
          rw [z2]
          exact t_chain hL hX hV hNn hl harJ hinj 300 j (by omega) (by omega)
      have st : ∀ Q : vE → Prop, vW (d' + 2) 403 (61, [vr 2075, vi a, vi w, vi x, vi y, vi (ln l)], [], (J, Y')) Q ↔ vW (d' + 2) 403 (74, [vr 2075, vi a, vi w, vi x, vi y, vi (ln l)], [vi (inb ar l 301 ky)], (J, Y')) Q := by
        intro Q
        rw [b403_61]
        simp (disch := (first | assumption | omega | (simp only [up_app, Nat.reduceEqDiff, false_and, and_false, true_and, and_true, if_true, if_false, Nat.add_left_cancel_iff, Nat.add_right_cancel_iff, Nat.add_eq_left, Nat.left_eq_add, tn0, tn1, tn2, tn3, tn4, tn5, tn6, tn7, tn8, tn9]; omega))) only [b403_66, hasv, vWC_n, vWC_s, vWC_x, if01a, if01b, if_pos, if_neg, tn0, tn1, tn2, tn3, tn4, tn5, tn6, tn7, tn8, tn9, w32_id, w64_id, Nat.reduceAdd, reduceIte, Int.reduceLT, Int.reduceLE, Int.reduceEq, Int.reduceNe, Int.reduceAdd, Int.reduceSub, Int.reduceMul, Int.reduceNeg, Int.reduceToNat, ne_eq, not_true_eq_false, not_false_eq_true, true_and, and_true, false_and, and_false, true_or, or_true, false_or, or_false, if_true, if_false, and_self, or_self, ite_self]
      simp only [st]
      rcases inb_01 ar l 301 ky with b | b
      · rw [b, if_neg (by intro z; rcases z with z | z <;> omega)]
        obtain ⟨⟨n1, n2⟩, n3, n4, n5⟩ := hn l hl
        obtain ⟨nn, hnn⟩ : ∃ nn : Nat, ln l = nn := ⟨(ln l).toNat, by omega⟩
        have hwl := hw_lt so ku
        have rg := hrg l hl
        rw [hnn] at rg n1 n2 n3
        simp only [tn0] at rg n1 n2 n3
        have le := fun K => t_leave (d := d') (I := J) (Y := Y') (Q := K) (X := X) (a := a) (v := nn) (u := x) (w := w) (n := n l) (so := so) (ku := ku) hL hX hX2 hV ha (by omega) (by omega) (by omega) (by rw [s (X + 24) (by omega)]; exact hs) (by rw [s (X + 9) (by omega)]; exact hk) (by rw [s (X + 19) (by omega)]; exact ⟨n1, n2⟩) (by
          rw [s (X + 19) (by omega), s 2209 (by omega)]; exact n3.symm) rg.1 rg.2 ⟨n4, n5⟩
        have j6 : leT J nn (n l) (hw so ku) (X + 18) nn = I' (X + 18) nn := by
          rw [fr_lt (leT_fr (I := I') hf (l := nn) (n l) hwl) (by decide) (show X + 18 < 2243 by omega)]
        have tl : ∀ Q : vE → Prop, vW (d' + 2) 403 (74, [vr 2075, vi a, vi w, vi x, vi y, vi (ln l)], [vi 0], (J, Y')) Q ↔ vW (d' + 2) 403 (61, [vr 2075, vi a, vi w, vi x, vi y, vi (I' (X + 18) nn)], [], (leT J nn (n l) (hw so ku), Y')) Q := by
          intro Q
          rw [hnn]
          simp (disch := (first | assumption | omega | (simp only [up_app, Nat.reduceEqDiff, false_and, and_false, true_and, and_true, if_true, if_false, Nat.add_left_cancel_iff, Nat.add_right_cancel_iff, Nat.add_eq_left, Nat.left_eq_add, tn0, tn1, tn2, tn3, tn4, tn5, tn6, tn7, tn8, tn9]; omega))) only [b403_74, vWC_n, vWC_s, vWC_x, if01a, if01b, if_pos, if_neg, tn0, tn1, tn2, tn3, tn4, tn5, tn6, tn7, tn8, tn9, w32_id, w64_id, Nat.reduceAdd, reduceIte, Int.reduceLT, Int.reduceLE, Int.reduceEq, Int.reduceNe, Int.reduceAdd, Int.reduceSub, Int.reduceMul, Int.reduceNeg, Int.reduceToNat, ne_eq, not_true_eq_false, not_false_eq_true, true_and, and_true, false_and, and_false, true_or, or_true, false_or, or_false, if_true, if_false, and_self, or_self, ite_self]
          rw [b403_77 hL, le]
          simp (disch := (first | assumption | omega | (simp only [up_app, Nat.reduceEqDiff, false_and, and_false, true_and, and_true, if_true, if_false, Nat.add_left_cancel_iff, Nat.add_right_cancel_iff, Nat.add_eq_left, Nat.left_eq_add, hX, j6, tn0, tn1, tn2, tn3, tn4, tn5, tn6, tn7, tn8, tn9]; omega))) only [vWC_n, b403_86, hX, j6, vWC_n, vWC_s, vWC_x, if01a, if01b, if_pos, if_neg, tn0, tn1, tn2, tn3, tn4, tn5, tn6, tn7, tn8, tn9, w32_id, w64_id, Nat.reduceAdd, reduceIte, Int.reduceLT, Int.reduceLE, Int.reduceEq, Int.reduceNe, Int.reduceAdd, Int.reduceSub, Int.reduceMul, Int.reduceNeg, Int.reduceToNat, ne_eq, not_true_eq_false, not_false_eq_true, true_and, and_true, false_and, and_false, true_or, or_true, false_or, or_false, if_true, if_false, and_self, or_self, ite_self]
        simp only [tl]
        have q0 : (ar l = -1 ∧ I' (X + 18) nn = -1) ∨ (0 ≤ ar l ∧ ar l < Lp) ∧ I' (X + 18) nn = ln (ar l).toNat := by
          rw [hnn] at l3
          simp only [tn0] at l3
          rcases l3 with z | z
          · exact Or.inl z
          · exact Or.inr ⟨⟨z.1, by omega⟩, z.2.2⟩
        have q2 : ar l < f := by rcases l3 with z | z <;> omega
        have nx := ih (leT J nn (n l) (hw so ku)) (ar l) (I' (X + 18) nn) q0 q2 (leT_fr hf _ hwl) (fun k hk0 => by
          have g := hrg k hk0
          have p3 : ¬ (2243 = 2245 + hw so ku) := by omega
          have p4 : ¬ (2244 = 2245 + hw so ku) := by omega
          unfold leT lst1 grt1
          simp only [up_app, Nat.reduceEqDiff, false_and, and_false, true_and, and_true, if_true, if_false, Nat.add_left_cancel_iff, Nat.add_right_cancel_iff, Nat.add_eq_left, Nat.left_eq_add, p3, p4]
          by_cases z : (ln k).toNat = nn
          · simp only [z, if_true]; refine ⟨⟨?_, ?_⟩, ?_, ?_⟩ <;> (split <;> omega)
          · simp only [z, if_false]; exact g)
        have ee : leT J (ln (l : Int).toNat).toNat (n (l : Int).toNat) (hw so ku) = leT J nn (n l) (hw so ku) := by
          show leT J (ln l).toNat (n l) (hw so ku) = _
          rw [hnn]; rfl
        rw [ee]
        exact nx
      · rw [b, if_pos (Or.inr rfl)]
        refine ⟨ln l, fun Q => ?_⟩
        simp (disch := (first | assumption | omega | (simp only [up_app, Nat.reduceEqDiff, false_and, and_false, true_and, and_true, if_true, if_false, Nat.add_left_cancel_iff, Nat.add_right_cancel_iff, Nat.add_eq_left, Nat.left_eq_add, tn0, tn1, tn2, tn3, tn4, tn5, tn6, tn7, tn8, tn9]; omega))) only [b403_74, vWC_n, vWC_s, vWC_x, if01a, if01b, if_pos, if_neg, tn0, tn1, tn2, tn3, tn4, tn5, tn6, tn7, tn8, tn9, w32_id, w64_id, Nat.reduceAdd, reduceIte, Int.reduceLT, Int.reduceLE, Int.reduceEq, Int.reduceNe, Int.reduceAdd, Int.reduceSub, Int.reduceMul, Int.reduceNeg, Int.reduceToNat, ne_eq, not_true_eq_false, not_false_eq_true, true_and, and_true, false_and, and_false, true_or, or_true, false_or, or_false, if_true, if_false, and_self, or_self, ite_self]
end
