/-! ===== a thread is started: the tree, the arguments ===== -/
set_option maxRecDepth 20000
set_option maxHeartbeats 4000000
/-- the place of a thread's first activation in the tree -/
theorem t_of0 {d d' : Nat} {Y Y' : vY} {I I' : vJ} {Q : vE → vE → Prop} {n : Nat} {m : Int} (hL : vL Y) (hL' : vL Y') (hR : tR I I') (hn : I 1960 3079 = n) (hm : 0 ≤ m ∧ m < 24) (hf : I' 2075 7732 = 0 ∨ I' 2075 7732 = 1)
    (hQ : ∀ (J J' : vJ) (n' q : Nat), tR J J' → J 1960 3079 = n' → n ≤ n' → q < n' → q ≠ 0 → tF I J → tF' I' J' → Q (.inl (some (vi q)), (J, Y)) (.inl (some (vi q)), (J', Y'))) :
    vW d 146 (0, [vr 1960, vi 0, vi m, vi 0, vu], [], (I, Y)) (fun r => vW d' 402 (0, [vr 2075, vi m, vi 0, vu], [], (I', Y')) (fun r' => Q r r')) := by
  have hR0 := hR
  obtain ⟨n1, ⟨hn1, hn2⟩, r1, r2, r3, r4⟩ := hR
  have : n1 = n := by omega
  subst this
  have key : ∀ x x', vW d 146 (47, [vr 1960, vi 0, vi m, vi 0, vi x], [], (I, Y)) (fun r => vW d' 402 (43, [vr 2075, vi m, vi 0, x'], [], (I', Y')) (fun r' => Q r r')) := by
    intro x x'
    simp (disch := (first | assumption | omega | (simp only [up_app, Nat.reduceEqDiff, false_and, and_false, true_and, and_true, if_true, if_false, Nat.add_left_cancel_iff, Nat.add_right_cancel_iff, Nat.add_eq_left, Nat.left_eq_add, tn0, tn1, tn2, tn3, tn4, tn5, tn6, tn7, tn8, tn9]; omega))) only [b146_47, b402_43, vWC_n, vWC_s, vWC_x, if01a, if01b, if_pos, if_neg, tn0, tn1, tn2, tn3, tn4, tn5, tn6, tn7, tn8, tn9, w32_id, w64_id, Nat.reduceAdd, reduceIte, Int.reduceLT, Int.reduceLE, Int.reduceEq, Int.reduceNe, Int.reduceAdd, Int.reduceSub, Int.reduceMul, Int.reduceNeg, Int.reduceToNat, ne_eq, not_true_eq_false, not_false_eq_true, true_and, and_true, false_and, and_false, true_or, or_true, false_or, or_false, if_true, if_false, and_self, or_self, ite_self]
    rw [r4.2.2.1 0 (by omega)]
    have two : (2 : Int) = ((2 : Nat) : Int) := rfl
    have hr : ∀ j : Nat, 2 ≤ j → j < n1 → -1 ≤ I' 2237 j ∧ I' 2237 j < 200 ∧ -1 ≤ I' 2238 j ∧ I' 2238 j < 24 := fun j j1 j2 => by
      have a := r3 j j2; have b := r4.2.1 j j1 j2; omega
    refine t_list hL hn2 r4 hm (fun j j1 j2 j3 j4 => ?_) (fun hno x2 => ?_) n1 (Nat.le_refl _) (fun j j1 j2 => by omega)
    · rw [two]
      refine t_scan hL' hn2 r2 hm hr (by omega) (fun i i1 i2 i3 i4 => ?_) (fun hno _ => ?_) (n1 - 2) 2 (by omega) (Nat.le_refl _) (fun j j1 j2 => by omega)
      · have a := r3 i i2
        have : i = j := r4.2.2.2 i j i1 i2 j1 j2 (by omega) (by omega)
        subst this
        exact hQ I I' n1 i hR0 hn (Nat.le_refl _) i2 (by omega) (tF_refl I) (tF'_refl I')
      · have a := r3 j j2
        exact absurd (by omega) (hno j j1 j2 (by omega))
    · rw [two]
      apply vW_swap.mpr
      refine t_scan hL' hn2 r2 hm hr (by omega) (fun i i1 i2 i3 i4 => ?_) (fun _ x3 => ?_) (n1 - 2) 2 (by omega) (Nat.le_refl _) (fun j j1 j2 => by omega)
      · have a := r3 i i2
        exact absurd (by omega) (hno i i1 i2 (by omega))
      · by_cases h200 : n1 = 200
        · simp (disch := (first | assumption | omega | (simp only [up_app, Nat.reduceEqDiff, false_and, and_false, true_and, and_true, if_true, if_false, Nat.add_left_cancel_iff, Nat.add_right_cancel_iff, Nat.add_eq_left, Nat.left_eq_add, tn0, tn1, tn2, tn3, tn4, tn5, tn6, tn7, tn8, tn9]; omega))) only [b146_87, b146_97, b402_81, b402_91, vWC_n, vWC_s, vWC_x, if01a, if01b, if_pos, if_neg, tn0, tn1, tn2, tn3, tn4, tn5, tn6, tn7, tn8, tn9, w32_id, w64_id, Nat.reduceAdd, reduceIte, Int.reduceLT, Int.reduceLE, Int.reduceEq, Int.reduceNe, Int.reduceAdd, Int.reduceSub, Int.reduceMul, Int.reduceNeg, Int.reduceToNat, ne_eq, not_true_eq_false, not_false_eq_true, true_and, and_true, false_and, and_false, true_or, or_true, false_or, or_false, if_true, if_false, and_self, or_self, ite_self]
          exact hQ I I' n1 1 hR0 hn (Nat.le_refl _) (by omega) (by omega) (tF_refl I) (tF'_refl I')
        · simp (disch := (first | assumption | omega | (simp only [up_app, Nat.reduceEqDiff, false_and, and_false, true_and, and_true, if_true, if_false, Nat.add_left_cancel_iff, Nat.add_right_cancel_iff, Nat.add_eq_left, Nat.left_eq_add, tn0, tn1, tn2, tn3, tn4, tn5, tn6, tn7, tn8, tn9]; omega))) only [b146_87, b146_99, b402_81, b402_93, hn, r2, vWC_n, vWC_s, vWC_x, if01a, if01b, if_pos, if_neg, tn0, tn1, tn2, tn3, tn4, tn5, tn6, tn7, tn8, tn9, w32_id, w64_id, Nat.reduceAdd, reduceIte, Int.reduceLT, Int.reduceLE, Int.reduceEq, Int.reduceNe, Int.reduceAdd, Int.reduceSub, Int.reduceMul, Int.reduceNeg, Int.reduceToNat, ne_eq, not_true_eq_false, not_false_eq_true, true_and, and_true, false_and, and_false, true_or, or_true, false_or, or_false, if_true, if_false, and_self, or_self, ite_self]
          have a1 : ¬ 0 = n1 := by omega
          simp only [up_app, Nat.reduceEqDiff, false_and, and_false, true_and, and_true, if_true, if_false, Nat.add_left_cancel_iff, Nat.add_right_cancel_iff, Nat.add_eq_left, Nat.left_eq_add, a1]
          have := t_new (m := m) (p := 0) ⟨hn1, by omega⟩ hn r2 r3 r4 (by omega) (by omega) hm hno
          rw [show (n1 : Int) + 1 - 1 = n1 by omega]
          refine hQ _ _ (n1 + 1) n1 this ?_ (by omega) (by omega) (by omega) ?_ ?_
          · simp only [up_app, Nat.reduceEqDiff, false_and, and_false, true_and, and_true, if_true, if_false, Nat.add_left_cancel_iff, Nat.add_right_cancel_iff, Nat.add_eq_left, Nat.left_eq_add]; omega
          · refine ⟨fun c hc => ?_, fun f hf => ?_⟩
            · rw [up_row _ (by omega), up_row _ (by omega), up_row _ (by omega), up_row _ (by omega), up_row _ (by omega), up_row _ (by omega), up_row _ (by omega), up_row _ (by omega)]
            · simp only [up_app, Nat.reduceEqDiff, false_and, and_false, true_and, and_true, if_true, if_false, Nat.add_left_cancel_iff, Nat.add_right_cancel_iff, Nat.add_eq_left, Nat.left_eq_add, hf]
          · refine ⟨fun c hc hc2 => ?_, fun f hf => ?_⟩
            · rw [up_row _ (by omega), up_row _ (by omega), up_row _ (by omega), up_row _ (by omega), up_row _ (by omega)]
            · simp only [up_app, Nat.reduceEqDiff, false_and, and_false, true_and, and_true, if_true, if_false, Nat.add_left_cancel_iff, Nat.add_right_cancel_iff, Nat.add_eq_left, Nat.left_eq_add, hf]
  have z0 := r3 0 (by omega)
  have z1 := r4.1
  rcases hf with hf | hf
  · simp (disch := (first | assumption | omega | (simp only [up_app, Nat.reduceEqDiff, false_and, and_false, true_and, and_true, if_true, if_false, Nat.add_left_cancel_iff, Nat.add_right_cancel_iff, Nat.add_eq_left, Nat.left_eq_add, tn0, tn1, tn2, tn3, tn4, tn5, tn6, tn7, tn8, tn9]; omega))) only [b146_0, b146_7, b146_10, b402_0, b402_7, hf, vWC_n, vWC_s, vWC_x, if01a, if01b, if_pos, if_neg, tn0, tn1, tn2, tn3, tn4, tn5, tn6, tn7, tn8, tn9, w32_id, w64_id, Nat.reduceAdd, reduceIte, Int.reduceLT, Int.reduceLE, Int.reduceEq, Int.reduceNe, Int.reduceAdd, Int.reduceSub, Int.reduceMul, Int.reduceNeg, Int.reduceToNat, ne_eq, not_true_eq_false, not_false_eq_true, true_and, and_true, false_and, and_false, true_or, or_true, false_or, or_false, if_true, if_false, and_self, or_self, ite_self]
    exact key _ _
  · have e1 : I' 2238 0 = -1 := by omega
    have e2 : I' 2237 0 = -1 := by omega
    simp (disch := (first | assumption | omega | (simp only [up_app, Nat.reduceEqDiff, false_and, and_false, true_and, and_true, if_true, if_false, Nat.add_left_cancel_iff, Nat.add_right_cancel_iff, Nat.add_eq_left, Nat.left_eq_add, e1, e2, tn0, tn1, tn2, tn3, tn4, tn5, tn6, tn7, tn8, tn9]; omega))) only [b146_0, b146_7, b146_10, b402_0, b402_7, b402_15, b402_17, b402_21, b402_33, hf, e1, e2, vWC_n, vWC_s, vWC_x, if01a, if01b, if_pos, if_neg, tn0, tn1, tn2, tn3, tn4, tn5, tn6, tn7, tn8, tn9, w32_id, w64_id, Nat.reduceAdd, reduceIte, Int.reduceLT, Int.reduceLE, Int.reduceEq, Int.reduceNe, Int.reduceAdd, Int.reduceSub, Int.reduceMul, Int.reduceNeg, Int.reduceToNat, ne_eq, not_true_eq_false, not_false_eq_true, true_and, and_true, false_and, and_false, true_or, or_true, false_or, or_false, if_true, if_false, and_self, or_self, ite_self]
    exact key _ _
section
variable {d d' : Nat} {Y Y' : vY} {Q : vE → Prop}
/-- arguments go to the new thread's pile -/
theorem c_args {Ib : vJ} {t m th p T0 : Nat} (hL : vL Y) (h8 : t < 8) (ht8 : th < 8) (tt : t ≠ th) (hT : Ib 1994 t = T0) (hTh : Ib 1994 th = ((8 + 5760 * th : Nat) : Int)) (p4 : p ≤ 4) (Tb : T0 + p ≤ 46087) (dis : T0 + p ≤ 8 + 5760 * th ∨ 8 + 5760 * th + 4 ≤ T0) (kd : ∀ j, j < p → 0 ≤ Ib 1992 (T0 + j) ∧ Ib 1992 (T0 + j) ≤ 2)
    (hQ : ∀ J : vJ, fr [1992, 1993, 1994] [] Ib J → (∀ q, J 1992 q = if 8 + 5760 * th ≤ q ∧ q < 8 + 5760 * th + p then Ib 1992 (T0 + (q - (8 + 5760 * th))) else Ib 1992 q) → (∀ q, J 1993 q = if 8 + 5760 * th ≤ q ∧ q < 8 + 5760 * th + p then Ib 1993 (T0 + (q - (8 + 5760 * th))) else Ib 1993 q) → (∀ u, J 1994 u = if u = th then ((8 + 5760 * th + p : Nat) : Int) else Ib 1994 u) → vW (d + 2) 179 (98, [vr 1990, vi t, vi m, vi th, vi p, vi p], [], (J, Y)) Q) :
    ∀ (r k : Nat) (J : vJ), k + r = p → fr [1992, 1993, 1994] [] Ib J → (∀ q, J 1992 q = if 8 + 5760 * th ≤ q ∧ q < 8 + 5760 * th + k then Ib 1992 (T0 + (q - (8 + 5760 * th))) else Ib 1992 q) → (∀ q, J 1993 q = if 8 + 5760 * th ≤ q ∧ q < 8 + 5760 * th + k then Ib 1993 (T0 + (q - (8 + 5760 * th))) else Ib 1993 q) → (∀ u, J 1994 u = if u = th then ((8 + 5760 * th + k : Nat) : Int) else Ib 1994 u) → vW (d + 2) 179 (52, [vr 1990, vi t, vi m, vi th, vi p, vi k], [], (J, Y)) Q := by
  intro r
  induction r with
  | zero =>
    intro k J hk f1 f2 f3 f4
    have : k = p := by omega
    subst this
    rw [b179_52, if_pos (Int.le_refl _)]
    exact hQ J f1 f2 f3 f4
  | succ r ih =>
    intro k J hk f1 f2 f3 f4
    have eT : J 1994 t = T0 := by rw [f4, if_neg tt]; exact hT
    have e1 : ((T0 : Int) + (k : Int)).toNat = T0 + k := by omega
    have v1 : J 1992 (T0 + k) = Ib 1992 (T0 + k) := by rw [f2, if_neg (by omega)]
    have v2 : J 1993 (T0 + k) = Ib 1993 (T0 + k) := by rw [f3, if_neg (by omega)]
    have kd1 := kd k (by omega)
    rw [b179_52, if_neg (by rw [w32_id (by omega) (by omega), w32_id (by omega) (by omega)]; omega), b179_59 hL (by omega) (by omega) (by rw [tn0, eT]; omega) (by rw [tn0, eT]; omega), tn0, eT, e1, v1, v2, c_push (T := 8 + 5760 * th + k) hL ht8 (by rw [f4, if_pos rfl]) (by omega) kd1]
    simp only [vWC_n, Nat.reduceAdd]
    rw [b179_92, show (k : Int) + 1 = ((k + 1 : Nat) : Int) by omega]
    refine ih (k + 1) _ (by omega) (fr_upL (fr_upL (fr_upL f1 rfl _ _) rfl _ _) rfl _ _) (fun q => ?_) (fun q => ?_) (fun u => ?_)
    · rw [up_cell _ (by decide), up_cell _ (by decide), up_at, f2]
      by_cases z : q = 8 + 5760 * th + k
      · rw [if_pos z, if_pos (by omega), z, show 8 + 5760 * th + k - (8 + 5760 * th) = k by omega]
      · rw [if_neg z]
        by_cases y : 8 + 5760 * th ≤ q ∧ q < 8 + 5760 * th + k
        · rw [if_pos y, if_pos (by omega)]
        · rw [if_neg y, if_neg (by omega)]
    · rw [up_cell _ (by decide), up_at, up_cell _ (by decide), f3]
      by_cases z : q = 8 + 5760 * th + k
      · rw [if_pos z, if_pos (by omega), z, show 8 + 5760 * th + k - (8 + 5760 * th) = k by omega]
      · rw [if_neg z]
        by_cases y : 8 + 5760 * th ≤ q ∧ q < 8 + 5760 * th + k
        · rw [if_pos y, if_pos (by omega)]
        · rw [if_neg y, if_neg (by omega)]
    · rw [up_at, up_cell _ (by decide), up_cell _ (by decide), f4]
      by_cases z : u = th
      · rw [if_pos z, if_pos z]; omega
      · rw [if_neg z, if_neg z, if_neg z]
/-- a thread that nobody waits for ends -/
theorem c_noend {I : vJ} {th : Nat} {by' : Int} (hL : vL Y) (h8 : th < 8) (hth : I 1990 3390 = (th : Int) + 1) (hno : ∀ u, u < th + 1 → (0 ≤ I 1996 u ∧ I 1996 u ≤ 4) ∧ (-2147483648 ≤ I 1997 u ∧ I 1997 u ≤ 2147483647) ∧ (I 1996 u = 2 → I 1997 u ≠ th)) (hQ : Q (.inl none, (I, Y))) : ∀ (r k : Nat), k + r = th + 1 → vW (d + 1) 171 (25, [vr 1990, vi th, vi by', vi k], [], (I, Y)) Q := by
  intro r
  induction r with
  | zero =>
    intro k hk
    rw [b171_25 hL, hth, if_pos (by rw [w32_id (by omega) (by omega), w32_id (by omega) (by omega)]; omega), b171_64]
    exact hQ
  | succ r ih =>
    intro k hk
    have a := hno k (by omega)
    rw [b171_25 hL, hth, if_neg (by rw [w32_id (by omega) (by omega), w32_id (by omega) (by omega)]; omega), m171_33 hL (by omega) (by omega), tn0, w32_id (x := I 1996 k) (by omega) (by omega), w32_id (x := 2) (by decide) (by decide), w32_id (x := I 1997 k) (by omega) (by omega), w32_id (x := (th : Int)) (by omega) (by omega), if_pos (by
      by_cases z : I 1996 k = 2
      · exact Or.inr (a.2.2 z)
      · exact Or.inl z), b171_58, show (k : Int) + 1 = ((k + 1 : Nat) : Int) by omega]
    exact ih (k + 1) (by omega)
end
