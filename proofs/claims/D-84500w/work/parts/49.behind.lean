/-! ===== what steps are behind ===== -/
/-- the last of the first E edges that leads to s, and 1; or 0 -/
def hd (eo : Nat → Int) (s : Int) : Nat → Int
  | 0 => 0
  | e + 1 => if eo e = s then (e : Int) + 1 else hd eo s e
theorem hd_congr {eo eo' : Nat → Int} {s : Int} : ∀ {E : Nat}, (∀ e, e < E → eo' e = eo e) → hd eo' s E = hd eo s E := by
  intro E
  induction E with
  | zero => intro _; rfl
  | succ E ih =>
    intro h
    unfold hd
    rw [h E (by omega), ih (fun e he => h e (by omega))]
def sR (I I' : vJ) (N E : Nat) : Prop := (I 1990 3388 = N ∧ I' 2075 7729 = N ∧ N ≤ 20000) ∧ (I 1990 3384 = E ∧ I' 2075 7798 = E ∧ E ≤ 50000) ∧ (∀ e, e < E → I 2042 (e + 1) = I' 2236 e ∧ 1 ≤ I' 2236 e ∧ I' 2236 e < I' 2235 e ∧ I' 2235 e ≤ N ∧ I 2043 (e + 1) = if 0 < e ∧ I' 2235 (e - 1) = I' 2235 e then (e : Int) else 0) ∧ (∀ e, e + 1 < E → I' 2235 e ≤ I' 2235 (e + 1)) ∧ ∀ s : Nat, 1 ≤ s → s ≤ N → I 2041 s = hd (I' 2235) s E ∧ (I 2044 s = I' 2233 s ∧ 0 ≤ I 2044 s ∧ I 2044 s < s) ∧ (I 2045 s = I' 2231 s ∧ 0 ≤ I 2045 s ∧ I 2045 s ≤ 16) ∧ I 2046 s = I' 2232 s
theorem hd_now {eo : Nat → Int} {s : Int} {E : Nat} (hm : ∀ e, e + 1 < E → eo e ≤ eo (e + 1)) (hs : ∀ e, e < E → eo e ≤ s) : hd eo s E = if 0 < E ∧ eo (E - 1) = s then (E : Int) else 0 := by
  induction E with
  | zero => rfl
  | succ E ih =>
    unfold hd
    by_cases q : eo E = s
    · rw [if_pos q, if_pos ⟨by omega, q⟩]; rfl
    · rw [if_neg q, if_neg (fun z => q z.2), ih (fun e he => hm e (by omega)) (fun e he => hs e (by omega))]
      apply if_neg
      rintro ⟨z1, z2⟩
      have a := hm (E - 1) (by omega)
      rw [show E - 1 + 1 = E by omega] at a
      have b := hs E (by omega)
      omega
section
variable {d d' : Nat} {I I' : vJ} {Y Y' : vY} {Q : vE → vE → Prop}
theorem s_behind {N E : Nat} {s : Int} (hL : vL Y) (hL' : vL Y') (hS : sR I I' N E) (hN : 1 ≤ N) (hs : 0 ≤ s ∧ s ≤ N) (hE : E < 50000)
    (hQ : ∀ (J J' : vJ) (E' : Nat), sR J J' N E' → E' ≤ E + 1 → fr [2041, 2042, 2043] [(1990, 3384)] I J → fr [2235, 2236] [(2075, 7798)] I' J' → Q (.inl none, (J, Y)) (.inl none, (J', Y'))) :
    vW (d + 1) 176 (0, [vr 1990, vi s], [], (I, Y)) (fun r => vW (d' + 1) 414 (0, [vr 2075, vi s], [], (I', Y')) (fun r' => Q r r')) := by
  have hS0 := hS
  obtain ⟨⟨n1, n2, n3⟩, ⟨m1, m2, m3⟩, e1, e2, e3⟩ := hS
  by_cases c : s = N ∨ s = 0
  · simp (disch := (first | assumption | omega | (simp only [up_app, Nat.reduceEqDiff, false_and, and_false, true_and, and_true, if_true, if_false, Nat.add_left_cancel_iff, Nat.add_right_cancel_iff, Nat.add_eq_left, Nat.left_eq_add, tn0, tn1, tn2, tn3, tn4, tn5, tn6, tn7, tn8, tn9]; omega))) only [m176_0, b176_8, b176_12, b176_13, n1, vWC_n, vWC_s, vWC_x, if01a, if01b, if_pos, if_neg, tn0, tn1, tn2, tn3, tn4, tn5, tn6, tn7, tn8, tn9, w32_id, w64_id, Nat.reduceAdd, reduceIte, Int.reduceLT, Int.reduceLE, Int.reduceEq, Int.reduceNe, Int.reduceAdd, Int.reduceSub, Int.reduceMul, Int.reduceNeg, Int.reduceToNat, ne_eq, not_true_eq_false, not_false_eq_true, true_and, and_true, false_and, and_false, true_or, or_true, false_or, or_false, if_true, if_false, and_self, or_self, ite_self]
    simp (disch := (first | assumption | omega | (simp only [up_app, Nat.reduceEqDiff, false_and, and_false, true_and, and_true, if_true, if_false, Nat.add_left_cancel_iff, Nat.add_right_cancel_iff, Nat.add_eq_left, Nat.left_eq_add, tn0, tn1, tn2, tn3, tn4, tn5, tn6, tn7, tn8, tn9]; omega))) only [b414_0, b414_11, b414_14, b414_15, m290_0, m290_5, b290_10, b290_14, b290_15, n2, vWC_n, vWC_s, vWC_x, if01a, if01b, if_pos, if_neg, tn0, tn1, tn2, tn3, tn4, tn5, tn6, tn7, tn8, tn9, w32_id, w64_id, Nat.reduceAdd, reduceIte, Int.reduceLT, Int.reduceLE, Int.reduceEq, Int.reduceNe, Int.reduceAdd, Int.reduceSub, Int.reduceMul, Int.reduceNeg, Int.reduceToNat, ne_eq, not_true_eq_false, not_false_eq_true, true_and, and_true, false_and, and_false, true_or, or_true, false_or, or_false, if_true, if_false, and_self, or_self, ite_self]
    exact hQ I I' E hS0 (by omega) (fr_refl _ _ _) (fr_refl _ _ _)
  · simp (disch := (first | assumption | omega | (simp only [up_app, Nat.reduceEqDiff, false_and, and_false, true_and, and_true, if_true, if_false, Nat.add_left_cancel_iff, Nat.add_right_cancel_iff, Nat.add_eq_left, Nat.left_eq_add, tn0, tn1, tn2, tn3, tn4, tn5, tn6, tn7, tn8, tn9]; omega))) only [m176_0, b176_8, b176_12, b176_13, n1, m1, up_app, Nat.reduceEqDiff, false_and, and_false, true_and, and_true, if_true, if_false, Nat.add_left_cancel_iff, Nat.add_right_cancel_iff, Nat.add_eq_left, Nat.left_eq_add, vWC_n, vWC_s, vWC_x, if01a, if01b, if_pos, if_neg, tn0, tn1, tn2, tn3, tn4, tn5, tn6, tn7, tn8, tn9, w32_id, w64_id, Nat.reduceAdd, reduceIte, Int.reduceLT, Int.reduceLE, Int.reduceEq, Int.reduceNe, Int.reduceAdd, Int.reduceSub, Int.reduceMul, Int.reduceNeg, Int.reduceToNat, ne_eq, not_true_eq_false, not_false_eq_true, true_and, and_true, false_and, and_false, true_or, or_true, false_or, or_false, if_true, if_false, and_self, or_self, ite_self]
    simp (disch := (first | assumption | omega | (simp only [up_app, Nat.reduceEqDiff, false_and, and_false, true_and, and_true, if_true, if_false, Nat.add_left_cancel_iff, Nat.add_right_cancel_iff, Nat.add_eq_left, Nat.left_eq_add, tn0, tn1, tn2, tn3, tn4, tn5, tn6, tn7, tn8, tn9]; omega))) only [b414_0, b414_11, b414_14, b414_15, m290_0, m290_5, b290_10, b290_14, b290_15, n2, m2, up_app, Nat.reduceEqDiff, false_and, and_false, true_and, and_true, if_true, if_false, Nat.add_left_cancel_iff, Nat.add_right_cancel_iff, Nat.add_eq_left, Nat.left_eq_add, vWC_n, vWC_s, vWC_x, if01a, if01b, if_pos, if_neg, tn0, tn1, tn2, tn3, tn4, tn5, tn6, tn7, tn8, tn9, w32_id, w64_id, Nat.reduceAdd, reduceIte, Int.reduceLT, Int.reduceLE, Int.reduceEq, Int.reduceNe, Int.reduceAdd, Int.reduceSub, Int.reduceMul, Int.reduceNeg, Int.reduceToNat, ne_eq, not_true_eq_false, not_false_eq_true, true_and, and_true, false_and, and_false, true_or, or_true, false_or, or_false, if_true, if_false, and_self, or_self, ite_self]
    have hh := hd_now (eo := I' 2235) (s := N) e2 (fun e he => (e1 e he).2.2.2.1)
    have hN0 := (e3 N hN (Nat.le_refl _)).1
    refine hQ _ _ (E + 1) ⟨⟨?_, ?_, n3⟩, ⟨?_, ?_, by omega⟩, fun e he => ?_, fun e he => ?_, fun s' h1 h2 => ?_⟩ (Nat.le_refl _) (fr_upL (fr_upL (fr_upL (fr_upP (fr_refl _ _ _) rfl _) rfl _ _) rfl _ _) rfl _ _) (fr_upP (fr_upL (fr_upL (fr_refl _ _ _) rfl _ _) rfl _ _) rfl _)
    · simp only [up_app, Nat.reduceEqDiff, false_and, and_false, true_and, and_true, if_true, if_false, Nat.add_left_cancel_iff, Nat.add_right_cancel_iff, Nat.add_eq_left, Nat.left_eq_add]; exact n1
    · simp only [up_app, Nat.reduceEqDiff, false_and, and_false, true_and, and_true, if_true, if_false, Nat.add_left_cancel_iff, Nat.add_right_cancel_iff, Nat.add_eq_left, Nat.left_eq_add]; exact n2
    · simp only [up_app, Nat.reduceEqDiff, false_and, and_false, true_and, and_true, if_true, if_false, Nat.add_left_cancel_iff, Nat.add_right_cancel_iff, Nat.add_eq_left, Nat.left_eq_add]; omega
    · simp only [up_app, Nat.reduceEqDiff, false_and, and_false, true_and, and_true, if_true, if_false, Nat.add_left_cancel_iff, Nat.add_right_cancel_iff, Nat.add_eq_left, Nat.left_eq_add]; omega
    · simp only [up_app, Nat.reduceEqDiff, false_and, and_false, true_and, and_true, if_true, if_false, Nat.add_left_cancel_iff, Nat.add_right_cancel_iff, Nat.add_eq_left, Nat.left_eq_add]
      by_cases z : e = E
      · subst z
        have z1 : ¬ e - 1 = e ∨ e = 0 := by omega
        simp only [if_true]
        refine ⟨trivial, by omega, by omega, Int.le_refl _, ?_⟩
        rw [hN0, hh]
        by_cases z2 : 0 < e
        · rw [if_neg (show ¬ e - 1 = e by omega)]
        · have : e = 0 := by omega
          subst this
          simp only [Nat.lt_irrefl, false_and, if_false]
      · have a := e1 e (by omega)
        have z1 : ¬ e - 1 = E := by omega
        simp only [z, z1, if_false]
        exact a
    · simp only [up_app, Nat.reduceEqDiff, false_and, and_false, true_and, and_true, if_true, if_false, Nat.add_left_cancel_iff, Nat.add_right_cancel_iff, Nat.add_eq_left, Nat.left_eq_add]
      by_cases z : e + 1 = E
      · have a := e1 e (by omega)
        have z1 : ¬ e = E := by omega
        simp only [z, z1, if_true, if_false]; exact a.2.2.2.1
      · have z1 : ¬ e = E := by omega
        simp only [z, z1, if_false]; exact e2 e (by omega)
    · have a := e3 s' h1 h2
      have q : hd (up (up (up I' 2235 E N) 2236 E s) 2075 7798 ((E : Int) + 1) 2235) s' (E + 1) = if (N : Int) = s' then (E : Int) + 1 else hd (I' 2235) s' E := by
        have u : ∀ f : Nat → Int, hd f s' (E + 1) = if f E = (s' : Int) then (E : Int) + 1 else hd f s' E := fun _ => rfl
        rw [u, hd_congr (eo := I' 2235) (fun e he => by
          have : ¬ e = E := by omega
          simp only [up_app, Nat.reduceEqDiff, false_and, and_false, true_and, and_true, if_true, if_false, Nat.add_left_cancel_iff, Nat.add_right_cancel_iff, Nat.add_eq_left, Nat.left_eq_add, this])]
        simp only [up_app, Nat.reduceEqDiff, false_and, and_false, true_and, and_true, if_true, if_false, Nat.add_left_cancel_iff, Nat.add_right_cancel_iff, Nat.add_eq_left, Nat.left_eq_add]
      rw [q]
      simp only [up_app, Nat.reduceEqDiff, false_and, and_false, true_and, and_true, if_true, if_false, Nat.add_left_cancel_iff, Nat.add_right_cancel_iff, Nat.add_eq_left, Nat.left_eq_add]
      by_cases z : s' = N
      · subst z
        simp only [if_true]; exact ⟨trivial, a.2⟩
      · have z1 : ¬ ((N : Int) = s') := by omega
        simp only [z, z1, if_false]; exact a
end
