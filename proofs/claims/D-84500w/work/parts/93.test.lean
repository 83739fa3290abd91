/-! ===== node TEST: one of two ways ===== -/
set_option maxRecDepth 20000
set_option maxHeartbeats 4000000
section
variable {d d' : Nat} {Y Y' : vY} {X mm Nn Lp : Nat} {nm pr ht : Nat → Nat} {I I' : vJ} {th t A i W N : Nat} {Q : vE → vE → Prop}
theorem e_test {nd w : Nat} {x6 x7 x8 y3 y4 y5 y6 : vV} (hL : vL Y) (hL' : vL Y') (h : IS Y Y' X mm Nn Lp nm pr ht I I' th t A i W N) (hi : ¬ (i : Int) < I' (X + 12) (I 2007 (40 * t + (A - 1))).toNat) (hnd : I 2007 (40 * t + (A - 1)) = nd) (hw : I 48 nd = w) (hk : I 38 nd = 6)
    (hOn : ∀ (J J' : vJ) (j : Nat), j < 2 → IFs Y Y' X mm Nn Lp nm pr ht J J' th t A W N → J 2007 (40 * t + (A - 1)) = nd → J 38 = I 38 → J 48 = I 48 → J 1994 t = J 2009 (40 * t + (A - 1)) + nm (J 2006 (40 * t + (A - 1))).toNat → onw (d' + 9) (d' + 11) Y Y' t (40 * t + (A - 1)) nd (w + j) y5 y6 ((j : Int) + 1) J J' Q) :
    vW (d + 9) 177 (33, [vr 1990, vi t, vi ((40 * t + (A - 1) : Nat) : Int), vi nd, vi (2 * (i : Int)), vr 37, x6, x7, x8], [], (I, Y)) (fun r => vW (d' + 11) 422 (2, [vr 2075, vi t, vi 1, y3, y4, y5, y6], [], (I', Y')) (fun r' => Q r r')) := by
  obtain ⟨nd', B, T, w', ⟨a1, a2, a3, a4⟩, ⟨b1, b2, b3, b3'⟩, ⟨b4, b5, b6⟩, ⟨c1, c2, c3⟩, ⟨c4, c5⟩, c6, ⟨c7, c8, c9, c10, c11, c12⟩, ⟨v1, v2⟩, ⟨p1, p2, p3⟩⟩ := IS_end h hi
  have e0 : nd' = nd := by omega
  subst e0
  have e1 : w' = w := by omega
  subst e1
  obtain ⟨hX, hX2, hV⟩ := h.1.1
  have hv1 : wkV (I 38 nd') = 1 := by rw [hk]; decide
  rw [c6, hv1] at p3 c9
  have vt := v2 0 (by rw [c6, hv1]; decide)
  rw [Nat.add_zero, Nat.add_zero] at vt
  have n300 : I 1990 3376 ≤ 300 := by
    obtain ⟨n, E, q⟩ := h.2.2.1.2.2.2.1
    have q1 := q.1.1
    have q2 := q.2.1
    clear q
    omega
  obtain ⟨i1, i2, i3⟩ := vv_inV n300 vt
  have tru := vv_true vt
  have hm : ∀ K : vE → Prop, vW (d' + 11) 422 (2, [vr 2075, vi t, vi 1, y3, y4, y5, y6], [], (I', Y')) K ↔ vW (d' + 10) 443 (0, [vr 2075, vi t, vi ((40 * t + (A - 1) : Nat) : Int), vi nd', vu, vu, vu], [], (I', Y')) (vWC (d' + 11) 422 114 3 [vr 2075, vi t, vi 1, vi ((40 * t + (A - 1) : Nat) : Int), vi nd', y5, y6] [] K) := fun K => t_end (X := X) hL' hX hV a1 rfl a4 p1 b2 b3 b5 b6 p2
  have F2 : fr [2199, 2200] [] I' (up I' 2200 (40 * t + (A - 1)) ((0 : Nat) : Int)) := fr_upL (fr_refl _ _ _) rfl _ _
  have hI : IFs Y Y' X mm Nn Lp nm pr ht I (up I' 2200 (40 * t + (A - 1)) ((0 : Nat) : Int)) th t A W N := IS_fail h F2 (fun b hb => ⟨up_cell _ (by decide) _ _ _, up_place _ _ hb _⟩)
  have E : I 1994 t - 1 = ((B + nm (I 2006 (40 * t + (A - 1))).toNat : Nat) : Int) := by omega
  have m443 : ∀ K : vE → Prop, vW (d' + 10) 443 (0, [vr 2075, vi t, vi ((40 * t + (A - 1) : Nat) : Int), vi nd', vu, vu, vu], [], (I', Y')) K ↔ vW (d' + 9) 417 (0, [vr 2075, vi ((40 * t + (A - 1) : Nat) : Int), vi (if (I 1992 (B + nm (I 2006 (40 * t + (A - 1))).toNat) = 1 ∨ I 1992 (B + nm (I 2006 (40 * t + (A - 1))).toNat) = 0 ∧ I 1993 (B + nm (I 2006 (40 * t + (A - 1))).toNat) ≠ 0) then (w' : Int) else (w' : Int) + 1)], [], (up I' 2200 (40 * t + (A - 1)) ((0 : Nat) : Int), Y')) (vWC (d' + 10) 443 165 3 [vr 2075, vi t, vi ((40 * t + (A - 1) : Nat) : Int), vi nd', vi w', vu, vu] [] K) := by
    intro K
    rw [b443_0 hL' hV (by omega) (by omega), hX, tn0, c1, c5, hk, show w32 6 = 6 from w32_id (by decide) (by decide)]
    simp only [Int.reduceEq, if_true, if_false]
    rw [b443_143 hL', t_pop (S := 0) hL' a4 (by rw [p3]; rfl) (by decide)]
    simp only [vWC_s, Nat.reduceAdd, Nat.add_zero]
    rw [b443_150, t_isTrue i1]
    simp only [vWC_s, Nat.reduceAdd]
    rw [m443_153]
    by_cases z : (I 1992 (B + nm (I 2006 (40 * t + (A - 1))).toNat) = 1 ∨ I 1992 (B + nm (I 2006 (40 * t + (A - 1))).toNat) = 0 ∧ I 1993 (B + nm (I 2006 (40 * t + (A - 1))).toNat) ≠ 0)
    · rw [if_pos (tru.mpr z), if_pos z, if_neg (by decide), b443_165 hL']
    · rw [if_neg (fun q => z (tru.mp q)), if_neg z, if_pos (by decide), b443_165 hL']
  rw [c_end hL b3 b4 b6, b187_0 hL (by omega) (by omega) (by omega) (by omega)]
  simp only [hm, m443, tn0]
  rw [hk, show w32 6 = 6 from w32_id (by decide) (by decide)]
  simp only [Int.reduceEq, if_true, if_false]
  rw [b187_122 hL (by omega) (by omega), tn0, E, c_isTrue hL (by omega) (by rw [up_cell _ (by decide)]; exact i2) (by rw [up_cell _ (by decide)]; exact i3), up_cell _ (by decide), up_cell _ (by decide)]
  simp only [vWC_s, Nat.reduceAdd]
  rw [m187_138, b187_146]
  simp only [vWC_s, Nat.reduceAdd, b177_370]
  have o := fun j hj => hOn (up I 1994 t ((B + nm (I 2006 (40 * t + (A - 1))).toNat : Nat) : Int)) (up I' 2200 (40 * t + (A - 1)) ((0 : Nat) : Int)) j hj (IFs_top hI _) (by rw [up_cell _ (by decide)]; exact b1) (up_row _ (by decide) _ _) (up_row _ (by decide) _ _) (by rw [up_same, up_cell _ (by decide), up_cell _ (by decide), c7]; omega)
  have fin : ∀ (so : Int) (ww : Nat), onw (d' + 9) (d' + 11) Y Y' t (40 * t + (A - 1)) nd' ww y5 y6 so (up I 1994 t ((B + nm (I 2006 (40 * t + (A - 1))).toNat : Nat) : Int)) (up I' 2200 (40 * t + (A - 1)) ((0 : Nat) : Int)) Q → vW (d' + 9) 417 (0, [vr 2075, vi ((40 * t + (A - 1) : Nat) : Int), vi ww], [], (up I' 2200 (40 * t + (A - 1)) ((0 : Nat) : Int), Y')) (vWC (d' + 10) 443 165 3 [vr 2075, vi t, vi ((40 * t + (A - 1) : Nat) : Int), vi nd', vi w', vu, vu] [] (vWC (d' + 11) 422 114 3 [vr 2075, vi t, vi 1, vi ((40 * t + (A - 1) : Nat) : Int), vi nd', y5, y6] [] (fun r' => Q (.inl (some (vi so)), (up I 1994 t ((B + nm (I 2006 (40 * t + (A - 1))).toNat : Nat) : Int), Y)) r'))) := by
    intro so ww o
    refine vWmo (Nat.le_refl _) (fun q hq => ?_) o
    obtain ⟨s, ⟨M1, M2⟩, q1, q2, q3⟩ := hq
    rw [q1]
    simp only [vWC_s, Nat.reduceAdd]
    rw [b443_168 q2]
    simp only [vWC_s, Nat.reduceAdd]
    rw [b422_117, b422_118]
    exact q3
  by_cases z : (I 1992 (B + nm (I 2006 (40 * t + (A - 1))).toNat) = 1 ∨ I 1992 (B + nm (I 2006 (40 * t + (A - 1))).toNat) = 0 ∧ I 1993 (B + nm (I 2006 (40 * t + (A - 1))).toNat) ≠ 0)
  · simp only [z, if_true]
    exact fin 1 w' (o 0 (by omega))
  · simp only [z, if_false]
    exact fin 2 (w' + 1) (o 1 (by omega))
end
