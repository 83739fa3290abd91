/-! ===== nodes CALL and CATCH: the value is left, the way goes on ===== -/
set_option maxRecDepth 20000
set_option maxHeartbeats 4000000
section
variable {d d' : Nat} {Y Y' : vY} {X mm Nn Lp : Nat} {nm pr ht : Nat → Nat} {I I' : vJ} {th t A i W N : Nat} {Q : vE → vE → Prop}
theorem e_pop {nd w : Nat} {x6 x7 x8 y3 y4 y5 y6 : vV} (hL : vL Y) (hL' : vL Y') (h : IS Y Y' X mm Nn Lp nm pr ht I I' th t A i W N) (hi : ¬ (i : Int) < I' (X + 12) (I 2007 (40 * t + (A - 1))).toNat) (hnd : I 2007 (40 * t + (A - 1)) = nd) (hw : I 48 nd = w) (hk : I 38 nd = 5 ∨ I 38 nd = 11)
    (hOn : ∀ J, IFs Y Y' X mm Nn Lp nm pr ht J I' th t A W N → J 2007 (40 * t + (A - 1)) = nd → J 38 = I 38 → J 48 = I 48 → J 1994 t = J 2009 (40 * t + (A - 1)) + nm (J 2006 (40 * t + (A - 1))).toNat → onw (d' + 9) (d' + 11) Y Y' t (40 * t + (A - 1)) nd w y5 y6 0 J I' Q) :
    vW (d + 9) 177 (33, [vr 1990, vi t, vi ((40 * t + (A - 1) : Nat) : Int), vi nd, vi (2 * (i : Int)), vr 37, x6, x7, x8], [], (I, Y)) (fun r => vW (d' + 11) 422 (2, [vr 2075, vi t, vi 1, y3, y4, y5, y6], [], (I', Y')) (fun r' => Q r r')) := by
  obtain ⟨nd', B, T, w', ⟨a1, a2, a3, a4⟩, ⟨b1, b2, b3, b3'⟩, ⟨b4, b5, b6⟩, ⟨c1, c2, c3⟩, ⟨c4, c5⟩, c6, ⟨c7, c8, c9, c10, c11, c12⟩, ⟨v1, v2⟩, ⟨p1, p2, p3⟩⟩ := IS_end h hi
  have e0 : nd' = nd := by omega
  subst e0
  have e1 : w' = w := by omega
  subst e1
  obtain ⟨hX, hX2, hV⟩ := h.1.1
  have hm : ∀ K : vE → Prop, vW (d' + 11) 422 (2, [vr 2075, vi t, vi 1, y3, y4, y5, y6], [], (I', Y')) K ↔ vW (d' + 10) 443 (0, [vr 2075, vi t, vi ((40 * t + (A - 1) : Nat) : Int), vi nd', vu, vu, vu], [], (I', Y')) (vWC (d' + 11) 422 114 3 [vr 2075, vi t, vi 1, vi ((40 * t + (A - 1) : Nat) : Int), vi nd', y5, y6] [] K) := fun K => t_end (X := X) hL' hX hV a1 rfl a4 p1 b2 b3 b5 b6 p2
  have hI : IFs Y Y' X mm Nn Lp nm pr ht I I' th t A W N := IS_fail h (fr_refl _ _ _) (fun b _ => ⟨rfl, rfl⟩)
  rw [c_end hL b3 b4 b6, b187_0 hL (by omega) (by omega) (by omega) (by omega)]
  simp only [hm, tn0]
  have m443 : ∀ K : vE → Prop, vW (d' + 10) 443 (0, [vr 2075, vi t, vi ((40 * t + (A - 1) : Nat) : Int), vi nd', vu, vu, vu], [], (I', Y')) K ↔ vW (d' + 10) 443 (if I 38 nd' = 5 then 135 else 253, [vr 2075, vi t, vi ((40 * t + (A - 1) : Nat) : Int), vi nd', vi w', vu, vu], [], (I', Y')) K := by
    intro K
    rw [b443_0 hL' hV (by omega) (by omega), hX, tn0, c1, c5]
    rcases hk with z | z
    · rw [z, show w32 5 = 5 from w32_id (by decide) (by decide)]
      simp only [Int.reduceEq, if_true, if_false]
    · rw [z, show w32 11 = 11 from w32_id (by decide) (by decide)]
      simp only [Int.reduceEq, if_true, if_false]
  simp only [m443]
  rcases hk with z | z
  · have hv : wkV (I 38 nd') = 1 := by rw [z]; decide
    have E : I 1994 t - 1 = ((B + nm (I 2006 (40 * t + (A - 1))).toNat : Nat) : Int) := by omega
    have o := hOn (up I 1994 t (I 1994 t - 1)) (IFs_top hI _) (by rw [up_cell _ (by decide)]; exact b1) (up_row _ (by decide) _ _) (up_row _ (by decide) _ _) (by rw [up_same, up_cell _ (by decide), up_cell _ (by decide), c7, E]; omega)
    rw [z, show w32 5 = 5 from w32_id (by decide) (by decide)]
    simp only [Int.reduceEq, if_true, if_false]
    rw [b187_110 hL (by omega) (by omega), tn0]
    simp only [vWC_s, Nat.reduceAdd, b177_370]
    rw [b443_135 hL']
    refine vWmo (Nat.le_refl _) (fun q hq => ?_) o
    obtain ⟨s, ⟨M1, M2⟩, q1, q2, q3⟩ := hq
    rw [q1]
    simp only [vWC_s, Nat.reduceAdd]
    rw [b443_142 q2]
    simp only [vWC_s, Nat.reduceAdd]
    rw [b422_117, b422_118]
    exact q3
  · have hv : wkV (I 38 nd') = 0 := by rw [z]; decide
    have o := hOn I hI b1 rfl rfl (by rw [c7, c8, c9, c6, hv]; omega)
    rw [z, show w32 11 = 11 from w32_id (by decide) (by decide)]
    simp only [Int.reduceEq, if_true, if_false]
    rw [b187_438]
    simp only [vWC_s, Nat.reduceAdd, b177_370]
    rw [b443_253 hL']
    refine vWmo (Nat.le_refl _) (fun q hq => ?_) o
    obtain ⟨s, ⟨M1, M2⟩, q1, q2, q3⟩ := hq
    rw [q1]
    simp only [vWC_s, Nat.reduceAdd]
    rw [b443_260 q2]
    simp only [vWC_s, Nat.reduceAdd]
    rw [b422_117, b422_118]
    exact q3
end
