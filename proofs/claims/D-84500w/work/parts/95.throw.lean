/-! ===== node THROW ===== -/
set_option maxRecDepth 20000
set_option maxHeartbeats 4000000
/-- the model throws a value, and what comes behind it -/
def fth (D D' : Nat) (Y Y' : vY) (t a nd : Nat) (y5 y6 : vV) (kd v e : Int) (J J' : vJ) (Q : vE → vE → Prop) : Prop := vW D 437 (0, [vr 2075, vi t, vi 0, vl e, vu, vu, vu, vu, vu], [], (J', Y')) (fun q => ∃ (s : Int) (M : vJ × vY), q = (.inl (some (vi s)), M) ∧ (s = 0 ∨ s = 1) ∧ vW D' 422 (2, [vr 2075, vi t, vi s, vi a, vi nd, y5, y6], [], M) (fun r' => Q (.inl (some (vi 3)), (up (up (flC J 0) 1990 3401 kd) 1990 3402 v, Y)) r'))
section
variable {d d' : Nat} {Y Y' : vY} {X mm Nn Lp : Nat} {nm pr ht : Nat → Nat} {I I' : vJ} {th t A i W N : Nat} {Q : vE → vE → Prop}
theorem e_throw {nd : Nat} {x6 x7 x8 y3 y4 y5 y6 : vV} (hL : vL Y) (hL' : vL Y') (h : IS Y Y' X mm Nn Lp nm pr ht I I' th t A i W N) (hi : ¬ (i : Int) < I' (X + 12) (I 2007 (40 * t + (A - 1))).toNat) (hnd : I 2007 (40 * t + (A - 1)) = nd) (hk : I 38 nd = 10)
    (hTh : ∀ (J' : vJ) (kd v e : Int), vv (I 1990 3376) kd v e → IFs Y Y' X mm Nn Lp nm pr ht I J' th t A W N → fth (d' + 9) (d' + 11) Y Y' t (40 * t + (A - 1)) nd y5 y6 kd v e I J' Q) :
    vW (d + 9) 177 (33, [vr 1990, vi t, vi ((40 * t + (A - 1) : Nat) : Int), vi nd, vi (2 * (i : Int)), vr 37, x6, x7, x8], [], (I, Y)) (fun r => vW (d' + 11) 422 (2, [vr 2075, vi t, vi 1, y3, y4, y5, y6], [], (I', Y')) (fun r' => Q r r')) := by
  obtain ⟨nd', B, T, w', ⟨a1, a2, a3, a4⟩, ⟨b1, b2, b3, b3'⟩, ⟨b4, b5, b6⟩, ⟨c1, c2, c3⟩, ⟨c4, c5⟩, c6, ⟨c7, c8, c9, c10, c11, c12⟩, ⟨v1, v2⟩, ⟨p1, p2, p3⟩⟩ := IS_end h hi
  have e0 : nd' = nd := by omega
  subst e0
  obtain ⟨hX, hX2, hV⟩ := h.1.1
  have hv1 : wkV (I 38 nd') = 1 := by rw [hk]; decide
  rw [c6, hv1] at p3 c9
  have vt := v2 0 (by rw [c6, hv1]; decide)
  rw [Nat.add_zero, Nat.add_zero] at vt
  have hm : ∀ K : vE → Prop, vW (d' + 11) 422 (2, [vr 2075, vi t, vi 1, y3, y4, y5, y6], [], (I', Y')) K ↔ vW (d' + 10) 443 (0, [vr 2075, vi t, vi ((40 * t + (A - 1) : Nat) : Int), vi nd', vu, vu, vu], [], (I', Y')) (vWC (d' + 11) 422 114 3 [vr 2075, vi t, vi 1, vi ((40 * t + (A - 1) : Nat) : Int), vi nd', y5, y6] [] K) := fun K => t_end (X := X) hL' hX hV a1 rfl a4 p1 b2 b3 b5 b6 p2
  have F2 : fr [2199, 2200] [] I' (up I' 2200 (40 * t + (A - 1)) ((0 : Nat) : Int)) := fr_upL (fr_refl _ _ _) rfl _ _
  have hI : IFs Y Y' X mm Nn Lp nm pr ht I (up I' 2200 (40 * t + (A - 1)) ((0 : Nat) : Int)) th t A W N := IS_fail h F2 (fun b hb => ⟨up_cell _ (by decide) _ _ _, up_place _ _ hb _⟩)
  have E : I 1994 t - 1 = ((B + nm (I 2006 (40 * t + (A - 1))).toNat : Nat) : Int) := by omega
  have m443 : ∀ K : vE → Prop, vW (d' + 10) 443 (0, [vr 2075, vi t, vi ((40 * t + (A - 1) : Nat) : Int), vi nd', vu, vu, vu], [], (I', Y')) K ↔ vW (d' + 9) 437 (0, [vr 2075, vi t, vi 0, vl (I' 2206 (160 * (40 * t + (A - 1)))), vu, vu, vu, vu, vu], [], (up I' 2200 (40 * t + (A - 1)) ((0 : Nat) : Int), Y')) (vWC (d' + 10) 443 249 3 [vr 2075, vi t, vi ((40 * t + (A - 1) : Nat) : Int), vi nd', vi w', vu, vu] [] K) := by
    intro K
    rw [b443_0 hL' hV (by omega) (by omega), hX, tn0, c1, c5, hk, show w32 10 = 10 from w32_id (by decide) (by decide)]
    simp only [Int.reduceEq, if_true, if_false]
    rw [b443_241 hL', t_pop (S := 0) hL' a4 (by rw [p3]; rfl) (by decide)]
    simp only [vWC_s, Nat.reduceAdd, Nat.add_zero]
    rw [b443_249 hL']
  rw [c_end hL b3 b4 b6, b187_0 hL (by omega) (by omega) (by omega) (by omega)]
  simp only [hm, m443, tn0]
  rw [hk, show w32 10 = 10 from w32_id (by decide) (by decide)]
  simp only [Int.reduceEq, if_true, if_false]
  have z1 : flC I 0 1992 = I 1992 := by unfold flC; rw [up_row _ (by decide), up_row _ (by decide), up_row _ (by decide), up_row _ (by decide)]
  have z2 : flC I 0 1993 = I 1993 := by unfold flC; rw [up_row _ (by decide), up_row _ (by decide), up_row _ (by decide), up_row _ (by decide)]
  rw [E, b187_186 hL, c_fails hL (by decide) (by decide)]
  simp only [vWC_s, Nat.reduceAdd]
  rw [b187_191 hL (by omega) (by omega), tn0, z1, z2]
  simp only [vWC_s, Nat.reduceAdd, b177_370]
  refine vWmo (Nat.le_refl _) (fun q hq => ?_) (hTh _ _ _ _ vt hI)
  obtain ⟨s, ⟨M1, M2⟩, q1, q2, q3⟩ := hq
  rw [q1]
  simp only [vWC_s, Nat.reduceAdd]
  rw [b443_252 q2]
  simp only [vWC_s, Nat.reduceAdd]
  rw [b422_117, b422_118]
  exact q3
end
