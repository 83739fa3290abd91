/-! ===== node TURN of a loop over numbers  ===== -/
set_option maxRecDepth 20000
set_option maxHeartbeats 4000000
section
variable {d d' : Nat} {Y Y' : vY} {X mm Nn Lp : Nat} {nm pr ht : Nat → Nat} {I I' : vJ} {th t A i W N : Nat} {Q : vE → vE → Prop}
theorem e_turn {nd w : Nat} {x6 x7 x8 y3 y4 y5 y6 : vV} (hL : vL Y) (hL' : vL Y') (h : IS Y Y' X mm Nn Lp nm pr ht I I' th t A i W N) (hi : ¬ (i : Int) < I' (X + 12) (I 2007 (40 * t + (A - 1))).toNat) (hnd : I 2007 (40 * t + (A - 1)) = nd) (hw : I 48 nd = w) (hk : I 38 nd = 8)
    (hOn : ∀ (J J' : vJ) (j : Nat), j < 2 → IFs Y Y' X mm Nn Lp nm pr ht J J' th t A W N → J 2007 (40 * t + (A - 1)) = nd → J 38 = I 38 → J 48 = I 48 → J 1994 t = J 2009 (40 * t + (A - 1)) + nm (J 2006 (40 * t + (A - 1))).toNat → onw (d' + 9) (d' + 11) Y Y' t (40 * t + (A - 1)) nd (w + j) y5 y6 ((j : Int) + 1) J J' Q) :
    vW (d + 9) 177 (33, [vr 1990, vi t, vi ((40 * t + (A - 1) : Nat) : Int), vi nd, vi (2 * (i : Int)), vr 37, x6, x7, x8], [], (I, Y)) (fun r => vW (d' + 11) 422 (2, [vr 2075, vi t, vi 1, y3, y4, y5, y6], [], (I', Y')) (fun r' => Q r r')) := by
  obtain ⟨nd', B, T, w', ⟨a1, a2, a3, a4⟩, ⟨b1, b2, b3, b3'⟩, ⟨b4, b5, b6⟩, ⟨c1, c2, c3⟩, ⟨c4, c5⟩, c6, ⟨c7, c8, c9, c10, c11, c12⟩, ⟨v1, v2⟩, ⟨p1, p2, p3⟩⟩ := IS_end h hi
  have e0 : nd' = nd := by omega
  subst e0
  have e1 : w' = w := by omega
  subst e1
  obtain ⟨hX, hX2, hV⟩ := h.1.1
  have hv1 : wkV (I 38 nd') = 0 := by rw [hk]; decide
  rw [c6, hv1] at p3 c9
  have lf := (h.1.2.2.2.2.2.2.2.2.2 nd' b3').2.1 hk
  obtain ⟨lh, lf2, lf3, lf4⟩ := lf
  obtain ⟨dp, k41, k19, k12⟩ : ∃ dp : Nat, (I 41 nd' ≠ -1 ∧ 0 ≤ I 41 nd' ∧ I 41 nd' < 260 ∧ I 56 (I 41 nd').toNat = (dp : Int) + 1) ∧ I' (X + 19) nd' = dp ∧ dp < 12 := by
    have g := h.1.2.2.1
    obtain ⟨l, l1, l2⟩ := g.2.2.2.2 nd' b3' lh
    have gl := g.2.2.1 l l1
    have lp := g.1.2
    rw [l2] at gl
    rw [tn0] at gl
    obtain ⟨_, ⟨m1, m2, m3⟩, _, m4, _⟩ := gl
    clear g
    refine ⟨(I 56 l - 1).toNat, ⟨by omega, by omega, by omega, ?_⟩, by omega, by omega⟩
    rw [m4, tn0]
    omega
  have hI : IFs Y Y' X mm Nn Lp nm pr ht I I' th t A W N := IS_fail h (fr_refl _ _ _) (fun b _ => ⟨rfl, rfl⟩)
  have nN := h.1.2.1.2
  have mem : I' (X + 37) nd' = I 2006 (40 * t + (A - 1)) := by
    have q := (h.2.2.2.2.2.2.2.2.2.1 (A - 1) (by omega)).2.1.2.2.2
    rw [b1, tn0] at q
    exact q
  rw [mem] at lf4
  obtain ⟨sl, hsl⟩ : ∃ sl : Nat, I 40 nd' = sl := ⟨(I 40 nd').toNat, by omega⟩
  obtain ⟨P, hP⟩ : ∃ P : Nat, P = 12 * (40 * t + (A - 1)) + dp := ⟨_, rfl⟩
  have pb : P < 3840 := by omega
  have fo := h.2.2.1.2.2.2.2.2.2.2.2.2.2.2.2.2.2.2.2.1 P pb
  have hm : ∀ K : vE → Prop, vW (d' + 11) 422 (2, [vr 2075, vi t, vi 1, y3, y4, y5, y6], [], (I', Y')) K ↔ vW (d' + 10) 443 (0, [vr 2075, vi t, vi ((40 * t + (A - 1) : Nat) : Int), vi nd', vu, vu, vu], [], (I', Y')) (vWC (d' + 11) 422 114 3 [vr 2075, vi t, vi 1, vi ((40 * t + (A - 1) : Nat) : Int), vi nd', y5, y6] [] K) := fun K => t_end (X := X) hL' hX hV a1 rfl a4 p1 b2 b3 b5 b6 p2
  have pm : 12 * ((40 * t + (A - 1) : Nat) : Int) + (dp : Int) = (P : Int) := by omega
  have pc : ((40 * t + (A - 1) : Nat) : Int) * 12 + ((dp : Int) + 1) - 1 = (P : Int) := by omega
  have m443 : ∀ K : vE → Prop, vW (d' + 10) 443 (0, [vr 2075, vi t, vi ((40 * t + (A - 1) : Nat) : Int), vi nd', vu, vu, vu], [], (I', Y')) K ↔ vW (d' + 9) 449 (7, [vr 2075, vi ((40 * t + (A - 1) : Nat) : Int), vi nd', vi P], [], (I', Y')) (vWC (d' + 10) 443 184 3 [vr 2075, vi t, vi ((40 * t + (A - 1) : Nat) : Int), vi nd', vi w', vu, vu] [vi ((40 * t + (A - 1) : Nat) : Int), vr 2075] K) := by
    intro K
    rw [b443_0 hL' hV (by omega) (by omega), hX, tn0, c1, c5, hk, show w32 8 = 8 from w32_id (by decide) (by decide)]
    simp only [Int.reduceEq, if_true, if_false]
    rw [b443_179 hL', b449_0 hL', b448_0 hL' hV (by omega) (by omega), hX, tn0, k19, pm]
    simp only [vWC_s, Nat.reduceAdd]
    rw [b449_6]
  rw [c_end hL b3 b4 b6, b187_0 hL (by omega) (by omega) (by omega) (by omega)]
  simp only [hm, m443, tn0]
  rw [hk, show w32 8 = 8 from w32_id (by decide) (by decide)]
  simp only [Int.reduceEq, if_true, if_false]
  rw [b187_155 hL, b191_0 hL, b106_0 hL (by omega) (by omega), tn0, w32_id (by omega) (by omega), show w32 (-1) = -1 from w32_id (by decide) (by decide), if_pos k41.1, b106_14 hL (by omega) (by omega) (by rw [tn0]; omega) (by rw [tn0]; omega), tn0, k41.2.2.2, b106_25]
  simp only [vWC_s, Nat.reduceAdd]
  rw [b191_12, pc, b191_16 hL (by omega) (by omega), tn0, w64_id (by omega) (by omega), w64_id (by omega) (by omega)]
  have back : ∀ (so : Int) (J : vJ) (J2' : vJ) (ww : Nat), onw (d' + 9) (d' + 11) Y Y' t (40 * t + (A - 1)) nd' ww y5 y6 so J J2' Q → vW (d' + 9) 417 (0, [vr 2075, vi ((40 * t + (A - 1) : Nat) : Int), vi ww], [], (J2', Y')) (vWC (d' + 10) 443 199 3 [vr 2075, vi t, vi ((40 * t + (A - 1) : Nat) : Int), vi nd', vi w', vu, vu] [] (vWC (d' + 11) 422 114 3 [vr 2075, vi t, vi 1, vi ((40 * t + (A - 1) : Nat) : Int), vi nd', y5, y6] [] (fun r' => Q (.inl (some (vi so)), (J, Y)) r'))) := by
    intro so J J2' ww o
    refine vWmo (Nat.le_refl _) (fun q hq => ?_) o
    obtain ⟨s, ⟨M1, M2⟩, q1, q2, q3⟩ := hq
    rw [q1]
    simp only [vWC_s, Nat.reduceAdd]
    rw [b443_202 q2]
    simp only [vWC_s, Nat.reduceAdd]
    rw [b422_117, b422_118]
    exact q3
  by_cases z : I 2015 P ≤ I 2016 P
  · rw [if_pos z, b191_34 hL (by omega) (by omega) (by omega) (by omega) (by omega) (by omega), tn0, tn0, tn0, c7, hsl, show (B : Int) + (sl : Int) = ((B + sl : Nat) : Int) by omega, c_set hL (by omega) (by decide)]
    simp only [vWC_n, Nat.reduceAdd]
    rw [b191_62 hL (by omega) (by omega), tn0, up_cell _ (show (2015 : Nat) ≠ 1993 by decide), up_cell _ (show (2015 : Nat) ≠ 1992 by decide)]
    simp only [vWC_s, Nat.reduceAdd, b187_161, b177_370]
    rw [b449_7 hL' (by omega) (by omega), tn0, w64_id (by omega) (by omega), w64_id (by omega) (by omega), if_pos (by omega), b449_25 hL' hV (by omega) (by omega) (by omega) (by omega), b399_0]
    simp only [vWC_s, Nat.reduceAdd, tn0]
    rw [hX, lf2, hsl, b449_45 hL', b442_0, if_pos (by rw [w32_id (by decide) (by decide), w32_id (by omega) (by omega)]; omega), b442_18 hL' (by omega) (by omega), b442_30]
    simp only [vWC_n, Nat.reduceAdd]
    rw [show (16 * ((40 * t + (A - 1) : Nat) : Int) + (sl : Int)).toNat = 16 * (40 * t + (A - 1)) + sl by omega, b449_48 hL' (by omega) (by omega), tn0, up_cell _ (show (2207 : Nat) ≠ 2205 by decide)]
    simp only [vWC_s, Nat.reduceAdd]
    rw [m443_187, if_neg (by decide), b443_199 hL']
    refine back 1 _ _ w' (hOn _ _ 0 (by omega) ?_ ?_ ?_ ?_ ?_)
    · have N1 := IFs_name (J := up (up I 1992 (B + sl) 0) 1993 (B + sl) (I 2015 P)) (J' := up I' 2205 (16 * (40 * t + (A - 1)) + sl) (I' 2207 P * 4)) (j := sl) (P := B + sl) (kd := 0) (v := I 2015 P) (e := I' 2207 P * 4) hI (by omega) (by omega) (Or.inl ⟨rfl, by omega, by omega, by omega⟩) (fr_upL (fr_upL (fr_refl _ _ _) rfl _ _) rfl _ _) (fr_upL (fr_refl _ _ _) rfl _ _) (fun q => by rw [up_cell _ (by decide), up_at]) (fun q => by rw [up_at, up_cell _ (by decide)]) (fun q => up_at _ _ _ _ _)
      refine IFs_for N1 (fr_upL (fr_refl _ _ _) rfl _ _) (fr_upL (fr_refl _ _ _) rfl _ _) (fun j hj => ?_)
      have a := h.2.2.1.2.2.2.2.2.2.2.2.2.2.2.2.2.2.2.2.1 j hj
      rw [up_at, up_at, up_cell _ (show (2016 : Nat) ≠ 2015 by decide), up_cell _ (show (2208 : Nat) ≠ 2207 by decide), up_cell _ (show (2016 : Nat) ≠ 1993 by decide), up_cell _ (show (2016 : Nat) ≠ 1992 by decide), up_cell _ (show (2208 : Nat) ≠ 2205 by decide), up_cell _ (show (2015 : Nat) ≠ 1993 by decide), up_cell _ (show (2015 : Nat) ≠ 1992 by decide), up_cell _ (show (2207 : Nat) ≠ 2205 by decide)]
      by_cases y : j = P
      · subst y
        rw [if_pos rfl, if_pos rfl]
        exact ⟨⟨by omega, by omega, by omega⟩, a.2⟩
      · rw [if_neg y, if_neg y]; exact a
    · rw [up_cell _ (by decide), up_cell _ (by decide), up_cell _ (by decide)]; exact b1
    · rw [up_row _ (by decide), up_row _ (by decide), up_row _ (by decide)]
    · rw [up_row _ (by decide), up_row _ (by decide), up_row _ (by decide)]
    · rw [up_cell _ (show (1994 : Nat) ≠ 2015 by decide), up_cell _ (show (1994 : Nat) ≠ 1993 by decide), up_cell _ (show (1994 : Nat) ≠ 1992 by decide), up_cell _ (show (2009 : Nat) ≠ 2015 by decide), up_cell _ (show (2009 : Nat) ≠ 1993 by decide), up_cell _ (show (2009 : Nat) ≠ 1992 by decide), up_cell _ (show (2006 : Nat) ≠ 2015 by decide), up_cell _ (show (2006 : Nat) ≠ 1993 by decide), up_cell _ (show (2006 : Nat) ≠ 1992 by decide)]
      omega
  · rw [if_neg z, b191_32]
    simp only [vWC_s, Nat.reduceAdd, b187_161, b177_370]
    rw [b449_7 hL' (by omega) (by omega), tn0, w64_id (by omega) (by omega), w64_id (by omega) (by omega), if_neg (by omega), b449_23]
    simp only [vWC_s, Nat.reduceAdd]
    rw [m443_187, if_pos (by decide), b443_199 hL']
    exact back 2 I I' (w' + 1) (hOn I I' 1 (by omega) hI b1 rfl rfl (by omega))
end
