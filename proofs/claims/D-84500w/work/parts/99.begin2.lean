/-! ===== node BEGIN: both houses ===== -/
set_option maxRecDepth 20000
set_option maxHeartbeats 4000000
section
variable {d d' : Nat} {Y Y' : vY} {X mm Nn Lp : Nat} {nm pr ht : Nat → Nat} {I I' : vJ} {th t A i W N : Nat} {Q : vE → vE → Prop}
theorem e_begin {nd w : Nat} {x6 x7 x8 y3 y4 y5 y6 : vV} (hL : vL Y) (hL' : vL Y') (h : IS Y Y' X mm Nn Lp nm pr ht I I' th t A i W N) (hi : ¬ (i : Int) < I' (X + 12) (I 2007 (40 * t + (A - 1))).toNat) (hnd : I 2007 (40 * t + (A - 1)) = nd) (hw : I 48 nd = w) (hk : I 38 nd = 7)
    (hOn : ∀ (J J' : vJ), IFs Y Y' X mm Nn Lp nm pr ht J J' th t A W N → J 2007 (40 * t + (A - 1)) = nd → J 38 = I 38 → J 48 = I 48 → J 1994 t = J 2009 (40 * t + (A - 1)) + nm (J 2006 (40 * t + (A - 1))).toNat → onw (d' + 8) (d' + 11) Y Y' t (40 * t + (A - 1)) nd w y5 y6 0 J J' Q)
    (hFl : ∀ (J' : vJ) (f : Int), 1 ≤ f → f ≤ 9 → IFs Y Y' X mm Nn Lp nm pr ht I J' th t A W N → fln (d' + 8) (d' + 11) Y Y' t (40 * t + (A - 1)) nd y5 y6 f I J' Q) :
    vW (d + 9) 177 (33, [vr 1990, vi t, vi ((40 * t + (A - 1) : Nat) : Int), vi nd, vi (2 * (i : Int)), vr 37, x6, x7, x8], [], (I, Y)) (fun r => vW (d' + 11) 422 (2, [vr 2075, vi t, vi 1, y3, y4, y5, y6], [], (I', Y')) (fun r' => Q r r')) := by
  obtain ⟨nd', B, T, w', ⟨a1, a2, a3, a4⟩, ⟨b1, b2, b3, b3'⟩, ⟨b4, b5, b6⟩, ⟨c1, c2, c3⟩, ⟨c4, c5⟩, c6, ⟨c7, c8, c9, c10, c11, c12⟩, ⟨v1, v2⟩, ⟨p1, p2, p3⟩⟩ := IS_end h hi
  have e0 : nd' = nd := by omega
  subst e0
  have e1 : w' = w := by omega
  subst e1
  obtain ⟨hX, hX2, hV⟩ := h.1.1
  have hv1 : wkV (I 38 nd') = 2 := by rw [hk]; decide
  rw [c6, hv1] at p3 c9
  obtain ⟨p, hp⟩ : ∃ p : Nat, p = B + nm (I 2006 (40 * t + (A - 1))).toNat := ⟨_, rfl⟩
  have vt0 := v2 0 (by rw [c6, hv1]; decide)
  have vt1 := v2 1 (by rw [c6, hv1]; decide)
  rw [Nat.add_zero, Nat.add_zero, ← hp] at vt0
  rw [← hp] at vt1
  have n300 : I 1990 3376 ≤ 300 := by
    obtain ⟨n, E, q⟩ := h.2.2.1.2.2.2.1
    have q1 := q.1.1
    have q2 := q.2.1
    clear q
    omega
  obtain ⟨i1, i2, i3⟩ := vv_inV n300 vt0
  obtain ⟨j1, j2, j3⟩ := vv_inV n300 vt1
  have num0 := vv_num vt0
  have num1 := vv_num vt1
  -- the loop's head
  have lf := (h.1.2.2.2.2.2.2.2.2.2 nd' b3').1 hk
  have lh := ((h.1.2.2.2.2.2.2.2.2.2 (nd' + 1) lf.1).2.1 lf.2).1
  obtain ⟨dp, k41, k19, k12⟩ : ∃ dp : Nat, (I 41 (nd' + 1) ≠ -1 ∧ 0 ≤ I 41 (nd' + 1) ∧ I 41 (nd' + 1) < 260 ∧ I 56 (I 41 (nd' + 1)).toNat = (dp : Int) + 1) ∧ I' (X + 19) (nd' + 1) = dp ∧ dp < 12 := by
    have g := h.1.2.2.1
    obtain ⟨l, l1, l2⟩ := g.2.2.2.2 (nd' + 1) lf.1 lh
    have gl := g.2.2.1 l l1
    have lp := g.1.2
    rw [l2] at gl
    have e9 : (((nd' + 1 : Nat) : Int)).toNat = nd' + 1 := tn0 _
    rw [e9] at gl
    obtain ⟨_, ⟨m1, m2, m3⟩, _, m4, _⟩ := gl
    clear g
    refine ⟨(I 56 l - 1).toNat, ⟨by omega, by omega, by omega, ?_⟩, by omega, by omega⟩
    rw [m4, tn0]
    omega
  have hm : ∀ K : vE → Prop, vW (d' + 11) 422 (2, [vr 2075, vi t, vi 1, y3, y4, y5, y6], [], (I', Y')) K ↔ vW (d' + 10) 443 (0, [vr 2075, vi t, vi ((40 * t + (A - 1) : Nat) : Int), vi nd', vu, vu, vu], [], (I', Y')) (vWC (d' + 11) 422 114 3 [vr 2075, vi t, vi 1, vi ((40 * t + (A - 1) : Nat) : Int), vi nd', y5, y6] [] K) := fun K => t_end (X := X) hL' hX hV a1 rfl a4 p1 b2 b3 b5 b6 p2
  have F2 : fr [2199, 2200] [] I' (up I' 2200 (40 * t + (A - 1)) ((0 : Nat) : Int)) := fr_upL (fr_refl _ _ _) rfl _ _
  have hI : IFs Y Y' X mm Nn Lp nm pr ht I (up I' 2200 (40 * t + (A - 1)) ((0 : Nat) : Int)) th t A W N := IS_fail h F2 (fun b hb => ⟨up_cell _ (by decide) _ _ _, up_place _ _ hb _⟩)
  have E : I 1994 t - 2 = (p : Int) := by omega
  have m443 : ∀ K : vE → Prop, vW (d' + 10) 443 (0, [vr 2075, vi t, vi ((40 * t + (A - 1) : Nat) : Int), vi nd', vu, vu, vu], [], (I', Y')) K ↔ vW (d' + 9) 447 (19, [vr 2075, vi t, vi ((40 * t + (A - 1) : Nat) : Int), vi nd', vi w', vl (I' 2206 (160 * (40 * t + (A - 1)) + 1)), vu, vl (I' 2206 (160 * (40 * t + (A - 1)))), vu], [vi (if I' 2206 (160 * (40 * t + (A - 1))) % 4 = 0 then 1 else 0)], (up I' 2200 (40 * t + (A - 1)) ((0 : Nat) : Int), Y')) (vWC (d' + 10) 443 175 3 [vr 2075, vi t, vi ((40 * t + (A - 1) : Nat) : Int), vi nd', vi w', vu, vu] [] K) := by
    intro K
    rw [b443_0 hL' hV (by omega) (by omega), hX, tn0, c1, c5, hk, show w32 7 = 7 from w32_id (by decide) (by decide)]
    simp only [Int.reduceEq, if_true, if_false]
    rw [b443_169 hL', b447_0 hL', t_pop (S := 1) hL' a4 (by rw [p3]; rfl) (by decide)]
    simp only [vWC_s, Nat.reduceAdd]
    rw [b447_5 hL', t_pop (S := 0) hL' a4 (by rw [up_same]; rfl) (by decide)]
    simp only [vWC_s, Nat.reduceAdd, Nat.add_zero]
    rw [up_cell _ (show (2206 : Nat) ≠ 2200 by decide), up_up, b447_12, t_isNum i1]
    simp only [vWC_s, Nat.reduceAdd]
  have fx19 : up I' 2200 (40 * t + (A - 1)) ((0 : Nat) : Int) (X + 19) = I' (X + 19) := up_row _ (by omega) _ _
  have fx7 : up I' 2200 (40 * t + (A - 1)) ((0 : Nat) : Int) 2207 = I' 2207 := up_row _ (by decide) _ _
  have fx8 : up I' 2200 (40 * t + (A - 1)) ((0 : Nat) : Int) 2208 = I' 2208 := up_row _ (by decide) _ _
  generalize up I' 2200 (40 * t + (A - 1)) ((0 : Nat) : Int) = J' at hI m443 fx19 fx7 fx8
  have back : ∀ (so : Int) (J : vJ) (M1 : vJ) (M2 : vY) (s : Int), (s = 0 ∨ s = 1) → vW (d' + 11) 422 (2, [vr 2075, vi t, vi s, vi ((40 * t + (A - 1) : Nat) : Int), vi nd', y5, y6], [], (M1, M2)) (fun r' => Q (.inl (some (vi so)), (J, Y)) r') → vW (d' + 10) 443 (178, [vr 2075, vi t, vi ((40 * t + (A - 1) : Nat) : Int), vi nd', vi w', vu, vu], [vi s], (M1, M2)) (vWC (d' + 11) 422 114 3 [vr 2075, vi t, vi 1, vi ((40 * t + (A - 1) : Nat) : Int), vi nd', y5, y6] [] (fun r' => Q (.inl (some (vi so)), (J, Y)) r')) := by
    intro so J M1 M2 s q2 q3
    rw [b443_178 q2]
    simp only [vWC_s, Nat.reduceAdd]
    rw [b422_117, b422_118]
    exact q3
  rw [c_end hL b3 b4 b6, b187_0 hL (by omega) (by omega) (by omega) (by omega)]
  simp only [hm, m443, tn0]
  rw [hk, show w32 7 = 7 from w32_id (by decide) (by decide)]
  simp only [Int.reduceEq, if_true, if_false]
  rw [b187_147 hL, b190_0 hL (by omega) (by omega), tn0, E, b190_10 hL (by omega) (by omega), tn0, w32_id (by omega) (by omega)]
  have bad : vW (d' + 9) 447 (30, [vr 2075, vi t, vi ((40 * t + (A - 1) : Nat) : Int), vi nd', vi w', vl (I' 2206 (160 * (40 * t + (A - 1)) + 1)), vu, vl (I' 2206 (160 * (40 * t + (A - 1)))), vu], [], (J', Y')) (vWC (d' + 10) 443 175 3 [vr 2075, vi t, vi ((40 * t + (A - 1) : Nat) : Int), vi nd', vi w', vu, vu] [] (vWC (d' + 11) 422 114 3 [vr 2075, vi t, vi 1, vi ((40 * t + (A - 1) : Nat) : Int), vi nd', y5, y6] [] (fun r' => Q (.inl (some (vi 3)), (flC I 4, Y)) r'))) := by
    rw [b447_30, b399_0]
    simp only [vWC_s, Nat.reduceAdd]
    rw [b447_39 hL']
    refine vWmo (Nat.le_refl _) (fun q hq => ?_) (hFl J' 4 (by decide) (by decide) hI)
    obtain ⟨s, ⟨M1, M2⟩, q1, q2, q3⟩ := hq
    rw [q1]
    simp only [vWC_s, Nat.reduceAdd]
    rw [b447_42 q2]
    simp only [vWC_s, Nat.reduceAdd]
    exact back _ _ _ _ _ q2 q3
  by_cases z0 : I 1992 p = 0
  · rw [if_neg (fun q => q z0), b190_20 hL (by omega) (by omega), show ((p : Int) + 1).toNat = p + 1 by omega, w32_id (by omega) (by omega)]
    simp only [num0.1.mpr z0, if_true]
    by_cases z1 : I 1992 (p + 1) = 0
    · have pl : (((40 * t + (A - 1) : Nat) : Int) * 12 + ((dp : Int) + 1) - 1).toNat = 12 * (40 * t + (A - 1)) + dp := by omega
      have nN := h.1.2.1.2
      rw [if_pos z1, b190_38 hL, show (nd' : Int) + 1 = ((nd' + 1 : Nat) : Int) by omega, b106_0 hL (by omega) (by omega), tn0, w32_id (by omega) (by omega), show w32 (-1) = -1 from w32_id (by decide) (by decide), if_pos k41.1, b106_14 hL (by omega) (by omega) (by rw [tn0]; omega) (by rw [tn0]; omega), tn0, k41.2.2.2, b106_25]
      simp only [vWC_s, Nat.reduceAdd]
      rw [b190_52 hL (by omega) (by omega) (by omega) (by omega) (by omega) (by omega) (by omega) (by omega), pl]
      simp only [vWC_s, Nat.reduceAdd, b187_154, b177_370, tn0, E]
      rw [show ((p : Int) + 1).toNat = p + 1 by omega, w32_id (x := I 1993 p) (by omega) (by omega), w32_id (x := I 1993 (p + 1)) (by omega) (by omega)]
      have pm : 12 * ((40 * t + (A - 1) : Nat) : Int) + (dp : Int) = ((12 * (40 * t + (A - 1)) + dp : Nat) : Int) := by omega
      rw [b447_19, if_neg (by decide), b447_22, t_isNum j1]
      simp only [vWC_s, Nat.reduceAdd]
      rw [if_pos (num1.1.mpr z1), b447_27, if_pos (by decide), b447_43 hL', show (nd' : Int) + 1 = ((nd' + 1 : Nat) : Int) by omega, b448_0 hL' hV (by omega) (by omega), hX, tn0, fx19, k19, pm]
      simp only [vWC_s, Nat.reduceAdd]
      rw [b447_55, t_val i1]
      simp only [vWC_s, Nat.reduceAdd]
      rw [num0.2 z0, b447_60 hL' (by omega) (by omega), tn0, show (nd' : Int) + 1 = ((nd' + 1 : Nat) : Int) by omega, b448_0 hL' hV (by omega) (by omega), hX, tn0, up_row _ (show X + 19 ≠ 2207 by omega), fx19, k19, pm]
      simp only [vWC_s, Nat.reduceAdd]
      rw [b447_73, t_val j1]
      simp only [vWC_s, Nat.reduceAdd]
      rw [num1.2 z1, b447_78 hL' (by omega) (by omega), tn0]
      have pb : 12 * (40 * t + (A - 1)) + dp < 3840 := by omega
      generalize 12 * (40 * t + (A - 1)) + dp = P at pb ⊢
      have G1 : fr [2015, 2016] [] I (up (up I 2015 P (I 1993 p)) 2016 P (I 1993 (p + 1))) := fr_upL (fr_upL (fr_refl _ _ _) rfl _ _) rfl _ _
      have G2 : fr [2207, 2208] [] J' (up (up J' 2207 P (I 1993 p)) 2208 P (I 1993 (p + 1))) := fr_upL (fr_upL (fr_refl _ _ _) rfl _ _) rfl _ _
      have hp : pFor (up (up I 2015 P (I 1993 p)) 2016 P (I 1993 (p + 1))) (up (up J' 2207 P (I 1993 p)) 2208 P (I 1993 (p + 1))) := fun j hj => by
        have a := h.2.2.1.2.2.2.2.2.2.2.2.2.2.2.2.2.2.2.2.1 j hj
        rw [up_cell _ (show (2015 : Nat) ≠ 2016 by decide), up_cell _ (show (2207 : Nat) ≠ 2208 by decide), up_at, up_at, up_at, up_at, up_cell _ (show (2016 : Nat) ≠ 2015 by decide), up_cell _ (show (2208 : Nat) ≠ 2207 by decide), fx7, fx8]
        by_cases y : j = P
        · simp only [y, if_true]
          exact ⟨⟨trivial, by omega, by omega⟩, trivial, by omega, by omega⟩
        · simp only [y, if_false]
          exact a
      have hF := IFs_top (IFs_for hI G1 G2 hp) (p : Int)
      have o := hOn _ _ hF (by rw [up_cell _ (by decide), G1 2007 _ rfl]; exact b1) (by rw [up_row _ (by decide), fr_row G1 38 (fun _ => rfl)]) (by rw [up_row _ (by decide), fr_row G1 48 (fun _ => rfl)]) (by rw [up_same, up_cell _ (show (2009 : Nat) ≠ 1994 by decide), up_cell _ (show (2006 : Nat) ≠ 1994 by decide), G1 2009 _ rfl, G1 2006 _ rfl, c7]; omega)
      refine vWmo (Nat.le_refl _) (fun q hq => ?_) o
      obtain ⟨s, ⟨M1, M2⟩, q1, q2, q3⟩ := hq
      rw [q1]
      simp only [vWC_s, Nat.reduceAdd]
      rw [b447_86 q2]
      simp only [vWC_s, Nat.reduceAdd]
      exact back _ _ _ _ _ q2 q3
    · rw [if_neg z1, b190_32 hL, c_fails hL (by decide) (by decide)]
      simp only [vWC_s, Nat.reduceAdd, b190_37, b187_154, b177_370]
      rw [b447_19, if_neg (by decide), b447_22, t_isNum j1]
      simp only [vWC_s, Nat.reduceAdd]
      rw [if_neg (fun q => z1 (num1.1.mp q)), b447_27, if_neg (by decide)]
      exact bad
  · have ze : ¬ I' 2206 (160 * (40 * t + (A - 1))) % 4 = 0 := fun q => z0 (num0.1.mp q)
    rw [if_pos z0, b190_32 hL, c_fails hL (by decide) (by decide)]
    simp only [vWC_s, Nat.reduceAdd, b190_37, b187_154, b177_370, ze, if_false]
    rw [b447_19, if_pos (by decide)]
    exact bad
end
