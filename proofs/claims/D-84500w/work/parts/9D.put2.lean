/-! ===== node PUT: both houses ===== -/
set_option maxRecDepth 20000
set_option maxHeartbeats 4000000
theorem vW_out2 {d y pc n d2 y2 pc2 n2 d0 y0 d' y' : Nat} {ls st ls2 st2 : List vV} {F F' : vF} {Q : vE → vE → Prop} (h : vW d0 y0 F (fun q => vW d' y' F' (fun r' => vWC d y pc n ls st (vWC d2 y2 pc2 n2 ls2 st2 (fun r => Q r r')) q))) : vW d0 y0 F (vWC d y pc n ls st (vWC d2 y2 pc2 n2 ls2 st2 (fun r => vW d' y' F' (fun r' => Q r r')))) :=
  vWmo (Nat.le_refl _) (fun _ hq => vWC_mo (fun _ hq2 => vWC_out hq2) (vWC_out (Q := fun q2 r' => vWC d2 y2 pc2 n2 ls2 st2 (fun r => Q r r') q2) hq)) h
section
variable {d d' : Nat} {Y Y' : vY} {X mm Nn Lp : Nat} {nm pr ht : Nat → Nat} {I I' : vJ} {th t A i W N : Nat} {Q : vE → vE → Prop}
theorem e_put {nd w : Nat} {x6 x7 x8 y3 y4 y5 y6 : vV} (hL : vL Y) (hL' : vL Y') (h : IS Y Y' X mm Nn Lp nm pr ht I I' th t A i W N) (hi : ¬ (i : Int) < I' (X + 12) (I 2007 (40 * t + (A - 1))).toNat) (hnd : I 2007 (40 * t + (A - 1)) = nd) (hw : I 48 nd = w) (hk : I 38 nd = 3)
    (hOn : ∀ (J J' : vJ), IFs Y Y' X mm Nn Lp nm pr ht J J' th t A W N → J 2007 (40 * t + (A - 1)) = nd → J 38 = I 38 → J 48 = I 48 → J 1994 t = J 2009 (40 * t + (A - 1)) + nm (J 2006 (40 * t + (A - 1))).toNat → onw (d' + 9) (d' + 11) Y Y' t (40 * t + (A - 1)) nd w y5 y6 0 J J' Q) :
    vW (d + 9) 177 (33, [vr 1990, vi t, vi ((40 * t + (A - 1) : Nat) : Int), vi nd, vi (2 * (i : Int)), vr 37, x6, x7, x8], [], (I, Y)) (fun r => vW (d' + 11) 422 (2, [vr 2075, vi t, vi 1, y3, y4, y5, y6], [], (I', Y')) (fun r' => Q r r')) := by
  obtain ⟨nd', B, T, w', ⟨a1, a2, a3, a4⟩, ⟨b1, b2, b3, b3'⟩, ⟨b4, b5, b6⟩, ⟨c1, c2, c3⟩, ⟨c4, c5⟩, c6, ⟨c7, c8, c9, c10, c11, c12⟩, ⟨v1, v2⟩, ⟨p1, p2, p3⟩⟩ := IS_end h hi
  have e0 : nd' = nd := by omega
  subst e0
  have e1 : w' = w := by omega
  subst e1
  obtain ⟨hX, hX2, hV⟩ := h.1.1
  have hv1 : wkV (I 38 nd') = 1 := by rw [hk]; decide
  rw [c6, hv1] at p3 c9
  have vt := v2 0 (by rw [c6, hv1]; decide)
  rw [Nat.add_zero, Nat.add_zero] at vt
  obtain ⟨p, hp⟩ : ∃ p : Nat, p = B + nm (I 2006 (40 * t + (A - 1))).toNat := ⟨_, rfl⟩
  rw [← hp] at vt
  have n300 : I 1990 3376 ≤ 300 := by
    obtain ⟨n, E, q⟩ := h.2.2.1.2.2.2.1
    have q1 := q.1.1
    have q2 := q.2.1
    clear q
    omega
  obtain ⟨i1, i2, i3⟩ := vv_inV n300 vt
  have num := vv_num vt
  have lf := (h.1.2.2.2.2.2.2.2.2.2 nd' b3').2.2 hk
  have mem : I' (X + 37) nd' = I 2006 (40 * t + (A - 1)) := by
    have q := (h.2.2.2.2.2.2.2.2.2.1 (A - 1) (by omega)).2.1.2.2.2
    rw [b1, tn0] at q
    exact q
  rw [mem] at lf
  have E : I 1994 t - 1 = (p : Int) := by omega
  have hm : ∀ K : vE → Prop, vW (d' + 11) 422 (2, [vr 2075, vi t, vi 1, y3, y4, y5, y6], [], (I', Y')) K ↔ vW (d' + 10) 443 (0, [vr 2075, vi t, vi ((40 * t + (A - 1) : Nat) : Int), vi nd', vu, vu, vu], [], (I', Y')) (vWC (d' + 11) 422 114 3 [vr 2075, vi t, vi 1, vi ((40 * t + (A - 1) : Nat) : Int), vi nd', y5, y6] [] K) := fun K => t_end (X := X) hL' hX hV a1 rfl a4 p1 b2 b3 b5 b6 p2
  have F2 : fr [2199, 2200] [] I' (up I' 2200 (40 * t + (A - 1)) ((0 : Nat) : Int)) := fr_upL (fr_refl _ _ _) rfl _ _
  have hI : IFs Y Y' X mm Nn Lp nm pr ht I (up I' 2200 (40 * t + (A - 1)) ((0 : Nat) : Int)) th t A W N := IS_fail h F2 (fun b hb => ⟨up_cell _ (by decide) _ _ _, up_place _ _ hb _⟩)
  have fx13 : up I' 2200 (40 * t + (A - 1)) ((0 : Nat) : Int) (X + 13) = I' (X + 13) := up_row _ (by omega) _ _
  have m443 : ∀ K : vE → Prop, vW (d' + 10) 443 (0, [vr 2075, vi t, vi ((40 * t + (A - 1) : Nat) : Int), vi nd', vu, vu, vu], [], (I', Y')) K ↔ vW (d' + 9) 442 (0, [vr 2075, vi ((40 * t + (A - 1) : Nat) : Int), vi (I' (X + 13) nd'), vl (I' 2206 (160 * (40 * t + (A - 1)))), vu], [], (up I' 2200 (40 * t + (A - 1)) ((0 : Nat) : Int), Y')) (vWC (d' + 10) 443 108 3 [vr 2075, vi t, vi ((40 * t + (A - 1) : Nat) : Int), vi nd', vi w', vl (I' 2206 (160 * (40 * t + (A - 1)))), vu] [] K) := by
    intro K
    rw [b443_0 hL' hV (by omega) (by omega), hX, tn0, c1, c5, hk, show w32 3 = 3 from w32_id (by decide) (by decide)]
    simp only [Int.reduceEq, if_true, if_false]
    rw [b443_88 hL', t_pop (S := 0) hL' a4 (by rw [p3]; rfl) (by decide)]
    simp only [vWC_s, Nat.reduceAdd, Nat.add_zero]
    rw [b443_93 hL' hV (by omega) (by omega), hX, tn0, fx13]
  generalize hJ0 : up I' 2200 (40 * t + (A - 1)) ((0 : Nat) : Int) = J' at hI m443 fx13 F2
  generalize I' 2206 (160 * (40 * t + (A - 1))) = e at vt i1 i2 num m443
  -- where the value goes
  obtain ⟨P, K', hP, hC, hT, hIF⟩ : ∃ (P : Nat) (K' : vJ), P < p ∧ (∀ K : vE → Prop, vW (d + 7) 188 (11, [vr 1990, vi ((40 * t + (A - 1) : Nat) : Int), vi nd', vi p, vi (I 40 nd'), vu], [], (I, Y)) K ↔ vW (d + 7) 188 (33, [vr 1990, vi ((40 * t + (A - 1) : Nat) : Int), vi nd', vi p, vi (I 40 nd'), vu], [vi P, vr 1990], (I, Y)) K) ∧ (∀ K : vE → Prop, vW (d' + 9) 442 (0, [vr 2075, vi ((40 * t + (A - 1) : Nat) : Int), vi (I' (X + 13) nd'), vl e, vu], [], (J', Y')) K ↔ K (.inl none, (K', Y'))) ∧ IFs Y Y' X mm Nn Lp nm pr ht (up (up I 1992 P (I 1992 p)) 1993 P (I 1993 p)) K' th t A W N := by
    clear hOn
    rcases lf with ⟨l1, l2, l3⟩ | ⟨l1, l2, l3⟩
    · obtain ⟨sl, hsl⟩ : ∃ sl : Nat, I 40 nd' = sl := ⟨(I 40 nd').toNat, by omega⟩
      refine ⟨B + sl, up J' 2205 (16 * (40 * t + (A - 1)) + sl) e, by omega, fun K => ?_, fun K => ?_, ?_⟩
      · rw [hsl, b188_11, if_neg (by rw [w32_id (by omega) (by omega)]; omega), b188_17 hL (by omega) (by omega), tn0, c7, show (B : Int) + (sl : Int) = ((B + sl : Nat) : Int) by omega]
      · rw [l1, hsl, b442_0, if_pos (by rw [w32_id (by decide) (by decide), w32_id (by omega) (by omega)]; omega), b442_18 hL' (by omega) (by omega), b442_30, show (16 * ((40 * t + (A - 1) : Nat) : Int) + (sl : Int)).toNat = 16 * (40 * t + (A - 1)) + sl by omega]
      · exact IFs_name (j := sl) (P := B + sl) (kd := I 1992 p) (v := I 1993 p) (e := e) hI (by omega) (by omega) vt (fr_upL (fr_upL (fr_refl _ _ _) rfl _ _) rfl _ _) (fr_upL (fr_refl _ _ _) rfl _ _) (fun q => by rw [up_cell _ (by decide), up_at]) (fun q => by rw [up_at, up_cell _ (by decide)]) (fun q => up_at _ _ _ _ _)
    · obtain ⟨g, hg⟩ : ∃ g : Nat, -1 - I 40 nd' = g := ⟨(-1 - I 40 nd').toNat, by omega⟩
      refine ⟨g, up J' 2185 g e, by omega, fun K => ?_, fun K => ?_, ?_⟩
      · rw [b188_11, if_pos (by rw [w32_id (by omega) (by omega)]; omega), b188_29, hg]
      · rw [l1, b442_0, if_neg (by rw [w32_id (by decide) (by decide), w32_id (by omega) (by omega)]; omega), b442_5 hL' (by omega) (by omega), b442_30, show (-2 - (I 40 nd' - 1)).toNat = g by omega]
      · exact IFs_glob (P := g) (kd := I 1992 p) (v := I 1993 p) (e := e) hI (by omega) vt (fr_upL (fr_upL (fr_refl _ _ _) rfl _ _) rfl _ _) (fr_upL (fr_refl _ _ _) rfl _ _) (fun q => by rw [up_cell _ (by decide), up_at]) (fun q => by rw [up_at, up_cell _ (by decide)]) (fun q => up_at _ _ _ _ _)
  have fin : ∀ (J J2' : vJ), IFs Y Y' X mm Nn Lp nm pr ht J J2' th t A W N → J 2007 (40 * t + (A - 1)) = nd' → J 38 = I 38 → J 48 = I 48 → J 2009 (40 * t + (A - 1)) = B → J 2006 (40 * t + (A - 1)) = I 2006 (40 * t + (A - 1)) → J 1994 t = I 1994 t → vW (d + 8) 187 (92, [vr 1990, vi t, vi ((40 * t + (A - 1) : Nat) : Int), vi nd', vi p, vu], [], (J, Y)) (vWC (d + 9) 177 367 3 [vr 1990, vi t, vi ((40 * t + (A - 1) : Nat) : Int), vi nd', vi (2 * (i : Int)), vr 37, x6, x7, x8] [] (fun r => vW (d' + 10) 443 (118, [vr 2075, vi t, vi ((40 * t + (A - 1) : Nat) : Int), vi nd', vi w', vl e, vu], [], (J2', Y')) (vWC (d' + 11) 422 114 3 [vr 2075, vi t, vi 1, vi ((40 * t + (A - 1) : Nat) : Int), vi nd', y5, y6] [] (fun r' => Q r r')))) := by
    intro J J2' f1 f2 f3 f4 f5 f6 f7
    rw [b187_92 hL (by omega) (by omega), tn0, f7, E]
    simp only [vWC_s, Nat.reduceAdd, b177_370]
    rw [b443_118 hL']
    have o := hOn _ _ (IFs_top f1 (p : Int)) (by rw [up_cell _ (by decide)]; exact f2) (by rw [up_row _ (by decide)]; exact f3) (by rw [up_row _ (by decide)]; exact f4) (by rw [up_same, up_cell _ (show (2009 : Nat) ≠ 1994 by decide), up_cell _ (show (2006 : Nat) ≠ 1994 by decide), f5, f6, hp]; omega)
    refine vWmo (Nat.le_refl _) (fun q hq => ?_) o
    obtain ⟨s, ⟨M1, M2⟩, q1, q2, q3⟩ := hq
    rw [q1]
    simp only [vWC_s, Nat.reduceAdd]
    rw [b443_125 q2]
    simp only [vWC_s, Nat.reduceAdd]
    rw [b422_117, b422_118]
    exact q3
  rw [c_end hL b3 b4 b6, b187_0 hL (by omega) (by omega) (by omega) (by omega)]
  simp only [hm, m443, tn0, hT, vWC_n, Nat.reduceAdd]
  rw [hk, show w32 3 = 3 from w32_id (by decide) (by decide)]
  simp only [Int.reduceEq, if_true, if_false]
  rw [E, b187_84 hL, b188_0 hL (by omega) (by omega), tn0, hC, b188_33 hL (by omega) (by omega), tn0, c_set hL (by omega) (by omega)]
  simp only [vWC_n, Nat.reduceAdd]
  rw [b188_48]
  have u2 : up (up I 1992 P (I 1992 p)) 1993 P (I 1993 p) 1992 p = I 1992 p := by rw [up_cell _ (by decide), up_place _ _ (by omega)]
  have u3 : up (up I 1992 P (I 1992 p)) 1993 P (I 1993 p) 1993 p = I 1993 p := by rw [up_place _ _ (by omega), up_cell _ (by decide)]
  have G0 : fr [1992, 1993] [] I (up (up I 1992 P (I 1992 p)) 1993 P (I 1993 p)) := fr_upL (fr_upL (fr_refl _ _ _) rfl _ _) rfl _ _
  generalize up (up I 1992 P (I 1992 p)) 1993 P (I 1993 p) = K0 at hIF u2 u3 G0 ⊢
  have m444 : ∀ K : vE → Prop, vW (d' + 10) 443 (111, [vr 2075, vi t, vi ((40 * t + (A - 1) : Nat) : Int), vi nd', vi w', vl e, vu], [], (K', Y')) K ↔ vW (d' + 9) 444 (if e % 4 = 0 then 8 else 7, [vr 2075, vi nd', vl e, vu, vu], [], (K', Y')) (vWC (d' + 10) 443 115 3 [vr 2075, vi t, vi ((40 * t + (A - 1) : Nat) : Int), vi nd', vi w', vl e, vu] [] K) := by
    intro K
    rw [b443_111 hL', b444_0, t_isNum i1]
    simp only [vWC_s, Nat.reduceAdd]
    rw [b444_4]
    by_cases z : e % 4 = 0
    · rw [if_pos z, if_pos z, if_pos (by decide)]
    · rw [if_neg z, if_neg z, if_neg (by decide)]
  simp only [m444]
  by_cases z : I 1992 p = 0
  · simp only [num.1.mpr z, if_true, b444_8]
    refine vW_out2 (k_all (d := d + 4) (d' := d' + 6) (v := I 1993 p) (Q := fun r r' => vWC (d + 7 + 1) 187 89 3 [vr 1990, vi t, vi ((40 * t + (A - 1) : Nat) : Int), vi nd', vi p, vu] [] (vWC (d + 9) 177 367 3 [vr 1990, vi t, vi ((40 * t + (A - 1) : Nat) : Int), vi nd', vi (2 * (i : Int)), vr 37, x6, x7, x8] [] (fun r => vWC (d' + 10) 443 115 3 [vr 2075, vi t, vi ((40 * t + (A - 1) : Nat) : Int), vi nd', vi w', vl e, vu] [] (vWC (d' + 11) 422 114 3 [vr 2075, vi t, vi 1, vi ((40 * t + (A - 1) : Nat) : Int), vi nd', y5, y6] [] (fun r' => Q r r')) r')) r) hL hL' (by omega) (by omega) ⟨by omega, by omega⟩ i1 (num.2 z) 4 0 K0 K' rfl hIF.2.2.1.2.2.2.2.2.1 (by rw [u2]; exact z) u3 (fun J J2' g1 g2 g3 => ?_))
    simp only [vWC_n, Nat.reduceAdd]
    have hPT : PT Lp J J2' := by
      obtain ⟨q1, q2, q3, q4, q5, q6, q7, q8, q9, q10, q11, q12, q13, q14, q15, q16, q17, q18, q19, q20⟩ := hIF.2.2.1
      exact ⟨su_keep su_tR g2 g3 rfl q1, su_keep su_pPath g2 g3 rfl q2, su_keep su_loR g2 g3 rfl q3, su_keep su_pArr g2 g3 rfl q4, su_keep su_pStep g2 g3 rfl q5, g1, su_keep su_pCost g2 g3 rfl q7, su_keep su_pCalls g2 g3 rfl q8, su_keep su_pMet g2 g3 rfl q9, su_keep su_pPrint g2 g3 rfl q10, su_keep su_pBegun g2 g3 rfl q11, su_keep su_pLooks g2 g3 rfl q12, su_keep su_pPar g2 g3 rfl q13, su_keep su_pThr g2 g3 rfl q14, su_keep su_pDone g2 g3 rfl q15, su_keep su_pLast g2 g3 rfl q16, su_keep su_pFor g2 g3 rfl q17, su_keep su_pTurns g2 g3 rfl q18, su_keep su_pSeed g2 g3 rfl q19, su_keep su_pVars g2 g3 rfl q20⟩
    have G1 := fr_trans (fr_weak G0 (L' := [1992, 1993, 2048, 2049, 2050, 2051, 2052, 2053, 2054, 2055, 2056, 2057, 2058, 2059]) (P' := []) (by decide) (by decide)) (fr_weak g2 (by decide) (by decide))
    exact fin J J2' (IFs_keep hIF (fr_weak g2 (by decide) (by decide)) (fr_weak g3 (by decide) (by decide)) hPT) (by rw [G1 2007 _ rfl]; exact b1) (fr_row G1 38 (fun _ => rfl)) (fr_row G1 48 (fun _ => rfl)) (by rw [G1 2009 _ rfl]; exact c7) (G1 2006 _ rfl) (G1 1994 _ rfl)
  · have ze : ¬ e % 4 = 0 := fun q => z (num.1.mp q)
    simp only [ze, if_false, b444_7, vWC_n, Nat.reduceAdd]
    rw [b188_51, if_neg (by decide), b188_57 hL (by omega) (by omega), tn0, u2, if_pos (by rw [w32_id (by omega) (by omega)]; exact z), b188_102]
    simp only [vWC_n, Nat.reduceAdd]
    exact fin K0 K' hIF (by rw [G0 2007 _ rfl]; exact b1) (fr_row G0 38 (fun _ => rfl)) (fr_row G0 48 (fun _ => rfl)) (by rw [G0 2009 _ rfl]; exact c7) (G0 2006 _ rfl) (G0 1994 _ rfl)
end
