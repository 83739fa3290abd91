/-! ===== node PRINT ===== -/
set_option maxRecDepth 20000
set_option maxHeartbeats 4000000
/-- the model fails at a node, and what comes behind it -/
def fln (D D' : Nat) (Y Y' : vY) (t a nd : Nat) (y5 y6 : vV) (f : Int) (J J' : vJ) (Q : vE → vE → Prop) : Prop := vW D 437 (0, [vr 2075, vi t, vi f, vl (4 * f), vu, vu, vu, vu, vu], [], (J', Y')) (fun q => ∃ (s : Int) (M : vJ × vY), q = (.inl (some (vi s)), M) ∧ (s = 0 ∨ s = 1) ∧ vW D' 422 (2, [vr 2075, vi t, vi s, vi a, vi nd, y5, y6], [], M) (fun r' => Q (.inl (some (vi 3)), (flC J f, Y)) r'))
theorem IFs_print {Y Y' : vY} {X mm Nn Lp : Nat} {nm pr ht : Nat → Nat} {I I' J J' : vJ} {th t A W N : Nat} (h : IFs Y Y' X mm Nn Lp nm pr ht I I' th t A W N) (F1 : fr [2035] [(1990, 3379)] I J) (F2 : fr [2184] [(2075, 7739)] I' J') (hp : pPrint J J') : IFs Y Y' X mm Nn Lp nm pr ht J J' th t A W N := by
  obtain ⟨s1, s2, s3, s4, ⟨s5, s6, s7, s8, s9, s10, s11⟩, s12, ⟨⟨r1, r2, r3, r4⟩, ⟨r5, r6⟩, r7, r8, r9⟩⟩ := h
  have g := agT_fr F1 F2 rfl
  have hX := s1.1.2.1
  have gS : agS I I' J J' X := ⟨g.1 38 (by decide) (by decide), g.1 43 (by decide) (by decide), g.1 62 (by decide) (by decide), g.2.2.1 (X + 11) (by omega) (by omega), g.2.2.1 (X + 12) (by omega) (by omega), g.2.2.1 (X + 37) (by omega) (by omega), g.2.2.1 2178 (by decide) (by decide), g.2.2.1 2179 (by decide) (by decide), by rw [F1 1960 _ rfl]; exact Int.le_refl _⟩
  obtain ⟨q1, q2, q3, q4, q5, q6, q7, q8, q9, q10, q11, q12, q13, q14, q15, q16, q17, q18, q19, q20⟩ := s3
  have arr : J 1990 3376 = I 1990 3376 := F1 1990 _ rfl
  refine ⟨ST_ag s1 g, su_keep su_LZ F1 F2 rfl s2, ⟨su_keep su_tR F1 F2 rfl q1, su_keep su_pPath F1 F2 rfl q2, su_keep su_loR F1 F2 rfl q3, su_keep su_pArr F1 F2 rfl q4, su_keep su_pStep F1 F2 rfl q5, su_keep su_pKeep F1 F2 rfl q6, su_keep su_pCost F1 F2 rfl q7, su_keep su_pCalls F1 F2 rfl q8, su_keep su_pMet F1 F2 rfl q9, hp, su_keep su_pBegun F1 F2 rfl q11, su_keep su_pLooks F1 F2 rfl q12, su_keep su_pPar F1 F2 rfl q13, su_keep su_pThr F1 F2 rfl q14, su_keep su_pDone F1 F2 rfl q15, su_keep su_pLast F1 F2 rfl q16, su_keep su_pFor F1 F2 rfl q17, su_keep su_pTurns F1 F2 rfl q18, su_keep su_pSeed F1 F2 rfl q19, su_keep su_pVars F1 F2 rfl q20⟩, ?_, ⟨s5, by rw [fr_row F1 1995 (fun _ => rfl), F1 1990 3393 rfl, F1 1960 3100 rfl]; exact s6, by rw [F1 1990 _ rfl]; exact s7, by rw [F2 2075 _ rfl]; exact s8, s9, s10, by rw [F2 2075 _ rfl]; exact s11⟩, fun u hu ut => ?_, ⟨⟨by rw [F1 1995 _ rfl]; exact r1, by rw [F2 2186 _ rfl]; exact r2, r3, r4⟩, ⟨by rw [F1 1996 _ rfl]; exact r5, by rw [F1 2005 _ rfl]; exact r6⟩, ?_, fun k hk => ?_, fun k hk => ?_⟩⟩
  · obtain ⟨⟨n, b1, b2⟩, b3, b4⟩ := s4
    have x1 := fr_row F2 2255 (fun _ => rfl)
    have x2 := fr_row F2 2256 (fun _ => rfl)
    refine ⟨⟨n, hR_same b1 (F1 1960 _ rfl) (fr_row F1 1979 (fun _ => rfl)) (fr_row F1 1980 (fun _ => rfl)) (fr_row F1 1981 (fun _ => rfl)) (F2 2075 _ rfl) x1 x2 (fr_row F2 2257 (fun _ => rfl)) (fr_row F2 2258 (fun _ => rfl)), by rw [x1, x2]; exact b2⟩, by rw [F1 1990 _ rfl]; exact b3, ⟨fun j hj => ?_, tot_le b4.2 (fr_row F1 35 (fun _ => rfl)) (fr_row F2 2183 (fun _ => rfl)) (F1 1990 _ rfl)⟩⟩
    rw [F1 2014 j rfl, F1 1990 _ rfl]; exact b4.1 j hj
  · rw [arr]
    exact reR_ag (s12 u hu ut) (Int.le_refl _) gS (agV_of ut (fun _ _ => ⟨F1 1992 _ rfl, F1 1993 _ rfl⟩) (fun v hv => F1 1994 _ rfl) (fun b hb => ⟨F1 2009 _ rfl, F1 2006 _ rfl, F2 2200 _ rfl⟩) (fun q _ => F2 2205 _ rfl) (fun q _ => F2 2206 _ rfl)) ⟨⟨F1 1995 _ rfl, F2 2186 _ rfl⟩, fun k hk => ⟨F1 2006 _ rfl, F1 2007 _ rfl, F1 2008 _ rfl, F1 2010 _ rfl, F1 2011 _ rfl, F2 2197 _ rfl, F2 2198 _ rfl, F2 2199 _ rfl, F2 2201 _ rfl, F2 2202 _ rfl, F2 2203 _ rfl⟩⟩ (F1 1996 _ rfl) (F1 1997 _ rfl) (F1 2005 _ rfl)
  · rw [arr, F1 2009 _ rfl, F1 2006 _ rfl]
    refine thV_ag r7 r4 ⟨fun p _ _ => ?_, ?_, fun k _ => ?_, fun k j _ _ => ?_, fun k j _ _ => ?_⟩
    · rw [up_cell _ (by decide), up_cell _ (by decide), up_cell _ (by decide), up_cell _ (by decide), F1 1992 _ rfl, F1 1993 _ rfl]; exact ⟨rfl, rfl⟩
    · rw [up_same, up_same]
    · rw [up_cell _ (by decide), up_cell _ (by decide), up_cell _ (by decide), up_cell _ (by decide), F1 2009 _ rfl, F1 2006 _ rfl, up_at, up_at, F2 2200 _ rfl]; exact ⟨rfl, rfl, rfl⟩
    · rw [up_cell _ (by decide), up_cell _ (by decide)]; exact F2 2205 _ rfl
    · rw [up_cell _ (by decide), up_cell _ (by decide)]; exact F2 2206 _ rfl
  · have q := r8 k hk
    unfold acR at *
    rw [F1 2006 _ rfl, F1 2007 _ rfl, F1 2010 _ rfl, F1 2011 _ rfl, F1 1960 _ rfl, gS.1, gS.2.2.1, F2 2197 _ rfl, F2 2198 _ rfl, F2 2201 _ rfl, F2 2202 _ rfl, F2 2203 _ rfl, gS.2.2.2.2.2.1, gS.2.2.2.2.2.2.1, gS.2.2.2.2.2.2.2.1]
    exact q
  · have q := r9 k hk
    unfold coR at *
    rw [F1 2007 _ rfl, F1 2008 _ rfl, F2 2199 _ rfl, F2 2200 _ rfl, gS.2.2.2.1, gS.2.2.2.2.1]
    exact q
section
variable {d d' : Nat} {Y Y' : vY} {X mm Nn Lp : Nat} {nm pr ht : Nat → Nat} {I I' : vJ} {th t A i W N : Nat} {Q : vE → vE → Prop}
theorem e_print {nd w : Nat} {x6 x7 x8 y3 y4 y5 y6 : vV} (hL : vL Y) (hL' : vL Y') (h : IS Y Y' X mm Nn Lp nm pr ht I I' th t A i W N) (hi : ¬ (i : Int) < I' (X + 12) (I 2007 (40 * t + (A - 1))).toNat) (hnd : I 2007 (40 * t + (A - 1)) = nd) (hw : I 48 nd = w) (hk : I 38 nd = 15)
    (hOn : ∀ (J J' : vJ), IFs Y Y' X mm Nn Lp nm pr ht J J' th t A W N → J 2007 (40 * t + (A - 1)) = nd → J 38 = I 38 → J 48 = I 48 → J 1994 t = J 2009 (40 * t + (A - 1)) + nm (J 2006 (40 * t + (A - 1))).toNat → onw (d' + 8) (d' + 11) Y Y' t (40 * t + (A - 1)) nd w y5 y6 0 J J' Q)
    (hFl : ∀ (J' : vJ) (f : Int), 1 ≤ f → f ≤ 9 → IFs Y Y' X mm Nn Lp nm pr ht I J' th t A W N → fln (d' + 8) (d' + 11) Y Y' t (40 * t + (A - 1)) nd y5 y6 f I J' Q) :
    vW (d + 9) 177 (33, [vr 1990, vi t, vi ((40 * t + (A - 1) : Nat) : Int), vi nd, vi (2 * (i : Int)), vr 37, x6, x7, x8], [], (I, Y)) (fun r => vW (d' + 11) 422 (2, [vr 2075, vi t, vi 1, y3, y4, y5, y6], [], (I', Y')) (fun r' => Q r r')) := by
  obtain ⟨nd', B, T, w', ⟨a1, a2, a3, a4⟩, ⟨b1, b2, b3, b3'⟩, ⟨b4, b5, b6⟩, ⟨c1, c2, c3⟩, ⟨c4, c5⟩, c6, ⟨c7, c8, c9, c10, c11, c12⟩, ⟨v1, v2⟩, ⟨p1, p2, p3⟩⟩ := IS_end h hi
  have e0 : nd' = nd := by omega
  subst e0
  have e1 : w' = w := by omega
  subst e1
  obtain ⟨hX, hX2, hV⟩ := h.1.1
  have hv1 : wkV (I 38 nd') = 1 := by rw [hk]; decide
  rw [c6, hv1] at p3 c9
  have vt := v2 0 (by rw [c6, hv1]; decide)
  rw [Nat.add_zero, Nat.add_zero] at vt
  have n300 : I 1990 3376 ≤ 300 := by
    obtain ⟨n, E, q⟩ := h.2.2.1.2.2.2.1
    have q1 := q.1.1
    have q2 := q.2.1
    clear q
    omega
  obtain ⟨i1, i2, i3⟩ := vv_inV n300 vt
  obtain ⟨⟨g1, g2, g3⟩, g4⟩ := h.2.2.1.2.2.2.2.2.2.2.2.2.1
  obtain ⟨n, hn⟩ : ∃ n : Nat, I 1990 3379 = n := ⟨(I 1990 3379).toNat, by omega⟩
  have num : (I' 2206 (160 * (40 * t + (A - 1))) % 4 = 0 ↔ I 1992 (B + nm (I 2006 (40 * t + (A - 1))).toNat) = 0) ∧ (I 1992 (B + nm (I 2006 (40 * t + (A - 1))).toNat) = 0 → I' 2206 (160 * (40 * t + (A - 1))) / 4 = I 1993 (B + nm (I 2006 (40 * t + (A - 1))).toNat)) := by
    unfold vv at vt
    generalize I' 2206 (160 * (40 * t + (A - 1))) = e at vt ⊢
    generalize I 1992 (B + nm (I 2006 (40 * t + (A - 1))).toNat) = k at vt ⊢
    generalize I 1993 (B + nm (I 2006 (40 * t + (A - 1))).toNat) = v at vt ⊢
    clear i1 i2 i3 g1 g2 g3 g4 v1 v2 hOn hFl
    rcases vt with q | q | q
    · exact ⟨⟨fun _ => q.1, fun _ => by omega⟩, fun _ => by omega⟩
    · exact ⟨⟨fun _ => by omega, fun _ => by omega⟩, fun _ => by omega⟩
    · exact ⟨⟨fun _ => by omega, fun _ => by omega⟩, fun _ => by omega⟩
  clear vt
  have hm : ∀ K : vE → Prop, vW (d' + 11) 422 (2, [vr 2075, vi t, vi 1, y3, y4, y5, y6], [], (I', Y')) K ↔ vW (d' + 10) 443 (0, [vr 2075, vi t, vi ((40 * t + (A - 1) : Nat) : Int), vi nd', vu, vu, vu], [], (I', Y')) (vWC (d' + 11) 422 114 3 [vr 2075, vi t, vi 1, vi ((40 * t + (A - 1) : Nat) : Int), vi nd', y5, y6] [] K) := fun K => t_end (X := X) hL' hX hV a1 rfl a4 p1 b2 b3 b5 b6 p2
  have F2 : fr [2199, 2200] [] I' (up I' 2200 (40 * t + (A - 1)) ((0 : Nat) : Int)) := fr_upL (fr_refl _ _ _) rfl _ _
  have hI : IFs Y Y' X mm Nn Lp nm pr ht I (up I' 2200 (40 * t + (A - 1)) ((0 : Nat) : Int)) th t A W N := IS_fail h F2 (fun b hb => ⟨up_cell _ (by decide) _ _ _, up_place _ _ hb _⟩)
  have hn' : up I' 2200 (40 * t + (A - 1)) ((0 : Nat) : Int) 2075 7739 = n := by rw [up_cell _ (by decide), ← g1]; exact hn
  have h84 : up I' 2200 (40 * t + (A - 1)) ((0 : Nat) : Int) 2184 = I' 2184 := up_row _ (by decide) _ _
  have E : I 1994 t - 1 = ((B + nm (I 2006 (40 * t + (A - 1))).toNat : Nat) : Int) := by omega
  have m443 : ∀ K : vE → Prop, vW (d' + 10) 443 (0, [vr 2075, vi t, vi ((40 * t + (A - 1) : Nat) : Int), vi nd', vu, vu, vu], [], (I', Y')) K ↔ vW (d' + 9) 452 (12, [vr 2075, vi t, vi ((40 * t + (A - 1) : Nat) : Int), vi w', vl (I' 2206 (160 * (40 * t + (A - 1)))), vu], [vi (if I' 2206 (160 * (40 * t + (A - 1))) % 4 = 0 then 1 else 0)], (up I' 2200 (40 * t + (A - 1)) ((0 : Nat) : Int), Y')) (vWC (d' + 10) 443 323 3 [vr 2075, vi t, vi ((40 * t + (A - 1) : Nat) : Int), vi nd', vi w', vu, vu] [] K) := by
    intro K
    rw [b443_0 hL' hV (by omega) (by omega), hX, tn0, c1, c5, hk, show w32 15 = 15 from w32_id (by decide) (by decide)]
    simp only [Int.reduceEq, if_true, if_false]
    rw [b443_318 hL', b452_0 hL', t_pop (S := 0) hL' a4 (by rw [p3]; rfl) (by decide)]
    simp only [vWC_s, Nat.reduceAdd, Nat.add_zero]
    rw [b452_5, t_isNum i1]
    simp only [vWC_s, Nat.reduceAdd]
  generalize up I' 2200 (40 * t + (A - 1)) ((0 : Nat) : Int) = J' at hI hn' h84 m443
  have back : ∀ (so : Int) (J : vJ) (M1 : vJ) (M2 : vY) (s : Int), (s = 0 ∨ s = 1) → vW (d' + 11) 422 (2, [vr 2075, vi t, vi s, vi ((40 * t + (A - 1) : Nat) : Int), vi nd', y5, y6], [], (M1, M2)) (fun r' => Q (.inl (some (vi so)), (J, Y)) r') → vW (d' + 10) 443 (326, [vr 2075, vi t, vi ((40 * t + (A - 1) : Nat) : Int), vi nd', vi w', vu, vu], [vi s], (M1, M2)) (vWC (d' + 11) 422 114 3 [vr 2075, vi t, vi 1, vi ((40 * t + (A - 1) : Nat) : Int), vi nd', y5, y6] [] (fun r' => Q (.inl (some (vi so)), (J, Y)) r')) := by
    intro so J M1 M2 s q2 q3
    rw [b443_326 q2]
    simp only [vWC_s, Nat.reduceAdd]
    rw [b422_117, b422_118]
    exact q3
  rw [c_end hL b3 b4 b6, b187_0 hL (by omega) (by omega) (by omega) (by omega)]
  simp only [hm, m443, tn0]
  rw [hk, show w32 15 = 15 from w32_id (by decide) (by decide)]
  simp only [Int.reduceEq, if_true, if_false]
  rw [E, b187_367 hL (by omega) (by omega), tn0, w32_id (by omega) (by omega)]
  by_cases z : I 1992 (B + nm (I 2006 (40 * t + (A - 1))).toNat) = 0
  · have ze := num.1.mpr z
    have zv := num.2 z
    rw [if_pos z, b187_383 hL, hn, w32_id (by omega) (by omega), show w32 400 = 400 from w32_id (by decide) (by decide)]
    simp only [ze, if_true]
    have mz : ∀ K : vE → Prop, vW (d' + 9) 452 (12, [vr 2075, vi t, vi ((40 * t + (A - 1) : Nat) : Int), vi w', vl (I' 2206 (160 * (40 * t + (A - 1)))), vu], [vi 1], (J', Y')) K ↔ vW (d' + 9) 452 (if (n : Int) ≠ 400 then 52 else 38, [vr 2075, vi t, vi ((40 * t + (A - 1) : Nat) : Int), vi w', vl (I' 2206 (160 * (40 * t + (A - 1)))), vu], [], (J', Y')) K := by
      intro K
      rw [b452_12, if_pos (by decide), b452_28 hL', hn', w32_id (by omega) (by omega), show w32 400 = 400 from w32_id (by decide) (by decide)]
      by_cases y : (n : Int) ≠ 400
      · rw [if_pos y, if_pos y]
      · rw [if_neg y, if_neg y]
    simp only [mz]
    by_cases y : (n : Int) ≠ 400
    · simp only [y, if_true, not_false_eq_true, ne_eq]
      rw [b187_400 hL (by omega) (by omega) (by omega) (by omega) (by omega) (by omega)]
      simp only [tn0, hn, E, vWC_s, Nat.reduceAdd, b177_370]
      rw [b452_52 hL', t_val i1]
      simp only [vWC_s, Nat.reduceAdd]
      rw [hn', zv, b452_65 hL' (by omega) (by omega)]
      simp only [tn0]
      rw [hn']
      have G1 : fr [2035] [(1990, 3379)] I (up (up I 2035 n (I 1993 (B + nm (I 2006 (40 * t + (A - 1))).toNat))) 1990 3379 ((n : Int) + 1)) := fr_upP (fr_upL (fr_refl _ _ _) rfl _ _) rfl _
      have G2 : fr [2184] [(2075, 7739)] J' (up (up J' 2184 n (I 1993 (B + nm (I 2006 (40 * t + (A - 1))).toNat))) 2075 7739 ((n : Int) + 1)) := fr_upP (fr_upL (fr_refl _ _ _) rfl _ _) rfl _
      have hp : pPrint (up (up I 2035 n (I 1993 (B + nm (I 2006 (40 * t + (A - 1))).toNat))) 1990 3379 ((n : Int) + 1)) (up (up J' 2184 n (I 1993 (B + nm (I 2006 (40 * t + (A - 1))).toNat))) 2075 7739 ((n : Int) + 1)) := by
        refine ⟨?_, fun j hj => ?_⟩
        · rw [up_same, up_same]; exact ⟨rfl, by omega, by omega⟩
        · rw [up_cell _ (show (2035 : Nat) ≠ 1990 by decide), up_cell _ (show (2184 : Nat) ≠ 2075 by decide), up_at, up_at, h84, g4 j hj]
      have hF := IFs_top (IFs_print hI G1 G2 hp) ((B + nm (I 2006 (40 * t + (A - 1))).toNat : Nat) : Int)
      have o := hOn _ _ hF (by rw [up_cell _ (by decide), G1 2007 _ rfl]; exact b1) (by rw [up_row _ (by decide), fr_row G1 38 (fun _ => rfl)]) (by rw [up_row _ (by decide), fr_row G1 48 (fun _ => rfl)]) (by rw [up_same, up_cell _ (show (2009 : Nat) ≠ 1994 by decide), up_cell _ (show (2006 : Nat) ≠ 1994 by decide), G1 2009 _ rfl, G1 2006 _ rfl, c7]; omega)
      refine vWmo (Nat.le_refl _) (fun q hq => ?_) o
      obtain ⟨s, ⟨M1, M2⟩, q1, q2, q3⟩ := hq
      rw [q1]
      simp only [vWC_s, Nat.reduceAdd]
      rw [b452_83 q2]
      simp only [vWC_s, Nat.reduceAdd]
      exact back _ _ _ _ _ q2 q3
    · simp only [y, if_false]
      rw [b187_393 hL, c_fails hL (by decide) (by decide)]
      simp only [vWC_s, Nat.reduceAdd, b187_399, b177_370]
      rw [b452_38, b399_0]
      simp only [vWC_s, Nat.reduceAdd]
      rw [b452_48 hL', show (6 : Int) * 4 = 4 * 6 from rfl]
      refine vWmo (Nat.le_refl _) (fun q hq => ?_) (hFl J' 6 (by decide) (by decide) hI)
      obtain ⟨s, ⟨M1, M2⟩, q1, q2, q3⟩ := hq
      rw [q1]
      simp only [vWC_s, Nat.reduceAdd]
      rw [b452_51 q2]
      simp only [vWC_s, Nat.reduceAdd]
      exact back _ _ _ _ _ q2 q3
  · have ze : ¬ I' 2206 (160 * (40 * t + (A - 1))) % 4 = 0 := fun q => z (num.1.mp q)
    rw [if_neg z, b187_377 hL, c_fails hL (by decide) (by decide)]
    simp only [vWC_s, Nat.reduceAdd, b187_382, b177_370, ze, if_false]
    rw [b452_12, if_neg (by decide), b452_15, b399_0]
    simp only [vWC_s, Nat.reduceAdd]
    rw [b452_24 hL']
    refine vWmo (Nat.le_refl _) (fun q hq => ?_) (hFl J' 4 (by decide) (by decide) hI)
    obtain ⟨s, ⟨M1, M2⟩, q1, q2, q3⟩ := hq
    rw [q1]
    simp only [vWC_s, Nat.reduceAdd]
    rw [b452_27 q2]
    simp only [vWC_s, Nat.reduceAdd]
    exact back _ _ _ _ _ q2 q3
end
