/-! ===== a name is put ===== -/
set_option maxRecDepth 20000
set_option maxHeartbeats 4000000
theorem IFs_name {Y Y' : vY} {X mm Nn Lp : Nat} {nm pr ht : Nat → Nat} {I I' J J' : vJ} {th t A W N j P : Nat} {kd v e : Int} (h : IFs Y Y' X mm Nn Lp nm pr ht I I' th t A W N) (hj : j < nm (I 2006 (40 * t + (A - 1))).toNat) (hP : (P : Int) = I 2009 (40 * t + (A - 1)) + j) (hv : vv (I 1990 3376) kd v e) (F1 : fr [1992, 1993] [] I J) (F2 : fr [2205] [] I' J') (e1 : ∀ q, J 1992 q = if q = P then kd else I 1992 q) (e2 : ∀ q, J 1993 q = if q = P then v else I 1993 q) (e3 : ∀ q, J' 2205 q = if q = 16 * (40 * t + (A - 1)) + j then e else I' 2205 q) : IFs Y Y' X mm Nn Lp nm pr ht J J' th t A W N := by
  obtain ⟨s1, s2, s3, s4, ⟨s5, s6, s7, s8, s9, s10, s11⟩, s12, ⟨⟨r1, r2, r3, r4⟩, ⟨r5, r6⟩, r7, r8, r9⟩⟩ := h
  have g := agT_fr F1 F2 rfl
  have hX := s1.1.2.1
  have gS : agS I I' J J' X := ⟨g.1 38 (by decide) (by decide), g.1 43 (by decide) (by decide), g.1 62 (by decide) (by decide), g.2.2.1 (X + 11) (by omega) (by omega), g.2.2.1 (X + 12) (by omega) (by omega), g.2.2.1 (X + 37) (by omega) (by omega), g.2.2.1 2178 (by decide) (by decide), g.2.2.1 2179 (by decide) (by decide), by rw [F1 1960 _ rfl]; exact Int.le_refl _⟩
  obtain ⟨q1, q2, q3, q4, q5, q6, q7, q8, q9, q10, q11, q12, q13, q14, q15, q16, q17, q18, q19, q20⟩ := s3
  have arr : J 1990 3376 = I 1990 3376 := F1 1990 _ rfl
  have tn := thV_name (J := up J 1994 t (I 2009 (40 * t + (A - 1)) + nm (I 2006 (40 * t + (A - 1))).toNat)) (J' := up J' 2200 (40 * t + (A - 1)) 0) (j := j) (P := P) (kd := kd) (v := v) (e := e) r7 r3 r4 (by rw [up_cell _ (by decide)]; exact hj) (by rw [up_cell _ (by decide)]; exact hP) hv (fun q => by rw [up_cell _ (by decide), up_cell _ (by decide)]; exact e1 q) (fun q => by rw [up_cell _ (by decide), up_cell _ (by decide)]; exact e2 q) (funext fun u => by rw [up_at, up_at, F1 1994 _ rfl]) (by rw [up_row _ (by decide), up_row _ (by decide)]; exact fr_row F1 2009 (fun _ => rfl)) (by rw [up_row _ (by decide), up_row _ (by decide)]; exact fr_row F1 2006 (fun _ => rfl)) (funext fun u => by rw [up_at, up_at, F2 2200 _ rfl]) (fun q => by rw [up_cell _ (by decide), up_cell _ (by decide)]; exact e3 q) (by rw [up_row _ (by decide), up_row _ (by decide)]; exact fr_row F2 2206 (fun _ => rfl))
  have j16 : 8 + 5760 * t ≤ P ∧ P < 8 + 5760 * t + 5760 ∧ j < 16 := by
    obtain ⟨b, s, h1, h2, h3, _⟩ := r7
    have bd := thV_bd h2 h3 (fun k hk => ⟨(h1 k hk).2.2.1, (h1 k hk).2.2.2⟩) (A - 1) (by omega)
    have z := (h1 (A - 1) (by omega)).1
    have z2 := (h1 (A - 1) (by omega)).2.2.1
    rw [up_cell _ (show (2009 : Nat) ≠ 1994 by decide)] at z
    rw [up_cell _ (show (2006 : Nat) ≠ 1994 by decide)] at z2
    omega
  have hV : pVars J J' := fun v9 hv8 hv9 => by
    rw [F1 1960 _ rfl] at hv9
    rw [e1, e2, if_neg (by omega), if_neg (by omega), arr, F2 2185 _ rfl]; exact q20 v9 hv8 hv9
  refine ⟨ST_ag s1 g, su_keep su_LZ F1 F2 rfl s2, ⟨su_keep su_tR F1 F2 rfl q1, su_keep su_pPath F1 F2 rfl q2, su_keep su_loR F1 F2 rfl q3, su_keep su_pArr F1 F2 rfl q4, su_keep su_pStep F1 F2 rfl q5, su_keep su_pKeep F1 F2 rfl q6, su_keep su_pCost F1 F2 rfl q7, su_keep su_pCalls F1 F2 rfl q8, su_keep su_pMet F1 F2 rfl q9, su_keep su_pPrint F1 F2 rfl q10, su_keep su_pBegun F1 F2 rfl q11, su_keep su_pLooks F1 F2 rfl q12, su_keep su_pPar F1 F2 rfl q13, su_keep su_pThr F1 F2 rfl q14, su_keep su_pDone F1 F2 rfl q15, su_keep su_pLast F1 F2 rfl q16, su_keep su_pFor F1 F2 rfl q17, su_keep su_pTurns F1 F2 rfl q18, su_keep su_pSeed F1 F2 rfl q19, hV⟩, ?_, ⟨s5, by rw [fr_row F1 1995 (fun _ => rfl), F1 1990 3393 rfl, F1 1960 3100 rfl]; exact s6, by rw [F1 1990 _ rfl]; exact s7, by rw [F2 2075 _ rfl]; exact s8, s9, s10, by rw [F2 2075 _ rfl]; exact s11⟩, fun u hu ut => ?_, ⟨⟨by rw [F1 1995 _ rfl]; exact r1, by rw [F2 2186 _ rfl]; exact r2, r3, r4⟩, ⟨by rw [F1 1996 _ rfl]; exact r5, by rw [F1 2005 _ rfl]; exact r6⟩, ?_, fun k hk => ?_, fun k hk => ?_⟩⟩
  · obtain ⟨⟨n, b1, b2⟩, b3, b4⟩ := s4
    have x1 := fr_row F2 2255 (fun _ => rfl)
    have x2 := fr_row F2 2256 (fun _ => rfl)
    refine ⟨⟨n, hR_same b1 (F1 1960 _ rfl) (fr_row F1 1979 (fun _ => rfl)) (fr_row F1 1980 (fun _ => rfl)) (fr_row F1 1981 (fun _ => rfl)) (F2 2075 _ rfl) x1 x2 (fr_row F2 2257 (fun _ => rfl)) (fr_row F2 2258 (fun _ => rfl)), by rw [x1, x2]; exact b2⟩, by rw [F1 1990 _ rfl]; exact b3, ⟨fun j hj => ?_, tot_le b4.2 (fr_row F1 35 (fun _ => rfl)) (fr_row F2 2183 (fun _ => rfl)) (F1 1990 _ rfl)⟩⟩
    rw [F1 2014 j rfl, F1 1990 _ rfl]; exact b4.1 j hj
  · rw [arr]
    exact reR_ag (s12 u hu ut) (Int.le_refl _) gS (agV_of ut (fun q hq => ⟨by rw [e1, if_neg (by omega)], by rw [e2, if_neg (by omega)]⟩) (fun v hv => F1 1994 _ rfl) (fun b hb => ⟨F1 2009 _ rfl, F1 2006 _ rfl, F2 2200 _ rfl⟩) (fun q hq => by rw [e3, if_neg (by omega)]) (fun q _ => F2 2206 _ rfl)) ⟨⟨F1 1995 _ rfl, F2 2186 _ rfl⟩, fun k hk => ⟨F1 2006 _ rfl, F1 2007 _ rfl, F1 2008 _ rfl, F1 2010 _ rfl, F1 2011 _ rfl, F2 2197 _ rfl, F2 2198 _ rfl, F2 2199 _ rfl, F2 2201 _ rfl, F2 2202 _ rfl, F2 2203 _ rfl⟩⟩ (F1 1996 _ rfl) (F1 1997 _ rfl) (F1 2005 _ rfl)
  · rw [arr, F1 2009 _ rfl, F1 2006 _ rfl]; exact tn.1
  · have q := r8 k hk
    unfold acR at *
    rw [F1 2006 _ rfl, F1 2007 _ rfl, F1 2010 _ rfl, F1 2011 _ rfl, F1 1960 _ rfl, gS.1, gS.2.2.1, F2 2197 _ rfl, F2 2198 _ rfl, F2 2201 _ rfl, F2 2202 _ rfl, F2 2203 _ rfl, gS.2.2.2.2.2.1, gS.2.2.2.2.2.2.1, gS.2.2.2.2.2.2.2.1]
    exact q
  · have q := r9 k hk
    unfold coR at *
    rw [F1 2007 _ rfl, F1 2008 _ rfl, F2 2199 _ rfl, F2 2200 _ rfl, gS.2.2.2.1, gS.2.2.2.2.1]
    exact q
