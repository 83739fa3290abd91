/-! ===== node BEGIN of a loop over numbers ===== -/
set_option maxRecDepth 20000
set_option maxHeartbeats 4000000
theorem IFs_for {Y Y' : vY} {X mm Nn Lp : Nat} {nm pr ht : Nat → Nat} {I I' J J' : vJ} {th t A W N : Nat} (h : IFs Y Y' X mm Nn Lp nm pr ht I I' th t A W N) (F1 : fr [2015, 2016] [] I J) (F2 : fr [2207, 2208] [] I' J') (hp : pFor J J') : IFs Y Y' X mm Nn Lp nm pr ht J J' th t A W N := by
  obtain ⟨s1, s2, s3, s4, ⟨s5, s6, s7, s8, s9, s10, s11⟩, s12, ⟨⟨r1, r2, r3, r4⟩, ⟨r5, r6⟩, r7, r8, r9⟩⟩ := h
  have g := agT_fr F1 F2 rfl
  have hX := s1.1.2.1
  have gS : agS I I' J J' X := ⟨g.1 38 (by decide) (by decide), g.1 43 (by decide) (by decide), g.1 62 (by decide) (by decide), g.2.2.1 (X + 11) (by omega) (by omega), g.2.2.1 (X + 12) (by omega) (by omega), g.2.2.1 (X + 37) (by omega) (by omega), g.2.2.1 2178 (by decide) (by decide), g.2.2.1 2179 (by decide) (by decide), by rw [F1 1960 _ rfl]; exact Int.le_refl _⟩
  obtain ⟨q1, q2, q3, q4, q5, q6, q7, q8, q9, q10, q11, q12, q13, q14, q15, q16, q17, q18, q19, q20⟩ := s3
  have arr : J 1990 3376 = I 1990 3376 := F1 1990 _ rfl
  refine ⟨ST_ag s1 g, su_keep su_LZ F1 F2 rfl s2, ⟨su_keep su_tR F1 F2 rfl q1, su_keep su_pPath F1 F2 rfl q2, su_keep su_loR F1 F2 rfl q3, su_keep su_pArr F1 F2 rfl q4, su_keep su_pStep F1 F2 rfl q5, su_keep su_pKeep F1 F2 rfl q6, su_keep su_pCost F1 F2 rfl q7, su_keep su_pCalls F1 F2 rfl q8, su_keep su_pMet F1 F2 rfl q9, su_keep su_pPrint F1 F2 rfl q10, su_keep su_pBegun F1 F2 rfl q11, su_keep su_pLooks F1 F2 rfl q12, su_keep su_pPar F1 F2 rfl q13, su_keep su_pThr F1 F2 rfl q14, su_keep su_pDone F1 F2 rfl q15, su_keep su_pLast F1 F2 rfl q16, hp, su_keep su_pTurns F1 F2 rfl q18, su_keep su_pSeed F1 F2 rfl q19, su_keep su_pVars F1 F2 rfl q20⟩, ?_, ⟨s5, by rw [fr_row F1 1995 (fun _ => rfl), F1 1990 3393 rfl, F1 1960 3100 rfl]; exact s6, by rw [F1 1990 _ rfl]; exact s7, by rw [F2 2075 _ rfl]; exact s8, s9, s10, by rw [F2 2075 _ rfl]; exact s11⟩, fun u hu ut => ?_, ⟨⟨by rw [F1 1995 _ rfl]; exact r1, by rw [F2 2186 _ rfl]; exact r2, r3, r4⟩, ⟨by rw [F1 1996 _ rfl]; exact r5, by rw [F1 2005 _ rfl]; exact r6⟩, ?_, fun k hk => ?_, fun k hk => ?_⟩⟩
  · obtain ⟨⟨n, b1, b2⟩, b3, b4⟩ := s4
    have x1 := fr_row F2 2255 (fun _ => rfl)
    have x2 := fr_row F2 2256 (fun _ => rfl)
    refine ⟨⟨n, hR_same b1 (F1 1960 _ rfl) (fr_row F1 1979 (fun _ => rfl)) (fr_row F1 1980 (fun _ => rfl)) (fr_row F1 1981 (fun _ => rfl)) (F2 2075 _ rfl) x1 x2 (fr_row F2 2257 (fun _ => rfl)) (fr_row F2 2258 (fun _ => rfl)), by rw [x1, x2]; exact b2⟩, by rw [F1 1990 _ rfl]; exact b3, ⟨fun j hj => ?_, tot_le b4.2 (fr_row F1 35 (fun _ => rfl)) (fr_row F2 2183 (fun _ => rfl)) (F1 1990 _ rfl)⟩⟩
    rw [F1 2014 j rfl, F1 1990 _ rfl]; exact b4.1 j hj
  · rw [arr]
    exact reR_ag (s12 u hu ut) (Int.le_refl _) gS (agV_of ut (fun _ _ => ⟨F1 1992 _ rfl, F1 1993 _ rfl⟩) (fun v hv => F1 1994 _ rfl) (fun b hb => ⟨F1 2009 _ rfl, F1 2006 _ rfl, F2 2200 _ rfl⟩) (fun q _ => F2 2205 _ rfl) (fun q _ => F2 2206 _ rfl)) ⟨⟨F1 1995 _ rfl, F2 2186 _ rfl⟩, fun k hk => ⟨F1 2006 _ rfl, F1 2007 _ rfl, F1 2008 _ rfl, F1 2010 _ rfl, F1 2011 _ rfl, F2 2197 _ rfl, F2 2198 _ rfl, F2 2199 _ rfl, F2 2201 _ rfl, F2 2202 _ rfl, F2 2203 _ rfl⟩⟩ (F1 1996 _ rfl) (F1 1997 _ rfl) (F1 2005 _ rfl)
  · rw [arr, F1 2009 _ rfl, F1 2006 _ rfl]
    refine thV_ag r7 r4 ⟨fun p _ _ => ?_, ?_, fun k _ => ?_, fun k j _ _ => ?_, fun k j _ _ => ?_⟩
    · rw [up_cell _ (by decide), up_cell _ (by decide), up_cell _ (by decide), up_cell _ (by decide), F1 1992 _ rfl, F1 1993 _ rfl]; exact ⟨rfl, rfl⟩
    · rw [up_same, up_same]
    · rw [up_cell _ (by decide), up_cell _ (by decide), up_cell _ (by decide), up_cell _ (by decide), F1 2009 _ rfl, F1 2006 _ rfl, up_at, up_at, F2 2200 _ rfl]; exact ⟨rfl, rfl, rfl⟩
    · rw [up_cell _ (by decide), up_cell _ (by decide)]; exact F2 2205 _ rfl
    · rw [up_cell _ (by decide), up_cell _ (by decide)]; exact F2 2206 _ rfl
  · have q := r8 k hk
    unfold acR at *
    rw [F1 2006 _ rfl, F1 2007 _ rfl, F1 2010 _ rfl, F1 2011 _ rfl, F1 1960 _ rfl, gS.1, gS.2.2.1, F2 2197 _ rfl, F2 2198 _ rfl, F2 2201 _ rfl, F2 2202 _ rfl, F2 2203 _ rfl, gS.2.2.2.2.2.1, gS.2.2.2.2.2.2.1, gS.2.2.2.2.2.2.2.1]
    exact q
  · have q := r9 k hk
    unfold coR at *
    rw [F1 2007 _ rfl, F1 2008 _ rfl, F2 2199 _ rfl, F2 2200 _ rfl, gS.2.2.2.1, gS.2.2.2.2.1]
    exact q
section
variable {d d' : Nat} {Y Y' : vY} {X mm Nn Lp : Nat} {nm pr ht : Nat → Nat} {I I' : vJ} {th t A i W N : Nat} {Q : vE → vE → Prop}
theorem vv_num {n k v e : Int} (h : vv n k v e) : (e % 4 = 0 ↔ k = 0) ∧ (k = 0 → e / 4 = v) := by
  unfold vv at h
  rcases h with q | q | q
  · exact ⟨⟨fun _ => q.1, fun _ => by omega⟩, fun _ => by omega⟩
  · exact ⟨⟨fun _ => by omega, fun _ => by omega⟩, fun _ => by omega⟩
  · exact ⟨⟨fun _ => by omega, fun _ => by omega⟩, fun _ => by omega⟩
end
