/-! ===== the relation behind the choice of the next turn ===== -/
set_option maxRecDepth 20000
set_option maxHeartbeats 4000000
theorem AS_turn {Y Y' : vY} {X mm Nn Lp : Nat} {nm pr ht : Nat → Nat} {I I' : vJ} {th W N tau : Nat} {s : Int} (h : AS Y Y' X mm Nn Lp nm pr ht I I' th W N) (hs : 0 ≤ s ∧ s < 2147483648) (htau : tau < th) : AS Y Y' X mm Nn Lp nm pr ht (up (up I 1990 3394 s) 1990 3389 (tau : Int)) (up (up I' 2075 7740 s) 2075 7730 (tau : Int)) th W N := by
  have F1 : fr [] [(1990, 3394), (1990, 3389)] I (up (up I 1990 3394 s) 1990 3389 (tau : Int)) := fr_upP (fr_upP (fr_refl _ _ _) rfl _) rfl _
  have F2 : fr [] [(2075, 7740), (2075, 7730)] I' (up (up I' 2075 7740 s) 2075 7730 (tau : Int)) := fr_upP (fr_upP (fr_refl _ _ _) rfl _) rfl _
  have f1 : up (up I 1990 3394 s) 1990 3389 (tau : Int) 1990 3394 = s := by rw [up_place _ _ (by decide), up_same]
  have f2 : up (up I 1990 3394 s) 1990 3389 (tau : Int) 1990 3389 = tau := up_same _ _ _ _
  have g1 : up (up I' 2075 7740 s) 2075 7730 (tau : Int) 2075 7740 = s := by rw [up_place _ _ (by decide), up_same]
  have g2 : up (up I' 2075 7740 s) 2075 7730 (tau : Int) 2075 7730 = tau := up_same _ _ _ _
  generalize up (up I 1990 3394 s) 1990 3389 (tau : Int) = J at F1 f1 f2 ⊢
  generalize up (up I' 2075 7740 s) 2075 7730 (tau : Int) = J' at F2 g1 g2 ⊢
  obtain ⟨s1, s2, s3, s4, ⟨⟨s5, s6, s7⟩, s8, s9, s10⟩, s11⟩ := h
  have thr : I 1990 3390 = th := s2.1.1.1
  have g := agT_fr F1 F2 rfl
  have hX := s1.1.2.1
  have gS : agS I I' J J' X := ⟨g.1 38 (by decide) (by decide), g.1 43 (by decide) (by decide), g.1 62 (by decide) (by decide), g.2.2.1 (X + 11) (by omega) (by omega), g.2.2.1 (X + 12) (by omega) (by omega), g.2.2.1 (X + 37) (by omega) (by omega), g.2.2.1 2178 (by decide) (by decide), g.2.2.1 2179 (by decide) (by decide), by rw [F1 1960 _ rfl]; exact Int.le_refl _⟩
  refine ⟨ST_ag s1 g, su_keep su_LZ F1 F2 rfl s2, ?_, ?_, ⟨⟨by rw [fr_row F1 1995 (fun _ => rfl)]; exact s5, by rw [F1 1990 3393 rfl]; exact s6, by rw [F1 1960 _ rfl]; exact s7⟩, by rw [F1 1990 _ rfl]; exact s8, by rw [F2 2075 _ rfl]; exact s9, s10⟩, fun u hu => ?_⟩
  · obtain ⟨q1, q2, q3, q4, q5, q6, q7, q8, q9, q10, q11, q12, q13, q14, q15, q16, q17, q18, q19, q20⟩ := s3
    have hSe : pSeed J J' := by
      unfold pSeed at *
      rw [f1, f2, g1, g2, F1 1990 3395 rfl, F1 1990 3390 rfl, F2 2075 7827 rfl, F2 2075 7728 rfl, thr]
      exact ⟨⟨rfl, hs⟩, q19.2.1, ⟨rfl, by omega, by omega⟩, q19.2.2.2⟩
    exact ⟨su_keep su_tR F1 F2 rfl q1, su_keep su_pPath F1 F2 rfl q2, su_keep su_loR F1 F2 rfl q3, su_keep su_pArr F1 F2 rfl q4, su_keep su_pStep F1 F2 rfl q5, su_keep su_pKeep F1 F2 rfl q6, su_keep su_pCost F1 F2 rfl q7, su_keep su_pCalls F1 F2 rfl q8, su_keep su_pMet F1 F2 rfl q9, su_keep su_pPrint F1 F2 rfl q10, su_keep su_pBegun F1 F2 rfl q11, su_keep su_pLooks F1 F2 rfl q12, su_keep su_pPar F1 F2 rfl q13, su_keep su_pThr F1 F2 rfl q14, su_keep su_pDone F1 F2 rfl q15, su_keep su_pLast F1 F2 rfl q16, su_keep su_pFor F1 F2 rfl q17, su_keep su_pTurns F1 F2 rfl q18, hSe, su_keep su_pVars F1 F2 rfl q20⟩
  · obtain ⟨⟨n, b1, b2⟩, b3, b4⟩ := s4
    have x1 := fr_row F2 2255 (fun _ => rfl)
    have x2 := fr_row F2 2256 (fun _ => rfl)
    refine ⟨⟨n, hR_same b1 (F1 1960 _ rfl) (fr_row F1 1979 (fun _ => rfl)) (fr_row F1 1980 (fun _ => rfl)) (fr_row F1 1981 (fun _ => rfl)) (F2 2075 _ rfl) x1 x2 (fr_row F2 2257 (fun _ => rfl)) (fr_row F2 2258 (fun _ => rfl)), by rw [x1, x2]; exact b2⟩, by rw [F1 1990 _ rfl]; exact b3, ⟨fun j hj => ?_, tot_le b4.2 (fr_row F1 35 (fun _ => rfl)) (fr_row F2 2183 (fun _ => rfl)) (F1 1990 _ rfl)⟩⟩
    rw [F1 2014 j rfl, F1 1990 3403 rfl]; exact b4.1 j hj
  · rw [F1 1990 3376 rfl]
    exact reR_ag (s11 u hu) (Int.le_refl _) gS ⟨fun p _ _ => ⟨F1 1992 _ rfl, F1 1993 _ rfl⟩, F1 1994 _ rfl, fun k _ => ⟨F1 2009 _ rfl, F1 2006 _ rfl, F2 2200 _ rfl⟩, fun k i _ _ => F2 2205 _ rfl, fun k i _ _ => F2 2206 _ rfl⟩ ⟨⟨F1 1995 _ rfl, F2 2186 _ rfl⟩, fun k _ => ⟨F1 2006 _ rfl, F1 2007 _ rfl, F1 2008 _ rfl, F1 2010 _ rfl, F1 2011 _ rfl, F2 2197 _ rfl, F2 2198 _ rfl, F2 2199 _ rfl, F2 2201 _ rfl, F2 2202 _ rfl, F2 2203 _ rfl⟩⟩ (F1 1996 _ rfl) (F1 1997 _ rfl) (F1 2005 _ rfl)
/-- between steps: as AS, but for the seed and the turn once the run is over -/
def RS (Y Y' : vY) (X mm Nn Lp : Nat) (nm pr ht : Nat → Nat) (I I' : vJ) (th W N : Nat) : Prop := ∃ (s : Int) (tau : Nat), AS Y Y' X mm Nn Lp nm pr ht (up (up I 1990 3394 s) 1990 3389 (tau : Int)) (up I' 2075 7728 1) th W N ∧ I' 2075 7728 = stv (I 1996) th N ∧ (I' 2075 7728 = 1 → s = I 1990 3394 ∧ (tau : Int) = I 1990 3389 ∧ I 1996 tau = 0)
