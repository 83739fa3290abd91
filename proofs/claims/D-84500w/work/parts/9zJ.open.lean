/-! ===== between steps: what both houses can be asked for ===== -/
set_option maxRecDepth 20000
set_option maxHeartbeats 4000000
def PQ (Lp : Nat) (I I' : vJ) : Prop := tR I I' ∧ pPath I I' ∧ loR I I' Lp (fun l => (I 54 l).toNat) ∧ pArr I I' ∧ pStep I I' ∧ pKeep I I' ∧ pCost I I' ∧ pCalls I I' ∧ pMet I I' ∧ pPrint I I' ∧ pBegun I I' ∧ pLooks I I' ∧ pPar I I' ∧ pThr I I' ∧ pDone I I' ∧ pLast I I' ∧ pFor I I' ∧ pTurns I I' ∧ pVars I I'
def RQ (Y Y' : vY) (X mm Nn Lp : Nat) (nm pr ht : Nat → Nat) (I I' : vJ) (th W N : Nat) : Prop := ST I I' Y Y' X mm Nn Lp nm pr ht ∧ LZ I I' th 8 (-1) ∧ PQ Lp I I' ∧ bud I I' W (ht 5000) ∧ (I 1990 3388 = N ∧ I' 2075 7729 = N ∧ N ≤ 20000 ∧ W ≤ N ∧ I 1960 3100 = nm 5000) ∧ (∀ u, u < th → reR (I 1990 3376) nm ht X mm Nn I I' u) ∧ I' 2075 7728 = stv (I 1996) th N ∧ (I' 2075 7728 = 1 → I 1990 3389 = I' 2075 7730)
section
variable {Y Y' : vY} {X mm Nn Lp : Nat} {nm pr ht : Nat → Nat} {I I' : vJ} {th W N : Nat}
theorem RS_open (h : RS Y Y' X mm Nn Lp nm pr ht I I' th W N) : RQ Y Y' X mm Nn Lp nm pr ht I I' th W N := by
  obtain ⟨s, tau, A1, sv, hs⟩ := h
  have F1 := fr_sym (fr_seed I s tau)
  have F2 := fr_sym (fr_stat I' 1)
  have tu : I' 2075 7728 = 1 → I 1990 3389 = I' 2075 7730 := fun q => by
    obtain ⟨_, e2, _⟩ := hs q
    have w := A1.2.2.1.2.2.2.2.2.2.2.2.2.2.2.2.2.2.2.2.2.2.1.2.2.1.1
    rw [up_same, up_place _ _ (by decide)] at w
    rw [← e2]; exact w
  generalize up (up I 1990 3394 s) 1990 3389 (tau : Int) = U at A1 F1
  generalize up I' 2075 7728 1 = U' at A1 F2
  obtain ⟨s1, s2, s3, s4, ⟨⟨s5, s6, s7⟩, s8, s9, s10⟩, s11⟩ := A1
  have g := agT_fr F1 F2 rfl
  have hX := s1.1.2.1
  have gS : agS U U' I I' X := ⟨g.1 38 (by decide) (by decide), g.1 43 (by decide) (by decide), g.1 62 (by decide) (by decide), g.2.2.1 (X + 11) (by omega) (by omega), g.2.2.1 (X + 12) (by omega) (by omega), g.2.2.1 (X + 37) (by omega) (by omega), g.2.2.1 2178 (by decide) (by decide), g.2.2.1 2179 (by decide) (by decide), by rw [F1 1960 _ rfl]; exact Int.le_refl _⟩
  have hW : W ≤ N := by have := sa_nn (U 1995) 8 th; omega
  refine ⟨ST_ag s1 g, su_keep su_LZ F1 F2 rfl s2, ?_, ?_, ⟨by rw [F1 1990 _ rfl]; exact s8, by rw [F2 2075 _ rfl]; exact s9, s10, hW, by rw [F1 1960 _ rfl]; exact s7⟩, fun u hu => ?_, sv, tu⟩
  · obtain ⟨q1, q2, q3, q4, q5, q6, q7, q8, q9, q10, q11, q12, q13, q14, q15, q16, q17, q18, q19, q20⟩ := s3
    exact ⟨su_keep su_tR F1 F2 rfl q1, su_keep su_pPath F1 F2 rfl q2, su_keep su_loR F1 F2 rfl q3, su_keep su_pArr F1 F2 rfl q4, su_keep su_pStep F1 F2 rfl q5, su_keep su_pKeep F1 F2 rfl q6, su_keep su_pCost F1 F2 rfl q7, su_keep su_pCalls F1 F2 rfl q8, su_keep su_pMet F1 F2 rfl q9, su_keep su_pPrint F1 F2 rfl q10, su_keep su_pBegun F1 F2 rfl q11, su_keep su_pLooks F1 F2 rfl q12, su_keep su_pPar F1 F2 rfl q13, su_keep su_pThr F1 F2 rfl q14, su_keep su_pDone F1 F2 rfl q15, su_keep su_pLast F1 F2 rfl q16, su_keep su_pFor F1 F2 rfl q17, su_keep su_pTurns F1 F2 rfl q18, su_keep su_pVars F1 F2 rfl q20⟩
  · obtain ⟨⟨n, b1, b2⟩, b3, b4⟩ := s4
    have x1 := fr_row F2 2255 (fun _ => rfl)
    have x2 := fr_row F2 2256 (fun _ => rfl)
    refine ⟨⟨n, hR_same b1 (F1 1960 _ rfl) (fr_row F1 1979 (fun _ => rfl)) (fr_row F1 1980 (fun _ => rfl)) (fr_row F1 1981 (fun _ => rfl)) (F2 2075 _ rfl) x1 x2 (fr_row F2 2257 (fun _ => rfl)) (fr_row F2 2258 (fun _ => rfl)), by rw [x1, x2]; exact b2⟩, by rw [F1 1990 _ rfl]; exact b3, ⟨fun j hj => ?_, tot_le b4.2 (fr_row F1 35 (fun _ => rfl)) (fr_row F2 2183 (fun _ => rfl)) (F1 1990 _ rfl)⟩⟩
    rw [F1 2014 j rfl, F1 1990 3403 rfl]; exact b4.1 j hj
  · rw [F1 1990 3376 rfl]
    exact reR_ag (s11 u hu) (Int.le_refl _) gS ⟨fun p _ _ => ⟨F1 1992 _ rfl, F1 1993 _ rfl⟩, F1 1994 _ rfl, fun k _ => ⟨F1 2009 _ rfl, F1 2006 _ rfl, F2 2200 _ rfl⟩, fun k i _ _ => F2 2205 _ rfl, fun k i _ _ => F2 2206 _ rfl⟩ ⟨⟨F1 1995 _ rfl, F2 2186 _ rfl⟩, fun k _ => ⟨F1 2006 _ rfl, F1 2007 _ rfl, F1 2008 _ rfl, F1 2010 _ rfl, F1 2011 _ rfl, F2 2197 _ rfl, F2 2198 _ rfl, F2 2199 _ rfl, F2 2201 _ rfl, F2 2202 _ rfl, F2 2203 _ rfl⟩⟩ (F1 1996 _ rfl) (F1 1997 _ rfl) (F1 2005 _ rfl)
/-- what a run leaves for the next begin -/
theorem RQ_bg (h : RQ Y Y' X mm Nn Lp nm pr ht I I' th W N) : bgR I I' (ht 5000 + 50000) := by
  obtain ⟨_, _, ⟨q1, q2, q3, q4, q5, q6, q7, q8, q9, q10, q11, q12, q13, q14, q15, q16, q17, q18, q20⟩, b, ⟨_, _, n1, n2, _⟩, _⟩ := h
  refine ⟨q10.2, q12.2, fun u hu => ⟨⟨(q15 u hu).1, (q15 u hu).2.1⟩, (q16 u hu).2⟩, q17, fun j hj => ⟨(q18 j hj).1, (q18 j hj).2, ?_⟩, q6, ?_⟩
  · have x := (b.2.2.1 j hj).1
    have y := q11.2.2
    omega
  · obtain ⟨n, ⟨h1, h2, _, h4, _⟩, _⟩ := q2
    refine ⟨n, h1.1, h2, fun j hj => ?_, h4.2.1, h4.2.2.1⟩
    obtain ⟨p, p1, p2, _⟩ := h4.1 j hj
    exact ⟨p, p1, p2⟩
end
