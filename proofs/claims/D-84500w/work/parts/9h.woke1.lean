/-! ===== a step of a woken thread: the relation ahead of its way ===== -/
set_option maxRecDepth 20000
set_option maxHeartbeats 8000000
theorem IL_woke {Y Y' : vY} {X mm Nn Lp : Nat} {nm pr ht : Nat → Nat} {I I' K K' : vJ} {th t A W N E' : Nat} (h : AS Y Y' X mm Nn Lp nm pr ht I I' th W N) (hN : 1 ≤ N) (tth : t < th) (hco : I 1990 3393 < N) (hW : (W : Int) + sa (I 1995) 8 th < N) (hno : I' 2075 7829 = t) (h6 : I 1996 t = 0) (h5 : I 2005 t = 1) (hA : I 1995 t = A)
    (F1 : fr [2005, 2041, 2042, 2043] [(1990, 3384)] I K) (F2 : fr [2188, 2196, 2204, 2210, 2235, 2236] [(2075, 7798)] I' K') (k5 : ∀ u, K 2005 u = if u = t then 0 else I 2005 u) (k96 : ∀ u, K' 2196 u = if u = t then 0 else I' 2196 u) (k88 : ∀ u, K' 2188 u = if u = t then -1 else I' 2188 u) (hS : sR K K' N E') (hE : K 1990 3384 ≤ I 1990 3384 + 1)
    (o3 : ∀ b, b ≠ 40 * t + (A - 1) → K' 2204 b = I' 2204 b) (o4 : ∀ q, (q < 12 * (40 * t + (A - 1)) ∨ 12 * (40 * t + (A - 1)) + 12 ≤ q) → K' 2210 q = I' 2210 q) : IL Y Y' X mm Nn Lp nm pr ht K K' th t A W N ∧ K 1994 t = K 2009 (40 * t + (A - 1)) + nm (K 2006 (40 * t + (A - 1))).toNat := by
  obtain ⟨s1, s2, s3, s4, ⟨⟨s5, s6, s7⟩, s8, s9, s10⟩, s11⟩ := h
  obtain ⟨A9, dl, ⟨a1, a2, a3⟩, a4, a5, a6, a7⟩ := s11 t tth
  have eA : A9 = A := by omega
  subst eA
  have th8 := s2.1.1.2.2
  have st := a7
  unfold stR at st
  have pA := st.2.1 (by omega)
  have st4 := st.2.2.2.1 (Or.inr (Or.inr ⟨h6, h5⟩))
  have sl := sa_all (ac := I 1995) tth th8
  rw [a1, if_pos (by omega)] at sl
  have d1 : dl = 1 := st4.1
  subst d1
  clear st a7
  have g := agT_fr F1 F2 rfl
  have hX := s1.1.2.1
  have gS : agS I I' K K' X := ⟨g.1 38 (by decide) (by decide), g.1 43 (by decide) (by decide), g.1 62 (by decide) (by decide), g.2.2.1 (X + 11) (by omega) (by omega), g.2.2.1 (X + 12) (by omega) (by omega), g.2.2.1 (X + 37) (by omega) (by omega), g.2.2.1 2178 (by decide) (by decide), g.2.2.1 2179 (by decide) (by decide), by rw [F1 1960 _ rfl]; exact Int.le_refl _⟩
  have gV : ∀ u, agV I I' K K' u := fun u => ⟨fun p _ _ => ⟨F1 1992 _ rfl, F1 1993 _ rfl⟩, F1 1994 _ rfl, fun k _ => ⟨F1 2009 _ rfl, F1 2006 _ rfl, F2 2200 _ rfl⟩, fun k i _ _ => F2 2205 _ rfl, fun k i _ _ => F2 2206 _ rfl⟩
  have gA : ∀ u, agA I I' K K' u := fun u => ⟨⟨F1 1995 _ rfl, F2 2186 _ rfl⟩, fun k _ => ⟨F1 2006 _ rfl, F1 2007 _ rfl, F1 2008 _ rfl, F1 2010 _ rfl, F1 2011 _ rfl, F2 2197 _ rfl, F2 2198 _ rfl, F2 2199 _ rfl, F2 2201 _ rfl, F2 2202 _ rfl, F2 2203 _ rfl⟩⟩
  have arr : K 1990 3376 = I 1990 3376 := F1 1990 _ rfl
  obtain ⟨z1, z2, z3, z4⟩ := s2
  -- a row of locks of another activation
  have oth : ∀ u k : Nat, u < th → k < 40 → (u ≠ t ∨ k ≠ A9 - 1) → ∀ j : Nat, j < 12 → K' 2204 (40 * u + k) = I' 2204 (40 * u + k) ∧ K' 2210 (12 * (40 * u + k) + j) = I' 2210 (12 * (40 * u + k) + j) := fun u k hu hk huk j hj => by
    have hb : 40 * u + k ≠ 40 * t + (A9 - 1) := by omega
    exact ⟨o3 _ hb, o4 _ (by omega)⟩
  have top : I 1994 t = I 2009 (40 * t + (A9 - 1)) + nm (I 2006 (40 * t + (A9 - 1))).toNat := by
    obtain ⟨b, s, y1, y2, y3, y4, y5, y6, y7⟩ := a4
    have w1 := y5 pA
    have w2 := y1 (A9 - 1) (by omega)
    have w3 := st4.2
    clear y1 y2 y3 y4 y5 y6 y7
    omega
  have tpos : 0 ≤ I 1994 t := by
    obtain ⟨b, s, y1, y2, y3, y4, y5, y6, y7⟩ := a4
    have w1 := y5 pA
    have w2 := y1 (A9 - 1) (by omega)
    have w3 := st4.2
    clear y1 y2 y3 y4 y5 y6 y7
    omega
  have hZ : LZ K K' th t (-1) := by
    refine ⟨⟨⟨by rw [F1 1990 _ rfl]; exact z1.1.1, by rw [F2 2075 _ rfl]; exact z1.1.2.1, th8⟩, fun u hu => ?_⟩, lQ_same z2 (fr_row F1 1996 (fun _ => rfl)) (fr_row F1 1997 (fun _ => rfl)) (fr_row F1 1999 (fun _ => rfl)) (fr_row F2 2222 (fun _ => rfl)) (fr_row F2 2221 (fun _ => rfl)), fun l hl => ?_, fun u hu => ?_⟩
    · obtain ⟨b1, b2, b3, b4, b5, b6, b7, b8⟩ := z1.2 u hu
      rw [F1 1996 _ rfl, F1 1997 _ rfl, F1 1998 _ rfl, F1 1999 _ rfl, F1 2000 _ rfl, F1 2004 _ rfl, k5, F2 2187 _ rfl, k88, F2 2189 _ rfl, F2 2190 _ rfl, F2 2195 _ rfl, k96, F1 1990 3393 rfl, F1 1990 3388 rfl]
      by_cases z : u = t
      · rw [if_pos z, if_pos z, if_pos z]
        rw [← z] at h6
        exact ⟨b1, fun q => by omega, b3, by unfold inI; omega, b5, ⟨rfl, Or.inl rfl⟩, fun q => by omega, b8⟩
      · rw [if_neg z, if_neg z, if_neg z]
        exact ⟨b1, b2, b3, b4, b5, b6, b7, b8⟩
    · have w := z3 l hl
      rw [F1 2017 _ rfl, F1 2018 _ rfl, F1 2019 _ rfl, F1 2020 _ rfl, F1 2021 _ rfl, F1 2022 _ rfl, F1 2023 _ rfl, F1 2024 _ rfl, F1 2025 _ rfl, F1 2026 _ rfl, F2 2211 _ rfl, F2 2212 _ rfl, F2 2213 _ rfl, F2 2214 _ rfl, F2 2215 _ rfl, F2 2216 _ rfl, F2 2217 _ rfl, F2 2218 _ rfl, F2 2219 _ rfl, F2 2220 _ rfl, F1 1990 3390 rfl, F1 1990 3388 rfl]
      exact w
    · obtain ⟨B, ⟨b1, b2, b3⟩, b4, b5, b6⟩ := z4 u hu
      have b6 := b6 (by omega)
      simp only [ite_self] at b4 ⊢
      refine ⟨B, ⟨by rw [F1 1995 _ rfl]; exact b1, by rw [F2 2186 _ rfl]; exact b2, b3⟩, ?_, fun q => ?_, fun ut => ?_⟩
      · unfold lkM at *
        rw [fr_row F1 2012 (fun _ => rfl), fr_row F1 2013 (fun _ => rfl), fr_row F1 2017 (fun _ => rfl), fr_row F1 2018 (fun _ => rfl)]
        exact b4
      · rw [F1 1996 _ rfl] at q
        have w := b5 q
        have ut : u ≠ t := fun e => by rw [e] at q; omega
        rw [k5, if_neg ut, fr_row F1 2007 (fun _ => rfl), fr_row F1 38 (fun _ => rfl), fr_row F1 42 (fun _ => rfl)]
        exact w
      · intro k hk
        obtain ⟨w1, w2, w3, w4⟩ := b6 k hk
        have lk := (b4.1 k hk).1
        have bnd : I' 2204 (40 * u + k) ≤ 11 := by
          by_cases zz : k + 1 = B ∧ I 2005 u = 1 ∧ I 38 (I 2007 (40 * u + k)).toNat = 12
          · have := (w4 zz).1; omega
          · have := w3 zz; omega
        have e4 := (oth u k hu (by omega) (Or.inl ut) 0 (by decide)).1
        rw [e4, k5, if_neg ut, fr_row F1 2007 (fun _ => rfl), fr_row F1 38 (fun _ => rfl), fr_row F1 42 (fun _ => rfl), fr_row F1 2012 (fun _ => rfl), fr_row F1 2013 (fun _ => rfl), fr_row F1 1997 (fun _ => rfl)]
        refine ⟨w1, fun j hj => ?_, w3, w4⟩
        rw [(oth u k hu (by omega) (Or.inl ut) j (by omega)).2]
        exact w2 j hj
  refine ⟨⟨ST_ag s1 g, ⟨hZ, fun k hk => ?_⟩, ?_, ?_, ⟨tth, ⟨by rw [fr_row F1 1995 (fun _ => rfl)]; omega, by rw [F1 1990 3393 rfl]; exact ⟨s6.1, hco⟩, by rw [F1 1960 _ rfl]; exact s7⟩, by rw [F1 1990 _ rfl]; exact s8, by rw [F2 2075 _ rfl]; exact s9, hN, s10, by rw [F2 2075 _ rfl]; exact hno⟩, fun u hu ut => ?_, ⟨by rw [F1 1995 _ rfl]; exact a1, by rw [F2 2186 _ rfl]; exact a2, pA, a3⟩, ⟨by rw [F1 1996 _ rfl]; exact h6, by rw [k5, if_pos rfl]⟩, ?_, fun k hk => acR_ag (a5 k hk) (by omega) gS (gA t), fun k hk => coR_ag (a6 k hk) (by omega) gS (gA t) (F2 2200 _ rfl)⟩, by rw [F1 1994 _ rfl, F1 2009 _ rfl, F1 2006 _ rfl]; exact top⟩
  · obtain ⟨B, ⟨b1, b2, b3⟩, b4, b5, b6⟩ := z4 t tth
    have eB : B = A9 := by omega
    subst eB
    obtain ⟨w1, w2, w3, w4⟩ := b6 (by omega) k (by omega)
    have w3 := w3 (fun q => by omega)
    have lk := (b4.1 k (by omega)).1
    have e4 := (oth t k tth (by omega) (Or.inr (by omega)) 0 (by decide)).1
    unfold loA
    rw [e4, fr_row F1 2007 (fun _ => rfl), fr_row F1 42 (fun _ => rfl), fr_row F1 2012 (fun _ => rfl), fr_row F1 2013 (fun _ => rfl)]
    refine ⟨w1, fun j hj => ?_, w3⟩
    have e5 := (oth t k tth (by omega) (Or.inr (by omega)) j (by omega)).2
    rw [show 12 * (40 * t + k) + j = 12 * (40 * t + k) + j from rfl, e5]
    exact w2 j hj
  · obtain ⟨q1, q2, q3, q4, q5, q6, q7, q8, q9, q10, q11, q12, q13, q14, q15, q16, q17, q18, q19, q20⟩ := s3
    have hLa : pLast K K' := fun u hu => by
      have q := q16 u hu
      rw [F1 2002 _ rfl, F2 2193 _ rfl, F2 2194 _ rfl, F1 1990 3390 rfl, F1 1990 3388 rfl, F1 1997 _ rfl, k88, F1 1999 _ rfl]
      refine ⟨q.1, q.2.1, ?_, q.2.2.2⟩
      by_cases z : u = t
      · rw [if_pos z]; exact ⟨by omega, by omega⟩
      · rw [if_neg z]; exact q.2.2.1
    exact ⟨su_keep su_tR F1 F2 rfl q1, su_keep su_pPath F1 F2 rfl q2, su_keep su_loR F1 F2 rfl q3, su_keep su_pArr F1 F2 rfl q4, ⟨N, E', hS⟩, su_keep su_pKeep F1 F2 rfl q6, su_keep su_pCost F1 F2 rfl q7, su_keep su_pCalls F1 F2 rfl q8, su_keep su_pMet F1 F2 rfl q9, su_keep su_pPrint F1 F2 rfl q10, su_keep su_pBegun F1 F2 rfl q11, su_keep su_pLooks F1 F2 rfl q12, su_keep su_pPar F1 F2 rfl q13, su_keep su_pThr F1 F2 rfl q14, su_keep su_pDone F1 F2 rfl q15, hLa, su_keep su_pFor F1 F2 rfl q17, su_keep su_pTurns F1 F2 rfl q18, su_keep su_pSeed F1 F2 rfl q19, su_keep su_pVars F1 F2 rfl q20⟩
  · obtain ⟨⟨n, b1, b2⟩, b3, b4⟩ := s4
    have x1 := fr_row F2 2255 (fun _ => rfl)
    have x2 := fr_row F2 2256 (fun _ => rfl)
    refine ⟨⟨n, hR_same b1 (F1 1960 _ rfl) (fr_row F1 1979 (fun _ => rfl)) (fr_row F1 1980 (fun _ => rfl)) (fr_row F1 1981 (fun _ => rfl)) (F2 2075 _ rfl) x1 x2 (fr_row F2 2257 (fun _ => rfl)) (fr_row F2 2258 (fun _ => rfl)), by rw [x1, x2]; exact b2⟩, by omega, ⟨fun j hj => ?_, tot_le b4.2 (fr_row F1 35 (fun _ => rfl)) (fr_row F2 2183 (fun _ => rfl)) (F1 1990 _ rfl)⟩⟩
    rw [F1 2014 j rfl, F1 1990 3403 rfl]; exact b4.1 j hj
  · rw [arr]
    exact reR_ag (s11 u hu) (Int.le_refl _) gS (gV u) (gA u) (F1 1996 _ rfl) (F1 1997 _ rfl) (by rw [k5, if_neg ut])
  · rw [arr]
    have tv := thV_ag a4 a3 (gV t)
    exact (thV_cut (dl' := 0) (S := 0) (T := (I 1994 t).toNat) tv pA a3 (by rw [F2 2200 _ rfl]; omega) (by omega) (Nat.le_refl _) (by rw [F1 2009 _ rfl, F1 2006 _ rfl]; omega) (up_row _ (by decide) _ _) (up_row _ (by decide) _ _) (fun u => by
      rw [up_at, F1 2009 _ rfl, F1 2006 _ rfl]
      by_cases z : u = t
      · rw [if_pos z, if_pos z]; omega
      · rw [if_neg z, if_neg z]) (up_row _ (by decide) _ _) (up_row _ (by decide) _ _) (fun b => by rw [up_at]; rfl) (up_row _ (by decide) _ _) (fun p _ => up_cell _ (by decide) _ _ _)).1
