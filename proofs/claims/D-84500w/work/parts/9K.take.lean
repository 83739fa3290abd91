/-! ===== a lock is taken ===== -/
set_option maxRecDepth 20000
set_option maxHeartbeats 4000000
theorem LZ_take {I I' J J' : vJ} {th t A l kk : Nat} (h : LZ I I' th 8 (-1)) (ht : t < th) (hA : I 1995 t = A) (hA0 : 0 < A) (s1 : I 1996 t = 0) (hl : l < 8) (hk : I 2012 (40 * t + (A - 1)) = kk) (hk2 : kk ≤ 10)
    (F1 : fr [2041, 2042, 2043, 2017, 2018, 2019, 2020, 2024, 2026, 2012, 2013] [(1990, 3384)] I J) (F2 : fr [2235, 2236, 2211, 2212, 2213, 2214, 2215, 2219, 2204, 2210] [(2075, 7798)] I' J')
    (e1 : ∀ x, J 2012 x = if x = 40 * t + (A - 1) then (kk : Int) + 1 else I 2012 x) (e2 : ∀ p, J 2013 p = if p = (40 * t + (A - 1)) * 12 + kk then (l : Int) else I 2013 p) (e3 : ∀ x, x ≠ 40 * t + (A - 1) → J' 2204 x = I' 2204 x) (e4 : ∀ q, q ≠ 12 * (40 * t + (A - 1)) + kk → J' 2210 q = I' 2210 q)
    (hR : lR J J') (o1 : J 2017 l = t) (o2 : I 2017 l = -1 ∧ J 2018 l = 1 ∨ I 2017 l = t ∧ J 2018 l = I 2018 l + 1) (o3 : ∀ k, k ≠ l → J 2017 k = I 2017 k ∧ J 2018 k = I 2018 k) : LZ J J' th t (-1) := by
  obtain ⟨h1, h2, h3, h4⟩ := h
  have th8 := h1.1.2.2
  refine ⟨?_, ?_, hR, fun u hu => ?_⟩
  · unfold tH at *
    rw [F1 1990 3390 rfl, F1 1990 3393 rfl, F1 1990 3388 rfl, F2 2075 _ rfl, fr_row F1 1996 (fun _ => rfl), fr_row F1 1997 (fun _ => rfl), fr_row F1 1998 (fun _ => rfl), fr_row F1 1999 (fun _ => rfl), fr_row F1 2000 (fun _ => rfl), fr_row F1 2004 (fun _ => rfl), fr_row F1 2005 (fun _ => rfl), fr_row F2 2187 (fun _ => rfl), fr_row F2 2188 (fun _ => rfl), fr_row F2 2189 (fun _ => rfl), fr_row F2 2190 (fun _ => rfl), fr_row F2 2195 (fun _ => rfl), fr_row F2 2196 (fun _ => rfl)]
    exact h1
  · exact lQ_same h2 (fr_row F1 1996 (fun _ => rfl)) (fr_row F1 1997 (fun _ => rfl)) (fr_row F1 1999 (fun _ => rfl)) (fr_row F2 2222 (fun _ => rfl)) (fr_row F2 2221 (fun _ => rfl))
  · obtain ⟨B, ⟨b1, b2, b3⟩, b4, b5, b6⟩ := h4 u hu
    have b6 := b6 (by omega)
    have A40 : A ≤ 40 := by
      obtain ⟨B', ⟨c1, _, c3⟩, _⟩ := h4 t ht
      omega
    simp only [ite_self] at b4 ⊢
    refine ⟨B, ⟨by rw [F1 1995 _ rfl]; exact b1, by rw [F2 2186 _ rfl]; exact b2, b3⟩, ?_, fun q => ?_, fun ut => ?_⟩
    · obtain ⟨m1, m2⟩ := b4
      by_cases ut : u = t
      · subst ut
        have eB : B = A := by omega
        subst eB
        have cap : ∀ l' : Int, ca (J 2013) (J 2012) l' u B = ca (I 2013) (I 2012) l' u B + (if (l : Int) = l' then 1 else 0) := fun l' => by
          obtain ⟨C, hC⟩ : ∃ C, B = C + 1 := ⟨B - 1, by omega⟩
          subst hC
          rw [Nat.add_sub_cancel] at *
          exact ca_push (x := (l : Int)) hk e1 e2 (fun k hk => by have := (m1 k (by omega)).1; omega)
        refine ⟨fun k hk9 => ?_, fun l' hl' => ?_⟩
        · by_cases z : k = B - 1
          · subst z
            rw [e1, if_pos rfl]
            refine ⟨by omega, fun j hj => ?_⟩
            rw [e2]
            by_cases y : (40 * u + (B - 1)) * 12 + j = (40 * u + (B - 1)) * 12 + kk
            · rw [if_pos y]; omega
            · rw [if_neg y]
              exact (m1 (B - 1) (by omega)).2 j (by rw [hk]; omega)
          · rw [e1, if_neg (by omega)]
            have mk := m1 k hk9
            refine ⟨mk.1, fun j hj => ?_⟩
            have := mk.1
            rw [e2, if_neg (by omega)]
            exact mk.2 j hj
        · have m := m2 l' hl'
          rw [cap]
          by_cases z : l' = l
          · subst z
            rw [if_pos rfl]
            refine ⟨fun _ => ?_, fun q => absurd o1 q⟩
            rcases o2 with o | o
            · have c0 := (m.2 (by rw [o.1]; omega)).1
              rw [o.2, c0, if_neg (by omega)]; rfl
            · have c0 := m.1 o.1
              rw [o.2, c0]
              omega
          · rw [if_neg (by omega), Int.add_zero, (o3 l' z).1, (o3 l' z).2]; exact m
      · have cap : ∀ l' : Int, ca (J 2013) (J 2012) l' u B = ca (I 2013) (I 2012) l' u B := fun l' => by
          refine ca_congr (fun k hk9 => ⟨by rw [e1, if_neg (by omega)], fun j hj => ?_⟩)
          have := (m1 k hk9).1
          rw [e2, if_neg (by omega)]
        refine ⟨fun k hk9 => ?_, fun l' hl' => ?_⟩
        · rw [e1, if_neg (by omega)]
          have mk := m1 k hk9
          refine ⟨mk.1, fun j hj => ?_⟩
          have := mk.1
          rw [e2, if_neg (by omega)]
          exact mk.2 j hj
        · have m := m2 l' hl'
          rw [cap]
          by_cases z : l' = l
          · subst z
            refine ⟨fun q => by omega, fun _ => m.2 ?_⟩
            rcases o2 with o | o <;> omega
          · rw [(o3 l' z).1, (o3 l' z).2]; exact m
    · rw [F1 1996 _ rfl] at q
      rw [F1 2005 _ rfl, fr_row F1 38 (fun _ => rfl), fr_row F1 42 (fun _ => rfl), F1 2007 _ rfl]
      exact b5 q
    · intro k hk9
      have w := b6 k hk9
      have w42 : I' 2204 (40 * u + k) ≤ 12 := by
        have m := (b4.1 k hk9).1
        by_cases q : k + 1 = B ∧ I 2005 u = 1 ∧ I 38 (I 2007 (40 * u + k)).toNat = 12
        · have := (w.2.2.2 q).1; omega
        · have := w.2.2.1 q; omega
      rw [fr_row F1 42 (fun _ => rfl), fr_row F1 38 (fun _ => rfl), F1 2005 _ rfl, F1 2007 _ rfl, F1 1997 _ rfl, e1, if_neg (by omega), e3 _ (by omega)]
      have row : ∀ j : Nat, j < 13 → J 2013 ((40 * u + k) * 12 + j) = I 2013 ((40 * u + k) * 12 + j) ∨ j = 12 := fun j hj => by
        by_cases z : j = 12
        · exact Or.inr z
        · exact Or.inl (by rw [e2, if_neg (by omega)])
      refine ⟨w.1, fun j hj => ?_, w.2.2.1, fun q => ?_⟩
      · rw [e2, if_neg (by omega), e4 _ (by omega)]; exact w.2.1 j hj
      · have w4 := w.2.2.2 q
        have m := (b4.1 k hk9).1
        rw [e2, if_neg (by omega)]
        exact w4
/-- the run when a lock was taken, ahead of the way -/
theorem IL_take {Y Y' : vY} {X mm Nn Lp : Nat} {nm pr ht : Nat → Nat} {I I' J J' : vJ} {th t A W N E' : Nat} (h : IFs Y Y' X mm Nn Lp nm pr ht I I' th t A W N) (hZ : LZ J J' th t (-1))
    (F1 : fr [2041, 2042, 2043, 2017, 2018, 2019, 2020, 2024, 2026, 2012, 2013] [(1990, 3384)] I J) (F2 : fr [2235, 2236, 2211, 2212, 2213, 2214, 2215, 2219, 2204, 2210] [(2075, 7798)] I' J')
    (hS : sR J J' N E') (hE : J 1990 3384 ≤ I 1990 3384 + 1) (k1 : ∀ b, 40 * t ≤ b → b < 40 * t + 40 → b ≠ 40 * t + (A - 1) → J 2012 b = I 2012 b) (k2 : ∀ p, (p < (40 * t + (A - 1)) * 12 ∨ (40 * t + (A - 1)) * 12 + 12 ≤ p) → J 2013 p = I 2013 p) (k3 : ∀ b, b ≠ 40 * t + (A - 1) → J' 2204 b = I' 2204 b) (k4 : ∀ p, (p < 12 * (40 * t + (A - 1)) ∨ 12 * (40 * t + (A - 1)) + 12 ≤ p) → J' 2210 p = I' 2210 p) : IL Y Y' X mm Nn Lp nm pr ht J J' th t A W N := by
  have lo := (IFs_IL h).1.2.1.2
  obtain ⟨s1, s2, s3, s4, ⟨s5, s6, s7, s8, s9, s10, s11⟩, s12, ⟨⟨r1, r2, r3, r4⟩, ⟨r5, r6⟩, r7, r8, r9⟩⟩ := h
  have g := agT_fr F1 F2 rfl
  have hX := s1.1.2.1
  have th8 := s2.1.1.2.2
  have gS : agS I I' J J' X := ⟨g.1 38 (by decide) (by decide), g.1 43 (by decide) (by decide), g.1 62 (by decide) (by decide), g.2.2.1 (X + 11) (by omega) (by omega), g.2.2.1 (X + 12) (by omega) (by omega), g.2.2.1 (X + 37) (by omega) (by omega), g.2.2.1 2178 (by decide) (by decide), g.2.2.1 2179 (by decide) (by decide), by rw [F1 1960 _ rfl]; exact Int.le_refl _⟩
  have arr : J 1990 3376 = I 1990 3376 := F1 1990 _ rfl
  have hPT : PT Lp J J' := by
    obtain ⟨q1, q2, q3, q4, q5, q6, q7, q8, q9, q10, q11, q12, q13, q14, q15, q16, q17, q18, q19, q20⟩ := s3
    have hST : pStep J J' := ⟨N, E', hS⟩
    exact ⟨su_keep su_tR F1 F2 rfl q1, su_keep su_pPath F1 F2 rfl q2, su_keep su_loR F1 F2 rfl q3, su_keep su_pArr F1 F2 rfl q4, hST, su_keep su_pKeep F1 F2 rfl q6, su_keep su_pCost F1 F2 rfl q7, su_keep su_pCalls F1 F2 rfl q8, su_keep su_pMet F1 F2 rfl q9, su_keep su_pPrint F1 F2 rfl q10, su_keep su_pBegun F1 F2 rfl q11, su_keep su_pLooks F1 F2 rfl q12, su_keep su_pPar F1 F2 rfl q13, su_keep su_pThr F1 F2 rfl q14, su_keep su_pDone F1 F2 rfl q15, su_keep su_pLast F1 F2 rfl q16, su_keep su_pFor F1 F2 rfl q17, su_keep su_pTurns F1 F2 rfl q18, su_keep su_pSeed F1 F2 rfl q19, su_keep su_pVars F1 F2 rfl q20⟩
  refine ⟨ST_ag s1 g, ⟨hZ, fun k hk => ?_⟩, hPT, ?_, ⟨s5, by rw [fr_row F1 1995 (fun _ => rfl), F1 1990 3393 rfl, F1 1960 3100 rfl]; exact s6, by rw [F1 1990 _ rfl]; exact s7, by rw [F2 2075 _ rfl]; exact s8, s9, s10, by rw [F2 2075 _ rfl]; exact s11⟩, fun u hu ut => ?_, ⟨⟨by rw [F1 1995 _ rfl]; exact r1, by rw [F2 2186 _ rfl]; exact r2, r3, r4⟩, ⟨by rw [F1 1996 _ rfl]; exact r5, by rw [F1 2005 _ rfl]; exact r6⟩, ?_, fun k hk => ?_, fun k hk => ?_⟩⟩
  · obtain ⟨l1, l2, l3⟩ := lo k hk
    have nb := (r8 k (by omega)).2.1
    have l42 := (s1.2.2.2.1 (I 2007 (40 * t + k)).toNat (by omega)).1
    unfold loA
    rw [k3 _ (by omega), fr_row F1 42 (fun _ => rfl), F1 2007 _ rfl, k1 _ (by omega) (by omega) (by omega)]
    exact ⟨l1, fun j hj => by rw [k2 _ (by omega), k4 _ (by omega)]; exact l2 j hj, l3⟩
  · obtain ⟨⟨n, b1, b2⟩, b3, b4⟩ := s4
    have x1 := fr_row F2 2255 (fun _ => rfl)
    have x2 := fr_row F2 2256 (fun _ => rfl)
    refine ⟨⟨n, hR_same b1 (F1 1960 _ rfl) (fr_row F1 1979 (fun _ => rfl)) (fr_row F1 1980 (fun _ => rfl)) (fr_row F1 1981 (fun _ => rfl)) (F2 2075 _ rfl) x1 x2 (fr_row F2 2257 (fun _ => rfl)) (fr_row F2 2258 (fun _ => rfl)), by rw [x1, x2]; exact b2⟩, by omega, ⟨fun j hj => ?_, tot_le b4.2 (fr_row F1 35 (fun _ => rfl)) (fr_row F2 2183 (fun _ => rfl)) (F1 1990 _ rfl)⟩⟩
    rw [F1 2014 j rfl, F1 1990 _ rfl]; exact b4.1 j hj
  · rw [arr]
    exact reR_ag (s12 u hu ut) (Int.le_refl _) gS (agV_of ut (fun _ _ => ⟨F1 1992 _ rfl, F1 1993 _ rfl⟩) (fun v hv => F1 1994 _ rfl) (fun b hb => ⟨F1 2009 _ rfl, F1 2006 _ rfl, F2 2200 _ rfl⟩) (fun q _ => F2 2205 _ rfl) (fun q _ => F2 2206 _ rfl)) ⟨⟨F1 1995 _ rfl, F2 2186 _ rfl⟩, fun k hk => ⟨F1 2006 _ rfl, F1 2007 _ rfl, F1 2008 _ rfl, F1 2010 _ rfl, F1 2011 _ rfl, F2 2197 _ rfl, F2 2198 _ rfl, F2 2199 _ rfl, F2 2201 _ rfl, F2 2202 _ rfl, F2 2203 _ rfl⟩⟩ (F1 1996 _ rfl) (F1 1997 _ rfl) (F1 2005 _ rfl)
  · rw [arr, F1 2009 _ rfl, F1 2006 _ rfl]
    refine thV_ag r7 r4 ⟨fun p _ _ => ?_, ?_, fun k _ => ?_, fun k j _ _ => ?_, fun k j _ _ => ?_⟩
    · rw [up_cell _ (by decide), up_cell _ (by decide), up_cell _ (by decide), up_cell _ (by decide), F1 1992 _ rfl, F1 1993 _ rfl]; exact ⟨rfl, rfl⟩
    · rw [up_same, up_same]
    · rw [up_cell _ (by decide), up_cell _ (by decide), up_cell _ (by decide), up_cell _ (by decide), F1 2009 _ rfl, F1 2006 _ rfl, up_at, up_at, F2 2200 _ rfl]; exact ⟨rfl, rfl, rfl⟩
    · rw [up_cell _ (by decide), up_cell _ (by decide)]; exact F2 2205 _ rfl
    · rw [up_cell _ (by decide), up_cell _ (by decide)]; exact F2 2206 _ rfl
  · have q := r8 k hk
    unfold acR at *
    rw [F1 2006 _ rfl, F1 2007 _ rfl, F1 2010 _ rfl, F1 2011 _ rfl, F1 1960 _ rfl, gS.1, gS.2.2.1, F2 2197 _ rfl, F2 2198 _ rfl, F2 2201 _ rfl, F2 2202 _ rfl, F2 2203 _ rfl, gS.2.2.2.2.2.1, gS.2.2.2.2.2.2.1, gS.2.2.2.2.2.2.2.1]
    exact q
  · have q := r9 k hk
    unfold coR at *
    rw [F1 2007 _ rfl, F1 2008 _ rfl, F2 2199 _ rfl, F2 2200 _ rfl, gS.2.2.2.1, gS.2.2.2.2.1]
    exact q
