/-! ===== a step begins: the relation ===== -/
set_option maxRecDepth 20000
set_option maxHeartbeats 4000000
/-- a new step -/
theorem sR_new {I I' J J' : vJ} {t tp m N E : Nat} {k x : Int} (h : sR I I' N E) (hC : opC I J t tp m N k x) (hT : opT I' J' t tp m N k x) (hN : N < 20000) (hk : 0 ≤ k ∧ k ≤ 16) (hl : I 2002 t = (if 0 < I' 2193 t then I' 2193 t else I' 2194 t)) (hl2 : 0 ≤ I 2002 t ∧ I 2002 t ≤ N) : sR J J' (N + 1) E := by
  obtain ⟨c0, c1, c2, c3, c4, c5, c6, c7, c8, c9, c10⟩ := hC
  obtain ⟨t0, t1, t2, t3, t4, t5, t6, t7, t8, t9, t10⟩ := hT
  obtain ⟨⟨n1, n2, n3⟩, ⟨m1, m2, m3⟩, e1, e2, e3⟩ := h
  have r35 := fr_row t0 2235 (fun _ => rfl)
  have r36 := fr_row t0 2236 (fun _ => rfl)
  have r42 := fr_row c0 2042 (fun _ => rfl)
  have r43 := fr_row c0 2043 (fun _ => rfl)
  refine ⟨⟨by rw [c1]; rfl, by rw [t1]; rfl, by omega⟩, ⟨by rw [c0 1990 _ rfl]; exact m1, by rw [t0 2075 _ rfl]; exact m2, m3⟩, fun e he => ?_, fun e he => ?_, fun s s1 s2 => ?_⟩
  · rw [r35, r36, r42, r43]
    have q := e1 e he
    exact ⟨q.1, q.2.1, q.2.2.1, by omega, q.2.2.2.2⟩
  · rw [r35]; exact e2 e he
  · rw [r35, c7, c8, c9, c10, t8, t9, t10]
    by_cases z : s = N + 1
    · rw [if_pos z, if_pos z, if_pos z, if_pos z, if_pos z, if_pos z, if_pos z]
      refine ⟨?_, ⟨hl, by omega, by omega⟩, ⟨rfl, by omega, by omega⟩, rfl⟩
      have key : ∀ F : Nat, F ≤ E → hd (I' 2235) (s : Int) F = 0 := by
        intro F
        induction F with
        | zero => intro _; rfl
        | succ F ih =>
          intro hF
          unfold hd
          have q := e1 F (by omega)
          rw [if_neg (by omega)]
          exact ih (by omega)
      exact (key E (Nat.le_refl _)).symm
    · rw [if_neg z, if_neg z, if_neg z, if_neg z, if_neg z, if_neg z, if_neg z]
      exact e3 s s1 (by omega)
theorem AS_open {Y Y' : vY} {X mm Nn Lp : Nat} {nm pr ht : Nat → Nat} {I I' J J' : vJ} {th t tp m W N : Nat} {k x : Int} (h : AS Y Y' X mm Nn Lp nm pr ht I I' th W N) (hN : N < 20000) (tth : t < th) (hC : opC I J t tp m N k x) (hT : opT I' J' t tp m N k x) (hk : 0 ≤ k ∧ k ≤ 16) : AS Y Y' X mm Nn Lp nm pr ht J J' th W (N + 1) ∧ (J 1990 3393 < ((N + 1 : Nat) : Int) ∧ (W : Int) + sa (J 1995) 8 th < ((N + 1 : Nat) : Int)) ∧ J' 2075 7829 = t := by
  have hC0 := hC
  have hT0 := hT
  obtain ⟨c0, c1, c2, c3, c4, c5, c6, c7, c8, c9, c10⟩ := hC
  obtain ⟨t0, t1, t2, t3, t4, t5, t6, t7, t8, t9, t10⟩ := hT
  obtain ⟨s1, ⟨z1, z2, z3, z4⟩, s3, s4, ⟨⟨s5, s6, s7⟩, s8, s9, s10⟩, s11⟩ := h
  have g := agT_fr c0 t0 rfl
  have hX := s1.1.2.1
  have gS : agS I I' J J' X := ⟨g.1 38 (by decide) (by decide), g.1 43 (by decide) (by decide), g.1 62 (by decide) (by decide), g.2.2.1 (X + 11) (by omega) (by omega), g.2.2.1 (X + 12) (by omega) (by omega), g.2.2.1 (X + 37) (by omega) (by omega), g.2.2.1 2178 (by decide) (by decide), g.2.2.1 2179 (by decide) (by decide), by rw [c0 1960 _ rfl]; exact Int.le_refl _⟩
  have th8 := z1.1.2.2
  have c95 := fr_row c0 1995 (fun _ => rfl)
  have nowM : J 1990 3388 = I 1990 3388 + 1 := by rw [c1, s8]
  refine ⟨⟨ST_ag s1 g, ⟨⟨⟨by rw [c0 1990 _ rfl]; exact z1.1.1, by rw [t0 2075 _ rfl]; exact z1.1.2.1, th8⟩, fun u hu => ?_⟩, ?_, fun l hl => ?_, ?_⟩, ?_, ?_, ⟨⟨by rw [c95]; omega, by rw [c0 1990 3393 rfl]; omega, by rw [c0 1960 _ rfl]; exact s7⟩, by rw [c1]; rfl, by rw [t1]; rfl, by omega⟩, fun u hu => ?_⟩, ⟨by rw [c0 1990 3393 rfl]; omega, by rw [c95]; omega⟩, t2⟩
  · obtain ⟨a1, a2, a3, a4, a5, a6, a7, a8⟩ := z1.2 u hu
    rw [c0 1996 _ rfl, c0 1997 _ rfl, c0 1998 _ rfl, c0 1999 _ rfl, c0 2000 _ rfl, c0 2004 _ rfl, c0 2005 _ rfl, t0 2187 _ rfl, t0 2188 _ rfl, t0 2189 _ rfl, t0 2190 _ rfl, t0 2195 _ rfl, t0 2196 _ rfl, c0 1990 3393 rfl, nowM]
    exact ⟨a1, a2, a3, a4, a5, a6, fun q => ⟨(a7 q).1, (a7 q).2.1, by have := (a7 q).2.2; omega⟩, a8⟩
  · unfold lQ wt at *
    rw [fr_row c0 1996 (fun _ => rfl), fr_row c0 1997 (fun _ => rfl), fr_row c0 1999 (fun _ => rfl), fr_row t0 2221 (fun _ => rfl), fr_row t0 2222 (fun _ => rfl)]
    exact z2
  · obtain ⟨w1, w2, w3, w4, w5, w6, w7, w8, w9, w10⟩ := z3 l hl
    rw [c0 2017 _ rfl, c0 2018 _ rfl, c0 2019 _ rfl, c0 2020 _ rfl, c0 2021 _ rfl, c0 2022 _ rfl, c0 2023 _ rfl, c0 2024 _ rfl, c0 2025 _ rfl, c0 2026 _ rfl, t0 2211 _ rfl, t0 2212 _ rfl, t0 2213 _ rfl, t0 2214 _ rfl, t0 2215 _ rfl, t0 2216 _ rfl, t0 2217 _ rfl, t0 2218 _ rfl, t0 2219 _ rfl, t0 2220 _ rfl, c0 1990 3390 rfl, nowM]
    exact ⟨w1, w2, w3, w4, w5, w6, w7, w8, ⟨w9.1, w9.2.1, by have := w9.2.2; omega⟩, w10⟩
  · unfold lkM thL at *
    rw [c95, fr_row t0 2186 (fun _ => rfl), fr_row c0 2012 (fun _ => rfl), fr_row c0 2013 (fun _ => rfl), fr_row c0 2017 (fun _ => rfl), fr_row c0 2018 (fun _ => rfl), fr_row c0 1996 (fun _ => rfl), fr_row c0 1997 (fun _ => rfl), fr_row c0 2005 (fun _ => rfl), fr_row c0 2007 (fun _ => rfl), fr_row c0 38 (fun _ => rfl), fr_row c0 42 (fun _ => rfl), fr_row t0 2204 (fun _ => rfl), fr_row t0 2210 (fun _ => rfl)]
    exact z4
  · obtain ⟨q1, q2, q3, q4, q5, q6, q7, q8, q9, q10, q11, q12, q13, q14, q15, q16, q17, q18, q19, q20⟩ := s3
    have hR : tR J J' := tR_own (k := tp) (x := x) q1 (c0 1960 _ rfl) (fr_row c0 1961 (fun _ => rfl)) (fr_row c0 1962 (fun _ => rfl)) (fr_row c0 1963 (fun _ => rfl)) (fr_row c0 1966 (fun _ => rfl)) (fr_row c0 1967 (fun _ => rfl)) (t0 2075 _ rfl) (fr_row t0 2237 (fun _ => rfl)) (fr_row t0 2238 (fun _ => rfl)) (fr_row t0 2239 (fun _ => rfl)) c3 t4
    have hCo : pCost J J' := pCost_own (k := m) (x := x) q7 c2 t3 c4 t5
    have la := (q16 t (by omega)).1 (by rw [z1.1.1]; omega)
    rw [s8] at la
    have hSt : pStep J J' := by
      obtain ⟨N0, E, q⟩ := q5
      have e : N0 = N := by have := q.1.1; omega
      subst e
      refine ⟨N0 + 1, E, sR_new q hC0 hT0 hN hk la.1 ?_⟩
      rw [la.1]
      by_cases z : 0 < I' 2193 t
      · rw [if_pos z]; exact la.2.1
      · rw [if_neg z]; exact la.2.2
    have hDo : pDone J J' := fun u hu => by
      have q := q15 u hu
      rw [c5, t6, c0 2003 _ rfl, t0 2192 _ rfl, c0 1990 3390 rfl, c0 1996 _ rfl]
      refine ⟨?_, q.2⟩
      by_cases z : u = t
      · rw [if_pos z, if_pos z, q.1]
      · rw [if_neg z, if_neg z]; exact q.1
    have hLa : pLast J J' := fun u hu => by
      have q := q16 u hu
      rw [s8] at q
      rw [c6, t7, t0 2194 _ rfl, c0 1990 3390 rfl, c1, c0 1997 _ rfl, t0 2188 _ rfl, c0 1999 _ rfl]
      refine ⟨fun w => ?_, q.2⟩
      have q1 := q.1 w
      by_cases z : u = t
      · rw [if_pos z, if_pos z, if_pos (by omega)]
        exact ⟨rfl, ⟨by omega, by omega⟩, by omega, by omega⟩
      · rw [if_neg z, if_neg z]
        exact ⟨q1.1, ⟨by omega, by omega⟩, by omega, by omega⟩
    exact ⟨hR, su_keep su_pPath c0 t0 rfl q2, su_keep su_loR c0 t0 rfl q3, su_keep su_pArr c0 t0 rfl q4, hSt, su_keep su_pKeep c0 t0 rfl q6, hCo, su_keep su_pCalls c0 t0 rfl q8, su_keep su_pMet c0 t0 rfl q9, su_keep su_pPrint c0 t0 rfl q10, su_keep su_pBegun c0 t0 rfl q11, su_keep su_pLooks c0 t0 rfl q12, su_keep su_pPar c0 t0 rfl q13, su_keep su_pThr c0 t0 rfl q14, hDo, hLa, su_keep su_pFor c0 t0 rfl q17, su_keep su_pTurns c0 t0 rfl q18, su_keep su_pSeed c0 t0 rfl q19, su_keep su_pVars c0 t0 rfl q20⟩
  · obtain ⟨⟨n, b1, b2⟩, b3, b4⟩ := s4
    have x1 := fr_row t0 2255 (fun _ => rfl)
    have x2 := fr_row t0 2256 (fun _ => rfl)
    refine ⟨⟨n, hR_same b1 (c0 1960 _ rfl) (fr_row c0 1979 (fun _ => rfl)) (fr_row c0 1980 (fun _ => rfl)) (fr_row c0 1981 (fun _ => rfl)) (t0 2075 _ rfl) x1 x2 (fr_row t0 2257 (fun _ => rfl)) (fr_row t0 2258 (fun _ => rfl)), by rw [x1, x2]; exact b2⟩, by rw [c0 1990 _ rfl]; exact b3, ⟨fun j hj => ?_, tot_le b4.2 (fr_row c0 35 (fun _ => rfl)) (fr_row t0 2183 (fun _ => rfl)) (c0 1990 _ rfl)⟩⟩
    rw [c0 2014 j rfl, c0 1990 _ rfl]; exact b4.1 j hj
  · rw [c0 1990 3376 rfl]
    exact reR_ag (s11 u hu) (Int.le_refl _) gS ⟨fun p _ _ => ⟨c0 1992 _ rfl, c0 1993 _ rfl⟩, c0 1994 _ rfl, fun k _ => ⟨c0 2009 _ rfl, c0 2006 _ rfl, t0 2200 _ rfl⟩, fun k i _ _ => t0 2205 _ rfl, fun k i _ _ => t0 2206 _ rfl⟩ ⟨⟨c0 1995 _ rfl, t0 2186 _ rfl⟩, fun k _ => ⟨c0 2006 _ rfl, c0 2007 _ rfl, c0 2008 _ rfl, c0 2010 _ rfl, c0 2011 _ rfl, t0 2197 _ rfl, t0 2198 _ rfl, t0 2199 _ rfl, t0 2201 _ rfl, t0 2202 _ rfl, t0 2203 _ rfl⟩⟩ (c0 1996 _ rfl) (c0 1997 _ rfl) (c0 2005 _ rfl)
