/-! ===== node PUT: keepers, names, global names ===== -/
set_option maxRecDepth 20000
set_option maxHeartbeats 4000000
/-- what a failing or ending node keeps where only cells of values at rest are put -/
theorem IFs_keep {Y Y' : vY} {X mm Nn Lp : Nat} {nm pr ht : Nat → Nat} {I I' J J' : vJ} {th t A W N : Nat} (h : IFs Y Y' X mm Nn Lp nm pr ht I I' th t A W N) (F1 : fr [1964, 1969, 1985, 2015, 2016, 2027, 2028, 2029, 2030, 2031, 2032, 2033, 2034, 2035, 2037, 2046, 2048, 2049, 2050, 2051, 2052, 2053, 2054, 2055, 2056, 2057, 2058, 2059] [(1990, 3379), (1990, 3391), (1990, 3401), (1990, 3402), (1990, 3400)] I J) (F2 : fr [2184, 2207, 2208, 2223, 2224, 2225, 2226, 2227, 2228, 2229, 2230, 2232, 2240, 2249, 2254, 2267, 2268, 2269, 2270, 2271, 2272, 2273, 2274, 2275, 2276] [(2075, 7739), (2075, 7735)] I' J') (hp : PT Lp J J') : IFs Y Y' X mm Nn Lp nm pr ht J J' th t A W N := by
  obtain ⟨s1, s2, s3, s4, ⟨s5, s6, s7, s8, s9, s10, s11⟩, s12, ⟨⟨r1, r2, r3, r4⟩, ⟨r5, r6⟩, r7, r8, r9⟩⟩ := h
  have g := agT_fr F1 F2 rfl
  have hX := s1.1.2.1
  have gS : agS I I' J J' X := ⟨g.1 38 (by decide) (by decide), g.1 43 (by decide) (by decide), g.1 62 (by decide) (by decide), g.2.2.1 (X + 11) (by omega) (by omega), g.2.2.1 (X + 12) (by omega) (by omega), g.2.2.1 (X + 37) (by omega) (by omega), g.2.2.1 2178 (by decide) (by decide), g.2.2.1 2179 (by decide) (by decide), by rw [F1 1960 _ rfl]; exact Int.le_refl _⟩
  have arr : J 1990 3376 = I 1990 3376 := F1 1990 _ rfl
  refine ⟨ST_ag s1 g, su_keep su_LZ F1 F2 rfl s2, hp, ?_, ⟨s5, by rw [fr_row F1 1995 (fun _ => rfl), F1 1990 3393 rfl, F1 1960 3100 rfl]; exact s6, by rw [F1 1990 _ rfl]; exact s7, by rw [F2 2075 _ rfl]; exact s8, s9, s10, by rw [F2 2075 _ rfl]; exact s11⟩, fun u hu ut => ?_, ⟨⟨by rw [F1 1995 _ rfl]; exact r1, by rw [F2 2186 _ rfl]; exact r2, r3, r4⟩, ⟨by rw [F1 1996 _ rfl]; exact r5, by rw [F1 2005 _ rfl]; exact r6⟩, ?_, fun k hk => ?_, fun k hk => ?_⟩⟩
  · obtain ⟨⟨n, b1, b2⟩, b3, b4⟩ := s4
    have x1 := fr_row F2 2255 (fun _ => rfl)
    have x2 := fr_row F2 2256 (fun _ => rfl)
    refine ⟨⟨n, hR_same b1 (F1 1960 _ rfl) (fr_row F1 1979 (fun _ => rfl)) (fr_row F1 1980 (fun _ => rfl)) (fr_row F1 1981 (fun _ => rfl)) (F2 2075 _ rfl) x1 x2 (fr_row F2 2257 (fun _ => rfl)) (fr_row F2 2258 (fun _ => rfl)), by rw [x1, x2]; exact b2⟩, by rw [F1 1990 _ rfl]; exact b3, ⟨fun j hj => ?_, tot_le b4.2 (fr_row F1 35 (fun _ => rfl)) (fr_row F2 2183 (fun _ => rfl)) (F1 1990 _ rfl)⟩⟩
    rw [F1 2014 j rfl, F1 1990 _ rfl]; exact b4.1 j hj
  · rw [arr]
    exact reR_ag (s12 u hu ut) (Int.le_refl _) gS (agV_of ut (fun _ _ => ⟨F1 1992 _ rfl, F1 1993 _ rfl⟩) (fun v hv => F1 1994 _ rfl) (fun b hb => ⟨F1 2009 _ rfl, F1 2006 _ rfl, F2 2200 _ rfl⟩) (fun q _ => F2 2205 _ rfl) (fun q _ => F2 2206 _ rfl)) ⟨⟨F1 1995 _ rfl, F2 2186 _ rfl⟩, fun k hk => ⟨F1 2006 _ rfl, F1 2007 _ rfl, F1 2008 _ rfl, F1 2010 _ rfl, F1 2011 _ rfl, F2 2197 _ rfl, F2 2198 _ rfl, F2 2199 _ rfl, F2 2201 _ rfl, F2 2202 _ rfl, F2 2203 _ rfl⟩⟩ (F1 1996 _ rfl) (F1 1997 _ rfl) (F1 2005 _ rfl)
  · rw [arr, F1 2009 _ rfl, F1 2006 _ rfl]
    refine thV_ag r7 r4 ⟨fun p _ _ => ?_, ?_, fun k _ => ?_, fun k j _ _ => ?_, fun k j _ _ => ?_⟩
    · rw [up_cell _ (by decide), up_cell _ (by decide), up_cell _ (by decide), up_cell _ (by decide), F1 1992 _ rfl, F1 1993 _ rfl]; exact ⟨rfl, rfl⟩
    · rw [up_same, up_same]
    · rw [up_cell _ (by decide), up_cell _ (by decide), up_cell _ (by decide), up_cell _ (by decide), F1 2009 _ rfl, F1 2006 _ rfl, up_at, up_at, F2 2200 _ rfl]; exact ⟨rfl, rfl, rfl⟩
    · rw [up_cell _ (by decide), up_cell _ (by decide)]; exact F2 2205 _ rfl
    · rw [up_cell _ (by decide), up_cell _ (by decide)]; exact F2 2206 _ rfl
  · have q := r8 k hk
    unfold acR at *
    rw [F1 2006 _ rfl, F1 2007 _ rfl, F1 2010 _ rfl, F1 2011 _ rfl, F1 1960 _ rfl, gS.1, gS.2.2.1, F2 2197 _ rfl, F2 2198 _ rfl, F2 2201 _ rfl, F2 2202 _ rfl, F2 2203 _ rfl, gS.2.2.2.2.2.1, gS.2.2.2.2.2.2.1, gS.2.2.2.2.2.2.2.1]
    exact q
  · have q := r9 k hk
    unfold coR at *
    rw [F1 2007 _ rfl, F1 2008 _ rfl, F2 2199 _ rfl, F2 2200 _ rfl, gS.2.2.2.1, gS.2.2.2.2.1]
    exact q
/-- a global name is put -/
theorem IFs_glob {Y Y' : vY} {X mm Nn Lp : Nat} {nm pr ht : Nat → Nat} {I I' J J' : vJ} {th t A W N P : Nat} {kd v e : Int} (h : IFs Y Y' X mm Nn Lp nm pr ht I I' th t A W N) (hP : P < 8) (hv : vv (I 1990 3376) kd v e) (F1 : fr [1992, 1993] [] I J) (F2 : fr [2185] [] I' J') (e1 : ∀ q, J 1992 q = if q = P then kd else I 1992 q) (e2 : ∀ q, J 1993 q = if q = P then v else I 1993 q) (e3 : ∀ q, J' 2185 q = if q = P then e else I' 2185 q) : IFs Y Y' X mm Nn Lp nm pr ht J J' th t A W N := by
  obtain ⟨s1, s2, s3, s4, ⟨s5, s6, s7, s8, s9, s10, s11⟩, s12, ⟨⟨r1, r2, r3, r4⟩, ⟨r5, r6⟩, r7, r8, r9⟩⟩ := h
  have g := agT_fr F1 F2 rfl
  have hX := s1.1.2.1
  have gS : agS I I' J J' X := ⟨g.1 38 (by decide) (by decide), g.1 43 (by decide) (by decide), g.1 62 (by decide) (by decide), g.2.2.1 (X + 11) (by omega) (by omega), g.2.2.1 (X + 12) (by omega) (by omega), g.2.2.1 (X + 37) (by omega) (by omega), g.2.2.1 2178 (by decide) (by decide), g.2.2.1 2179 (by decide) (by decide), by rw [F1 1960 _ rfl]; exact Int.le_refl _⟩
  obtain ⟨q1, q2, q3, q4, q5, q6, q7, q8, q9, q10, q11, q12, q13, q14, q15, q16, q17, q18, q19, q20⟩ := s3
  have arr : J 1990 3376 = I 1990 3376 := F1 1990 _ rfl
  have hV : pVars J J' := fun v9 hv8 hv9 => by
    rw [F1 1960 _ rfl] at hv9
    rw [e1, e2, arr, e3]
    by_cases z : v9 = P
    · rw [if_pos z, if_pos z, if_pos z]; exact hv
    · rw [if_neg z, if_neg z, if_neg z]; exact q20 v9 hv8 hv9
  refine ⟨ST_ag s1 g, su_keep su_LZ F1 F2 rfl s2, ⟨su_keep su_tR F1 F2 rfl q1, su_keep su_pPath F1 F2 rfl q2, su_keep su_loR F1 F2 rfl q3, su_keep su_pArr F1 F2 rfl q4, su_keep su_pStep F1 F2 rfl q5, su_keep su_pKeep F1 F2 rfl q6, su_keep su_pCost F1 F2 rfl q7, su_keep su_pCalls F1 F2 rfl q8, su_keep su_pMet F1 F2 rfl q9, su_keep su_pPrint F1 F2 rfl q10, su_keep su_pBegun F1 F2 rfl q11, su_keep su_pLooks F1 F2 rfl q12, su_keep su_pPar F1 F2 rfl q13, su_keep su_pThr F1 F2 rfl q14, su_keep su_pDone F1 F2 rfl q15, su_keep su_pLast F1 F2 rfl q16, su_keep su_pFor F1 F2 rfl q17, su_keep su_pTurns F1 F2 rfl q18, su_keep su_pSeed F1 F2 rfl q19, hV⟩, ?_, ⟨s5, by rw [fr_row F1 1995 (fun _ => rfl), F1 1990 3393 rfl, F1 1960 3100 rfl]; exact s6, by rw [F1 1990 _ rfl]; exact s7, by rw [F2 2075 _ rfl]; exact s8, s9, s10, by rw [F2 2075 _ rfl]; exact s11⟩, fun u hu ut => ?_, ⟨⟨by rw [F1 1995 _ rfl]; exact r1, by rw [F2 2186 _ rfl]; exact r2, r3, r4⟩, ⟨by rw [F1 1996 _ rfl]; exact r5, by rw [F1 2005 _ rfl]; exact r6⟩, ?_, fun k hk => ?_, fun k hk => ?_⟩⟩
  · obtain ⟨⟨n, b1, b2⟩, b3, b4⟩ := s4
    have x1 := fr_row F2 2255 (fun _ => rfl)
    have x2 := fr_row F2 2256 (fun _ => rfl)
    refine ⟨⟨n, hR_same b1 (F1 1960 _ rfl) (fr_row F1 1979 (fun _ => rfl)) (fr_row F1 1980 (fun _ => rfl)) (fr_row F1 1981 (fun _ => rfl)) (F2 2075 _ rfl) x1 x2 (fr_row F2 2257 (fun _ => rfl)) (fr_row F2 2258 (fun _ => rfl)), by rw [x1, x2]; exact b2⟩, by rw [F1 1990 _ rfl]; exact b3, ⟨fun j hj => ?_, tot_le b4.2 (fr_row F1 35 (fun _ => rfl)) (fr_row F2 2183 (fun _ => rfl)) (F1 1990 _ rfl)⟩⟩
    rw [F1 2014 j rfl, F1 1990 _ rfl]; exact b4.1 j hj
  · rw [arr]
    exact reR_ag (s12 u hu ut) (Int.le_refl _) gS ⟨fun q hq1 hq2 => ⟨by rw [e1, if_neg (by omega)], by rw [e2, if_neg (by omega)]⟩, F1 1994 _ rfl, fun k _ => ⟨F1 2009 _ rfl, F1 2006 _ rfl, F2 2200 _ rfl⟩, fun k i _ _ => F2 2205 _ rfl, fun k i _ _ => F2 2206 _ rfl⟩ ⟨⟨F1 1995 _ rfl, F2 2186 _ rfl⟩, fun k hk => ⟨F1 2006 _ rfl, F1 2007 _ rfl, F1 2008 _ rfl, F1 2010 _ rfl, F1 2011 _ rfl, F2 2197 _ rfl, F2 2198 _ rfl, F2 2199 _ rfl, F2 2201 _ rfl, F2 2202 _ rfl, F2 2203 _ rfl⟩⟩ (F1 1996 _ rfl) (F1 1997 _ rfl) (F1 2005 _ rfl)
  · rw [arr, F1 2009 _ rfl, F1 2006 _ rfl]
    refine thV_ag r7 r4 ⟨fun p hp1 hp2 => ?_, ?_, fun k _ => ?_, fun k j _ _ => ?_, fun k j _ _ => ?_⟩
    · rw [up_cell _ (by decide), up_cell _ (by decide), up_cell _ (by decide), up_cell _ (by decide), e1, e2, if_neg (by omega), if_neg (by omega)]; exact ⟨rfl, rfl⟩
    · rw [up_same, up_same]
    · rw [up_cell _ (by decide), up_cell _ (by decide), up_cell _ (by decide), up_cell _ (by decide), F1 2009 _ rfl, F1 2006 _ rfl, up_at, up_at, F2 2200 _ rfl]; exact ⟨rfl, rfl, rfl⟩
    · rw [up_cell _ (by decide), up_cell _ (by decide)]; exact F2 2205 _ rfl
    · rw [up_cell _ (by decide), up_cell _ (by decide)]; exact F2 2206 _ rfl
  · have q := r8 k hk
    unfold acR at *
    rw [F1 2006 _ rfl, F1 2007 _ rfl, F1 2010 _ rfl, F1 2011 _ rfl, F1 1960 _ rfl, gS.1, gS.2.2.1, F2 2197 _ rfl, F2 2198 _ rfl, F2 2201 _ rfl, F2 2202 _ rfl, F2 2203 _ rfl, gS.2.2.2.2.2.1, gS.2.2.2.2.2.2.1, gS.2.2.2.2.2.2.2.1]
    exact q
  · have q := r9 k hk
    unfold coR at *
    rw [F1 2007 _ rfl, F1 2008 _ rfl, F2 2199 _ rfl, F2 2200 _ rfl, gS.2.2.2.1, gS.2.2.2.2.1]
    exact q
/-! ===== keepers ===== -/
theorem pKeep_iff {I I' : vJ} : pKeep I I' ↔ ∀ k, k < 4 → kR I I' (2048 + 3 * k) k := by
  unfold pKeep
  refine ⟨fun h k hk => ?_, fun h => ⟨h 0 (by decide), h 1 (by decide), h 2 (by decide), h 3 (by decide)⟩⟩
  have : k = 0 ∨ k = 1 ∨ k = 2 ∨ k = 3 := by omega
  rcases this with z | z | z | z
  · subst z; exact h.1
  · subst z; exact h.2.1
  · subst z; exact h.2.2.1
  · subst z; exact h.2.2.2
theorem vreg_k {Y : vY} (hL : vL Y) {k : Nat} (hk : k < 4) : Y.1 1991 k = 2048 + 3 * k ∧ vreg Y 2048 3 (2048 + 3 * k) := by
  have z : k = 0 ∨ k = 1 ∨ k = 2 ∨ k = 3 := by omega
  have hf : ∀ b : Nat, (b = 2048 ∨ b = 2051 ∨ b = 2054 ∨ b = 2057) → vreg Y 2048 3 b := by
    intro b hb
    refine ⟨by omega, fun o ho => ?_, fun o f v ho hv hlt => ?_⟩
    · have e := hL.1 (b + o) (by omega) (by omega)
      have o3 : o = 0 ∨ o = 1 ∨ o = 2 := by omega
      rcases hb with z | z | z | z <;> rcases o3 with y | y | y <;> (subst z; subst y; exact e)
    · have o3 : o = 0 ∨ o = 1 ∨ o = 2 := by omega
      rcases o3 with y | y | y
      · subst y
        by_cases f1 : f = 3585
        · subst f1
          have : v = 2049 := hv.symm
          subst this
          rcases hb with z | z | z | z <;> (subst z; exact lP hL _ _ _ rfl)
        · by_cases f2 : f = 3586
          · subst f2
            have : v = 2050 := hv.symm
            subst this
            rcases hb with z | z | z | z <;> (subst z; exact lP hL _ _ _ rfl)
          · have : v = 0 := by
              rw [← hv]
              show lfind [(3585, 2049), (3586, 2050)] f = 0
              unfold lfind; rw [bq_ne (fun q => f1 q.symm)]; unfold lfind; rw [bq_ne (fun q => f2 q.symm)]; rfl
            omega
      · subst y
        have : v = 0 := hv.symm
        omega
      · subst y
        have : v = 0 := hv.symm
        omega
  rcases z with z | z | z | z
  · subst z; exact ⟨lP hL _ _ _ rfl, hf _ (by omega)⟩
  · subst z; exact ⟨lP hL _ _ _ rfl, hf _ (by omega)⟩
  · subst z; exact ⟨lP hL _ _ _ rfl, hf _ (by omega)⟩
  · subst z; exact ⟨lP hL _ _ _ rfl, hf _ (by omega)⟩
theorem kR_other {I I' J J' : vJ} {j k : Nat} (h : kR I I' (2048 + 3 * j) j) (jk : j ≠ k) (h1 : kH I J (2048 + 3 * k)) (h2 : kG I' J' k) : kR J J' (2048 + 3 * j) j := by
  obtain ⟨g1, g2⟩ := h2
  obtain ⟨a1, a2, a3, a4, a5, a6, a7⟩ := g2 j jk
  have x0 := h1 (2048 + 3 * j) (by omega) (by omega) (by omega)
  have x1 := h1 (2048 + 3 * j + 1) (by omega) (by omega) (by omega)
  have x2 := h1 (2048 + 3 * j + 2) (by omega) (by omega) (by omega)
  unfold kR at *
  rw [x0, a1, a2, a3, a4, a5, a6, g1 2267 (by omega), g1 2268 (by omega)]
  refine ⟨h.1, fun i hi => ?_, h.2.2⟩
  rw [x1, x2, (a7 i hi).1, (a7 i hi).2]
  exact h.2.1 i hi
theorem fr_kH {I J : vJ} {k : Nat} (hk : k < 4) (h : kH I J (2048 + 3 * k)) : fr [2048, 2049, 2050, 2051, 2052, 2053, 2054, 2055, 2056, 2057, 2058, 2059] [] I J := fun c f e => by
  by_cases z : 2048 ≤ c ∧ c ≤ 2059
  · have : c = 2048 ∨ c = 2049 ∨ c = 2050 ∨ c = 2051 ∨ c = 2052 ∨ c = 2053 ∨ c = 2054 ∨ c = 2055 ∨ c = 2056 ∨ c = 2057 ∨ c = 2058 ∨ c = 2059 := by omega
    rcases this with z | z | z | z | z | z | z | z | z | z | z | z <;> (subst z; exact absurd (show false = true from e) (by decide))
  · rw [h c (by omega) (by omega) (by omega)]
theorem fr_kG {I J : vJ} {k : Nat} (h : kG I J k) : fr [2267, 2268, 2269, 2270, 2271, 2272, 2273, 2274, 2275, 2276] [] I J := fun c f e => by
  by_cases z : 2269 ≤ c ∧ c ≤ 2276
  · have : c = 2269 ∨ c = 2270 ∨ c = 2271 ∨ c = 2272 ∨ c = 2273 ∨ c = 2274 ∨ c = 2275 ∨ c = 2276 := by omega
    rcases this with z | z | z | z | z | z | z | z <;> (subst z; exact absurd (show false = true from e) (by decide))
  · rw [h.1 c (by omega)]
section
variable {d d' : Nat} {Y Y' : vY} {Q : vE → vE → Prop}
theorem k_all {p nd : Nat} {a sl e v : Int} (hL : vL Y) (hL' : vL Y') (hp : p < 46088) (hn : nd < 700) (hv : inI v) (he : inV e) (hev : e / 4 = v) : ∀ (r i : Nat) (I I' : vJ), i + r = 4 → pKeep I I' → I 1992 p = 0 → I 1993 p = v → (∀ J J', pKeep J J' → fr [2048, 2049, 2050, 2051, 2052, 2053, 2054, 2055, 2056, 2057, 2058, 2059] [] I J → fr [2267, 2268, 2269, 2270, 2271, 2272, 2273, 2274, 2275, 2276] [] I' J' → Q (.inl none, (J, Y)) (.inl none, (J', Y'))) →
    vW (d + 3) 188 (51, [vr 1990, vi a, vi nd, vi p, vi sl, vi i], [], (I, Y)) (fun r => vW (d' + 3) 444 (11, [vr 2075, vi nd, vl e, vu, vi i], [], (I', Y')) (fun r' => Q r r')) := by
  intro r
  induction r with
  | zero =>
    intro i I I' hi hK h0 h1 hQ
    have : i = 4 := by omega
    subst this
    rw [b188_51, if_pos (by decide), b188_102, b444_11, if_pos (by decide), b444_54]
    exact hQ I I' hK (fr_refl _ _ _) (fr_refl _ _ _)
  | succ r ih =>
    intro i I I' hi hK h0 h1 hQ
    have i4 : i < 4 := by omega
    obtain ⟨y1, y2⟩ := vreg_k hL i4
    have w4 : ¬ w32 4 ≤ w32 (i : Int) := by rw [w32_id (by decide) (by decide), w32_id (by omega) (by omega)]; omega
    have hk := (pKeep_iff.mp hK) i i4
    have nx : ∀ (J J' : vJ), pKeep J J' → fr [2048, 2049, 2050, 2051, 2052, 2053, 2054, 2055, 2056, 2057, 2058, 2059] [] I J → fr [2267, 2268, 2269, 2270, 2271, 2272, 2273, 2274, 2275, 2276] [] I' J' → vW (d + 3) 188 (96, [vr 1990, vi a, vi nd, vi p, vi sl, vi i], [], (J, Y)) (fun r => vW (d' + 3) 444 (48, [vr 2075, vi nd, vl e, vu, vi i], [], (J', Y')) (fun r' => Q r r')) := by
      intro J J' g1 g2 g3
      rw [b188_96]
      simp only [b444_48]
      have := ih (i + 1) J J' (by omega) g1 (by rw [g2 1992 _ rfl]; exact h0) (by rw [g2 1993 _ rfl]; exact h1) (fun K K' k1 k2 k3 => hQ K K' k1 (fr_trans g2 k2) (fr_trans g3 k3))
      rw [show ((i + 1 : Nat) : Int) = (i : Int) + 1 by omega] at this
      exact this
    rw [b188_51, if_neg w4, b188_57 hL (by omega) (by omega), tn0, h0, if_neg (by decide), b188_66 hL (by omega) (by omega) (by rw [tn0, y1]; exact y2), tn0, y1]
    have mt : ∀ K : vE → Prop, vW (d' + 3) 444 (11, [vr 2075, vi nd, vl e, vu, vi i], [], (I', Y')) K ↔ vW (d' + 3) 444 (17, [vr 2075, vi nd, vl e, vu, vi i], [], (I', Y')) K := fun K => by rw [b444_11, if_neg w4]
    simp only [mt]
    obtain ⟨_, _, _, _, _, _, _, k8⟩ := hk
    rcases k8 with ⟨k1, k2⟩ | ⟨k1, k2, k3, k4⟩
    · rw [if_pos (by rw [k1, w32_id (by decide) (by decide), w32_id (by omega) (by omega)]; omega)]
      have mt2 : ∀ K : vE → Prop, vW (d' + 3) 444 (17, [vr 2075, vi nd, vl e, vu, vi i], [], (I', Y')) K ↔ vW (d' + 3) 444 (48, [vr 2075, vi nd, vl e, vu, vi i], [], (I', Y')) K := fun K => by rw [b444_17 hL' (by omega) (by omega), tn0, k2, if_pos (by decide)]
      simp only [mt2]
      exact nx I I' hK (fr_refl _ _ _) (fr_refl _ _ _)
    · have k3a := k3.1
      have k3b := k3.2
      have k4a := k4.1
      have k4b := k4.2
      rw [k1]
      have mt2 : ∀ K : vE → Prop, vW (d' + 3) 444 (17, [vr 2075, vi nd, vl e, vu, vi i], [], (I', Y')) K ↔ if w32 (I' 2268 i) ≠ w32 (nd : Int) then vW (d' + 3) 444 (48, [vr 2075, vi nd, vl e, vu, vi i], [], (I', Y')) K else vW (d' + 3) 444 (38, [vr 2075, vi nd, vl e, vu, vi i], [], (I', Y')) K := fun K => by rw [b444_17 hL' (by omega) (by omega), tn0, if_neg (by rw [w32_id (by omega) (by omega)]; omega), b444_27 hL' (by omega) (by omega), tn0]
      simp only [mt2]
      by_cases z : w32 (I' 2268 i) ≠ w32 (nd : Int)
      · rw [if_pos z]
        simp only [if_pos z]
        exact nx I I' hK (fr_refl _ _ _) (fr_refl _ _ _)
      · rw [if_neg z]
        simp only [if_neg z]
        rw [b188_80 hL (by omega) (by omega) (by omega) (by omega) (by rw [tn0, y1]; exact y2), tn0, tn0, y1, h1]
        have mt3 : ∀ K : vE → Prop, vW (d' + 3) 444 (38, [vr 2075, vi nd, vl e, vu, vi i], [], (I', Y')) K ↔ vW (d' + 2) 445 (0, [vr 2075, vi i, vl v, vu, vu, vu, vu], [], (I', Y')) (vWC (d' + 3) 444 45 3 [vr 2075, vi nd, vl e, vu, vi i] [] K) := fun K => by
          rw [b444_38, t_val he]
          simp only [vWC_s, Nat.reduceAdd]
          rw [hev, b444_45 hL']
        simp only [mt3]
        refine vW_out (k_sees (Q := fun r r' => vWC (d + 3) 188 93 3 [vr 1990, vi a, vi nd, vi p, vi sl, vi i] [] (fun r => vWC (d' + 3) 444 45 3 [vr 2075, vi nd, vl e, vu, vi i] [] (fun r' => Q r r') r') r) y2 hL' i4 hv ((pKeep_iff.mp hK) i i4) (fun J J' j1 j2 j3 => ?_))
        simp only [vWC_n, Nat.reduceAdd]
        exact nx J J' (pKeep_iff.mpr (fun k hk4 => by
          by_cases y : k = i
          · subst y; exact j1
          · exact kR_other ((pKeep_iff.mp hK) k hk4) y j2 j3)) (fr_kH i4 j2) (fr_kG j3)
end
