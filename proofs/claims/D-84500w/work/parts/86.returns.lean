/-! ===== an activation ends, its caller goes on: both houses ===== -/
set_option maxRecDepth 20000
set_option maxHeartbeats 4000000
/-- the caller is at its code again, a value has come -/
theorem mv_ret {Y Y' : vY} {X mm Nn Lp : Nat} {nm pr ht : Nat → Nat} {I I' J J' J2 J2' : vJ} {th t A W N T0 : Nat} {kd v e : Int} (h : IL Y Y' X mm Nn Lp nm pr ht I I' th t (A + 1) W N) (hA : 0 < A) (hP : PT Lp J J') (hB : bud J J' (W + 1) (ht 5000)) (g1 : goC I J) (g2 : goE I I' J' (40 * t + A)) (g3 : ∀ b, b ≠ 40 * t + A → J' 2198 b = I' 2198 b ∧ J' 2199 b = I' 2199 b ∧ J' 2200 b = I' 2200 b ∧ J 2011 b = I 2011 b ∧ J' 2202 b = I' 2202 b ∧ J' 2203 b = I' 2203 b) (hdead : I 2012 (40 * t + A) = 0) (hT0 : I 2009 (40 * t + A) = T0) (hv : vv (I 1990 3376) kd v e)
    (j1 : fr [1992, 1993, 1994, 1995] [(1990, 3401), (1990, 3402)] J J2) (j2 : ∀ q, J2 1992 q = if q = T0 then kd else J 1992 q) (j3 : ∀ q, J2 1993 q = if q = T0 then v else J 1993 q) (j4 : ∀ u, J2 1994 u = if u = t then (T0 : Int) + 1 else J 1994 u) (j5 : ∀ u, J2 1995 u = if u = t then (A : Int) else J 1995 u) (i1 : fr [2186, 2200, 2206] [] J' J2') (i2 : ∀ u, J2' 2186 u = if u = t then (A : Int) else J' 2186 u) (i3 : ∀ b, J2' 2200 b = if b = 40 * t + (A - 1) then J' 2200 (40 * t + (A - 1)) + 1 else J' 2200 b) (i4 : ∀ q, J2' 2206 q = if q = 160 * (40 * t + (A - 1)) + (J' 2200 (40 * t + (A - 1))).toNat then e else J' 2206 q) :
    ∃ pc nd : Nat, IS Y Y' X mm Nn Lp nm pr ht J2 J2' th t A pc (W + 1) N ∧ J2 2007 (40 * t + (A - 1)) = nd ∧ J2 2008 (40 * t + (A - 1)) = 2 * (pc : Int) := by
  obtain ⟨s1, ⟨s2, s2l⟩, s3, s4, ⟨s5, s6, s7, s8, s9, s10, s11⟩, s12, ⟨⟨r1, r2, r3, r4⟩, ⟨r5, r6⟩, r7, r8, r9⟩⟩ := h
  have th8 := s2.1.1.2.2
  have h8 : t < 8 := by omega
  have hX := s1.1.2.1
  rw [Nat.add_sub_cancel] at r7
  have H1 : fr [65, 2011, 1979, 1980, 1981, 1970, 1971, 1972, 1973, 1975, 1976, 1977, 1978, 2014] [(1990, 3392), (1960, 3090)] I J := g1
  have H2 : fr [2183, 2202, 2203, 2255, 2256, 2257, 2258, 2241, 2242, 2243, 2244, 2245, 2246, 2247, 2248, 2209, 2198, 2199, 2200] [(2075, 7736), (2075, 7818)] I' J' := g2.1
  have G1 : fr [65, 2011, 1979, 1980, 1981, 1970, 1971, 1972, 1973, 1975, 1976, 1977, 1978, 2014, 1992, 1993, 1994, 1995] [(1990, 3392), (1960, 3090), (1990, 3401), (1990, 3402)] I J2 := fr_trans (fr_weak H1 (by decide) (by decide)) (fr_weak j1 (by decide) (by decide))
  have G2 : fr [2183, 2202, 2203, 2255, 2256, 2257, 2258, 2241, 2242, 2243, 2244, 2245, 2246, 2247, 2248, 2209, 2198, 2199, 2200, 2186, 2206] [(2075, 7736), (2075, 7818)] I' J2' := fr_trans (fr_weak H2 (by decide) (by decide)) (fr_weak i1 (by decide) (by decide))
  have aT := agT_fr G1 G2 rfl
  have arr : J2 1990 3376 = I 1990 3376 := G1 1990 _ rfl
  have gS : agS I I' J2 J2' X := ⟨aT.1 38 (by decide) (by decide), aT.1 43 (by decide) (by decide), aT.1 62 (by decide) (by decide), aT.2.2.1 (X + 11) (by omega) (by omega), aT.2.2.1 (X + 12) (by omega) (by omega), aT.2.2.1 (X + 37) (by omega) (by omega), aT.2.2.1 2178 (by decide) (by decide), aT.2.2.1 2179 (by decide) (by decide), by rw [G1 1960 _ rfl]; exact Int.le_refl _⟩
  -- the caller
  have nb : 40 * t + (A - 1) ≠ 40 * t + A := by omega
  obtain ⟨pc, q1, q2, q3, q4, q5⟩ := r9 (A - 1) (by omega)
  obtain ⟨c1, c2, c3, c4⟩ := r8 (A - 1) (by omega)
  obtain ⟨nd, hnd⟩ : ∃ nd : Nat, I 2007 (40 * t + (A - 1)) = nd := ⟨(I 2007 (40 * t + (A - 1))).toNat, by omega⟩
  -- values
  have bA : 8 + 5760 * t ≤ T0 ∧ T0 ≤ 8 + 5760 * t + 144 * A := by
    obtain ⟨b, s, h1, h2, h3, h4, h5, h6, h7⟩ := r7
    have z2 := h1 A (by omega)
    have bd := thV_bd h2 h3 (fun k hk => ⟨(h1 k hk).2.2.1, (h1 k hk).2.2.2⟩) A (by omega)
    rw [up_cell _ (show 2009 ≠ 1994 by decide)] at z2
    omega
  have tl := thV_leave (J := up I 1994 t (I 2009 (40 * t + A))) (J' := J') r7 (by omega) (by rw [up_row _ (by decide), up_row _ (by decide)]) (by rw [up_row _ (by decide), up_row _ (by decide)]) (fun u => by
    rw [up_at, up_cell _ (show 2009 ≠ 1994 by decide), up_at]
    by_cases z : u = t
    · rw [if_pos z, if_pos z]
    · rw [if_neg z, if_neg z, if_neg z]) (by rw [up_row _ (by decide), up_row _ (by decide)]) (by rw [up_row _ (by decide), up_row _ (by decide)]) (fun b hb => by rw [up_place _ _ hb, (g3 b hb).2.2.1]) (by rw [up_row _ (by decide)]; exact fr_row H2 2205 (fun _ => rfl)) (by rw [up_row _ (by decide)]; exact fr_row H2 2206 (fun _ => rfl))
  have st : ∃ S2 : Nat, J' 2200 (40 * t + (A - 1)) = S2 ∧ (T0 : Int) = I 2009 (40 * t + (A - 1)) + nm (I 2006 (40 * t + (A - 1))).toNat + S2 := by
    obtain ⟨b, s, h1, h2, h3, h4, h5, h6, h7⟩ := tl.1
    have z1 := h5 hA
    have z2 := h1 (A - 1) (by omega)
    rw [up_same, up_cell _ (show 2006 ≠ 1994 by decide)] at z1
    rw [up_cell _ (show 2009 ≠ 1994 by decide), up_cell _ (show 2006 ≠ 1994 by decide)] at z2
    exact ⟨s (A - 1), z2.2.1, by omega⟩
  obtain ⟨S2, jS, z2⟩ := st
  have jS' : I' 2200 (40 * t + (A - 1)) = S2 := by rw [← (g3 _ nb).2.2.1]; exact jS
  rw [jS] at i3 i4
  simp only [tn0] at i4
  rw [hnd, tn0] at q3 q4
  have ndN : nd < Nn := by omega
  obtain ⟨_, _, cf0, ct0, _, k11, _⟩ := s1.2.2.2.2.1 nd ndN
  have hpc100 : ht pc ≤ 100 := by
    have cf := s1.2.2.2.2.2.2.2.1 nd ndN
    have this := cf (pc - 1) (by omega) (by omega)
    have e : pc - 1 + 1 = pc := by omega
    rw [e] at this
    exact this.2.2
  have ts := thV_set (J := J2) (J' := J2') (S := S2) (T := T0) (kd := kd) (v := v) (e := e) tl.1 hA (by omega) (by omega) (by omega) (by rw [up_cell _ (by decide), up_cell _ (by decide)]; exact z2) hv (fun q => by rw [j2, up_cell _ (by decide), H1 1992 _ rfl]) (fun q => by rw [j3, up_cell _ (by decide), H1 1993 _ rfl]) (fun u => by
    rw [j4, up_at, H1 1994 _ rfl]
    by_cases z : u = t
    · rw [if_pos z, if_pos z]
    · rw [if_neg z, if_neg z, if_neg z]) (by rw [fr_row G1 2009 (fun _ => rfl), up_row _ (by decide)]) (by rw [fr_row G1 2006 (fun _ => rfl), up_row _ (by decide)]) i3 (fr_row i1 2205 (fun _ => rfl)) i4
  have e1995 : ∀ u, u ≠ t → J2 1995 u = I 1995 u := fun u hu => by rw [j5, if_neg hu, H1 1995 _ rfl]
  have e2186 : ∀ u, u ≠ t → J2' 2186 u = I' 2186 u := fun u hu => by rw [i2, if_neg hu, H2 2186 _ rfl]
  have r2198 : ∀ b, b ≠ 40 * t + A → J2' 2198 b = I' 2198 b ∧ J2' 2199 b = I' 2199 b ∧ J2 2011 b = I 2011 b ∧ J2' 2202 b = I' 2202 b ∧ J2' 2203 b = I' 2203 b := fun b hb => by
    have z := g3 b hb
    rw [i1 2198 _ rfl, i1 2199 _ rfl, j1 2011 _ rfl, i1 2202 _ rfl, i1 2203 _ rfl]
    exact ⟨z.1, z.2.1, z.2.2.2.1, z.2.2.2.2.1, z.2.2.2.2.2⟩
  have r2200 : ∀ b, b ≠ 40 * t + A → b ≠ 40 * t + (A - 1) → J2' 2200 b = I' 2200 b := fun b hb hb2 => by
    rw [i3, if_neg hb2, (g3 b hb).2.2.1]
  refine ⟨pc, nd, ⟨ST_ag s1 aT, ?_, ?_, ?_, ⟨s5, ?_, by rw [G1 1990 _ rfl]; exact s7, by rw [G2 2075 _ rfl]; exact s8, s9, s10, by rw [G2 2075 _ rfl]; exact s11⟩, fun u hu z => ?_, ⟨by rw [j5, if_pos rfl], by rw [i2, if_pos rfl], hA, by omega⟩, ⟨by rw [G1 1996 _ rfl]; exact r5, by rw [G1 2005 _ rfl]; exact r6⟩, by rw [arr]; exact ts.1, fun k hk => ?_, fun k hk => ?_, ?_, ?_, ?_⟩, by rw [G1 2007 _ rfl]; exact hnd, by rw [G1 2008 _ rfl]; exact q2⟩
  · -- locks: fewer activations
    obtain ⟨l1, l2, l3, l4⟩ := s2
    refine ⟨?_, ?_, ?_, fun u hu => ?_⟩
    · unfold tH at *
      rw [G1 1990 3390 rfl, G1 1990 3393 rfl, G1 1990 3388 rfl, G2 2075 _ rfl, fr_row G1 1996 (fun _ => rfl), fr_row G1 1997 (fun _ => rfl), fr_row G1 1998 (fun _ => rfl), fr_row G1 1999 (fun _ => rfl), fr_row G1 2000 (fun _ => rfl), fr_row G1 2004 (fun _ => rfl), fr_row G1 2005 (fun _ => rfl), fr_row G2 2187 (fun _ => rfl), fr_row G2 2188 (fun _ => rfl), fr_row G2 2189 (fun _ => rfl), fr_row G2 2190 (fun _ => rfl), fr_row G2 2195 (fun _ => rfl), fr_row G2 2196 (fun _ => rfl)]
      exact l1
    · exact lQ_same l2 (fr_row G1 1996 (fun _ => rfl)) (fr_row G1 1997 (fun _ => rfl)) (fr_row G1 1999 (fun _ => rfl)) (fr_row G2 2222 (fun _ => rfl)) (fr_row G2 2221 (fun _ => rfl))
    · exact su_keep su_lR G1 G2 rfl l3
    · obtain ⟨B, ⟨b1, b2, b3⟩, b4, b5, b6⟩ := l4 u hu
      simp only [ite_self] at b4 ⊢
      have e12 := fr_row G1 2012 (fun _ => rfl)
      have e13 := fr_row G1 2013 (fun _ => rfl)
      by_cases zt : u = t
      · subst zt
        have eB : B = A + 1 := by omega
        subst eB
        have dead : I 2012 (40 * u + A) = 0 := hdead
        refine ⟨A, ⟨by rw [j5, if_pos rfl], by rw [i2, if_pos rfl], by omega⟩, ?_, fun q => by rw [G1 1996 _ rfl] at q; omega, fun _ => ?_⟩
        · have same : ∀ l : Int, ca (I 2013) (I 2012) l u (A + 1) = ca (I 2013) (I 2012) l u A := fun l => by
            show ca (I 2013) (I 2012) l u A + cj (I 2013) l ((40 * u + A) * 12) (I 2012 (40 * u + A)).toNat = _
            rw [dead]
            exact Int.add_zero _
          unfold lkM at *
          rw [e12, e13, fr_row G1 2017 (fun _ => rfl), fr_row G1 2018 (fun _ => rfl)]
          refine ⟨fun k hk => b4.1 k (by omega), fun l hl => ?_⟩
          have w := b4.2 l hl
          rw [same] at w
          exact w
        · intro k hk
          have w := s2l k (by omega)
          rw [fr_row G1 42 (fun _ => rfl), fr_row G1 38 (fun _ => rfl), G1 2005 _ rfl, G1 2007 _ rfl, G1 2012 _ rfl, e13, G2 2204 _ rfl, fr_row G2 2210 (fun _ => rfl), G1 1997 _ rfl]
          refine ⟨w.1, w.2.1, fun _ => w.2.2, fun q => by have := q.2.1; omega⟩
      · refine ⟨B, ⟨by rw [e1995 u zt]; exact b1, by rw [e2186 u zt]; exact b2, b3⟩, ?_, fun q => ?_, fun _ => ?_⟩
        · unfold lkM at *
          rw [e12, e13, fr_row G1 2017 (fun _ => rfl), fr_row G1 2018 (fun _ => rfl)]
          exact b4
        · rw [G1 1996 _ rfl] at q
          rw [G1 2005 _ rfl, fr_row G1 38 (fun _ => rfl), fr_row G1 42 (fun _ => rfl), G1 2007 _ rfl]
          exact b5 q
        · intro k hk
          rw [fr_row G1 42 (fun _ => rfl), fr_row G1 38 (fun _ => rfl), G1 2005 _ rfl, G1 2007 _ rfl, G1 2012 _ rfl, e13, G2 2204 _ rfl, fr_row G2 2210 (fun _ => rfl), G1 1997 _ rfl]
          exact b6 zt k hk
  · obtain ⟨q1, q2, q3, q4, q5, q6, q7, q8, q9, q10, q11, q12, q13, q14, q15, q16, q17, q18, q19, q20⟩ := hP
    have hV : pVars J2 J2' := fun v9 hv8 hv9 => by
      rw [j1 1960 _ rfl] at hv9
      rw [j2, j3, if_neg (by omega), if_neg (by omega), j1 1990 _ rfl, i1 2185 _ rfl]; exact q20 v9 hv8 hv9
    have hM9 : pMet J2 J2' := ⟨by rw [j1 1990 _ rfl, i1 2075 _ rfl]; exact q9.1, fwR_leave q9.2 (fun c z1 z2 => fr_out j1 35 66 (by rfl) z1 z2) (fr_row i1 2183 (fun _ => rfl)) (fr_row i1 2198 (fun _ => rfl)) (i1 2075 _ rfl) i2 (by rw [H2 2186 _ rfl, r2]; rfl) (by rw [H1 38 _ rfl]; exact g2.2) (by omega)⟩
    exact ⟨su_keep su_tR j1 i1 rfl q1, su_keep su_pPath j1 i1 rfl q2, su_keep su_loR j1 i1 rfl q3, su_keep su_pArr j1 i1 rfl q4, su_keep su_pStep j1 i1 rfl q5, su_keep su_pKeep j1 i1 rfl q6, su_keep su_pCost j1 i1 rfl q7, su_keep su_pCalls j1 i1 rfl q8, hM9, su_keep su_pPrint j1 i1 rfl q10, su_keep su_pBegun j1 i1 rfl q11, su_keep su_pLooks j1 i1 rfl q12, su_keep su_pPar j1 i1 rfl q13, su_keep su_pThr j1 i1 rfl q14, su_keep su_pDone j1 i1 rfl q15, su_keep su_pLast j1 i1 rfl q16, su_keep su_pFor j1 i1 rfl q17, su_keep su_pTurns j1 i1 rfl q18, su_keep su_pSeed j1 i1 rfl q19, hV⟩
  · obtain ⟨⟨n, b1, b2⟩, b3, b4⟩ := hB
    have x1 := fr_row i1 2255 (fun _ => rfl)
    have x2 := fr_row i1 2256 (fun _ => rfl)
    refine ⟨⟨n, hR_same b1 (j1 1960 _ rfl) (fr_row j1 1979 (fun _ => rfl)) (fr_row j1 1980 (fun _ => rfl)) (fr_row j1 1981 (fun _ => rfl)) (i1 2075 _ rfl) x1 x2 (fr_row i1 2257 (fun _ => rfl)) (fr_row i1 2258 (fun _ => rfl)), by rw [x1, x2]; exact b2⟩, by rw [j1 1990 _ rfl]; exact b3, ⟨fun j hj => ?_, tot_le b4.2 (fr_row j1 35 (fun _ => rfl)) (fr_row i1 2183 (fun _ => rfl)) (j1 1990 _ rfl)⟩⟩
    rw [j1 2014 j rfl, j1 1990 _ rfl]; exact b4.1 j hj
  · rw [sa_congr (fun u _ hu => e1995 u hu), G1 1990 3393 rfl, G1 1960 3100 rfl]
    omega
  · rw [arr]
    refine reR_ag (s12 u hu z) (Int.le_refl _) gS (agV_of z (fun q hq => ?_) (fun u2 hu2 => ?_) (fun b hb => ?_) (fun q _ => ?_) (fun q hq => ?_)) ⟨⟨e1995 u z, e2186 u z⟩, fun k hk => ?_⟩ (G1 1996 _ rfl) (G1 1997 _ rfl) (G1 2005 _ rfl)
    · rw [j2, j3, if_neg (by omega), if_neg (by omega), H1 1992 _ rfl, H1 1993 _ rfl]; exact ⟨rfl, rfl⟩
    · rw [j4, if_neg hu2, H1 1994 _ rfl]
    · rw [G1 2009 _ rfl, G1 2006 _ rfl, r2200 b (by omega) (by omega)]; exact ⟨rfl, rfl, rfl⟩
    · exact G2 2205 q rfl
    · rw [i4, if_neg (by omega), H2 2206 _ rfl]
    · have rr := r2198 (40 * u + k) (by omega)
      exact ⟨G1 2006 _ rfl, G1 2007 _ rfl, G1 2008 _ rfl, G1 2010 _ rfl, rr.2.2.1, G2 2197 _ rfl, rr.1, rr.2.1, G2 2201 _ rfl, rr.2.2.2.1, rr.2.2.2.2⟩
  · have q := r8 k (by omega)
    have rr := r2198 (40 * t + k) (by omega)
    unfold acR at *
    rw [G1 2006 _ rfl, G1 2007 _ rfl, G1 2010 _ rfl, rr.2.2.1, G2 2197 _ rfl, rr.1, G2 2201 _ rfl, rr.2.2.2.1, rr.2.2.2.2, G1 1960 _ rfl, gS.1, gS.2.2.1, gS.2.2.2.2.2.1, gS.2.2.2.2.2.2.1, gS.2.2.2.2.2.2.2.1]
    exact q
  · have q := r9 k (by omega)
    have rr := r2198 (40 * t + k) (by omega)
    unfold coR at *
    rw [G1 2007 _ rfl, G1 2008 _ rfl, rr.2.1, r2200 _ (by omega) (by omega), gS.2.2.2.1, gS.2.2.2.2.1]
    exact q
  · rw [G1 2007 _ rfl, hnd, tn0, gS.2.2.2.1, gS.2.2.2.2.1]
    exact ⟨by omega, q4⟩
  · rw [(r2198 _ nb).2.1]; exact q1
  · rw [i3, if_pos rfl]; omega
