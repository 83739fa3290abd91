/-! ===== a call of a member that has nothing to do ===== -/
set_option maxRecDepth 20000
set_option maxHeartbeats 4000000
theorem agV_trans {I I' J J' K K' : vJ} {u : Nat} (h : agV I I' J J' u) (g : agV J J' K K' u) : agV I I' K K' u := by
  obtain ⟨h1, h2, h3, h4, h5⟩ := h
  obtain ⟨g1, g2, g3, g4, g5⟩ := g
  exact ⟨fun p a b => ⟨(g1 p a b).1.trans (h1 p a b).1, (g1 p a b).2.trans (h1 p a b).2⟩, g2.trans h2, fun k hk => ⟨(g3 k hk).1.trans (h3 k hk).1, (g3 k hk).2.1.trans (h3 k hk).2.1, (g3 k hk).2.2.trans (h3 k hk).2.2⟩, fun k i a b => (g4 k i a b).trans (h4 k i a b), fun k i a b => (g5 k i a b).trans (h5 k i a b)⟩
theorem enF_IS {Y Y' : vY} {X mm Nn Lp : Nat} {nm pr ht : Nat → Nat} {I I' K K' J J' J2 J2' : vJ} {th t A i W N m T p nn y tr : Nat} (h : IS Y Y' X mm Nn Lp nm pr ht I I' th t A i W N) (hi : (i : Int) < I' (X + 12) (I 2007 (40 * t + (A - 1))).toNat) (hA : A < 40) (hop : p ≤ ht i ∧ ht (i + 1) = ht i - p + 1) (hop2 : ht (i + 1) ≤ 100) (hT : I 1994 t = (T : Int)) (hT8 : 8 + p ≤ T) (hnm : nm m = p + nn) (hpn : p + nn ≤ 16)
    (k1 : fr [2008] [] I K) (k2 : ∀ b, K 2008 b = if b = 40 * t + (A - 1) then 2 * (i : Int) + 2 else I 2008 b) (k3 : fr [2199, 2200, 2263] [] I' K') (k4 : ∀ b, K' 2199 b = if b = 40 * t + (A - 1) then (i : Int) + 1 else I' 2199 b) (k5 : ∀ b, K' 2200 b = if b = 40 * t + (A - 1) then ((ht i - p : Nat) : Int) else I' 2200 b) (k6 : ∀ j, j < p → K' 2263 j = I' 2206 (160 * (40 * t + (A - 1)) + (ht i - p) + j))
    (hP : PT Lp J J') (hB : bud J J' W (ht 5000)) (hE : enF K J K' J' X t A m T p nn y tr) (hyE : I 38 y = 1)
    (j1 : fr [1992, 1993, 1994, 1995] [] J J2) (j2 : ∀ q, J2 1992 q = if q = T - p then 0 else J 1992 q) (j3 : ∀ q, J2 1993 q = if q = T - p then 0 else J 1993 q) (j4 : ∀ u, J2 1994 u = if u = t then ((T - p : Nat) : Int) + 1 else J 1994 u) (j5 : ∀ u, J2 1995 u = if u = t then (A : Int) else J 1995 u) (g1 : fr [2186, 2200, 2206] [] J' J2') (g2 : ∀ u, J2' 2186 u = if u = t then (A : Int) else J' 2186 u) (g3 : ∀ b, J2' 2200 b = if b = 40 * t + (A - 1) then ((ht i - p : Nat) : Int) + 1 else J' 2200 b) (g4 : ∀ q, J2' 2206 q = if q = 160 * (40 * t + (A - 1)) + (ht i - p) then 0 else J' 2206 q) :
    IS Y Y' X mm Nn Lp nm pr ht J2 J2' th t A (i + 1) W N := by
  obtain ⟨s1, s2, s3, s4, ⟨s5, s6, s7, s8, s9, s10, s11⟩, s12, s13⟩ := h
  obtain ⟨⟨r1, r2, r3, r4⟩, ⟨r5, r6⟩, r7, r8, r9, r10, r11, r12⟩ := s13
  obtain ⟨e1, e2, ⟨v1, v2, v3, v4, v5, v6, v7⟩, ⟨a1, a2⟩, ⟨n1, n2, n3, n4, n5, n6, n7, n8⟩, ⟨l1, l2⟩, tr9⟩ := hE
  have th8 := s2.1.1.2.2
  have hX := s1.1.2.1
  have G1 : fr [65, 1961, 1962, 1963, 1964, 1966, 1967, 1968, 1970, 1971, 1972, 1973, 1975, 1976, 1977, 1978, 1979, 1980, 1981, 1992, 1993, 1994, 1995, 2006, 2007, 2008, 2009, 2010, 2011, 2012, 2014] [(1960, 3079), (1960, 3090), (1990, 3403), (1990, 3392)] I J2 := fr_trans (fr_trans (fr_weak k1 (by decide) (by decide)) e1) (fr_weak j1 (by decide) (by decide))
  have G2 : fr [2183, 2186, 2197, 2198, 2199, 2200, 2201, 2202, 2203, 2204, 2205, 2206, 2209, 2237, 2238, 2239, 2240, 2241, 2242, 2243, 2244, 2245, 2246, 2247, 2248, 2253, 2255, 2256, 2257, 2258, 2263] [(2075, 7727), (2075, 7736), (2075, 7818), (2075, 7799)] I' J2' := fr_trans (fr_trans (fr_weak k3 (by decide) (by decide)) (fr_weak e2 (by decide) (by decide))) (fr_weak g1 (by decide) (by decide))
  have aT := agT_fr G1 G2 rfl
  have arr : J2 1990 3376 = I 1990 3376 := G1 1990 _ rfl
  have e2206 : J' 2206 = I' 2206 := by rw [fr_row e2 2206 (fun _ => rfl), fr_row k3 2206 (fun _ => rfl)]
  have tv := thV_enter (J := J) (J' := J') (p := p) (nn := nn) (T := T) (S := ht i - p) (m := m) r7 r3 hA hnm hpn hT (by rw [r12]; omega) (fun q => by rw [v1, k1 1992 _ rfl]) (fun q => by rw [v2, k1 1993 _ rfl]) (fun u => by rw [v3, k1 1994 _ rfl]) (fun b => by rw [v4, k1 2009 _ rfl]) (fun b => by rw [v5, k1 2006 _ rfl]) (fun b => by rw [v6, k5]) (fun q => by
    rw [v7, k3 2205 _ rfl]
    by_cases z : 16 * (40 * t + A) ≤ q ∧ q < 16 * (40 * t + A) + 16
    · rw [if_pos z, if_pos z]
      by_cases z2 : q - 16 * (40 * t + A) < p
      · rw [if_pos z2, if_pos z2, k6 _ z2]
      · rw [if_neg z2, if_neg z2]
    · rw [if_neg z, if_neg z]) e2206
  have tl := thV_leave (J := up J 1994 t (J 2009 (40 * t + A))) (J' := J') tv.1 hA (up_row _ (by decide) _ _) (up_row _ (by decide) _ _) (fun u => up_at _ _ _ _ _) (up_row _ (by decide) _ _) (up_row _ (by decide) _ _) (fun _ _ => rfl) rfl rfl
  have B9 : J 2009 (40 * t + (A - 1)) = I 2009 (40 * t + (A - 1)) := by rw [v4, if_neg (by omega), k1 2009 _ rfl]
  have B6 : J 2006 (40 * t + (A - 1)) = I 2006 (40 * t + (A - 1)) := by rw [v5, if_neg (by omega), k1 2006 _ rfl]
  have Tq : (T : Int) = I 2009 (40 * t + (A - 1)) + nm (I 2006 (40 * t + (A - 1))).toNat + ht i := by
    obtain ⟨b, s, h1, h2, h3, h4, h5, h6, h7⟩ := r7
    have z1 := h5 r3
    have z2 := h1 (A - 1) (by omega)
    omega
  have ts := thV_set (J := J2) (J' := J2') (S := ht i - p) (T := T - p) (kd := 0) (v := 0) (e := 0) tl.1 r3 r4 (by rw [v6, if_neg (by omega), k5, if_pos rfl]; omega) (by omega) (by rw [up_cell _ (by decide), up_cell _ (by decide), B9, B6]; omega) vv_0 (fun q => by rw [j2, up_cell _ (by decide)]) (fun q => by rw [j3, up_cell _ (by decide)]) (fun u => by
    rw [j4, up_at]
    by_cases z : u = t
    · rw [if_pos z, if_pos z]
    · rw [if_neg z, if_neg z, if_neg z]) (by rw [fr_row j1 2009 (fun _ => rfl), up_row _ (by decide)]) (by rw [fr_row j1 2006 (fun _ => rfl), up_row _ (by decide)]) g3 (fr_row g1 2205 (fun _ => rfl)) g4
  have gS : agS I I' J2 J2' X := ⟨aT.1 38 (by decide) (by decide), aT.1 43 (by decide) (by decide), aT.1 62 (by decide) (by decide), aT.2.2.1 (X + 11) (by omega) (by omega), aT.2.2.1 (X + 12) (by omega) (by omega), aT.2.2.1 (X + 37) (by omega) (by omega), aT.2.2.1 2178 (by decide) (by decide), aT.2.2.1 2179 (by decide) (by decide), by rw [k1 1960 _ rfl] at tr9; rw [j1 1960 _ rfl]; exact tr9⟩
  have rows : ∀ b, b ≠ 40 * t + A → J2 2006 b = I 2006 b ∧ J2 2007 b = I 2007 b ∧ J2 2010 b = I 2010 b ∧ J2 2011 b = I 2011 b ∧ J2' 2197 b = I' 2197 b ∧ J2' 2198 b = I' 2198 b ∧ J2' 2201 b = I' 2201 b ∧ J2' 2202 b = I' 2202 b ∧ J2' 2203 b = I' 2203 b := fun b hb => by
    rw [j1 2006 _ rfl, j1 2007 _ rfl, j1 2010 _ rfl, j1 2011 _ rfl, g1 2197 _ rfl, g1 2198 _ rfl, g1 2201 _ rfl, g1 2202 _ rfl, g1 2203 _ rfl, v5, if_neg hb, n1, if_neg hb, n5, if_neg hb, (n8 b hb).1, n7, if_neg hb, n2, if_neg hb, n6, if_neg hb, (n8 b hb).2.1, (n8 b hb).2.2, k1 2006 _ rfl, k1 2007 _ rfl, k1 2010 _ rfl, k1 2011 _ rfl, k3 2197 _ rfl, k3 2198 _ rfl, k3 2201 _ rfl, k3 2202 _ rfl, k3 2203 _ rfl]
    exact ⟨rfl, rfl, rfl, rfl, rfl, rfl, rfl, rfl, rfl⟩
  have hPT : PT Lp J2 J2' := by
    obtain ⟨q1, q2, q3, q4, q5, q6, q7, q8, q9, q10, q11, q12, q13, q14, q15, q16, q17, q18, q19, q20⟩ := hP
    have hV : pVars J2 J2' := fun v hv8 hv9 => by
      rw [j1 1960 _ rfl] at hv9
      rw [j2, j3, if_neg (by omega), if_neg (by omega), j1 1990 _ rfl, g1 2185 _ rfl]; exact q20 v hv8 hv9
    have hM9 : pMet J2 J2' := ⟨by rw [j1 1990 _ rfl, g1 2075 _ rfl]; exact q9.1, fwR_leave q9.2 (fun c z1 z2 => fr_out j1 35 66 (by rfl) z1 z2) (fr_row g1 2183 (fun _ => rfl)) (fr_row g1 2198 (fun _ => rfl)) (g1 2075 _ rfl) g2 (by rw [a2, if_pos rfl]) (by rw [n2, if_pos rfl, tn0, e1 38 _ rfl, k1 38 _ rfl, hyE]; decide) hA⟩
    exact ⟨su_keep su_tR j1 g1 rfl q1, su_keep su_pPath j1 g1 rfl q2, su_keep su_loR j1 g1 rfl q3, su_keep su_pArr j1 g1 rfl q4, su_keep su_pStep j1 g1 rfl q5, su_keep su_pKeep j1 g1 rfl q6, su_keep su_pCost j1 g1 rfl q7, su_keep su_pCalls j1 g1 rfl q8, hM9, su_keep su_pPrint j1 g1 rfl q10, su_keep su_pBegun j1 g1 rfl q11, su_keep su_pLooks j1 g1 rfl q12, su_keep su_pPar j1 g1 rfl q13, su_keep su_pThr j1 g1 rfl q14, su_keep su_pDone j1 g1 rfl q15, su_keep su_pLast j1 g1 rfl q16, su_keep su_pFor j1 g1 rfl q17, su_keep su_pTurns j1 g1 rfl q18, su_keep su_pSeed j1 g1 rfl q19, hV⟩
  have hBU : bud J2 J2' W (ht 5000) := by
    obtain ⟨⟨n, b1, b2⟩, b3, b4⟩ := hB
    have x1 := fr_row g1 2255 (fun _ => rfl)
    have x2 := fr_row g1 2256 (fun _ => rfl)
    refine ⟨⟨n, hR_same b1 (j1 1960 _ rfl) (fr_row j1 1979 (fun _ => rfl)) (fr_row j1 1980 (fun _ => rfl)) (fr_row j1 1981 (fun _ => rfl)) (g1 2075 _ rfl) x1 x2 (fr_row g1 2257 (fun _ => rfl)) (fr_row g1 2258 (fun _ => rfl)), by rw [x1, x2]; exact b2⟩, by rw [j1 1990 _ rfl]; exact b3, ⟨fun j hj => ?_, tot_le b4.2 (fr_row j1 35 (fun _ => rfl)) (fr_row g1 2183 (fun _ => rfl)) (j1 1990 _ rfl)⟩⟩
    rw [j1 2014 j rfl, j1 1990 _ rfl]; exact b4.1 j hj
  have e1995 : ∀ u, J2 1995 u = I 1995 u := fun u => by
    rw [j5]
    by_cases z : u = t
    · rw [if_pos z, z]; exact r1.symm
    · rw [if_neg z, a1, if_neg z, k1 1995 _ rfl]
  have e2186 : ∀ u, J2' 2186 u = I' 2186 u := fun u => by
    rw [g2]
    by_cases z : u = t
    · rw [if_pos z, z]; exact r2.symm
    · rw [if_neg z, a2, if_neg z, k3 2186 _ rfl]
  refine ⟨ST_ag s1 aT, ?_, hPT, hBU, ⟨s5, ?_, by rw [G1 1990 _ rfl]; exact s7, by rw [G2 2075 _ rfl]; exact s8, s9, s10, by rw [G2 2075 _ rfl]; exact s11⟩, fun u hu z => ?_, ⟨by rw [e1995]; exact r1, by rw [e2186]; exact r2, r3, r4⟩, ⟨by rw [G1 1996 _ rfl]; exact r5, by rw [G1 2005 _ rfl]; exact r6⟩, by rw [arr]; exact ts.1, fun k hk => ?_, fun k hk => ?_, ?_, ?_, ?_⟩
  · refine LZ_acts (A := A) (A' := A) s2 s5 r1 r4 (Nat.le_refl _) (fun u => ?_) (fun u => ?_) r5 r6 (fun c hc => ?_) (fun c hc => ?_) (G1 1990 _ rfl) (G1 1990 _ rfl) (G1 1990 _ rfl) (G2 2075 _ rfl) (fun b hb => ?_) (fun k ka kb => by omega)
    · rw [e1995]
      by_cases z : u = t
      · rw [if_pos z, z]; exact r1
      · rw [if_neg z]
    · rw [e2186]
      by_cases z : u = t
      · rw [if_pos z, z]; exact r2
      · rw [if_neg z]
    · refine fr_row G1 c (fun f => frok_of (fun q hq => ?_) (fun q hq => ?_))
      · simp only [List.mem_cons, List.not_mem_nil, or_false] at hq; omega
      · simp only [List.mem_cons, List.not_mem_nil, or_false] at hq
        rcases hq with rfl | rfl | rfl | rfl <;> (intro zz; have := zz.1; simp only at this; omega)
    · refine fr_row G2 c (fun f => frok_of (fun q hq => ?_) (fun q hq => ?_))
      · simp only [List.mem_cons, List.not_mem_nil, or_false] at hq; omega
      · simp only [List.mem_cons, List.not_mem_nil, or_false] at hq
        rcases hq with rfl | rfl | rfl | rfl <;> (intro zz; have := zz.1; simp only at this; omega)
    · have nb : b ≠ 40 * t + A := by omega
      exact ⟨(rows b nb).2.1, by rw [j1 2012 _ rfl, l1, if_neg nb, k1 2012 _ rfl], by rw [g1 2204 _ rfl, l2, if_neg nb, k3 2204 _ rfl]⟩
  · rw [sa_congr (fun u _ _ => e1995 u), G1 1990 3393 rfl, G1 1960 3100 rfl]; exact s6
  · rw [arr]
    refine reR_ag (s12 u hu z) (Int.le_refl _) gS (agV_trans (agV_trans (tv.2 u z) (tl.2 u z)) (ts.2 u z)) ⟨⟨e1995 u, e2186 u⟩, fun k hk => ?_⟩ (G1 1996 _ rfl) (G1 1997 _ rfl) (G1 2005 _ rfl)
    have rr := rows (40 * u + k) (by omega)
    refine ⟨rr.1, rr.2.1, ?_, rr.2.2.1, rr.2.2.2.1, rr.2.2.2.2.1, rr.2.2.2.2.2.1, ?_, rr.2.2.2.2.2.2.1, rr.2.2.2.2.2.2.2.1, rr.2.2.2.2.2.2.2.2⟩
    · rw [j1 2008 _ rfl, n3, if_neg (by omega), k2, if_neg (by omega)]
    · rw [g1 2199 _ rfl, n4, if_neg (by omega), k4, if_neg (by omega)]
  · have q := r8 k (by omega)
    have rr := rows (40 * t + k) (by omega)
    unfold acR at *
    rw [rr.1, rr.2.1, rr.2.2.1, rr.2.2.2.1, rr.2.2.2.2.1, rr.2.2.2.2.2.1, rr.2.2.2.2.2.2.1, rr.2.2.2.2.2.2.2.1, rr.2.2.2.2.2.2.2.2, gS.1, gS.2.2.1, gS.2.2.2.2.2.1, gS.2.2.2.2.2.2.1, gS.2.2.2.2.2.2.2.1]
    refine ⟨q.1, q.2.1, ⟨q.2.2.1.1, q.2.2.1.2.1, ?_⟩, q.2.2.2⟩
    have z1 := q.2.2.1.2.2
    have z2 := gS.2.2.2.2.2.2.2.2
    omega
  · have q := r9 k (by omega)
    have rr := rows (40 * t + k) (by omega)
    unfold coR at *
    rw [rr.2.1, j1 2008 _ rfl, n3, if_neg (by omega), k2, if_neg (by omega), g1 2199 _ rfl, n4, if_neg (by omega), k4, if_neg (by omega), g3, if_neg (by omega), v6, if_neg (by omega), k5, if_neg (by omega), gS.2.2.2.1, gS.2.2.2.2.1]
    exact q
  · rw [(rows (40 * t + (A - 1)) (by omega)).2.1, gS.2.2.2.1, gS.2.2.2.2.1]
    omega
  · rw [g1 2199 _ rfl, n4, if_neg (by omega), k4, if_pos rfl]; omega
  · rw [g3, if_pos rfl]; omega
