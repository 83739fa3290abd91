/-! ===== a thread is started: the relation behind its first activation ===== -/
set_option maxRecDepth 20000
set_option maxHeartbeats 4000000
theorem st_fin {Y Y' : vY} {X mm Nn Lp : Nat} {nm pr ht : Nat → Nat} {I I' H M JF JF' G G' : vJ} {th t A i W N Ath m p nn y tr T0 S : Nat} {sc : Int} (h : IS Y Y' X mm Nn Lp nm pr ht I I' th t A i W N) (hi : (i : Int) < I' (X + 12) (I 2007 (40 * t + (A - 1))).toNat) (th7 : th < 8)
    (hC : nwC I H t th p T0 N) (hT : nwT (up I' 2199 (40 * t + (A - 1)) ((i : Int) + 1)) M (40 * t + (A - 1)) th p S N) (hE : enF H JF M JF' X th 0 m (8 + 5760 * th + p) p nn y tr) (hS : ht (i + 1) = S + 1) (hS2 : (S : Int) ≤ I' 2200 (40 * t + (A - 1))) (hS3 : S < 128) (hT0 : (T0 : Int) = I 2009 (40 * t + (A - 1)) + nm (I 2006 (40 * t + (A - 1))).toNat + S) (Tb : 8 + 5760 * t ≤ T0 ∧ T0 < 8 + 5760 * t + 5760) (pn : p + nn ≤ 16)
    (gC : fr [1994, 1995, 1996, 2003] [] JF G) (g4 : ∀ u, u ≠ th → G 1994 u = JF 1994 u ∧ G 1995 u = JF 1995 u ∧ G 1996 u = JF 1996 u) (gT : fr [2186, 2187] [] JF' G') (g5 : ∀ u, u ≠ th → G' 2186 u = JF' 2186 u ∧ G' 2187 u = JF' 2187 u)
    (n1 : G 1995 th = Ath ∧ G' 2186 th = Ath ∧ Ath ≤ 1) (n2 : G 1996 th = sc ∧ G' 2187 th = sc ∧ (sc = 0 ∨ sc = 3)) (n6 : Ath = 1 → I 42 y = 0) (hre : reR (I 1990 3376) nm ht X mm Nn G G' th) (hP : PT Lp G G') (hB : bud G G' W (ht 5000)) : IS Y Y' X mm Nn Lp nm pr ht G G' (th + 1) t A (i + 1) W N ∧ G 2007 (40 * t + (A - 1)) = I 2007 (40 * t + (A - 1)) := by
  have h0 := h
  obtain ⟨s1, s2, s3, s4, ⟨s5, s6, s7, s8, s9, s10, s11⟩, s12, ⟨⟨r1, r2, r3, r4⟩, ⟨r5, r6⟩, r7, _⟩⟩ := h
  obtain ⟨c0, c1, c2, c3, c4, c5, c6, c7, c8, c9, c10, c11⟩ := hC
  obtain ⟨t0, t1, t2, t3, t4, t5, t6, t7, t8, t9, t10, t11, t12, t13, t14⟩ := hT
  obtain ⟨e0, e1, ⟨e2, e3, e4, e5, e6, e7, e8⟩, ⟨e9, e10⟩, ⟨e11, e12, e13, e14, e15, e16, e17, e18⟩, ⟨e19, e20⟩, e21⟩ := hE
  simp only [Nat.add_zero] at e5 e6 e7 e8 e9 e10 e11 e12 e13 e14 e15 e16 e17 e18 e19 e20
  have F1 : fr [65, 1961, 1962, 1963, 1964, 1966, 1967, 1968, 1970, 1971, 1972, 1973, 1975, 1976, 1977, 1978, 1979, 1980, 1981, 1992, 1993, 1994, 1995, 1996, 2000, 2001, 2002, 2003, 2005, 2006, 2007, 2008, 2009, 2010, 2011, 2012, 2014] [(1960, 3079), (1960, 3090), (1990, 3403), (1990, 3392), (1990, 3390)] I G := fr_trans (fr_weak c0 (by decide) (by decide)) (fr_trans (fr_weak e0 (by decide) (by decide)) (fr_weak gC (by decide) (by decide)))
  have F2 : fr [2183, 2186, 2187, 2188, 2190, 2191, 2192, 2193, 2194, 2195, 2196, 2197, 2198, 2199, 2200, 2201, 2202, 2203, 2204, 2205, 2206, 2209, 2237, 2238, 2239, 2240, 2241, 2242, 2243, 2244, 2245, 2246, 2247, 2248, 2253, 2255, 2256, 2257, 2258, 2263] [(2075, 7727), (2075, 7736), (2075, 7818), (2075, 7799), (2075, 7731)] I' G' := fr_trans (fr_upL (fr_refl _ _ _) rfl _ _) (fr_trans (fr_weak t0 (by decide) (by decide)) (fr_trans (fr_weak e1 (by decide) (by decide)) (fr_weak gT (by decide) (by decide))))
  have a9 : 40 * t + (A - 1) ≠ 40 * th := by omega
  have tth : t ≠ th := by omega
  -- the pile of t
  have ts := thV_set (J := up (up (up I 1992 T0 0) 1993 T0 (th : Int)) 1994 t ((T0 : Int) + 1)) (J' := up (up I' 2206 (160 * (40 * t + (A - 1)) + S) (4 * (th : Int))) 2200 (40 * t + (A - 1)) ((S : Int) + 1)) (S := S) (T := T0) (kd := 0) (v := (th : Int)) (e := 4 * (th : Int)) r7 r3 r4 (by omega) hS3 hT0 (Or.inl ⟨rfl, rfl, by omega, by omega⟩) (fun q => by rw [up_cell _ (by decide), up_cell _ (by decide), up_at]) (fun q => by rw [up_cell _ (by decide), up_at, up_cell _ (by decide)]) (fun u => by rw [up_at, up_cell _ (by decide), up_cell _ (by decide)]) (by rw [up_row _ (by decide), up_row _ (by decide), up_row _ (by decide)]) (by rw [up_row _ (by decide), up_row _ (by decide), up_row _ (by decide)]) (fun b => by rw [up_at, up_cell _ (by decide)]) (by rw [up_row _ (by decide), up_row _ (by decide)]) (fun q => by rw [up_cell _ (by decide), up_at])
  have v92 : ∀ q, (q < 8 + 5760 * th ∨ 8 + 5760 * th + 5760 ≤ q) → G 1992 q = (if q = T0 then 0 else I 1992 q) ∧ G 1993 q = (if q = T0 then (th : Int) else I 1993 q) := fun q hq => by
    by_cases z : q = T0
    · refine ⟨?_, ?_⟩
      · rw [gC 1992 _ rfl, e2, if_neg (by omega), c2, if_pos z, if_pos z]
      · rw [gC 1993 _ rfl, e3, if_neg (by omega), c3, if_pos z, if_pos z]
    · refine ⟨?_, ?_⟩
      · rw [gC 1992 _ rfl, e2, if_neg (by omega), c2, if_neg z, if_neg z, if_neg (by omega)]
      · rw [gC 1993 _ rfl, e3, if_neg (by omega), c3, if_neg z, if_neg z, if_neg (by omega)]
  have v94 : ∀ u, u ≠ th → G 1994 u = if u = t then (T0 : Int) + 1 else I 1994 u := fun u hu => by
    rw [(g4 u hu).1, e4, if_neg hu, c4, if_neg hu]
  have b09 : ∀ b, b ≠ 40 * th → G 2009 b = I 2009 b ∧ G 2006 b = I 2006 b := fun b hb => by
    rw [gC 2009 _ rfl, gC 2006 _ rfl, e5, e6, if_neg hb, if_neg hb, c0 2009 _ rfl, c0 2006 _ rfl]; exact ⟨rfl, rfl⟩
  have b00 : ∀ b, b ≠ 40 * th → G' 2200 b = if b = 40 * t + (A - 1) then (S : Int) + 1 else I' 2200 b := fun b hb => by
    rw [gT 2200 _ rfl, e7, if_neg hb, t2, up_cell _ (by decide)]
  have b05 : ∀ q, (q < 640 * th ∨ 640 * th + 640 ≤ q) → G' 2205 q = I' 2205 q := fun q hq => by
    rw [gT 2205 _ rfl, e8, if_neg (by omega), t0 2205 _ rfl, up_cell _ (by decide)]
  have b06 : ∀ q, G' 2206 q = if q = 160 * (40 * t + (A - 1)) + S then 4 * (th : Int) else I' 2206 q := fun q => by
    rw [gT 2206 _ rfl, e1 2206 _ rfl, t3, up_cell _ (by decide)]
  have hv : thV (I 1990 3376) nm G G' t A 0 := thV_ag ts.1 r4 ⟨fun q q1 q2 => by
      have z := v92 q (by omega)
      rw [up_cell _ (by decide), up_cell _ (by decide), up_at, up_cell _ (by decide), up_at, up_cell _ (by decide)]
      exact z, by rw [v94 t tth, if_pos rfl, up_same], fun k hk => by
      have z := b09 (40 * t + k) (by omega)
      rw [z.1, z.2, b00 _ (by omega), up_cell _ (by decide), up_cell _ (by decide), up_cell _ (by decide), up_cell _ (by decide), up_cell _ (by decide), up_cell _ (by decide), up_at, up_cell _ (by decide)]
      exact ⟨rfl, rfl, rfl⟩, fun k i9 hk hi9 => by
      rw [b05 _ (by omega), up_cell _ (by decide), up_cell _ (by decide)], fun k i9 hk hi9 => by
      rw [b06, up_cell _ (by decide), up_at]⟩
  have hvo : ∀ u, u ≠ t → u ≠ th → agV I I' G G' u := fun u ut uth => ⟨fun q q1 q2 => by
      have z := v92 q (by omega)
      rw [z.1, z.2, if_neg (by omega), if_neg (by omega)]; exact ⟨rfl, rfl⟩, by rw [v94 u uth, if_neg ut], fun k hk => by
      have z := b09 (40 * u + k) (by omega)
      rw [z.1, z.2, b00 _ (by omega), if_neg (by omega)]; exact ⟨rfl, rfl, rfl⟩, fun k i9 hk hi9 => b05 _ (by omega), fun k i9 hk hi9 => by
      rw [b06, if_neg (by omega)]⟩
  refine ⟨IS_new (Ath := Ath) (sc := sc) h0 hi th7 F1 F2 (fun b hb => ?_) (fun b hb => ?_) (fun b hb => ?_) (fun b hb => ?_) (fun u hu => ?_) (fun u hu => ?_) n1 n2 ?_ ?_ ?_ ⟨?_, ?_, fun q => ?_⟩ ?_ hv hvo hre hP hB, ?_⟩
  · rw [gC 2006 _ rfl, gC 2007 _ rfl, gC 2008 _ rfl, gC 2010 _ rfl, gC 2011 _ rfl, gC 2012 _ rfl, e6, e11, e13, e15, (e18 b hb).1, e19, if_neg hb, if_neg hb, if_neg hb, if_neg hb, if_neg hb, c0 2006 _ rfl, c0 2007 _ rfl, c0 2008 _ rfl, c0 2010 _ rfl, c0 2011 _ rfl, c0 2012 _ rfl]
    exact ⟨rfl, rfl, rfl, rfl, rfl, rfl⟩
  · rw [gT 2197 _ rfl, gT 2198 _ rfl, gT 2201 _ rfl, gT 2202 _ rfl, gT 2203 _ rfl, gT 2204 _ rfl, e17, e12, e16, (e18 b hb).2.1, (e18 b hb).2.2, e20, if_neg hb, if_neg hb, if_neg hb, if_neg hb, t0 2197 _ rfl, t0 2198 _ rfl, t0 2201 _ rfl, t0 2202 _ rfl, t0 2203 _ rfl, t0 2204 _ rfl, up_cell _ (by decide), up_cell _ (by decide), up_cell _ (by decide), up_cell _ (by decide), up_cell _ (by decide), up_cell _ (by decide)]
    exact ⟨rfl, rfl, rfl, rfl, rfl, rfl⟩
  · rw [gT 2199 _ rfl, e14, if_neg hb, t0 2199 _ rfl, up_at]
  · rw [b00 b hb, hS]; rfl
  · rw [(g4 u hu).2.1, (g4 u hu).2.2, gC 2000 _ rfl, gC 2005 _ rfl, e9, if_neg hu, e0 1996 _ rfl, e0 2000 _ rfl, e0 2005 _ rfl, c5, c6, c7, c11, if_neg hu, if_neg hu, if_neg hu, if_neg hu]
    exact ⟨rfl, rfl, rfl, rfl⟩
  · rw [(g5 u hu).1, (g5 u hu).2, gT 2188 _ rfl, gT 2190 _ rfl, gT 2195 _ rfl, gT 2196 _ rfl, e10, if_neg hu, e1 2187 _ rfl, e1 2188 _ rfl, e1 2190 _ rfl, e1 2195 _ rfl, e1 2196 _ rfl, t5, t6, t7, t8, t13, t14, if_neg hu, if_neg hu, if_neg hu, if_neg hu, if_neg hu, if_neg hu, up_cell _ (by decide), up_cell _ (by decide), up_cell _ (by decide), up_cell _ (by decide), up_cell _ (by decide), up_cell _ (by decide)]
    exact ⟨rfl, rfl, rfl, rfl, rfl, rfl⟩
  · rw [gC 2000 _ rfl, e0 2000 _ rfl, c7, if_pos rfl, gT 2190 _ rfl, e1 2190 _ rfl, t8, if_pos rfl]; exact ⟨rfl, rfl⟩
  · rw [gC 2005 _ rfl, e0 2005 _ rfl, c11, if_pos rfl, gT 2196 _ rfl, e1 2196 _ rfl, t14, if_pos rfl]; exact ⟨rfl, rfl⟩
  · rw [gC 1990 _ rfl, e0 1990 _ rfl, gT 2075 _ rfl, e1 2075 _ rfl]; exact ⟨c1, t1⟩
  · rw [gC 2012 _ rfl, e19, if_pos rfl]
  · rw [gT 2204 _ rfl, e20, if_pos rfl]
  · rw [gC 2007 _ rfl, e11, if_pos rfl, tn0, fr_row F1 42 (fun _ => rfl)]; exact n6 q
  · rw [gC 1960 _ rfl]
    have z : H 1960 3079 = I 1960 3079 := c0 1960 _ rfl
    omega
  · rw [gC 2007 _ rfl, e11, if_neg a9, c0 2007 _ rfl]
