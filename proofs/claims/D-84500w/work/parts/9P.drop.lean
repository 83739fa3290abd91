/-! ===== an activation fails, its caller fails too ===== -/
set_option maxRecDepth 20000
set_option maxHeartbeats 4000000
theorem IFs_drop {Y Y' : vY} {X mm Nn Lp : Nat} {nm pr ht : Nat → Nat} {I I' J J' J2 J2' : vJ} {th t A W N T0 : Nat} (h : IL Y Y' X mm Nn Lp nm pr ht I I' th t (A + 1) W N) (hA : 0 < A) (hP : PT Lp J2 J2') (hB : bud J J' (W + 1) (ht 5000)) (g1 : goC I J) (g2 : goT I' J') (g3 : ∀ b, b ≠ 40 * t + A → J' 2198 b = I' 2198 b ∧ J' 2199 b = I' 2199 b ∧ J' 2200 b = I' 2200 b ∧ J 2011 b = I 2011 b ∧ J' 2202 b = I' 2202 b ∧ J' 2203 b = I' 2203 b) (hdead : I 2012 (40 * t + A) = 0) (hT0 : I 2009 (40 * t + A) = T0)
    (j1 : fr [1994, 1995, 2039] [] J J2) (j4 : ∀ u, J2 1994 u = if u = t then (T0 : Int) else J 1994 u) (j5 : ∀ u, J2 1995 u = if u = t then (A : Int) else J 1995 u) (i1 : fr [2186, 2251] [] J' J2') (i2 : ∀ u, J2' 2186 u = if u = t then (A : Int) else J' 2186 u) :
    IFs Y Y' X mm Nn Lp nm pr ht J2 J2' th t A (W + 1) N := by
  obtain ⟨s1, ⟨s2, s2l⟩, s3, s4, ⟨s5, s6, s7, s8, s9, s10, s11⟩, s12, ⟨⟨r1, r2, r3, r4⟩, ⟨r5, r6⟩, r7, r8, r9⟩⟩ := h
  have th8 := s2.1.1.2.2
  have h8 : t < 8 := by omega
  have hX := s1.1.2.1
  rw [Nat.add_sub_cancel] at r7
  have H1 : fr [65, 2011, 1979, 1980, 1981, 1970, 1971, 1972, 1973, 1975, 1976, 1977, 1978, 2014] [(1990, 3392), (1960, 3090)] I J := g1
  have H2 : fr [2183, 2202, 2203, 2255, 2256, 2257, 2258, 2241, 2242, 2243, 2244, 2245, 2246, 2247, 2248, 2209, 2198, 2199, 2200] [(2075, 7736), (2075, 7818)] I' J' := g2
  have G1 : fr [65, 2011, 1979, 1980, 1981, 1970, 1971, 1972, 1973, 1975, 1976, 1977, 1978, 2014, 1994, 1995, 2039] [(1990, 3392), (1960, 3090)] I J2 := fr_trans (fr_weak H1 (by decide) (by decide)) (fr_weak j1 (by decide) (by decide))
  have G2 : fr [2183, 2202, 2203, 2255, 2256, 2257, 2258, 2241, 2242, 2243, 2244, 2245, 2246, 2247, 2248, 2209, 2198, 2199, 2200, 2186, 2251] [(2075, 7736), (2075, 7818)] I' J2' := fr_trans (fr_weak H2 (by decide) (by decide)) (fr_weak i1 (by decide) (by decide))
  have aT := agT_fr G1 G2 rfl
  have arr : J2 1990 3376 = I 1990 3376 := G1 1990 _ rfl
  have gS : agS I I' J2 J2' X := ⟨aT.1 38 (by decide) (by decide), aT.1 43 (by decide) (by decide), aT.1 62 (by decide) (by decide), aT.2.2.1 (X + 11) (by omega) (by omega), aT.2.2.1 (X + 12) (by omega) (by omega), aT.2.2.1 (X + 37) (by omega) (by omega), aT.2.2.1 2178 (by decide) (by decide), aT.2.2.1 2179 (by decide) (by decide), by rw [G1 1960 _ rfl]; exact Int.le_refl _⟩
  have nb : 40 * t + (A - 1) ≠ 40 * t + A := by omega
  have tl := thV_leave (J := up I 1994 t (I 2009 (40 * t + A))) (J' := J') r7 (by omega) (by rw [up_row _ (by decide), up_row _ (by decide)]) (by rw [up_row _ (by decide), up_row _ (by decide)]) (fun u => by
    rw [up_at, up_cell _ (show 2009 ≠ 1994 by decide), up_at]
    by_cases z : u = t
    · rw [if_pos z, if_pos z]
    · rw [if_neg z, if_neg z, if_neg z]) (by rw [up_row _ (by decide), up_row _ (by decide)]) (by rw [up_row _ (by decide), up_row _ (by decide)]) (fun b hb => by rw [up_place _ _ hb, (g3 b hb).2.2.1]) (by rw [up_row _ (by decide)]; exact fr_row H2 2205 (fun _ => rfl)) (by rw [up_row _ (by decide)]; exact fr_row H2 2206 (fun _ => rfl))
  obtain ⟨Tc, hTc⟩ : ∃ Tc : Nat, I 2009 (40 * t + (A - 1)) + nm (I 2006 (40 * t + (A - 1))).toNat = (Tc : Int) := by
    obtain ⟨b, s, h1, _⟩ := r7
    have q := (h1 (A - 1) (by omega)).1
    rw [up_cell _ (show 2009 ≠ 1994 by decide)] at q
    exact ⟨b (A - 1) + nm (I 2006 (40 * t + (A - 1))).toNat, by omega⟩
  have sp : 0 ≤ J' 2200 (40 * t + (A - 1)) := by
    obtain ⟨b, s, h1, _⟩ := tl.1
    have q := (h1 (A - 1) (by omega)).2.1
    omega
  have tc := thV_cut (dl' := 0) (S := 0) (T := Tc) (J := up J2 1994 t (I 2009 (40 * t + (A - 1)) + nm (I 2006 (40 * t + (A - 1))).toNat)) (J' := up J2' 2200 (40 * t + (A - 1)) 0) tl.1 hA (by omega) (by omega) (by decide) (by decide) (by rw [up_cell _ (show 2009 ≠ 1994 by decide), up_cell _ (show 2006 ≠ 1994 by decide), hTc]) (by rw [up_row _ (by decide), up_row _ (by decide)]; exact fr_row G1 1992 (fun _ => rfl)) (by rw [up_row _ (by decide), up_row _ (by decide)]; exact fr_row G1 1993 (fun _ => rfl)) (fun u => by
    rw [up_at, up_at, j4, H1 1994 _ rfl, hTc]
    by_cases z : u = t
    · simp only [if_pos z]
    · simp only [if_neg z]) (by rw [up_row _ (by decide), up_row _ (by decide)]; exact fr_row G1 2009 (fun _ => rfl)) (by rw [up_row _ (by decide), up_row _ (by decide)]; exact fr_row G1 2006 (fun _ => rfl)) (fun b => by
    rw [up_at, i1 2200 _ rfl]; rfl) (by rw [up_row _ (by decide)]; exact fr_row i1 2205 (fun _ => rfl)) (fun p _ => by rw [up_cell _ (by decide), i1 2206 _ rfl])
  have e1995 : ∀ u, u ≠ t → J2 1995 u = I 1995 u := fun u hu => by rw [j5, if_neg hu, H1 1995 _ rfl]
  have e2186 : ∀ u, u ≠ t → J2' 2186 u = I' 2186 u := fun u hu => by rw [i2, if_neg hu, H2 2186 _ rfl]
  have r2198 : ∀ b, b ≠ 40 * t + A → J2' 2198 b = I' 2198 b ∧ J2' 2199 b = I' 2199 b ∧ J2 2011 b = I 2011 b ∧ J2' 2202 b = I' 2202 b ∧ J2' 2203 b = I' 2203 b := fun b hb => by
    have z := g3 b hb
    rw [i1 2198 _ rfl, i1 2199 _ rfl, j1 2011 _ rfl, i1 2202 _ rfl, i1 2203 _ rfl]
    exact ⟨z.1, z.2.1, z.2.2.2.1, z.2.2.2.2.1, z.2.2.2.2.2⟩
  have r2200 : ∀ b, b ≠ 40 * t + A → J2' 2200 b = I' 2200 b := fun b hb => by
    rw [i1 2200 _ rfl, (g3 b hb).2.2.1]
  refine ⟨ST_ag s1 aT, ?_, hP, ?_, ⟨s5, ?_, by rw [G1 1990 _ rfl]; exact s7, by rw [G2 2075 _ rfl]; exact s8, s9, s10, by rw [G2 2075 _ rfl]; exact s11⟩, fun u hu z => ?_, ⟨by rw [j5, if_pos rfl], by rw [i2, if_pos rfl], hA, by omega⟩, ⟨by rw [G1 1996 _ rfl]; exact r5, by rw [G1 2005 _ rfl]; exact r6⟩, ?_, fun k hk => ?_, fun k hk => ?_⟩
  · obtain ⟨l1, l2, l3, l4⟩ := s2
    refine ⟨?_, ?_, ?_, fun u hu => ?_⟩
    · unfold tH at *
      rw [G1 1990 3390 rfl, G1 1990 3393 rfl, G1 1990 3388 rfl, G2 2075 _ rfl, fr_row G1 1996 (fun _ => rfl), fr_row G1 1997 (fun _ => rfl), fr_row G1 1998 (fun _ => rfl), fr_row G1 1999 (fun _ => rfl), fr_row G1 2000 (fun _ => rfl), fr_row G1 2004 (fun _ => rfl), fr_row G1 2005 (fun _ => rfl), fr_row G2 2187 (fun _ => rfl), fr_row G2 2188 (fun _ => rfl), fr_row G2 2189 (fun _ => rfl), fr_row G2 2190 (fun _ => rfl), fr_row G2 2195 (fun _ => rfl), fr_row G2 2196 (fun _ => rfl)]
      exact l1
    · exact lQ_same l2 (fr_row G1 1996 (fun _ => rfl)) (fr_row G1 1997 (fun _ => rfl)) (fr_row G1 1999 (fun _ => rfl)) (fr_row G2 2222 (fun _ => rfl)) (fr_row G2 2221 (fun _ => rfl))
    · exact su_keep su_lR G1 G2 rfl l3
    · obtain ⟨B, ⟨b1, b2, b3⟩, b4, b5, b6⟩ := l4 u hu
      simp only [ite_self] at b4 ⊢
      have e12 := fr_row G1 2012 (fun _ => rfl)
      have e13 := fr_row G1 2013 (fun _ => rfl)
      by_cases zt : u = t
      · subst zt
        have eB : B = A + 1 := by omega
        subst eB
        have dead : I 2012 (40 * u + A) = 0 := hdead
        refine ⟨A, ⟨by rw [j5, if_pos rfl], by rw [i2, if_pos rfl], by omega⟩, ?_, fun q => by rw [G1 1996 _ rfl] at q; omega, fun _ => ?_⟩
        · have same : ∀ l : Int, ca (I 2013) (I 2012) l u (A + 1) = ca (I 2013) (I 2012) l u A := fun l => by
            show ca (I 2013) (I 2012) l u A + cj (I 2013) l ((40 * u + A) * 12) (I 2012 (40 * u + A)).toNat = _
            rw [dead]
            exact Int.add_zero _
          unfold lkM at *
          rw [e12, e13, fr_row G1 2017 (fun _ => rfl), fr_row G1 2018 (fun _ => rfl)]
          refine ⟨fun k hk => b4.1 k (by omega), fun l hl => ?_⟩
          have w := b4.2 l hl
          rw [same] at w
          exact w
        · intro k hk
          have w := s2l k (by omega)
          rw [fr_row G1 42 (fun _ => rfl), fr_row G1 38 (fun _ => rfl), G1 2005 _ rfl, G1 2007 _ rfl, G1 2012 _ rfl, e13, G2 2204 _ rfl, fr_row G2 2210 (fun _ => rfl), G1 1997 _ rfl]
          refine ⟨w.1, w.2.1, fun _ => w.2.2, fun q => by have := q.2.1; omega⟩
      · refine ⟨B, ⟨by rw [e1995 u zt]; exact b1, by rw [e2186 u zt]; exact b2, b3⟩, ?_, fun q => ?_, fun _ => ?_⟩
        · unfold lkM at *
          rw [e12, e13, fr_row G1 2017 (fun _ => rfl), fr_row G1 2018 (fun _ => rfl)]
          exact b4
        · rw [G1 1996 _ rfl] at q
          rw [G1 2005 _ rfl, fr_row G1 38 (fun _ => rfl), fr_row G1 42 (fun _ => rfl), G1 2007 _ rfl]
          exact b5 q
        · intro k hk
          rw [fr_row G1 42 (fun _ => rfl), fr_row G1 38 (fun _ => rfl), G1 2005 _ rfl, G1 2007 _ rfl, G1 2012 _ rfl, e13, G2 2204 _ rfl, fr_row G2 2210 (fun _ => rfl), G1 1997 _ rfl]
          exact b6 zt k hk
  · obtain ⟨⟨n, b1, b2⟩, b3, b4⟩ := hB
    have x1 := fr_row i1 2255 (fun _ => rfl)
    have x2 := fr_row i1 2256 (fun _ => rfl)
    refine ⟨⟨n, hR_same b1 (j1 1960 _ rfl) (fr_row j1 1979 (fun _ => rfl)) (fr_row j1 1980 (fun _ => rfl)) (fr_row j1 1981 (fun _ => rfl)) (i1 2075 _ rfl) x1 x2 (fr_row i1 2257 (fun _ => rfl)) (fr_row i1 2258 (fun _ => rfl)), by rw [x1, x2]; exact b2⟩, by rw [j1 1990 _ rfl]; exact b3, ⟨fun j hj => ?_, tot_le b4.2 (fr_row j1 35 (fun _ => rfl)) (fr_row i1 2183 (fun _ => rfl)) (j1 1990 _ rfl)⟩⟩
    rw [j1 2014 j rfl, j1 1990 _ rfl]; exact b4.1 j hj
  · rw [sa_congr (fun u _ hu => e1995 u hu), G1 1990 3393 rfl, G1 1960 3100 rfl]
    omega
  · rw [arr]
    refine reR_ag (s12 u hu z) (Int.le_refl _) gS (agV_of z (fun q hq => ⟨G1 1992 _ rfl, G1 1993 _ rfl⟩) (fun u2 hu2 => ?_) (fun b hb => ?_) (fun q _ => G2 2205 q rfl) (fun q _ => G2 2206 q rfl)) ⟨⟨e1995 u z, e2186 u z⟩, fun k hk => ?_⟩ (G1 1996 _ rfl) (G1 1997 _ rfl) (G1 2005 _ rfl)
    · rw [j4, if_neg hu2, H1 1994 _ rfl]
    · rw [G1 2009 _ rfl, G1 2006 _ rfl, r2200 b (by omega)]; exact ⟨rfl, rfl, rfl⟩
    · have rr := r2198 (40 * u + k) (by omega)
      exact ⟨G1 2006 _ rfl, G1 2007 _ rfl, G1 2008 _ rfl, G1 2010 _ rfl, rr.2.2.1, G2 2197 _ rfl, rr.1, rr.2.1, G2 2201 _ rfl, rr.2.2.2.1, rr.2.2.2.2⟩
  · rw [arr, G1 2009 _ rfl, G1 2006 _ rfl]; exact tc.1
  · have q := r8 k (by omega)
    have rr := r2198 (40 * t + k) (by omega)
    unfold acR at *
    rw [G1 2006 _ rfl, G1 2007 _ rfl, G1 2010 _ rfl, rr.2.2.1, G2 2197 _ rfl, rr.1, G2 2201 _ rfl, rr.2.2.2.1, rr.2.2.2.2, G1 1960 _ rfl, gS.1, gS.2.2.1, gS.2.2.2.2.2.1, gS.2.2.2.2.2.2.1, gS.2.2.2.2.2.2.2.1]
    exact q
  · have q := r9 k (by omega)
    have rr := r2198 (40 * t + k) (by omega)
    unfold coR at *
    rw [G1 2007 _ rfl, G1 2008 _ rfl, rr.2.1, r2200 _ (by omega), gS.2.2.2.1, gS.2.2.2.2.1]
    exact q
