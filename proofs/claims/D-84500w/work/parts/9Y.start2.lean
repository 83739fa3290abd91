/-! ===== a thread is started: the run's relation ===== -/
set_option maxRecDepth 20000
set_option maxHeartbeats 4000000
theorem IS_new {Y Y' : vY} {X mm Nn Lp : Nat} {nm pr ht : Nat → Nat} {I I' J J' : vJ} {th t A i W N Ath : Nat} {sc : Int} (h : IS Y Y' X mm Nn Lp nm pr ht I I' th t A i W N) (hi : (i : Int) < I' (X + 12) (I 2007 (40 * t + (A - 1))).toNat) (th7 : th < 8)
    (F1 : fr [65, 1961, 1962, 1963, 1964, 1966, 1967, 1968, 1970, 1971, 1972, 1973, 1975, 1976, 1977, 1978, 1979, 1980, 1981, 1992, 1993, 1994, 1995, 1996, 2000, 2001, 2002, 2003, 2005, 2006, 2007, 2008, 2009, 2010, 2011, 2012, 2014] [(1960, 3079), (1960, 3090), (1990, 3403), (1990, 3392), (1990, 3390)] I J)
    (F2 : fr [2183, 2186, 2187, 2188, 2190, 2191, 2192, 2193, 2194, 2195, 2196, 2197, 2198, 2199, 2200, 2201, 2202, 2203, 2204, 2205, 2206, 2209, 2237, 2238, 2239, 2240, 2241, 2242, 2243, 2244, 2245, 2246, 2247, 2248, 2253, 2255, 2256, 2257, 2258, 2263] [(2075, 7727), (2075, 7736), (2075, 7818), (2075, 7799), (2075, 7731)] I' J')
    (rw1 : ∀ b, b ≠ 40 * th → J 2006 b = I 2006 b ∧ J 2007 b = I 2007 b ∧ J 2008 b = I 2008 b ∧ J 2010 b = I 2010 b ∧ J 2011 b = I 2011 b ∧ J 2012 b = I 2012 b) (rw2 : ∀ b, b ≠ 40 * th → J' 2197 b = I' 2197 b ∧ J' 2198 b = I' 2198 b ∧ J' 2201 b = I' 2201 b ∧ J' 2202 b = I' 2202 b ∧ J' 2203 b = I' 2203 b ∧ J' 2204 b = I' 2204 b) (rw3 : ∀ b, b ≠ 40 * th → J' 2199 b = if b = 40 * t + (A - 1) then (i : Int) + 1 else I' 2199 b) (rw4 : ∀ b, b ≠ 40 * th → J' 2200 b = if b = 40 * t + (A - 1) then (ht (i + 1) : Int) else I' 2200 b)
    (tw1 : ∀ u, u ≠ th → J 1995 u = I 1995 u ∧ J 1996 u = I 1996 u ∧ J 2000 u = I 2000 u ∧ J 2005 u = I 2005 u) (tw2 : ∀ u, u ≠ th → J' 2186 u = I' 2186 u ∧ J' 2187 u = I' 2187 u ∧ J' 2188 u = I' 2188 u ∧ J' 2190 u = I' 2190 u ∧ J' 2195 u = I' 2195 u ∧ J' 2196 u = I' 2196 u)
    (n1 : J 1995 th = Ath ∧ J' 2186 th = Ath ∧ Ath ≤ 1) (n2 : J 1996 th = sc ∧ J' 2187 th = sc ∧ (sc = 0 ∨ sc = 3)) (n3 : J 2000 th = 0 ∧ J' 2190 th = 0) (n4 : J 2005 th = 0 ∧ J' 2196 th = 0) (n5 : J 1990 3390 = (th : Int) + 1 ∧ J' 2075 7731 = (th : Int) + 1)
    (n6 : J 2012 (40 * th) = 0 ∧ J' 2204 (40 * th) = 0 ∧ (Ath = 1 → J 42 (J 2007 (40 * th)).toNat = 0)) (tree : I 1960 3079 ≤ J 1960 3079)
    (hv : thV (I 1990 3376) nm J J' t A 0) (hvo : ∀ u, u ≠ t → u ≠ th → agV I I' J J' u) (hre : reR (I 1990 3376) nm ht X mm Nn J J' th) (hP : PT Lp J J') (hB : bud J J' W (ht 5000)) : IS Y Y' X mm Nn Lp nm pr ht J J' (th + 1) t A (i + 1) W N := by
  obtain ⟨s1, s2, s3, s4, ⟨s5, s6, s7, s8, s9, s10, s11⟩, s12, s13⟩ := h
  have g := agT_fr F1 F2 rfl
  have hX := s1.1.2.1
  obtain ⟨⟨r1, r2, r3, r4⟩, ⟨r5, r6⟩, r7, r8, r9, r10, r11, r12⟩ := s13
  have gS : agS I I' J J' X := ⟨g.1 38 (by decide) (by decide), g.1 43 (by decide) (by decide), g.1 62 (by decide) (by decide), g.2.2.1 (X + 11) (by omega) (by omega), g.2.2.1 (X + 12) (by omega) (by omega), g.2.2.1 (X + 37) (by omega) (by omega), g.2.2.1 2178 (by decide) (by decide), g.2.2.1 2179 (by decide) (by decide), tree⟩
  have arr : J 1990 3376 = I 1990 3376 := F1 1990 _ rfl
  have e42 : J 42 = I 42 := g.1 42 (by decide) (by decide)
  have la := hP.2.2.2.2.2.2.2.2.2.2.2.2.2.2.2.1
  refine ⟨ST_ag s1 g, ⟨⟨⟨by rw [n5.1]; rfl, by rw [n5.2]; rfl, by omega⟩, fun u hu => ?_⟩, ?_, fun l hl => ?_, fun u hu => ?_⟩, hP, hB, ⟨by omega, ?_, by rw [F1 1990 _ rfl]; exact s7, by rw [F2 2075 _ rfl]; exact s8, s9, s10, by rw [F2 2075 _ rfl]; exact s11⟩, fun u hu ut => ?_, ⟨by rw [(tw1 t (by omega)).1]; exact r1, by rw [(tw2 t (by omega)).1]; exact r2, r3, r4⟩, ⟨by rw [(tw1 t (by omega)).2.1]; exact r5, by rw [(tw1 t (by omega)).2.2.2]; exact r6⟩, by rw [arr]; exact hv, fun k hk => ?_, fun k hk => ?_, ?_, ?_, ?_⟩
  · by_cases z : u = th
    · subst z
      have l := la u th7
      rw [n2.1, n2.2.1, n3.1, n3.2, n4.1, n4.2]
      exact ⟨⟨rfl, by omega, by omega⟩, fun q => by omega, ⟨by omega, by omega⟩, ⟨by omega, by omega⟩, rfl, ⟨rfl, Or.inl rfl⟩, fun q => by omega, ⟨l.2.2.2.1, ⟨fun q => by omega, fun q => by omega⟩, l.2.2.2.2⟩⟩
    · obtain ⟨a1, a2, a3, a4, a5, a6, a8, a9⟩ := s2.1.2 u (by omega)
      have w1 := tw1 u z
      have w2 := tw2 u z
      rw [w1.2.1, w1.2.2.1, w1.2.2.2, w2.2.1, w2.2.2.1, w2.2.2.2.1, w2.2.2.2.2.1, w2.2.2.2.2.2, F1 1997 _ rfl, F1 1998 _ rfl, F1 1999 _ rfl, F1 2004 _ rfl, F2 2189 _ rfl, F1 1990 3393 rfl, F1 1990 3388 rfl]
      exact ⟨a1, a2, a3, a4, a5, a6, a8, ⟨a9.1, ⟨a9.2.1.1, fun q => by have := a9.2.1.2 q; omega⟩, a9.2.2⟩⟩
  · have q := lQ_other (J := J) (J' := J') (t := th) (th := th + 1) (I := up I 1996 th 0) (I' := I') (fun l hl => by
      obtain ⟨q, q1, q2, q3, q4, q5⟩ := s2.2.1 l hl
      refine ⟨q, q1, q2, fun k hk => ?_, fun i k hik hk => ?_, fun u hu w => ?_⟩
      · obtain ⟨u, u1, u2, u3⟩ := q3 k hk
        exact ⟨u, by omega, u2, by rw [up_place _ _ (by omega)]; exact u3.1, by rw [up_cell _ (by decide)]; exact u3.2⟩
      · rw [up_cell _ (by decide), up_cell _ (by decide)]; exact q4 i k hik hk
      · by_cases z : u = th
        · have w1 := w.1
          rw [z, up_same] at w1
          omega
        · have w1 := w.1
          have w2 := w.2
          rw [up_place _ _ z] at w1
          rw [up_cell _ (by decide)] at w2
          exact q5 u (by omega) ⟨w1, w2⟩) (by rw [up_same]; decide) (by rw [n2.1]; omega) (fun u hu => ⟨by rw [up_place _ _ hu]; exact (tw1 u hu).2.1, by rw [up_cell _ (by decide), F1 1997 _ rfl], by rw [up_cell _ (by decide), F1 1999 _ rfl]⟩) (fr_row F2 2222 (fun _ => rfl)) (fr_row F2 2221 (fun _ => rfl))
    exact q
  · obtain ⟨⟨w1, w2, w3⟩, w4⟩ := s2.2.2.1 l hl
    have thr : I 1990 3390 = th := s2.1.1.1
    rw [n5.1, F1 2017 _ rfl, F1 2018 _ rfl, F1 2019 _ rfl, F1 2020 _ rfl, F1 2021 _ rfl, F1 2022 _ rfl, F1 2023 _ rfl, F1 2024 _ rfl, F1 2025 _ rfl, F1 2026 _ rfl, F1 1990 3388 rfl, F2 2211 _ rfl, F2 2212 _ rfl, F2 2213 _ rfl, F2 2214 _ rfl, F2 2215 _ rfl, F2 2216 _ rfl, F2 2217 _ rfl, F2 2218 _ rfl, F2 2219 _ rfl, F2 2220 _ rfl]
    exact ⟨⟨w1, w2, by omega⟩, w4⟩
  · simp only [ite_self]
    by_cases z : u = th
    · subst z
      refine ⟨Ath, ⟨n1.1, n1.2.1, by omega⟩, ⟨fun k hk => ?_, fun l hl => ?_⟩, fun q => by rw [n2.1] at q; omega, fun _ k hk => ?_⟩
      · have k0 : k = 0 := by omega
        subst k0
        rw [Nat.add_zero, n6.1]
        exact ⟨by omega, fun j hj => absurd hj (Nat.not_lt_zero _)⟩
      · have own := (s2.2.2.1 l hl).1.2.2.2
        have thr : I 1990 3390 = u := s2.1.1.1
        have c0 : ca (J 2013) (J 2012) l u Ath = 0 := by
          have a01 : Ath = 0 ∨ Ath = 1 := by omega
          rcases a01 with q | q
          · rw [q]; rfl
          · rw [q]
            show 0 + cj (J 2013) l ((40 * u + 0) * 12) (J 2012 (40 * u + 0)).toNat = 0
            rw [Nat.add_zero, n6.1]
            rfl
        rw [F1 2017 _ rfl]
        exact ⟨fun q => by omega, fun _ => ⟨c0, by omega⟩⟩
      · have k0 : k = 0 := by omega
        subst k0
        rw [Nat.add_zero, n6.2.1, n6.2.2 (by omega), n6.1, n4.1]
        exact ⟨rfl, fun j hj => by omega, fun _ => rfl, fun q => by have := q.2.1; omega⟩
    · obtain ⟨B, ⟨b1, b2, b3⟩, b4, b5, b6⟩ := s2.2.2.2 u (by omega)
      simp only [ite_self] at b4
      have b6 := b6 (by omega)
      have row : ∀ k, k < B → 40 * u + k ≠ 40 * th := fun k hk => by omega
      refine ⟨B, ⟨by rw [(tw1 u z).1]; exact b1, by rw [(tw2 u z).1]; exact b2, b3⟩, ?_, fun q => ?_, fun _ k hk => ?_⟩
      · unfold lkM at *
        have e13 := fr_row F1 2013 (fun _ => rfl)
        have cc : ∀ l : Int, ca (J 2013) (J 2012) l u B = ca (I 2013) (I 2012) l u B := fun l => ca_congr (fun k hk => ⟨(rw1 _ (row k hk)).2.2.2.2.2, fun j _ => by rw [e13]⟩)
        rw [fr_row F1 2017 (fun _ => rfl), fr_row F1 2018 (fun _ => rfl)]
        refine ⟨fun k hk => by rw [(rw1 _ (row k hk)).2.2.2.2.2, e13]; exact b4.1 k hk, fun l hl => ?_⟩
        rw [cc]; exact b4.2 l hl
      · rw [(tw1 u z).2.1] at q
        have w := b5 q
        rw [(tw1 u z).2.2.2, gS.1, e42, (rw1 _ (row (B - 1) (by omega))).2.1]
        exact w
      · have w := b6 k hk
        have rr := rw1 _ (row k hk)
        rw [(tw1 u z).2.2.2, gS.1, e42, rr.2.1, rr.2.2.2.2.2, fr_row F1 2013 (fun _ => rfl), (rw2 _ (row k hk)).2.2.2.2.2, fr_row F2 2210 (fun _ => rfl), F1 1997 _ rfl]
        exact w
  · have e : sa (J 1995) t (th + 1) = sa (I 1995) t th := by
      show sa (J 1995) t th + (if th = t then 0 else if 0 < J 1995 th then J 1995 th - 1 else 0) = sa (I 1995) t th
      rw [sa_congr (fun u hu _ => (tw1 u (by omega)).1), if_neg (by omega), n1.1]
      have a01 : Ath = 0 ∨ Ath = 1 := by omega
      rcases a01 with q | q
      · rw [q]; exact Int.add_zero _
      · rw [q]; exact Int.add_zero _
    rw [e, F1 1990 3393 rfl, F1 1960 3100 rfl]; exact s6
  · rw [arr]
    by_cases z : u = th
    · subst z; exact hre
    · refine reR_ag (s12 u (by omega) ut) (Int.le_refl _) gS (hvo u ut z) ⟨⟨(tw1 u z).1, (tw2 u z).1⟩, fun k hk => ?_⟩ (tw1 u z).2.1 (F1 1997 _ rfl) (tw1 u z).2.2.2
      have nb : 40 * u + k ≠ 40 * th := by omega
      have a := rw1 _ nb
      have b := rw2 _ nb
      exact ⟨a.1, a.2.1, a.2.2.1, a.2.2.2.1, a.2.2.2.2.1, b.1, b.2.1, by rw [rw3 _ nb, if_neg (by omega)], b.2.2.1, b.2.2.2.1, b.2.2.2.2.1⟩
  · have q := r8 k hk
    have nb : 40 * t + k ≠ 40 * th := by omega
    have a := rw1 _ nb
    have b := rw2 _ nb
    unfold acR at *
    rw [a.1, a.2.1, a.2.2.2.1, a.2.2.2.2.1, b.1, b.2.1, b.2.2.1, b.2.2.2.1, b.2.2.2.2.1, gS.1, gS.2.2.1, gS.2.2.2.2.2.1, gS.2.2.2.2.2.2.1, gS.2.2.2.2.2.2.2.1]
    refine ⟨q.1, q.2.1, ⟨q.2.2.1.1, q.2.2.1.2.1, ?_⟩, q.2.2.2⟩
    have := q.2.2.1.2.2
    omega
  · have q := r9 k hk
    have nb : 40 * t + k ≠ 40 * th := by omega
    have a := rw1 _ nb
    unfold coR at *
    rw [a.2.1, a.2.2.1, rw3 _ nb, if_neg (by omega), rw4 _ nb, if_neg (by omega), gS.2.2.2.1, gS.2.2.2.2.1]
    exact q
  · have nb : 40 * t + (A - 1) ≠ 40 * th := by omega
    rw [(rw1 _ nb).2.1, gS.2.2.2.1, gS.2.2.2.2.1]
    exact ⟨by omega, by omega⟩
  · have nb : 40 * t + (A - 1) ≠ 40 * th := by omega
    rw [rw3 _ nb, if_pos rfl]; omega
  · have nb : 40 * t + (A - 1) ≠ 40 * th := by omega
    rw [rw4 _ nb, if_pos rfl]
