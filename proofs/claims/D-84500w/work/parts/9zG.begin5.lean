/-! ===== begin: the first activation ===== -/
set_option maxRecDepth 20000
set_option maxHeartbeats 8000000
/-- all rest behind begin -/
theorem bn_AS {Y Y' : vY} {X mm Nn Lp : Nat} {nm pr ht : Nat → Nat} {I H JF G I' M JF' G' : vJ} {m p nn y tr Ath Vv : Nat} {sc x2 x3 x4 : Int} (hC : bgC I H p Vv x2 x3 x4) (hT : bgT I' M Nn x2 x3 x4) (hE : enF H JF M JF' X 0 0 m (8 + p) p nn y tr) (hS : ST H M Y Y' X mm Nn Lp nm pr ht) (hvs : H 1960 3100 = nm 5000)
    (gC : fr [1994, 1995, 1996, 2003] [] JF G) (gT : fr [2186, 2187] [] JF' G') (n1 : G 1995 0 = Ath ∧ G' 2186 0 = Ath ∧ Ath ≤ 1) (n2 : G 1996 0 = sc ∧ G' 2187 0 = sc ∧ (sc = 0 ∨ sc = 3)) (n6 : Ath = 1 → H 42 y = 0) (hre : reR (G 1990 3376) nm ht X mm Nn G G' 0) (hP : PT Lp G G') (hB : bud G G' 0 (ht 5000)) : AS Y Y' X mm Nn Lp nm pr ht G G' 1 0 0 := by
  obtain ⟨c0, ⟨f1, f2, f3, f4, f5, f6, f7, f8, f9, f10, f11, f12, f13, f14, f15, f16⟩, c2, c3, c4, c5, c6, c7, c8, c9, c10⟩ := hC
  obtain ⟨t0, ⟨g1, g2, g3, g4, g5, g6, g7, g8, g9, g10, g11, g12, g13, g14, g15, g16, g17, g18⟩, t2, t3, t4, t5, t6, t7, t8, t9, t10, t11, t12, t13⟩ := hT
  obtain ⟨e0, e1, ⟨e2, e3, e4, e5, e6, e7, e8⟩, ⟨e9, e10⟩, ⟨e11, e12, e13, e14, e15, e16, e17, e18⟩, ⟨e19, e20⟩, e21⟩ := hE
  have F1 : fr [65, 1961, 1962, 1963, 1964, 1966, 1967, 1968, 1970, 1971, 1972, 1973, 1975, 1976, 1977, 1978, 1979, 1980, 1981, 1992, 1993, 1994, 1995, 1996, 2003, 2006, 2007, 2008, 2009, 2010, 2011, 2012, 2014] [(1960, 3079), (1960, 3090), (1990, 3403), (1990, 3392)] H G := fr_trans (fr_weak e0 (by decide) (by decide)) (fr_weak gC (by decide) (by decide))
  have F2 : fr [2183, 2186, 2187, 2197, 2198, 2199, 2200, 2201, 2202, 2203, 2204, 2205, 2209, 2237, 2238, 2239, 2240, 2241, 2242, 2243, 2244, 2245, 2246, 2247, 2248, 2253, 2255, 2256, 2257, 2258] [(2075, 7727), (2075, 7736), (2075, 7818), (2075, 7799)] M G' := fr_trans (fr_weak e1 (by decide) (by decide)) (fr_weak gT (by decide) (by decide))
  have pl := (hP.2.2.2.2.2.2.2.2.2.2.2.2.2.2.2.1 0 (by decide)).2
  have thr : G 1990 3390 = ((1 : Nat) : Int) := by rw [F1 1990 _ rfl, f4]; rfl
  have thr' : G' 2075 7731 = ((1 : Nat) : Int) := by rw [F2 2075 _ rfl, g3]; rfl
  have n42 : Ath = 1 → G 42 (G 2007 0).toNat = 0 := fun q => by
    have e : G 2007 0 = y := by rw [gC 2007 _ rfl, e11, if_pos rfl]
    rw [e, tn0, F1 42 _ rfl]; exact n6 q
  refine ⟨ST_ag hS (agT_fr F1 F2 rfl), ⟨⟨⟨thr, thr', by decide⟩, fun u hu => ?_⟩, fun l hl => ?_, fun l hl => ?_, fun u hu => ?_⟩, hP, hB, ⟨⟨?_, ?_, ?_⟩, ?_, ?_, by decide⟩, fun u hu => ?_⟩
  · have u0 : u = 0 := by omega
    subst u0
    have s34 : sc ≠ 1 ∧ sc ≠ 2 ∧ 0 ≤ sc ∧ sc ≤ 4 := by
      rcases n2.2.2 with q | q <;> rw [q] <;> decide
    rw [n2.1, n2.2.1]
    refine ⟨⟨rfl, s34.2.2⟩, fun q => ?_, ?_, ?_, ?_, ⟨?_, Or.inl ?_⟩, fun q => ?_, pl.2.2.1, ⟨fun q => absurd q s34.1, fun q => absurd q s34.2.1⟩, pl.2.2.2⟩
    · rcases q with q | q
      · exact absurd q s34.1
      · exact absurd q s34.2.1
    · unfold inI; have := pl.1; omega
    · unfold inI; have := pl.2.1; omega
    · rw [F1 2000 _ rfl, F2 2190 _ rfl, c9.2.2.2.1, t12.2.2.2.1]
    · rw [F1 2005 _ rfl, F2 2196 _ rfl, c9.2.2.2.2.2.2.2, t12.2.2.2.2.2.2.2.2.2]
    · rw [F1 2005 _ rfl, c9.2.2.2.2.2.2.2]
    · rw [F1 2005 _ rfl, c9.2.2.2.2.2.2.2] at q
      exact absurd q (by decide)
  · refine ⟨0, by decide, by rw [F2 2222 _ rfl, (t4 l hl).2.2.2.2.2.2.2.2.2.2.2]; rfl, fun k hk => absurd hk (Nat.not_lt_zero _), fun i k _ hk => absurd hk (Nat.not_lt_zero _), fun u hu w => ?_⟩
    have u0 : u = 0 := by omega
    subst u0
    have w1 := w.1
    rw [n2.1] at w1
    rcases n2.2.2 with q | q
    · rw [q] at w1; exact absurd w1 (by decide)
    · rw [q] at w1; exact absurd w1 (by decide)
  · obtain ⟨a1, a2, a3, a4, a5, a6, a7, a8, a9⟩ := c3 l hl
    obtain ⟨b0, b1, b2, b3, b4, b5, b6, b7, b8, b9, b10, b11⟩ := t4 l hl
    rw [F1 2017 _ rfl, F1 2018 _ rfl, F1 2019 _ rfl, F1 2020 _ rfl, F1 2021 _ rfl, F1 2022 _ rfl, F1 2023 _ rfl, F1 2025 _ rfl, F1 2026 _ rfl, F2 2211 _ rfl, F2 2212 _ rfl, F2 2214 _ rfl, F2 2215 _ rfl, F2 2216 _ rfl, F2 2217 _ rfl, F2 2218 _ rfl, F2 2220 _ rfl, F2 2219 _ rfl, thr, F1 1990 3388 rfl, f2, a1, a2, a3, a4, a5, a6, a7, a8, a9, b1, b2, b4, b5, b6, b7, b8, b9, b10]
    exact ⟨⟨rfl, by decide, by decide, by decide⟩, ⟨rfl, by decide, by decide⟩, rfl, rfl, rfl, rfl, rfl, fun q => absurd rfl q, ⟨rfl, by decide, by decide⟩, rfl⟩
  · have u0 : u = 0 := by omega
    subst u0
    have r12 : Ath = 1 → G 2012 0 = 0 := fun _ => by rw [gC 2012 _ rfl, e19, if_pos rfl]
    have r04 : G' 2204 0 = 0 := by rw [gT 2204 _ rfl, e20, if_pos rfl]
    have A01 : Ath = 0 ∨ Ath = 1 := by omega
    refine ⟨Ath, ⟨n1.1, n1.2.1, by omega⟩, ⟨fun k hk => ?_, fun l hl => ⟨fun q => ?_, fun _ => ⟨?_, ?_⟩⟩⟩, fun q => ?_, fun _ => ?_⟩
    · have a1 : Ath = 1 := by omega
      have k0 : k = 0 := by omega
      subst k0
      have z := r12 a1
      show (0 ≤ G 2012 0 ∧ G 2012 0 ≤ 11) ∧ _
      rw [show (40 * 0 + 0 : Nat) = 0 from rfl, z]
      exact ⟨⟨by decide, by decide⟩, fun j hj => absurd hj (Nat.not_lt_zero _)⟩
    · rw [F1 2017 _ rfl, (c3 l hl).1] at q
      exact absurd q (by decide)
    · rcases A01 with a1 | a1
      · rw [a1]; rfl
      · have z := r12 a1
        rw [a1]
        show ca (G 2013) (G 2012) l 0 0 + cj (G 2013) l ((40 * 0 + 0) * 12) (G 2012 0).toNat = 0
        rw [z]; rfl
    · have e1 : (if (0 : Nat) = 8 then (-1 : Int) else -1) = -1 := by split <;> rfl
      rw [e1]; omega
    · rw [n2.1] at q
      rcases n2.2.2 with w | w
      · rw [w] at q; exact absurd q (by decide)
      · rw [w] at q; exact absurd q (by decide)
    · intro k hk
      have a1 : Ath = 1 := by omega
      have k0 : k = 0 := by omega
      subst k0
      have z := r12 a1
      have w := n42 a1
      show G' 2204 0 = G 42 (G 2007 0).toNat ∧ _
      have z5 : G 2005 0 = 0 := by rw [F1 2005 _ rfl, c9.2.2.2.2.2.2.2]
      rw [show (40 * 0 + 0 : Nat) = 0 from rfl, r04, w, z]
      refine ⟨rfl, fun j hj => absurd hj (by omega), fun _ => rfl, fun q => ?_⟩
      have q5 := q.2.1
      rw [z5] at q5
      exact absurd q5 (by decide)
  · have e : sa (G 1995) 8 1 = 0 := by
      show sa (G 1995) 8 0 + (if 0 = 8 then 0 else if 0 < G 1995 0 then G 1995 0 - 1 else 0) = 0
      rw [if_neg (by decide), n1.1]
      show 0 + _ = (0 : Int)
      split
      · omega
      · rfl
    rw [e]; decide
  · rw [F1 1990 3393 rfl, f7]; exact ⟨by decide, by decide⟩
  · rw [F1 1960 _ rfl]; exact hvs
  · rw [F1 1990 _ rfl, f2]; rfl
  · rw [F2 2075 _ rfl, g2]; rfl
  · have u0 : u = 0 := by omega
    subst u0
    exact hre
