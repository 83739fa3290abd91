/-! ===== a thread ends: its rows in both houses ===== -/
set_option maxRecDepth 20000
set_option maxHeartbeats 4000000
/-- thread t has ended with state sc, those that waited for it go on -/
def eD (I I' J J' : vJ) (t th N : Nat) (sc : Int) : Prop := (J 1996 t = sc ∧ J' 2187 t = sc ∧ J 2005 t = I 2005 t ∧ J' 2196 t = I' 2196 t ∧ J 2004 t = I 2004 t ∧ J' 2195 t = I' 2195 t ∧ J 2000 t = I 2000 t ∧ J' 2190 t = I' 2190 t) ∧ ∀ u, u < th → u ≠ t → (jn I t u → (J 1996 u = 0 ∧ J 2005 u = 1 ∧ J 2004 u = N ∧ J 2000 u = I 2000 u + (N - I 1998 u)) ∧ (J' 2187 u = 0 ∧ J' 2196 u = 1 ∧ J' 2195 u = N ∧ J' 2190 u = I' 2190 u + (N - I' 2189 u))) ∧ (¬ jn I t u → (J 1996 u = I 1996 u ∧ J 2005 u = I 2005 u ∧ J 2004 u = I 2004 u ∧ J 2000 u = I 2000 u) ∧ (J' 2187 u = I' 2187 u ∧ J' 2196 u = I' 2196 u ∧ J' 2195 u = I' 2195 u ∧ J' 2190 u = I' 2190 u))
theorem tH_end {I I' J J' : vJ} {th t N : Nat} {sc : Int} (h : tH I I' th) (ht : t < th) (hsc : sc = 3 ∨ sc = 4) (hE : eD I I' J J' t th N sc)
    (e1 : J 1990 3390 = I 1990 3390) (e2 : J' 2075 7731 = I' 2075 7731) (e3 : J 1990 3393 = I 1990 3393) (e9 : J 1990 3388 = I 1990 3388) (hN : I 1990 3388 = N) (e4 : J 1997 = I 1997) (e5 : J 1998 = I 1998) (e6 : J 1999 = I 1999) (e7 : J' 2188 = I' 2188) (e8 : J' 2189 = I' 2189) : tH J J' th := by
  obtain ⟨h1, h2⟩ := h
  refine ⟨by rw [e1, e2]; exact h1, fun u hu => ?_⟩
  obtain ⟨a1, a2, a3, a4, a5, ⟨a6, a7⟩, a8, a9⟩ := h2 u hu
  rw [e3, e4, e5, e6, e7, e8, e9]
  by_cases z : u = t
  · subst z
    obtain ⟨x1, x2, x3, x4, x5, x6, x7, x8⟩ := hE.1
    rw [x1, x2, x3, x4, x5, x6, x7, x8]
    exact ⟨⟨rfl, by omega, by omega⟩, fun q => by omega, a3, a4, a5, ⟨a6, a7⟩, a8, ⟨a9.1, ⟨fun q => by omega, fun q => by omega⟩, a9.2.2⟩⟩
  · by_cases y : jn I t u
    · obtain ⟨⟨x1, x2, x3, x4⟩, x5, x6, x7, x8⟩ := (hE.2 u hu z).1 y
      rw [x1, x2, x3, x4, x5, x6, x7, x8]
      have b := a2 (Or.inr y.1)
      rw [a5, b.2]
      exact ⟨⟨rfl, by decide, by decide⟩, fun q => by omega, a3, a4, rfl, ⟨rfl, Or.inr rfl⟩, fun _ => ⟨rfl, by omega, by omega⟩, ⟨a9.1, ⟨fun q => by omega, fun q => by omega⟩, a9.2.2⟩⟩
    · obtain ⟨⟨x1, x2, x3, x4⟩, x5, x6, x7, x8⟩ := (hE.2 u hu z).2 y
      rw [x1, x2, x3, x4, x5, x6, x7, x8]
      exact ⟨a1, a2, a3, a4, a5, ⟨a6, a7⟩, a8, a9⟩
theorem wt_end {I I' J J' : vJ} {th t N : Nat} {sc : Int} (ht : t < th) (h0 : I 1996 t = 0) (hsc : sc = 3 ∨ sc = 4) (hE : eD I I' J J' t th N sc) (e4 : J 1997 = I 1997) {l u : Nat} (hu : u < th) : wt J l u ↔ wt I l u := by
  unfold wt
  rw [e4]
  have : J 1996 u = 1 ↔ I 1996 u = 1 := by
    by_cases z : u = t
    · subst z
      rw [hE.1.1]; constructor <;> intro q <;> omega
    · by_cases y : jn I t u
      · rw [((hE.2 u hu z).1 y).1.1, y.1]; constructor <;> intro q <;> omega
      · rw [((hE.2 u hu z).2 y).1.1]
  rw [this]
theorem lQ_end {I I' J J' : vJ} {th t N : Nat} {sc : Int} (h : lQ I I' th) (ht : t < th) (h0 : I 1996 t = 0) (hsc : sc = 3 ∨ sc = 4) (hE : eD I I' J J' t th N sc) (e4 : J 1997 = I 1997) (e6 : J 1999 = I 1999) (e7 : J' 2222 = I' 2222) (e8 : J' 2221 = I' 2221) : lQ J J' th := by
  intro l hl
  obtain ⟨q, q1, q2, q3, q4, q5⟩ := h l hl
  refine ⟨q, q1, by rw [e7]; exact q2, fun k hk => ?_, by rw [e6, e8]; exact q4, fun u hu w => ?_⟩
  · obtain ⟨u, u1, u2, u3⟩ := q3 k hk
    exact ⟨u, u1, by rw [e8]; exact u2, (wt_end ht h0 hsc hE e4 u1).mpr u3⟩
  · rw [e8]; exact q5 u hu ((wt_end ht h0 hsc hE e4 hu).mp w)
/-- the locks' relation behind a thread's end -/
theorem LZ_end {I I' J J' : vJ} {th t N : Nat} {sc : Int} (h : LZ I I' th t (-1)) (ht : t < th) (hA : I 1995 t = 1) (s1 : I 1996 t = 0) (hd : I 2012 (40 * t) = 0) (hsc : sc = 3 ∨ sc = 4) (hE : eD I I' J J' t th N sc) (hN : I 1990 3388 = N)
    (h14 : ∀ u A : Nat, u < th → u ≠ t → I 1995 u = A → jn I t u → I 38 (I 2007 (40 * u + (A - 1))).toNat = 14)
    (c1 : ∀ u, J 1995 u = if u = t then 0 else I 1995 u) (c2 : ∀ u, J' 2186 u = if u = t then 0 else I' 2186 u)
    (F1 : fr [65, 1970, 1971, 1972, 1973, 1975, 1976, 1977, 1978, 1979, 1980, 1981, 2011, 2014, 1994, 1995, 1996, 2003, 2005, 2004, 2000, 2038, 2039, 2040] [(1990, 3392), (1960, 3090), (1990, 3401), (1990, 3402)] I J) (F2 : fr [2183, 2202, 2203, 2255, 2256, 2257, 2258, 2241, 2242, 2243, 2244, 2245, 2246, 2247, 2248, 2209, 2198, 2199, 2200, 2186, 2187, 2196, 2195, 2190, 2192, 2251, 2252] [(2075, 7736), (2075, 7818)] I' J') : LZ J J' th 8 (-1) := by
  obtain ⟨h1, h2, h3, h4⟩ := h
  have th8 := h1.1.2.2
  refine ⟨tH_end h1 ht hsc hE (F1 1990 _ rfl) (F2 2075 _ rfl) (F1 1990 _ rfl) (F1 1990 _ rfl) hN (fr_row F1 1997 (fun _ => rfl)) (fr_row F1 1998 (fun _ => rfl)) (fr_row F1 1999 (fun _ => rfl)) (fr_row F2 2188 (fun _ => rfl)) (fr_row F2 2189 (fun _ => rfl)), lQ_end h2 ht s1 hsc hE (fr_row F1 1997 (fun _ => rfl)) (fr_row F1 1999 (fun _ => rfl)) (fr_row F2 2222 (fun _ => rfl)) (fr_row F2 2221 (fun _ => rfl)), su_keep su_lR F1 F2 rfl h3, fun u hu => ?_⟩
  obtain ⟨B, ⟨b1, b2, b3⟩, b4, b5, b6⟩ := h4 u hu
  simp only [ite_self] at b4 ⊢
  by_cases z : u = t
  · subst z
    have eB : B = 1 := by omega
    subst eB
    refine ⟨0, ⟨by rw [c1, if_pos rfl]; rfl, by rw [c2, if_pos rfl]; rfl, by omega⟩, ?_, fun q => by rw [hE.1.1] at q; omega, fun _ k hk => absurd hk (by omega)⟩
    have same : ∀ l : Int, ca (I 2013) (I 2012) l u 1 = ca (I 2013) (I 2012) l u 0 := fun l => by
      show ca (I 2013) (I 2012) l u 0 + cj (I 2013) l ((40 * u + 0) * 12) (I 2012 (40 * u + 0)).toNat = _
      rw [show 40 * u + 0 = 40 * u from rfl, hd]
      exact Int.add_zero _
    unfold lkM at *
    rw [fr_row F1 2012 (fun _ => rfl), fr_row F1 2013 (fun _ => rfl), fr_row F1 2017 (fun _ => rfl), fr_row F1 2018 (fun _ => rfl)]
    refine ⟨fun k hk => absurd hk (by omega), fun l hl => ?_⟩
    have w := b4.2 l hl
    rw [same] at w
    exact w
  · refine ⟨B, ⟨by rw [c1, if_neg z]; exact b1, by rw [c2, if_neg z]; exact b2, b3⟩, ?_, fun q => ?_, fun _ => ?_⟩
    · unfold lkM at *
      rw [fr_row F1 2012 (fun _ => rfl), fr_row F1 2013 (fun _ => rfl), fr_row F1 2017 (fun _ => rfl), fr_row F1 2018 (fun _ => rfl)]
      exact b4
    · by_cases y : jn I t u
      · rw [((hE.2 u hu z).1 y).1.1] at q; omega
      · have w := (hE.2 u hu z).2 y
        rw [w.1.1] at q
        rw [w.1.2.1, fr_row F1 38 (fun _ => rfl), fr_row F1 42 (fun _ => rfl), F1 2007 _ rfl]
        exact b5 q
    · intro k hk
      have w := b6 z k hk
      rw [fr_row F1 38 (fun _ => rfl), fr_row F1 42 (fun _ => rfl), F1 2007 _ rfl, F1 2012 _ rfl, fr_row F1 2013 (fun _ => rfl), F2 2204 _ rfl, fr_row F2 2210 (fun _ => rfl), F1 1997 _ rfl]
      by_cases y : jn I t u
      · have k14 := h14 u B hu z b1 y
        refine ⟨w.1, w.2.1, fun _ => w.2.2.1 (fun q => ?_), fun q => ?_⟩
        · have e : k = B - 1 := by omega
          rw [e, k14] at q; omega
        · have e : k = B - 1 := by omega
          rw [e, k14] at q; omega
      · rw [((hE.2 u hu z).2 y).1.2.1]; exact w
/-- the run behind a thread's end -/
theorem AS_end {Y Y' : vY} {X mm Nn Lp : Nat} {nm pr ht : Nat → Nat} {I I' J J' : vJ} {th t W N : Nat} {sc : Int} (h : IL Y Y' X mm Nn Lp nm pr ht I I' th t 1 W N) (hP : PT Lp J J') (hB : bud J J' (W + 1) (ht 5000)) (hd : I 2012 (40 * t) = 0) (hsc : sc = 3 ∨ sc = 4) (hE : eD I I' J J' t th N sc)
    (c1 : ∀ u, J 1995 u = if u = t then 0 else I 1995 u) (c2 : ∀ u, J' 2186 u = if u = t then 0 else I' 2186 u) (c3 : ∀ u, J 1994 u = if u = t then I 2009 (40 * t) else I 1994 u)
    (g3 : ∀ b, b ≠ 40 * t → J' 2198 b = I' 2198 b ∧ J' 2199 b = I' 2199 b ∧ J' 2200 b = I' 2200 b ∧ J 2011 b = I 2011 b ∧ J' 2202 b = I' 2202 b ∧ J' 2203 b = I' 2203 b)
    (F1 : fr [65, 1970, 1971, 1972, 1973, 1975, 1976, 1977, 1978, 1979, 1980, 1981, 2011, 2014, 1994, 1995, 1996, 2003, 2005, 2004, 2000, 2038, 2039, 2040] [(1990, 3392), (1960, 3090), (1990, 3401), (1990, 3402)] I J) (F2 : fr [2183, 2202, 2203, 2255, 2256, 2257, 2258, 2241, 2242, 2243, 2244, 2245, 2246, 2247, 2248, 2209, 2198, 2199, 2200, 2186, 2187, 2196, 2195, 2190, 2192, 2251, 2252] [(2075, 7736), (2075, 7818)] I' J') : AS Y Y' X mm Nn Lp nm pr ht J J' th (W + 1) N := by
  obtain ⟨s1, ⟨s2, s2l⟩, s3, s4, ⟨s5, s6, s7, s8, s9, s10, s11⟩, s12, ⟨⟨r1, r2, r3, r4⟩, ⟨r5, r6⟩, r7, r8, r9⟩⟩ := h
  have th8 := s2.1.1.2.2
  have hX := s1.1.2.1
  have aT := agT_fr F1 F2 rfl
  have arr : J 1990 3376 = I 1990 3376 := F1 1990 _ rfl
  have gS : agS I I' J J' X := ⟨aT.1 38 (by decide) (by decide), aT.1 43 (by decide) (by decide), aT.1 62 (by decide) (by decide), aT.2.2.1 (X + 11) (by omega) (by omega), aT.2.2.1 (X + 12) (by omega) (by omega), aT.2.2.1 (X + 37) (by omega) (by omega), aT.2.2.1 2178 (by decide) (by decide), aT.2.2.1 2179 (by decide) (by decide), by rw [F1 1960 _ rfl]; exact Int.le_refl _⟩
  refine ⟨ST_ag s1 aT, LZ_end s2 s5 r1 r5 hd hsc hE s7 (fun u B hu hz hB0 hj => ?_) c1 c2 F1 F2, hP, hB, ⟨?_, by rw [F1 1990 _ rfl]; exact s7, by rw [F2 2075 _ rfl]; exact s8, s10⟩, fun u hu => ?_⟩
  · obtain ⟨A, dl, a1, a2, a3, a4, a5⟩ := s12 u hu hz
    have e : A = B := by have := a1.1; omega
    subst e
    exact (a5.2.2.2.2.1 hj.1).1
  · have e0 : J 1995 t = 0 := by rw [c1, if_pos rfl]
    rw [sa_all s5 th8, sa_congr (fun u _ hu => by rw [c1, if_neg hu]), e0, if_neg (by decide), F1 1990 3393 rfl, F1 1960 3100 rfl]
    omega
  · rw [arr]
    by_cases z : u = t
    · subst z
      refine ⟨0, 0, ⟨by rw [c1, if_pos rfl]; rfl, by rw [c2, if_pos rfl]; rfl, by omega⟩, ?_, fun k hk => absurd hk (by omega), fun k hk => absurd hk (by omega), ?_⟩
      · obtain ⟨b, s, h1, h2, h3, h4, h5, h6, h7⟩ := r7
        have q1 := h1 0 (by omega)
        have q2 := h2 (by omega)
        rw [up_cell _ (show 2009 ≠ 1994 by decide)] at q1
        refine ⟨b, s, fun k hk => absurd hk (by omega), fun hk => absurd hk (by omega), fun k hk => absurd hk (by omega), fun _ => ?_, fun hk => absurd hk (by omega), fun k i hk => absurd hk (by omega), fun k i hk => absurd hk (by omega)⟩
        rw [c3, if_pos rfl]
        have q3 : I 2009 (40 * u) = b 0 := q1.1
        rw [q3, q2]; omega
      · unfold stR
        rw [hE.1.1]
        exact ⟨fun _ => rfl, fun q => by omega, fun q => by omega, fun q => by omega, fun q => by omega, fun q => by omega, fun q => by omega⟩
    · have va : agV I I' J J' u := agV_of z (fun q hq => ⟨F1 1992 _ rfl, F1 1993 _ rfl⟩) (fun u2 hu2 => by rw [c3, if_neg hu2]) (fun b hb => ⟨F1 2009 _ rfl, F1 2006 _ rfl, (g3 b (by omega)).2.2.1⟩) (fun q _ => F2 2205 q rfl) (fun q hq => F2 2206 q rfl)
      have aa : agA I I' J J' u := by
        refine ⟨⟨by rw [c1, if_neg z], by rw [c2, if_neg z]⟩, fun k hk => ?_⟩
        have rr := g3 (40 * u + k) (by omega)
        exact ⟨F1 2006 _ rfl, F1 2007 _ rfl, F1 2008 _ rfl, F1 2010 _ rfl, rr.2.2.2.1, F2 2197 _ rfl, rr.1, rr.2.1, F2 2201 _ rfl, rr.2.2.2.2.1, rr.2.2.2.2.2⟩
      by_cases y : jn I t u
      · obtain ⟨A, dl, ⟨a1, a2, a3⟩, h1, h2, h3, h4⟩ := s12 u hu z
        have w := (hE.2 u hu z).1 y
        obtain ⟨w1, w2, _⟩ := w.1
        have A0 : 0 < A := h4.2.1 (by rw [y.1]; decide)
        have d1 := h4.2.2.2.1 (Or.inr (Or.inl y.1))
        have k14 := (h4.2.2.2.2.1 y.1).1
        refine ⟨A, dl, ⟨by rw [aa.1.1]; exact a1, by rw [aa.1.2]; exact a2, a3⟩, thV_ag h1 a3 va, fun k hk => acR_ag (h2 k hk) (by omega) gS aa, fun k hk => coR_ag (h3 k hk) (by omega) gS aa (va.2.2.1 k (by omega)).2.2, ?_⟩
        unfold stR
        rw [w1, w2, (va.2.2.1 (A - 1) (by omega)).2.2, (aa.2 (A - 1) (by omega)).2.1, gS.1]
        exact ⟨fun q => by omega, fun _ => A0, fun _ q => by omega, fun _ => ⟨d1.1, d1.2.1, by rw [F2 2206 _ rfl]; exact d1.2.2⟩, fun q => by omega, fun q => by omega, fun _ _ => Or.inl k14⟩
      · have w := ((hE.2 u hu z).2 y).1
        exact reR_ag (s12 u hu z) (Int.le_refl _) gS va aa w.1 (F1 1997 _ rfl) w.2.1
