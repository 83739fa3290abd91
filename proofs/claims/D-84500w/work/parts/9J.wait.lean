/-! ===== a thread begins to wait ===== -/
set_option maxRecDepth 20000
set_option maxHeartbeats 4000000
theorem pig : ∀ (n q : Nat) (f : Nat → Nat), (∀ k, k < q → f k < n) → (∀ i k, i < k → k < q → f i ≠ f k) → q ≤ n := by
  intro n
  induction n with
  | zero =>
    intro q f h1 _
    cases q with
    | zero => exact Nat.le_refl _
    | succ q => exact absurd (h1 0 (by omega)) (by omega)
  | succ n ih =>
    intro q f h1 h2
    by_cases c : ∃ k0, k0 < q ∧ f k0 = n
    · obtain ⟨k0, c1, c2⟩ := c
      have := ih (q - 1) (fun k => if k < k0 then f k else f (k + 1)) (fun k hk => by
        by_cases z : k < k0
        · rw [if_pos z]
          have a := h1 k (by omega)
          have b := h2 k k0 z c1
          omega
        · rw [if_neg z]
          have a := h1 (k + 1) (by omega)
          have b := h2 k0 (k + 1) (by omega) (by omega)
          omega) (fun i k hik hk => by
        by_cases z : k < k0
        · rw [if_pos z, if_pos (by omega)]; exact h2 i k hik (by omega)
        · rw [if_neg z]
          by_cases y : i < k0
          · rw [if_pos y]; exact h2 i (k + 1) (by omega) (by omega)
          · rw [if_neg y]; exact h2 (i + 1) (k + 1) (by omega) (by omega))
      omega
    · have := ih q f (fun k hk => by
        have a := h1 k hk
        have b : f k ≠ n := fun e => c ⟨k, hk, e⟩
        omega) h2
      omega
/-- how many wait for a lock while t does not -/
theorem lQ_few {I I' : vJ} {th t l q : Nat} (h8 : th ≤ 8) (ht : t < th) (s : I 1996 t = 0) (q3 : ∀ k, k < q → ∃ u : Nat, u < th ∧ I' 2221 (8 * l + k) = u ∧ wt I l u) (q4 : ∀ i k, i < k → k < q → I 1999 (I' 2221 (8 * l + i)).toNat < I 1999 (I' 2221 (8 * l + k)).toNat) : q ≤ 7 := by
  refine pig 7 q (fun k => if (I' 2221 (8 * l + k)).toNat < t then (I' 2221 (8 * l + k)).toNat else (I' 2221 (8 * l + k)).toNat - 1) (fun k hk => ?_) (fun i k hik hk => ?_)
  · obtain ⟨u, u1, u2, u3⟩ := q3 k hk
    have ut : u ≠ t := by intro e; subst e; have := u3.1; omega
    show (if (I' 2221 (8 * l + k)).toNat < t then (I' 2221 (8 * l + k)).toNat else (I' 2221 (8 * l + k)).toNat - 1) < 7
    rw [u2, tn0]
    split <;> omega
  · obtain ⟨u, u1, u2, u3⟩ := q3 k hk
    obtain ⟨v, v1, v2, v3⟩ := q3 i (by omega)
    have ut : u ≠ t := by intro e; subst e; have := u3.1; omega
    have vt : v ≠ t := by intro e; subst e; have := v3.1; omega
    have o := q4 i k hik hk
    rw [u2, v2, tn0, tn0] at o
    have uv : u ≠ v := by intro e; subst e; omega
    show (if (I' 2221 (8 * l + i)).toNat < t then (I' 2221 (8 * l + i)).toNat else (I' 2221 (8 * l + i)).toNat - 1) ≠ (if (I' 2221 (8 * l + k)).toNat < t then (I' 2221 (8 * l + k)).toNat else (I' 2221 (8 * l + k)).toNat - 1)
    rw [u2, v2, tn0, tn0]
    split <;> split <;> omega
theorem lQ_push {I I' J J' : vJ} {th t l q : Nat} (h : lQ I I' th) (T : tH I I' th) (ht : t < th) (hl : l < 8) (s : I 1996 t = 0) (hq : I' 2222 l = q) (e1 : ∀ u, J 1996 u = if u = t then 1 else I 1996 u) (e2 : ∀ u, J 1997 u = if u = t then (l : Int) else I 1997 u) (e3 : ∀ u, J 1999 u = if u = t then I 1990 3393 else I 1999 u) (e4 : ∀ k, J' 2222 k = if k = l then (q : Int) + 1 else I' 2222 k) (e5 : ∀ p, J' 2221 p = if p = 8 * l + q then (t : Int) else I' 2221 p) : lQ J J' th := by
  intro l' hl'
  obtain ⟨q', q1, q2, q3, q4, q5⟩ := h l' hl'
  have th8 := T.1.2.2
  by_cases z : l' = l
  · subst z
    have eq : q' = q := by omega
    subst eq
    have q7 := lQ_few th8 ht s q3 q4
    have old : ∀ k, k < q' → J' 2221 (8 * l' + k) = I' 2221 (8 * l' + k) := fun k hk => by rw [e5, if_neg (by omega)]
    have new : J' 2221 (8 * l' + q') = t := by rw [e5, if_pos rfl]
    refine ⟨q' + 1, by omega, by rw [e4, if_pos rfl]; rfl, fun k hk => ?_, fun i k hik hk => ?_, fun u hu w => ?_⟩
    · by_cases y : k = q'
      · subst y
        exact ⟨t, ht, new, by rw [e1, if_pos rfl], by rw [e2, if_pos rfl]⟩
      · obtain ⟨u, u1, u2, u3⟩ := q3 k (by omega)
        have ut : u ≠ t := by intro e; subst e; have := u3.1; omega
        exact ⟨u, u1, by rw [old k (by omega)]; exact u2, by rw [e1, if_neg ut]; exact u3.1, by rw [e2, if_neg ut]; exact u3.2⟩
    · obtain ⟨v, v1, v2, v3⟩ := q3 i (by omega)
      have vt : v ≠ t := by intro e; subst e; have := v3.1; omega
      rw [old i (by omega), v2, tn0, e3, if_neg vt]
      by_cases y : k = q'
      · subst y
        rw [new, tn0, e3, if_pos rfl]
        exact (T.2 v v1).2.2.2.2.2.2.2.2.1.1 v3.1
      · obtain ⟨u, u1, u2, u3⟩ := q3 k (by omega)
        have ut : u ≠ t := by intro e; subst e; have := u3.1; omega
        have o := q4 i k hik (by omega)
        rw [u2, v2, tn0, tn0] at o
        rw [old k (by omega), u2, tn0, e3, if_neg ut]
        exact o
    · by_cases y : u = t
      · subst y; exact ⟨q', by omega, new⟩
      · have w1 := w.1
        have w2 := w.2
        rw [e1, if_neg y] at w1
        rw [e2, if_neg y] at w2
        obtain ⟨k, k1, k2⟩ := q5 u hu ⟨w1, w2⟩
        exact ⟨k, by omega, by rw [old k k1]; exact k2⟩
  · have old : ∀ k, k < q' → J' 2221 (8 * l' + k) = I' 2221 (8 * l' + k) := fun k hk => by
      have q7 : q ≤ 8 := by
        obtain ⟨q9, a1, a2, _⟩ := h l hl
        omega
      by_cases q88 : q = 8
      · exfalso
        obtain ⟨q9, a1, a2, a3, a4, _⟩ := h l hl
        have := lQ_few th8 ht s a3 a4
        omega
      · rw [e5, if_neg (by omega)]
    refine ⟨q', q1, by rw [e4, if_neg z]; exact q2, fun k hk => ?_, fun i k hik hk => ?_, fun u hu w => ?_⟩
    · obtain ⟨u, u1, u2, u3⟩ := q3 k hk
      have ut : u ≠ t := by intro e; subst e; have := u3.1; omega
      exact ⟨u, u1, by rw [old k hk]; exact u2, by rw [e1, if_neg ut]; exact u3.1, by rw [e2, if_neg ut]; exact u3.2⟩
    · obtain ⟨v, v1, v2, v3⟩ := q3 i (by omega)
      obtain ⟨u, u1, u2, u3⟩ := q3 k hk
      have vt : v ≠ t := by intro e; subst e; have := v3.1; omega
      have ut : u ≠ t := by intro e; subst e; have := u3.1; omega
      have o := q4 i k hik hk
      rw [u2, v2, tn0, tn0] at o
      rw [old i (by omega), old k hk, u2, v2, tn0, tn0, e3, if_neg vt, e3, if_neg ut]
      exact o
    · by_cases y : u = t
      · subst y
        have w2 := w.2
        rw [e2, if_pos rfl] at w2
        omega
      · have w1 := w.1
        have w2 := w.2
        rw [e1, if_neg y] at w1
        rw [e2, if_neg y] at w2
        obtain ⟨k, k1, k2⟩ := q5 u hu ⟨w1, w2⟩
        exact ⟨k, k1, by rw [old k k1]; exact k2⟩
/-- all rest when a thread has begun to wait -/
theorem AS_wait {Y Y' : vY} {X mm Nn Lp : Nat} {nm pr ht : Nat → Nat} {I I' J J' : vJ} {th t A W N x v : Nat} {sc : Int} (h : IFs Y Y' X mm Nn Lp nm pr ht I I' th t A W N) (hsc : sc = 1 ∨ sc = 2) (hx : I 2007 (40 * t + (A - 1)) = x) (k1 : sc = 1 → I 38 x = 12 ∧ I 42 x ≤ 10) (k2 : sc = 2 → I 38 x = 14) (hv : v < 8) (hvt : sc = 2 → v < th) (hLQ : lQ J J' th) (hLR : lR J J')
    (F1 : fr [1994, 1996, 1997, 1998, 1999, 2021] [(1990, 3393)] I J) (F2 : fr [2187, 2188, 2189, 2200, 2206, 2216, 2221, 2222] [] I' J')
    (j1 : ∀ u, J 1994 u = if u = t then I 2009 (40 * t + (A - 1)) + nm (I 2006 (40 * t + (A - 1))).toNat else I 1994 u) (j2 : ∀ u, J 1996 u = if u = t then sc else I 1996 u) (j3 : ∀ u, J 1997 u = if u = t then (v : Int) else I 1997 u) (j4 : ∀ u, J 1998 u = if u = t then (N : Int) else I 1998 u) (j5 : ∀ u, J 1999 u = if u = t then I 1990 3393 else I 1999 u) (j6 : J 1990 3393 = I 1990 3393 + 1)
    (i2 : ∀ u, J' 2187 u = if u = t then sc else I' 2187 u) (i3 : ∀ u, J' 2188 u = if u = t then (v : Int) else I' 2188 u) (i4 : ∀ u, J' 2189 u = if u = t then (N : Int) else I' 2189 u) (i5 : ∀ b, J' 2200 b = if b = 40 * t + (A - 1) then 1 else I' 2200 b) (i6 : ∀ p, J' 2206 p = if p = 160 * (40 * t + (A - 1)) then 4 * (v : Int) else I' 2206 p) : AS Y Y' X mm Nn Lp nm pr ht J J' th W N := by
  obtain ⟨s1, s2, s3, s4, ⟨s5, s6, s7, s8, s9, s10, s11⟩, s12, ⟨⟨r1, r2, r3, r4⟩, ⟨r5, r6⟩, r7, r8, r9⟩⟩ := h
  have g := agT_fr F1 F2 rfl
  have hX := s1.1.2.1
  have th8 := s2.1.1.2.2
  have gS : agS I I' J J' X := ⟨g.1 38 (by decide) (by decide), g.1 43 (by decide) (by decide), g.1 62 (by decide) (by decide), g.2.2.1 (X + 11) (by omega) (by omega), g.2.2.1 (X + 12) (by omega) (by omega), g.2.2.1 (X + 37) (by omega) (by omega), g.2.2.1 2178 (by decide) (by decide), g.2.2.1 2179 (by decide) (by decide), by rw [F1 1960 _ rfl]; exact Int.le_refl _⟩
  have arr : J 1990 3376 = I 1990 3376 := F1 1990 _ rfl
  have xN : x < Nn := by have := (r8 (A - 1) (by omega)).2.1; omega
  have x42 := (s1.2.2.2.1 x xN).1.1
  obtain ⟨T0, hT0⟩ : ∃ T0 : Nat, I 2009 (40 * t + (A - 1)) + nm (I 2006 (40 * t + (A - 1))).toNat = (T0 : Int) := by
    obtain ⟨b, s, h1, _⟩ := r7
    have q := (h1 (A - 1) (by omega)).1
    rw [up_cell _ (show 2009 ≠ 1994 by decide)] at q
    exact ⟨b (A - 1) + nm (I 2006 (40 * t + (A - 1))).toNat, by omega⟩
  have tc := thV_cut (dl' := 1) (S := 1) (T := T0) (J := J) (J' := J') r7 r3 r4 (by rw [up_same]; omega) (by decide) (by decide) (by rw [up_cell _ (show 2009 ≠ 1994 by decide), up_cell _ (show 2006 ≠ 1994 by decide), hT0]) (by rw [up_row _ (by decide)]; exact fr_row F1 1992 (fun _ => rfl)) (by rw [up_row _ (by decide)]; exact fr_row F1 1993 (fun _ => rfl)) (fun u => by
    rw [j1, hT0, up_at]
    by_cases z : u = t
    · rw [if_pos z, if_pos z]
    · simp only [if_neg z]) (by rw [up_row _ (by decide)]; exact fr_row F1 2009 (fun _ => rfl)) (by rw [up_row _ (by decide)]; exact fr_row F1 2006 (fun _ => rfl)) (fun b => by
    rw [i5, up_at]
    by_cases z : b = 40 * t + (A - 1)
    · rw [if_pos z, if_pos z]; rfl
    · simp only [if_neg z]) (by rw [up_row _ (by decide)]; exact fr_row F2 2205 (fun _ => rfl)) (fun p hp => by
    rw [up_row _ (by decide), i6, if_neg]
    intro e
    rcases hp with z | z | z
    · exact absurd z (by decide)
    · omega
    · omega)
  have n2007 : J 2007 = I 2007 := fr_row F1 2007 (fun _ => rfl)
  refine ⟨ST_ag s1 g, ⟨⟨by rw [F1 1990 _ rfl, F2 2075 _ rfl]; exact s2.1.1, fun u hu => ?_⟩, hLQ, hLR, fun u hu => ?_⟩, ?_, ?_, ⟨?_, by rw [F1 1990 _ rfl]; exact s7, by rw [F2 2075 _ rfl]; exact s8, s10⟩, fun u hu => ?_⟩
  · obtain ⟨a1, a2, a3, a4, a5, ⟨a6, a7⟩, a8, a9⟩ := s2.1.2 u hu
    rw [j2, i2, j3, i3, j4, i4, j5, j6, F1 1990 3388 rfl, F1 2000 _ rfl, F2 2190 _ rfl, F1 2005 _ rfl, F2 2196 _ rfl, F1 2004 _ rfl, F2 2195 _ rfl]
    by_cases z : u = t
    · simp only [if_pos z]
      exact ⟨⟨trivial, by omega, by omega⟩, fun _ => ⟨trivial, trivial⟩, ⟨by omega, by omega⟩, ⟨by omega, by omega⟩, a5, ⟨a6, a7⟩, a8, ⟨by omega, ⟨fun _ => by omega, fun q => by have := hvt q; omega⟩, by omega⟩⟩
    · simp only [if_neg z]
      exact ⟨a1, a2, a3, a4, a5, ⟨a6, a7⟩, a8, ⟨a9.1, ⟨fun q => by have := a9.2.1.1 q; omega, a9.2.1.2⟩, a9.2.2⟩⟩
  · obtain ⟨B, ⟨b1, b2, b3⟩, b4, b5, b6⟩ := s2.2.2.2 u hu
    simp only [ite_self] at b4 ⊢
    have b6 := b6 (by omega)
    refine ⟨B, ⟨by rw [F1 1995 _ rfl]; exact b1, by rw [F2 2186 _ rfl]; exact b2, b3⟩, ?_, fun q => ?_, fun _ => ?_⟩
    · unfold lkM at *
      rw [fr_row F1 2012 (fun _ => rfl), fr_row F1 2013 (fun _ => rfl), fr_row F1 2017 (fun _ => rfl), fr_row F1 2018 (fun _ => rfl)]
      exact b4
    · rw [fr_row F1 38 (fun _ => rfl), fr_row F1 42 (fun _ => rfl), F1 2005 _ rfl, n2007]
      rw [j2] at q
      by_cases z : u = t
      · subst z
        rw [if_pos rfl] at q
        have eB : B = A := by omega
        subst eB
        rw [hx, tn0]
        have k := k1 q
        exact ⟨r3, r6, k.1, k.2, x42⟩
      · rw [if_neg z] at q
        exact b5 q
    · intro k hk
      have w := b6 k hk
      rw [fr_row F1 38 (fun _ => rfl), fr_row F1 42 (fun _ => rfl), F1 2005 _ rfl, n2007, F1 2012 _ rfl, fr_row F1 2013 (fun _ => rfl), F2 2204 _ rfl, fr_row F2 2210 (fun _ => rfl), j3]
      by_cases z : u = t
      · subst z
        exact ⟨w.1, w.2.1, w.2.2.1, fun q => by have := q.2.1; omega⟩
      · rw [if_neg z]; exact w
  · obtain ⟨q1, q2, q3, q4, q5, q6, q7, q8, q9, q10, q11, q12, q13, q14, q15, q16, q17, q18, q19, q20⟩ := s3
    have hD : pDone J J' := fun u hu => by
      have a := q15 u hu
      rw [F1 2001 _ rfl, F1 2003 _ rfl, F2 2191 _ rfl, F2 2192 _ rfl, F1 1990 _ rfl, j2]
      refine ⟨a.1, a.2.1, fun b c => a.2.2 b ?_⟩
      by_cases z : u = t
      · rw [z, r5]; decide
      · rw [if_neg z] at c; exact c
    have hLa : pLast J J' := fun u hu => by
      obtain ⟨a1, a2, a3, a4⟩ := q16 u hu
      rw [F1 1990 _ rfl, F1 1990 3388 rfl, F1 2002 _ rfl, F2 2193 _ rfl, F2 2194 _ rfl, j3, i3, j5]
      refine ⟨a1, ?_⟩
      by_cases z : u = t
      · rw [if_pos z, if_pos z, if_pos z]; exact ⟨⟨by omega, by omega⟩, ⟨by omega, by omega⟩, by omega, by omega⟩
      · rw [if_neg z, if_neg z, if_neg z]; exact ⟨a2, a3, a4⟩
    exact ⟨su_keep su_tR F1 F2 rfl q1, su_keep su_pPath F1 F2 rfl q2, su_keep su_loR F1 F2 rfl q3, su_keep su_pArr F1 F2 rfl q4, su_keep su_pStep F1 F2 rfl q5, su_keep su_pKeep F1 F2 rfl q6, su_keep su_pCost F1 F2 rfl q7, su_keep su_pCalls F1 F2 rfl q8, su_keep su_pMet F1 F2 rfl q9, su_keep su_pPrint F1 F2 rfl q10, su_keep su_pBegun F1 F2 rfl q11, su_keep su_pLooks F1 F2 rfl q12, su_keep su_pPar F1 F2 rfl q13, su_keep su_pThr F1 F2 rfl q14, hD, hLa, su_keep su_pFor F1 F2 rfl q17, su_keep su_pTurns F1 F2 rfl q18, su_keep su_pSeed F1 F2 rfl q19, su_keep su_pVars F1 F2 rfl q20⟩
  · obtain ⟨⟨n, b1, b2⟩, b3, b4⟩ := s4
    have x1 := fr_row F2 2255 (fun _ => rfl)
    have x2 := fr_row F2 2256 (fun _ => rfl)
    refine ⟨⟨n, hR_same b1 (F1 1960 _ rfl) (fr_row F1 1979 (fun _ => rfl)) (fr_row F1 1980 (fun _ => rfl)) (fr_row F1 1981 (fun _ => rfl)) (F2 2075 _ rfl) x1 x2 (fr_row F2 2257 (fun _ => rfl)) (fr_row F2 2258 (fun _ => rfl)), by rw [x1, x2]; exact b2⟩, by rw [F1 1990 _ rfl]; exact b3, ⟨fun j hj => ?_, tot_le b4.2 (fr_row F1 35 (fun _ => rfl)) (fr_row F2 2183 (fun _ => rfl)) (F1 1990 _ rfl)⟩⟩
    rw [F1 2014 j rfl, F1 1990 _ rfl]; exact b4.1 j hj
  · rw [sa_all s5 th8, sa_congr (fun u _ _ => F1 1995 u rfl), F1 1995 _ rfl, r1, if_pos (by omega), j6, F1 1960 3100 rfl]
    omega
  · rw [arr]
    by_cases z : u = t
    · subst z
      refine ⟨A, 1, ⟨by rw [F1 1995 _ rfl]; exact r1, by rw [F2 2186 _ rfl]; exact r2, r4⟩, tc.1, fun k hk => ?_, fun k hk => ?_, ?_⟩
      · have q := r8 k hk
        unfold acR at *
        rw [F1 2006 _ rfl, F1 2007 _ rfl, F1 2010 _ rfl, F1 2011 _ rfl, F1 1960 _ rfl, gS.1, gS.2.2.1, F2 2197 _ rfl, F2 2198 _ rfl, F2 2201 _ rfl, F2 2202 _ rfl, F2 2203 _ rfl, gS.2.2.2.2.2.1, gS.2.2.2.2.2.2.1, gS.2.2.2.2.2.2.2.1]
        exact q
      · have q := r9 k hk
        unfold coR at *
        rw [F1 2007 _ rfl, F1 2008 _ rfl, F2 2199 _ rfl, i5, if_neg (by omega), gS.2.2.2.1, gS.2.2.2.2.1]
        exact q
      · unfold stR
        rw [j2, if_pos rfl, F1 2005 _ rfl, r6, i5, if_pos rfl, n2007, hx, tn0, gS.1, i6, if_pos rfl, j3, if_pos rfl]
        exact ⟨fun q => by omega, fun _ => r3, fun q => by omega, fun _ => ⟨rfl, rfl, by omega, by omega, by omega⟩, fun q => ⟨k2 q, rfl⟩, fun q => ⟨(k1 q).1, rfl, rfl, by omega, by omega⟩, fun q => by omega⟩
    · exact reR_ag (s12 u hu z) (Int.le_refl _) gS (agV_of z (fun _ _ => ⟨F1 1992 _ rfl, F1 1993 _ rfl⟩) (fun v9 hv9 => by rw [j1, if_neg hv9]) (fun b hb => ⟨F1 2009 _ rfl, F1 2006 _ rfl, by rw [i5, if_neg (by omega)]⟩) (fun q _ => F2 2205 _ rfl) (fun q hq => by rw [i6, if_neg (by omega)])) ⟨⟨F1 1995 _ rfl, F2 2186 _ rfl⟩, fun k hk => ⟨F1 2006 _ rfl, F1 2007 _ rfl, F1 2008 _ rfl, F1 2010 _ rfl, F1 2011 _ rfl, F2 2197 _ rfl, F2 2198 _ rfl, F2 2199 _ rfl, F2 2201 _ rfl, F2 2202 _ rfl, F2 2203 _ rfl⟩⟩ (by rw [j2, if_neg z]) (by rw [j3, if_neg z]) (F1 2005 _ rfl)
