/-! ===== a new array in both houses (printed by gen/make.py) ===== -/
set_option maxRecDepth 20000
theorem tR_own {I I' J J' : vJ} {k : Nat} {x : Int} (h : tR I I') (f0 : J 1960 3079 = I 1960 3079) (f1 : J 1961 = I 1961) (f2 : J 1962 = I 1962) (f3 : J 1963 = I 1963) (f4 : J 1966 = I 1966) (f5 : J 1967 = I 1967) (g0 : J' 2075 7799 = I' 2075 7799) (g1 : J' 2237 = I' 2237) (g2 : J' 2238 = I' 2238) (g3 : J' 2239 = I' 2239) (e1 : ∀ q, J 1964 q = if q = k then I 1964 q + x else I 1964 q) (e2 : ∀ q, J' 2240 q = if q = k then I' 2240 q + x else I' 2240 q) : tR J J' := by
  unfold tR at *
  rw [f0, f1, f2, f3, f4, f5, g0, g1, g2, g3]
  obtain ⟨n, h1, h2, h3, h4, h5⟩ := h
  refine ⟨n, h1, h2, h3, fun i hi => ?_, h5⟩
  have q := h4 i hi
  rw [e1, e2]
  refine ⟨q.1, q.2.1, q.2.2.1, ?_⟩
  by_cases z : i = k
  · rw [if_pos z, if_pos z, q.2.2.2]
  · rw [if_neg z, if_neg z]; exact q.2.2.2
theorem pCost_own {I I' J J' : vJ} {k : Nat} {x : Int} (h : pCost I I') (f0 : J 1990 3391 = I 1990 3391 + x) (g0 : J' 2075 7735 = I' 2075 7735 + x) (e1 : ∀ q, J 1969 q = if q = k then I 1969 q + x else I 1969 q) (e2 : ∀ q, J' 2254 q = if q = k then I' 2254 q + x else I' 2254 q) : pCost J J' := by
  unfold pCost at *
  refine ⟨by rw [f0, g0, h.1], fun m hm => ?_⟩
  have q := h.2 m hm
  rw [e1, e2]
  by_cases z : m = k
  · rw [if_pos z, if_pos z, q]
  · rw [if_neg z, if_neg z]; exact q
/-- elements made in a step -/
theorem pStep_made {I I' J J' : vJ} {N E s : Nat} {x : Int} (h : sR I I' N E) (f1 : J 1990 3388 = I 1990 3388) (f2 : J 1990 3384 = I 1990 3384) (f3 : J 2041 = I 2041) (f4 : J 2042 = I 2042) (f5 : J 2043 = I 2043) (f6 : J 2044 = I 2044) (f7 : J 2045 = I 2045) (g1 : J' 2075 7729 = I' 2075 7729) (g2 : J' 2075 7798 = I' 2075 7798) (g3 : J' 2231 = I' 2231) (g4 : J' 2233 = I' 2233) (g5 : J' 2235 = I' 2235) (g6 : J' 2236 = I' 2236) (e1 : ∀ q, J 2046 q = if q = s then I 2046 q + x else I 2046 q) (e2 : ∀ q, J' 2232 q = if q = s then I' 2232 q + x else I' 2232 q) : sR J J' N E := by
  unfold sR at *
  rw [f1, f2, f3, f4, f5, f6, f7, g1, g2, g3, g4, g5, g6]
  refine ⟨h.1, h.2.1, h.2.2.1, h.2.2.2.1, fun q q1 q2 => ?_⟩
  have w := h.2.2.2.2 q q1 q2
  refine ⟨w.1, w.2.1, w.2.2.1, ?_⟩
  rw [e1, e2]
  by_cases z : q = s
  · rw [if_pos z, if_pos z, w.2.2.2]
  · rw [if_neg z, if_neg z]; exact w.2.2.2
set_option maxHeartbeats 4000000
section
variable {d d' : Nat} {Y Y' : vY} {X mm Nn Lp : Nat} {nm pr ht : Nat → Nat} {I I' : vJ} {th t A i W N : Nat} {Q : vE → vE → Prop}

theorem k_make {nd : Nat} {x6 x7 x8 y3 y4 y5 y6 : vV} (hL : vL Y) (hL' : vL Y') (h : IS Y Y' X mm Nn Lp nm pr ht I I' th t A i W N) (hi : (i : Int) < I' (X + 12) (I 2007 (40 * t + (A - 1))).toNat) (hnd : I 2007 (40 * t + (A - 1)) = nd) (hk : I 37 (2 * i) = 5) (hN : nxt d d' Y Y' X mm Nn Lp nm pr ht th t A i W N nd Q) (hF : flt d' Y Y' X mm Nn Lp nm pr ht I th t A W N nd Q) :
    vW (d + 6) 177 (33, [vr 1990, vi t, vi ((40 * t + (A - 1) : Nat) : Int), vi nd, vi (2 * (i : Int)), vr 37, x6, x7, x8], [], (I, Y)) (fun r => vW (d' + 6) 422 (2, [vr 2075, vi t, vi 1, y3, y4, y5, y6], [], (I', Y')) (fun r' => Q r r')) := by
  obtain ⟨nd', ct, B, T, ⟨a1, a2, a3, a4⟩, ⟨b1, b2, b3, b3'⟩, ⟨b4, b5, b6, b7⟩, ⟨c1, c2, c3, c4, c5, c6⟩, ⟨v1, v2⟩, ⟨o1, o2, o3⟩, ⟨p1, p2, p3⟩⟩ := IS_at h hi
  have e0 : nd' = nd := by omega
  subst e0
  obtain ⟨hX, hX2, hV⟩ := h.1.1
  have hx : X + 27 ≠ 2199 := by clear o1; omega
  have h27 : up I' 2199 (40 * t + (A - 1)) ((i : Int) + 1) (X + 27) = I' (X + 27) := up_row _ hx _ _
  obtain ⟨ar, aE, hAR⟩ := h.2.2.1.2.2.2.1
  have hn : I 1990 3376 = ar := hAR.1.1
  have hn3 : ar ≤ 300 := hAR.2.1
  obtain ⟨_, _, s7, s8, s9, s10, _⟩ := h.2.2.2.2.1
  rw [hn] at v1 v2
  rw [c_head_5 (d := d + 6) hL b3 b4 b6 b7 hk]
  have q : I' (X + 27) i = 7 ∧ 1 ≤ ht i ∧ ht (i + 1) = ht i := by
    rcases o1 with o | o | o | o | o | o | o | o | o | o | o
    all_goals first | exact o.2 | (exfalso; omega)
  clear o1
  obtain ⟨q1, q2, q3⟩ := q
  obtain ⟨S, hS⟩ : ∃ S, ht i = S + 1 := ⟨ht i - 1, by omega⟩
  obtain ⟨T0, hT0⟩ : ∃ T0, T0 = B + nm (I 2006 (40 * t + (A - 1))).toNat + S := ⟨_, rfl⟩
  have vx := v2 S (by omega)
  rw [← hT0] at vx
  rw [b177_316 hL]
  apply vW_out
  have h0 := h
  obtain ⟨st1, st2, ⟨w1, w2, w3, w4, ⟨sN, sE, w5⟩, w6, w7, w8, w9, w10, w11, w12, w13, w14, w15, w16, w17, w18, w19, w20⟩, st4, st5, st12, ⟨⟨r1, r2, r3, r4⟩, r5, r7, r8, r9, r10, r11, r12⟩⟩ := h0
  obtain ⟨k1, k2, k3, k4⟩ := r8 (A - 1) (by omega)
  have mm24 : mm ≤ 24 := st1.2.1.1.1
  have m18 : I 18 266 = mm := st1.2.1.1.2.2.2.2.1
  have Nn7 : Nn ≤ 700 := st1.2.1.2
  have tr2 : I 1960 3079 ≤ 200 := by obtain ⟨n0, z1, z2, _⟩ := w1; omega
  have F9 : fr [2199] [] I' (up I' 2199 (40 * t + (A - 1)) ((i : Int) + 1)) := fr_upL (fr_refl _ _ _) rfl _ _
  have hAR2 : aR I (up I' 2199 (40 * t + (A - 1)) ((i : Int) + 1)) ar aE := by
    unfold aR at *
    rw [F9 2075 _ rfl, F9 2075 7738 rfl, fr_row F9 2223 (fun _ => rfl), fr_row F9 2224 (fun _ => rfl), fr_row F9 2225 (fun _ => rfl), fr_row F9 2226 (fun _ => rfl), fr_row F9 2227 (fun _ => rfl), fr_row F9 2228 (fun _ => rfl), fr_row F9 2229 (fun _ => rfl), fr_row F9 2230 (fun _ => rfl)]
    exact hAR
  have hm : ∀ K : vE → Prop, vW (d' + 6) 422 (2, [vr 2075, vi t, vi 1, y3, y4, y5, y6], [], (I', Y')) K ↔ vW (d' + 4) 432 (0, [vr 2075, vi ((40 * t + (A - 1) : Nat) : Int), vu, vu, vu, vu, vu, vu], [], (up I' 2199 (40 * t + (A - 1)) ((i : Int) + 1), Y')) (vWC (d' + 5) 423 179 3 [vr 2075, vi t, vi ((40 * t + (A - 1) : Nat) : Int), vi i, vi (I' (X + 28) i), vu, vu] [] (vWC (d' + 6) 422 70 3 [vr 2075, vi t, vi 1, vi ((40 * t + (A - 1) : Nat) : Int), vi nd', vi i, y6] [] K)) := by
    intro K
    rw [t_head_7 (d := d' + 5) hL' hX hX2 hV a1 p1 (by omega) rfl b2 b3 p2 b5 b6 b7 q1, b423_177 hL']
  simp only [hm]
  refine w_make (d := d + 2) (d' := d' + 1) (T := T0) (S := S) (n := ar) (E := aE) (N := N) hL hL' hAR2 s7 (by rw [up_cell _ (by decide)]; exact s8) (by omega) a1 (by omega) (by omega) a4 (by rw [up_cell _ (by decide)]; omega) (by omega) (by rw [up_cell _ (by decide)]; exact vx) (by rw [up_cell _ (by decide)]; omega) (by rw [up_cell _ (by decide)]; omega) (by rw [up_cell _ (by decide)]; omega) (fun f hf => ?_) (fun J J' z hz hA2 hC hT => ?_)
  · have h1 : (1 : Int) ≤ f := by omega
    have h2 : f ≤ 9 := by omega
    simp only [vWC_s, Nat.reduceAdd, b423_182]
    rw [t_bad73 (d := d' + 4) hL' h1 h2]
    simp only [vWC_s, Nat.reduceAdd, b177_322, c_bad (d := d + 5) hL h1 h2]
    exact hF _ f _ _ h1 h2 (IS_fail h (fr_upL (fr_upL (fr_refl _ _ _) rfl _ _) rfl _ _) (fun b hb => ⟨by rw [up_cell _ (by decide), up_place _ _ hb], by rw [up_place _ _ hb, up_cell _ (by decide)]⟩))
  · simp only [vWC_s, Nat.reduceAdd, b423_182]
    rw [t_ok73 (d := d' + 5)]
    simp only [vWC_s, Nat.reduceAdd, b177_322, c_ok]
    refine vW_swap.mp ?_
    rw [show 2 * (i : Int) + 2 = 2 * ((i + 1 : Nat) : Int) by omega]
    obtain ⟨m1, m2, m3, m4, m5, m6, m7⟩ := hC
    obtain ⟨n1, n2, n3, n4, n5, n6, n7⟩ := hT
    have F1 : fr [1964, 1969, 1985, 1992, 1993, 1994, 2027, 2028, 2029, 2030, 2031, 2032, 2033, 2034, 2046] [(1990, 3376), (1990, 3377), (1990, 3391)] I J := fr_weak m1 (by decide) (by decide)
    have F2 : fr [2199, 2200, 2206, 2223, 2224, 2225, 2226, 2227, 2228, 2229, 2230, 2232, 2240, 2254] [(2075, 7737), (2075, 7738), (2075, 7735)] I' J' := fr_trans (fr_weak F9 (by decide) (by decide)) (fr_weak n1 (by decide) (by decide))
    have ja : J 1990 3376 = ((ar + 1 : Nat) : Int) := hA2.1.1
    have pr17 := (w13.2.2 17 (by decide)).1
    rw [up_cell _ (show 2181 ≠ 2199 by decide), up_cell _ (show 2075 ≠ 2199 by decide), ← pr17] at n4
    rw [up_cell _ (show 2181 ≠ 2199 by decide), up_cell _ (show 2201 ≠ 2199 by decide), ← pr17, up_row _ (show 2240 ≠ 2199 by decide), ← k3.1] at n5
    rw [up_cell _ (show 2181 ≠ 2199 by decide), up_cell _ (show 2197 ≠ 2199 by decide), ← pr17, up_row _ (show 2254 ≠ 2199 by decide), ← k1.1] at n6
    rw [up_row _ (show 2232 ≠ 2199 by decide)] at n7
    rw [up_row _ (show 2206 ≠ 2199 by decide)] at n2
    rw [up_row _ (show 2200 ≠ 2199 by decide)] at n3
    have e1994 : ∀ u, J 1994 u = if u = t then (T0 : Int) + 1 else I 1994 u := fun u => by
      rw [m1 1994 u rfl]
      by_cases y : u = t
      · rw [if_pos y, y]; omega
      · rw [if_neg y]
    have hA' : pArr J J' := ⟨ar + 1, aE + z, hA2⟩
    have hV' : pVars J J' := fun v hv8 hv9 => by
      rw [F1 1960 _ rfl] at hv9
      rw [m2, m3, if_neg (by omega), if_neg (by omega), F2 2185 _ rfl, ja]
      exact vv_mono (w20 v hv8 hv9) (by omega)
    have hT' : tR J J' := tR_own w1 (F1 1960 _ rfl) (fr_row F1 1961 (fun _ => rfl)) (fr_row F1 1962 (fun _ => rfl)) (fr_row F1 1963 (fun _ => rfl)) (fr_row F1 1966 (fun _ => rfl)) (fr_row F1 1967 (fun _ => rfl)) (F2 2075 _ rfl) (fr_row F2 2237 (fun _ => rfl)) (fr_row F2 2238 (fun _ => rfl)) (fr_row F2 2239 (fun _ => rfl)) m5 n5
    have hC' : pCost J J' := pCost_own w7 m4 n4 m6 n6
    have hS' : pStep J J' := ⟨sN, sE, pStep_made w5 (F1 1990 _ rfl) (F1 1990 _ rfl) (fr_row F1 2041 (fun _ => rfl)) (fr_row F1 2042 (fun _ => rfl)) (fr_row F1 2043 (fun _ => rfl)) (fr_row F1 2044 (fun _ => rfl)) (fr_row F1 2045 (fun _ => rfl)) (F2 2075 _ rfl) (F2 2075 _ rfl) (fr_row F2 2231 (fun _ => rfl)) (fr_row F2 2233 (fun _ => rfl)) (fr_row F2 2235 (fun _ => rfl)) (fr_row F2 2236 (fun _ => rfl)) m7 n7⟩
    have hPT : PT Lp J J' := ⟨hT', su_keep su_pPath F1 F2 rfl w2, su_keep su_loR F1 F2 rfl w3, hA', hS', su_keep su_pKeep F1 F2 rfl w6, hC', su_keep su_pCalls F1 F2 rfl w8, su_keep su_pMet F1 F2 rfl w9, su_keep su_pPrint F1 F2 rfl w10, su_keep su_pBegun F1 F2 rfl w11, su_keep su_pLooks F1 F2 rfl w12, su_keep su_pPar F1 F2 rfl w13, su_keep su_pThr F1 F2 rfl w14, su_keep su_pDone F1 F2 rfl w15, su_keep su_pLast F1 F2 rfl w16, su_keep su_pFor F1 F2 rfl w17, su_keep su_pTurns F1 F2 rfl w18, su_keep su_pSeed F1 F2 rfl w19, hV'⟩
    have tv := thV_set (S := S) (T := T0) (kd := 1) (v := (ar : Int)) (e := 4 * (ar : Int) + 1) (thV_mono r7 (show I 1990 3376 ≤ J 1990 3376 by omega)) r3 r4 (by omega) (by omega) (by omega) (Or.inr (Or.inl ⟨rfl, rfl, by omega, by omega⟩)) m2 m3 e1994 (fr_row F1 2009 (fun _ => rfl)) (fr_row F1 2006 (fun _ => rfl)) n3 (fr_row F2 2205 (fun _ => rfl)) n2
    refine hN J J' _ _ _ _ _ _ _ (IS_next h F1 F2 (by omega) hPT tv (fun b => ?_) (by rw [n3, if_pos rfl]; omega) (fun b hb => by rw [n3, if_neg hb]) hi) ?_
    · rw [n1 2199 b rfl, up_at]
    · rw [F1 2007 _ rfl]; exact hnd
end

