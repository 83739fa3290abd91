/-! ===== the way to END: an activation is over ===== -/
set_option maxRecDepth 20000
set_option maxHeartbeats 4000000
theorem up_zero (I : vJ) (c p : Nat) : up I c p (I c p + 0) = I := by rw [Int.add_zero]; exact up_self I c p
section
variable {d d' : Nat} {Y Y' : vY} {I I' : vJ}
/-- the house leaves the activation -/
theorem c_lend {K : vE → Prop} {t A w x y T : Nat} {so : Int} (hL : vL Y) (h8 : t < 8) (hA : I 1995 t = (A : Int) + 1) (hA2 : A < 40) (hB : I 2009 (40 * t + A) = T) (hy : y < 700) (k1 : I 38 y = 1) (hw : w < 2100) (h50 : I 50 w = x) (hx : x < 700) (kx : I 38 x ≠ 9) (kr : 0 ≤ I 38 x ∧ I 38 x ≤ 16) : vW (d + 9) 195 (185, [vr 1990, vi t, vi so, vi ((40 * t + A : Nat) : Int), vi w, vi y, vu], [], (I, Y)) K ↔ vW (d + 9) 195 (282, [vr 1990, vi t, vi so, vi ((40 * t + A : Nat) : Int), vi w, vi y, vi 0], [], (up (up (up (up I 1990 3401 0) 1990 3402 0) 1994 t T) 1995 t A, Y)) K := by
  have l1 := hL.1 2039 (by decide) (by decide)
  have l2 : Y.2.1 2039 = 100 := l1.1
  have l3 : Y.2.2.1 2039 = 10 := l1.2
  have e : (A : Int) + 1 - 1 = A := by omega
  rw [b195_185 hL (by omega) (by omega), tn0, k1, if_pos (by decide), b195_203, b195_204, b195_206, if_neg (by decide), b195_211 hL (by omega) (by omega) (by rw [tn0, h50]; omega) (by rw [tn0, h50]; omega), tn0, h50, tn0, w32_id (by omega) (by omega), if_neg (by rw [w32_id (by decide) (by decide)]; exact kx), b195_234 hL, b195_244 hL, if_pos (by decide), b195_262, b195_263 (by decide) (by rw [l3]; decide) (by decide) l2, if_pos (by decide), b195_274, b195_275 (by decide) (by rw [l3]; decide) (by decide) (by decide) l2, up_zero, b195_277 hL, b170_0 hL, c_act (A := A) hL h8 (by rw [up_cell _ (by decide), up_cell _ (by decide)]; exact hA)]
  simp only [vWC_s, Nat.reduceAdd]
  rw [b170_14 hL (by omega) (by omega) (by omega) (by omega) (by omega) (by omega)]
  simp only [tn0, vWC_n, Nat.reduceAdd]
  rw [up_cell _ (show (2009:Nat) ≠ 1990 by decide), up_cell _ (show (2009:Nat) ≠ 1990 by decide), hB, up_cell _ (show (1995:Nat) ≠ 1990 by decide), up_cell _ (show (1995:Nat) ≠ 1990 by decide), hA, e]
/-- the model leaves the activation -/
theorem t_lend {K : vE → Prop} {t A w : Nat} {a : Int} (hL : vL Y) (h8 : t < 8) (hn : I 2075 7829 = t) (hA : I 2186 t = (A : Int) + 1) : vW (d' + 9) 417 (27, [vr 2075, vi a, vi w], [], (I, Y)) K ↔ vW (d' + 8) 418 (10, [vr 2075, vi t, vl 0, vu], [], (up I 2186 t A, Y)) (vWC (d' + 9) 417 36 3 [vr 2075, vi a, vi w] [] K) := by
  have e : (A : Int) + 1 - 1 = A := by omega
  rw [b417_27 hL, b399_0]
  simp only [vWC_s, Nat.reduceAdd, Int.zero_mul]
  rw [hn, b417_36 hL, b418_0 hL (by omega) (by omega), tn0, hA, e]
end
section
variable {d d' : Nat} {Y Y' : vY} {X mm Nn Lp : Nat} {nm pr ht : Nat → Nat} {I I' J J' : vJ} {th t B W N : Nat} {Q : vE → vE → Prop}
/-- the last activation of a thread is over; what was got plays no part -/
theorem mv_end0g {y w : Nat} {so e : Int} {G : vJ} (hL : vL Y) (hL' : vL Y') (h : IL Y Y' X mm Nn Lp nm pr ht I I' th t 1 W N) (hP : PT Lp J J') (hB : bud J J' (W + 1) (ht 5000)) (g1 : goC I J) (g2 : goE I I' J' (40 * t)) (hG : fr [] [(1990, 3401), (1990, 3402)] J G) (hd : I 2012 (40 * t) = 0) (g3 : ∀ b, b ≠ 40 * t → J' 2198 b = I' 2198 b ∧ J' 2199 b = I' 2199 b ∧ J' 2200 b = I' 2200 b ∧ J 2011 b = I 2011 b ∧ J' 2202 b = I' 2202 b ∧ J' 2203 b = I' 2203 b)
    (hQ : ∀ F F', AS Y Y' X mm Nn Lp nm pr ht F F' th (W + 1) N → Q (.inl (some (vi 9)), (F, Y)) (.inl (some (vi 0)), (F', Y'))) :
    vW (d + 9) 195 (282, [vr 1990, vi t, vi so, vi ((40 * t + 0 : Nat) : Int), vi w, vi y, vi 0], [], (up (up G 1994 t ((8 + 5760 * t : Nat) : Int)) 1995 t ((0 : Nat) : Int), Y)) (fun r => vW (d' + 8) 418 (10, [vr 2075, vi t, vl e, vu], [], (up J' 2186 t ((0 : Nat) : Int), Y')) (fun r' => Q r r')) := by
  have h0 := h
  obtain ⟨s1, ⟨s2, s2l⟩, s3, s4, ⟨s5, s6, s7, s8, s9, s10, s11⟩, s12, ⟨⟨r1, r2, r3, r4⟩, ⟨r5, r6⟩, r7, r8, r9⟩⟩ := h
  have th8 := s2.1.1.2.2
  have h8 : t < 8 := by omega
  have Nn7 := s1.2.1.2
  have H1 : fr [65, 2011, 1979, 1980, 1981, 1970, 1971, 1972, 1973, 1975, 1976, 1977, 1978, 2014] [(1990, 3392), (1960, 3090)] I J := g1
  have H2 : fr [2183, 2202, 2203, 2255, 2256, 2257, 2258, 2241, 2242, 2243, 2244, 2245, 2246, 2247, 2248, 2209, 2198, 2199, 2200] [(2075, 7736), (2075, 7818)] I' J' := g2.1
  have hT0 : I 2009 (40 * t) = ((8 + 5760 * t : Nat) : Int) := by
    obtain ⟨b, s, h1, h2, _⟩ := r7
    have q1 := (h1 0 (by omega)).1
    rw [up_cell _ (show 2009 ≠ 1994 by decide), h2 (by omega)] at q1
    exact q1
  have l1 := hL.1 2040 (by decide) (by decide)
  have l2 : Y.2.1 2040 = 100 := l1.1
  have l3 : Y.2.2.1 2040 = 10 := l1.2
  have z1 : (up (up G 1994 t ((8 + 5760 * t : Nat) : Int)) 1995 t ((0 : Nat) : Int)) 1995 t = 0 := up_same _ _ _ _
  rw [b195_282 hL (by omega) (by omega), tn0, z1, if_neg (by decide), b195_291 hL, if_pos (by decide), b195_309, b195_310 (by decide) (by rw [l3]; decide) (by decide) l2, if_pos (by decide), b195_321, b195_322 (by decide) (by rw [l3]; decide) (by decide) (by decide) l2, up_zero, b195_324, if_pos (by decide), b195_338, b195_339 hL, b171_0 hL, if_neg (by decide), b171_10, b171_15 hL (by omega) (by omega) (by omega) (by omega)]
  simp only [tn0]
  have x1 : ∀ u, up (up (up (up G 1994 t ((8 + 5760 * t : Nat) : Int)) 1995 t ((0 : Nat) : Int)) 1996 t 3) 2003 t (-1) 1996 u = if u = t then 3 else I 1996 u := fun u => by
    rw [up_cell _ (by decide), up_at, up_cell _ (by decide), up_cell _ (by decide), hG 1996 _ rfl, H1 1996 _ rfl]
  have x2 : ∀ u, up (up (up (up G 1994 t ((8 + 5760 * t : Nat) : Int)) 1995 t ((0 : Nat) : Int)) 1996 t 3) 2003 t (-1) 1995 u = if u = t then 0 else I 1995 u := fun u => by
    rw [up_cell _ (by decide), up_cell _ (by decide), up_at, up_cell _ (by decide), hG 1995 _ rfl, H1 1995 _ rfl]; rfl
  have x3 : ∀ u, up (up (up (up G 1994 t ((8 + 5760 * t : Nat) : Int)) 1995 t ((0 : Nat) : Int)) 1996 t 3) 2003 t (-1) 1994 u = if u = t then I 2009 (40 * t) else I 1994 u := fun u => by
    rw [up_cell _ (by decide), up_cell _ (by decide), up_cell _ (by decide), up_at, hG 1994 _ rfl, H1 1994 _ rfl, hT0]
  have x4 : ∀ u, up (up (up (up G 1994 t ((8 + 5760 * t : Nat) : Int)) 1995 t ((0 : Nat) : Int)) 1996 t 3) 2003 t (-1) 2003 u = if u = t then -1 else J 2003 u := fun u => by
    rw [up_at, up_cell _ (by decide), up_cell _ (by decide), up_cell _ (by decide), hG 2003 _ rfl]
  have E0 : fr [1994, 1995, 1996, 2003] [(1990, 3401), (1990, 3402)] J (up (up (up (up G 1994 t ((8 + 5760 * t : Nat) : Int)) 1995 t ((0 : Nat) : Int)) 1996 t 3) 2003 t (-1)) := fr_upL (fr_upL (fr_upL (fr_upL (fr_weak hG (by decide) (by decide)) rfl _ _) rfl _ _) rfl _ _) rfl _ _
  generalize up (up (up (up G 1994 t ((8 + 5760 * t : Nat) : Int)) 1995 t ((0 : Nat) : Int)) 1996 t 3) 2003 t (-1) = H at x1 x2 x3 x4 E0 ⊢
  apply vW_out
  have hm1 : ∀ K : vE → Prop, vW (d' + 8) 418 (10, [vr 2075, vi t, vl e, vu], [], (up J' 2186 t ((0 : Nat) : Int), Y')) K ↔ vW (d' + 7) 419 (9, [vr 2075, vi t, vi 3, vi 0], [], (up (up J' 2186 t ((0 : Nat) : Int)) 2187 t 3, Y')) (vWC (d' + 8) 418 22 3 [vr 2075, vi t, vl e, vu] [] K) := by
    intro K
    rw [b418_10 hL' (by omega) (by omega), tn0, up_same, if_neg (by decide), b418_19 hL', b419_0 hL' (by omega) (by omega), tn0]
  simp only [hm1]
  have y1 : ∀ u, up (up J' 2186 t ((0 : Nat) : Int)) 2187 t 3 2187 u = if u = t then 3 else I' 2187 u := fun u => by
    rw [up_at, up_cell _ (by decide), H2 2187 _ rfl]
  have y2 : ∀ u, up (up J' 2186 t ((0 : Nat) : Int)) 2187 t 3 2186 u = if u = t then 0 else I' 2186 u := fun u => by
    rw [up_cell _ (by decide), up_at, H2 2186 _ rfl]; rfl
  have E2 : fr [2186, 2187] [] J' (up (up J' 2186 t ((0 : Nat) : Int)) 2187 t 3) := fr_upL (fr_upL (fr_refl _ _ _) rfl _ _) rfl _ _
  generalize up (up J' 2186 t ((0 : Nat) : Int)) 2187 t 3 = H' at y1 y2 E2 ⊢
  refine e_loop (d := d + 6) (d' := d' + 5) (t := t) (th := th) (N := N) (I := H) (I' := H') hL hL' h8 th8 (by rw [E0 1990 _ rfl, H1 1990 _ rfl]; exact s2.1.1.1) (by rw [E2 2075 _ rfl, H2 2075 _ rfl]; exact s2.1.1.2.1) (by rw [E0 1990 _ rfl, H1 1990 _ rfl]; exact s7) (by rw [E2 2075 _ rfl, H2 2075 _ rfl]; exact s8) (fun u hu => ?_) (fun F F' q1 q2 => ?_) th 0 H H' (by omega) ⟨fr_refl _ _ _, fun u => ⟨fun q => absurd q.1 (by omega), fun _ => ⟨rfl, rfl, rfl, rfl⟩⟩⟩ ⟨fr_refl _ _ _, fun u => ⟨fun q => absurd q.1 (by omega), fun _ => ⟨rfl, rfl, rfl, rfl⟩⟩⟩
  · obtain ⟨a1, a2, a3, a4, _⟩ := s2.1.2 u hu
    rw [x1, y1, E0 1997 _ rfl, E2 2188 _ rfl, H1 1997 _ rfl, H2 2188 _ rfl]
    by_cases z : u = t
    · rw [if_pos z, if_pos z]
      exact ⟨rfl, ⟨by decide, by decide⟩, fun q => absurd q (by decide), a3, a4⟩
    · rw [if_neg z, if_neg z]
      exact ⟨a1.1, a1.2, fun q => (a2 (Or.inr q)).1, a3, a4⟩
  · simp only [vWC_n, vWC_s, Nat.reduceAdd, b418_25, b195_342]
    apply hQ
    have jj : ∀ u, u ≠ t → (jn H t u ↔ jn I t u) := fun u hu => by
      unfold jn
      rw [x1, if_neg hu, E0 1997 _ rfl, H1 1997 _ rfl]
    have jt : ¬ jn H t t := fun q => by
      have := q.1
      rw [x1, if_pos rfl] at this
      omega
    have F1 : fr [65, 1970, 1971, 1972, 1973, 1975, 1976, 1977, 1978, 1979, 1980, 1981, 2011, 2014, 1994, 1995, 1996, 2003, 2005, 2004, 2000, 2038, 2039, 2040] [(1990, 3392), (1960, 3090), (1990, 3401), (1990, 3402)] I F := fr_trans (fr_trans (fr_weak H1 (by decide) (by decide)) (fr_weak E0 (by decide) (by decide))) (fr_weak q1.1 (by decide) (by decide))
    have F2 : fr [2183, 2202, 2203, 2255, 2256, 2257, 2258, 2241, 2242, 2243, 2244, 2245, 2246, 2247, 2248, 2209, 2198, 2199, 2200, 2186, 2187, 2196, 2195, 2190, 2192, 2251, 2252] [(2075, 7736), (2075, 7818)] I' F' := fr_trans (fr_trans (fr_weak H2 (by decide) (by decide)) (fr_weak E2 (by decide) (by decide))) (fr_weak q2.1 (by decide) (by decide))
    have D1 : fr [1994, 1995, 1996, 2003, 2005, 2004, 2000] [(1990, 3401), (1990, 3402)] J F := fr_trans (fr_weak E0 (by decide) (by decide)) (fr_weak q1.1 (by decide) (by decide))
    have D2 : fr [2186, 2187, 2196, 2195, 2190] [] J' F' := fr_trans (fr_weak E2 (by decide) (by decide)) (fr_weak q2.1 (by decide) (by decide))
    have w1 := q1
    have w2 := q2
    refine AS_end (sc := 3) h0 ?_ ?_ hd (Or.inl rfl) ⟨?_, fun u hu z => ⟨fun q => ?_, fun q => ?_⟩⟩ (fun u => by rw [q1.1 1995 _ rfl]; exact x2 u) (fun u => by rw [q2.1 2186 _ rfl]; exact y2 u) (fun u => by rw [q1.1 1994 _ rfl]; exact x3 u) (fun b hb => ?_) F1 F2
    · obtain ⟨q1, q2, q3, q4, q5, q6, q7, q8, q9, q10, q11, q12, q13, q14, q15, q16, q17, q18, q19, q20⟩ := hP
      have hD : pDone F F' := fun u hu => by
        have a := q15 u hu
        rw [D1 2001 _ rfl, D2 2191 _ rfl, D2 2192 _ rfl, D1 1990 _ rfl, w1.1 2003 _ rfl, x4]
        by_cases z : u = t
        · subst z
          have b := a.2.2 (by rw [H1 1990 _ rfl, s2.1.1.1]; omega) (by rw [H1 1996 _ rfl, r5]; decide)
          rw [if_pos rfl]
          exact ⟨a.1, by rw [← a.2.1, b], fun _ _ => rfl⟩
        · rw [if_neg z]
          refine ⟨a.1, a.2.1, fun c e => a.2.2 c ?_⟩
          rw [H1 1996 _ rfl]
          rw [H1 1990 _ rfl, s2.1.1.1] at c
          by_cases y : jn H t u
          · rw [((jj u z).mp y).1]; decide
          · have b := ((w1.2 u).2 (fun q => y q.2)).1
            rw [b, x1, if_neg z] at e
            exact e
      have hM9 : pMet F F' := ⟨by rw [D1 1990 _ rfl, D2 2075 _ rfl]; exact q9.1, fwR_leave (t := t) (A := 0) q9.2 (fun c z1 z2 => fr_out D1 35 66 (by rfl) z1 z2) (fr_row D2 2183 (fun _ => rfl)) (fr_row D2 2198 (fun _ => rfl)) (D2 2075 _ rfl) (fun u => by rw [w2.1 2186 _ rfl, y2, H2 2186 _ rfl]; rfl) (by rw [H2 2186 _ rfl, r2]; rfl) (by rw [H1 38 _ rfl]; exact g2.2) (by decide)⟩
      exact ⟨su_keep su_tR D1 D2 rfl q1, su_keep su_pPath D1 D2 rfl q2, su_keep su_loR D1 D2 rfl q3, su_keep su_pArr D1 D2 rfl q4, su_keep su_pStep D1 D2 rfl q5, su_keep su_pKeep D1 D2 rfl q6, su_keep su_pCost D1 D2 rfl q7, su_keep su_pCalls D1 D2 rfl q8, hM9, su_keep su_pPrint D1 D2 rfl q10, su_keep su_pBegun D1 D2 rfl q11, su_keep su_pLooks D1 D2 rfl q12, su_keep su_pPar D1 D2 rfl q13, su_keep su_pThr D1 D2 rfl q14, hD, su_keep su_pLast D1 D2 rfl q16, su_keep su_pFor D1 D2 rfl q17, su_keep su_pTurns D1 D2 rfl q18, su_keep su_pSeed D1 D2 rfl q19, su_keep su_pVars D1 D2 rfl q20⟩
    · obtain ⟨⟨n, b1, b2⟩, b3, b4⟩ := hB
      have x1 := fr_row D2 2255 (fun _ => rfl)
      have x2 := fr_row D2 2256 (fun _ => rfl)
      refine ⟨⟨n, hR_same b1 (D1 1960 _ rfl) (fr_row D1 1979 (fun _ => rfl)) (fr_row D1 1980 (fun _ => rfl)) (fr_row D1 1981 (fun _ => rfl)) (D2 2075 _ rfl) x1 x2 (fr_row D2 2257 (fun _ => rfl)) (fr_row D2 2258 (fun _ => rfl)), by rw [x1, x2]; exact b2⟩, by rw [D1 1990 _ rfl]; exact b3, ⟨fun j hj => ?_, tot_le b4.2 (fr_row D1 35 (fun _ => rfl)) (fr_row D2 2183 (fun _ => rfl)) (D1 1990 _ rfl)⟩⟩
      rw [D1 2014 j rfl, D1 1990 _ rfl]; exact b4.1 j hj
    · have a := (q1.2 t).2 (fun q => jt q.2)
      have b := (q2.2 t).2 (fun q => jt q.2)
      rw [a.1, a.2.1, a.2.2.1, a.2.2.2, b.1, b.2.1, b.2.2.1, b.2.2.2, x1, y1, if_pos rfl, if_pos rfl, E0 2005 _ rfl, E0 2004 _ rfl, E0 2000 _ rfl, E2 2196 _ rfl, E2 2195 _ rfl, E2 2190 _ rfl, H1 2005 _ rfl, H1 2004 _ rfl, H1 2000 _ rfl, H2 2196 _ rfl, H2 2195 _ rfl, H2 2190 _ rfl]
      exact ⟨rfl, rfl, rfl, rfl, rfl, rfl, rfl, rfl⟩
    · have q := (jj u z).mpr q
      have a := (q1.2 u).1 ⟨hu, q⟩
      have b := (q2.2 u).1 ⟨hu, q⟩
      rw [E0 2000 _ rfl, E0 1998 _ rfl, H1 2000 _ rfl, H1 1998 _ rfl] at a
      rw [E2 2190 _ rfl, E2 2189 _ rfl, H2 2190 _ rfl, H2 2189 _ rfl] at b
      exact ⟨a, b⟩
    · have q := fun z2 => q ((jj u z).mp z2)
      have a := (q1.2 u).2 (fun z2 => q z2.2)
      have b := (q2.2 u).2 (fun z2 => q z2.2)
      rw [E0 2005 _ rfl, E0 2004 _ rfl, E0 2000 _ rfl, H1 2005 _ rfl, H1 2004 _ rfl, H1 2000 _ rfl, x1, if_neg z] at a
      rw [E2 2196 _ rfl, E2 2195 _ rfl, E2 2190 _ rfl, H2 2196 _ rfl, H2 2195 _ rfl, H2 2190 _ rfl, y1, if_neg z] at b
      exact ⟨a, b⟩
    · rw [D2 2198 _ rfl, D2 2199 _ rfl, D2 2200 _ rfl, D1 2011 _ rfl, D2 2202 _ rfl, D2 2203 _ rfl]
      exact g3 b hb
/-- the last activation of a thread is over -/
theorem mv_end0 {x y w : Nat} {so : Int} (hL : vL Y) (hL' : vL Y') (h : IL Y Y' X mm Nn Lp nm pr ht I I' th t 1 W N) (hP : PT Lp J J') (hB : bud J J' (W + 1) (ht 5000)) (g1 : goC I J) (g2 : goE I I' J' (40 * t)) (yN : y < Nn) (k1 : I 38 y = 1) (hd : I 2012 (40 * t) = 0) (hw : I 50 w = x ∧ w < 2100) (xN : x < Nn) (kx : I 38 x ≠ 9) (g3 : ∀ b, b ≠ 40 * t → J' 2198 b = I' 2198 b ∧ J' 2199 b = I' 2199 b ∧ J' 2200 b = I' 2200 b ∧ J 2011 b = I 2011 b ∧ J' 2202 b = I' 2202 b ∧ J' 2203 b = I' 2203 b)
    (hQ : ∀ F F', AS Y Y' X mm Nn Lp nm pr ht F F' th (W + 1) N → Q (.inl (some (vi 9)), (F, Y)) (.inl (some (vi 0)), (F', Y'))) :
    vW (d + 9) 195 (185, [vr 1990, vi t, vi so, vi ((40 * t + 0 : Nat) : Int), vi w, vi y, vu], [], (J, Y)) (fun r => vW (d' + 9) 417 (27, [vr 2075, vi ((40 * t + 0 : Nat) : Int), vi w], [], (J', Y')) (fun r' => Q r r')) := by
  have h0 := h
  obtain ⟨s1, ⟨s2, s2l⟩, s3, s4, ⟨s5, s6, s7, s8, s9, s10, s11⟩, s12, ⟨⟨r1, r2, r3, r4⟩, ⟨r5, r6⟩, r7, r8, r9⟩⟩ := h
  have th8 := s2.1.1.2.2
  have h8 : t < 8 := by omega
  have Nn7 := s1.2.1.2
  have nk := (s1.2.2.2.2.1 x xN).1.2
  have H1 : fr [65, 2011, 1979, 1980, 1981, 1970, 1971, 1972, 1973, 1975, 1976, 1977, 1978, 2014] [(1990, 3392), (1960, 3090)] I J := g1
  have H2 : fr [2183, 2202, 2203, 2255, 2256, 2257, 2258, 2241, 2242, 2243, 2244, 2245, 2246, 2247, 2248, 2209, 2198, 2199, 2200] [(2075, 7736), (2075, 7818)] I' J' := g2.1
  have hT0 : I 2009 (40 * t) = ((8 + 5760 * t : Nat) : Int) := by
    obtain ⟨b, s, h1, h2, _⟩ := r7
    have q1 := (h1 0 (by omega)).1
    rw [up_cell _ (show 2009 ≠ 1994 by decide), h2 (by omega)] at q1
    exact q1
  rw [c_lend (A := 0) (T := 8 + 5760 * t) (x := x) hL h8 (by rw [H1 1995 _ rfl, r1]; rfl) (by omega) (by rw [H1 2009 _ rfl]; exact hT0) (by omega) (by rw [H1 38 _ rfl]; exact k1) hw.2 (by rw [H1 50 _ rfl]; exact hw.1) (by omega) (by rw [H1 38 _ rfl]; exact kx) (by rw [H1 38 _ rfl]; exact nk)]
  have hm1 : ∀ K : vE → Prop, vW (d' + 9) 417 (27, [vr 2075, vi ((40 * t + 0 : Nat) : Int), vi w], [], (J', Y')) K ↔ vW (d' + 8) 418 (10, [vr 2075, vi t, vl 0, vu], [], (up J' 2186 t ((0 : Nat) : Int), Y')) (vWC (d' + 9) 417 36 3 [vr 2075, vi ((40 * t + 0 : Nat) : Int), vi w] [] K) := fun K => t_lend (A := 0) hL' h8 (by rw [H2 2075 _ rfl]; exact s11) (by rw [H2 2186 _ rfl, r2]; rfl)
  simp only [hm1]
  refine mv_end0g (Q := fun r q => vWC (d' + 9) 417 36 3 [vr 2075, vi ((40 * t + 0 : Nat) : Int), vi w] [] (fun r' => Q r r') q) hL hL' h0 hP hB g1 g2 (fr_upP (fr_upP (fr_refl _ _ _) rfl _) rfl _) hd g3 (fun F F' hA => ?_)
  simp only [vWC_s, Nat.reduceAdd]
  rw [b417_39, if_pos (by decide), b417_46, b417_47 (Or.inl rfl)]
  exact hQ F F' hA
end
