/-! ===== a thread is started: its first activation, in both houses ===== -/
set_option maxRecDepth 20000
set_option maxHeartbeats 8000000
section
variable {d d' : Nat} {Y Y' : vY} {X mm Nn Lp : Nat} {nm pr ht : Nat → Nat} {I I' H M : vJ} {th t A i W N : Nat} {Q : vE → vE → Prop}
/-- the house: the activation goes again, the thread ends -/
theorem c_fin0 {JF : vJ} {K : vE → Prop} {m : Nat} (hL : vL Y) (th8 : th < 8) (h1 : JF 1995 th = 1) (h2 : JF 2009 (40 * th) = ((8 + 5760 * th : Nat) : Int)) (hth : JF 1990 3390 = (th : Int) + 1) (hno : ∀ u, u < th → (0 ≤ JF 1996 u ∧ JF 1996 u ≤ 4) ∧ (-2147483648 ≤ JF 1997 u ∧ JF 1997 u ≤ 2147483647) ∧ (JF 1996 u = 2 → JF 1997 u ≠ th)) (h97 : -2147483648 ≤ JF 1997 th ∧ JF 1997 th ≤ 2147483647) (hQ : K (.inl none, (up (up (up (up JF 1994 th ((8 + 5760 * th : Nat) : Int)) 1995 th 0) 1996 th 3) 2003 th (-1), Y))) :
    vW (d + 2) 161 (16, [vr 1990, vi th, vi m], [vi 1], (JF, Y)) K := by
  have e : (1 : Int) - 1 = 0 := by decide
  rw [b161_16, if_pos (by decide), b161_20 hL, b170_0 hL, c_act (A := 0) hL th8 (by rw [h1]; rfl)]
  simp only [vWC_s, Nat.reduceAdd, Nat.add_zero]
  rw [b170_14 hL (by omega) (by omega) (by omega) (by omega) (by omega) (by omega)]
  simp only [tn0, vWC_n, Nat.reduceAdd]
  rw [h1, h2, e, b161_25 hL, b171_0 hL, if_neg (by decide), b171_10, b171_15 hL (by omega) (by omega) (by omega) (by omega)]
  simp only [tn0]
  refine c_noend (th := th) (d := d) (I := up (up (up (up JF 1994 th ((8 + 5760 * th : Nat) : Int)) 1995 th 0) 1996 th 3) 2003 th (-1)) hL th8 (by rw [up_cell _ (by decide), up_cell _ (by decide), up_cell _ (by decide), up_cell _ (by decide)]; exact hth) (fun u hu => ?_) ?_ (th + 1) 0 (by omega)
  · rw [up_cell _ (by decide), up_at, up_cell _ (by decide), up_cell _ (by decide), up_cell _ (by decide), up_cell _ (by decide), up_cell _ (by decide), up_cell _ (by decide)]
    by_cases z : u = th
    · rw [if_pos z, z]; exact ⟨by omega, h97, fun q => by omega⟩
    · rw [if_neg z]; exact hno u (by omega)
  · simp only [vWC_n, Nat.reduceAdd, b161_31]
    exact hQ
theorem st_pair {m p T0 S : Nat} (hL : vL Y) (hL' : vL Y') (h : IS Y Y' X mm Nn Lp nm pr ht I I' th t A i W N) (hi : (i : Int) < I' (X + 12) (I 2007 (40 * t + (A - 1))).toNat) (th7 : th < 8) (hm : m < mm) (hpr : pr m = p) (hbg : I 1990 3403 < 30000) (hC : nwC I H t th p T0 N) (hT : nwT (up I' 2199 (40 * t + (A - 1)) ((i : Int) + 1)) M (40 * t + (A - 1)) th p S N)
    (hS : ht (i + 1) = S + 1) (hS2 : (S : Int) ≤ I' 2200 (40 * t + (A - 1))) (hS3 : S < 128) (hT0 : (T0 : Int) = I 2009 (40 * t + (A - 1)) + nm (I 2006 (40 * t + (A - 1))).toNat + S) (Tb : 8 + 5760 * t ≤ T0 ∧ T0 < 8 + 5760 * t + 5760) (hv : ∀ j, j < p → vv (I 1990 3376) (I 1992 (T0 + j)) (I 1993 (T0 + j)) (I' 2206 (160 * (40 * t + (A - 1)) + S + j)))
    (hQ : ∀ G G', IS Y Y' X mm Nn Lp nm pr ht G G' (th + 1) t A (i + 1) W N → G 2007 (40 * t + (A - 1)) = I 2007 (40 * t + (A - 1)) → Q (.inl none, (G, Y)) (.inl none, (G', Y'))) :
    vW (d + 9) 161 (0, [vr 1990, vi th, vi m], [], (H, Y)) (fun r => vW (d' + 8) 401 (0, [vr 2075, vi th, vi m, vi 0, vu, vu], [], (M, Y')) (fun q' => vWC (d' + 9) 400 89 3 [vr 2075, vi m, vi N, vi th, vu] [] (fun r' => Q r r') q')) := by
  obtain ⟨hX, hX2, hV⟩ := h.1.1
  have mm24 : mm ≤ 24 := h.1.2.1.1.1
  have Nn7 : Nn ≤ 700 := h.1.2.1.2
  obtain ⟨PH, BH, SH⟩ := nw_PT h hC hT (by omega)
  obtain ⟨o, p0, nn0, nd0, w0, y0, pp0, oo, ⟨pr1, pr2, pr3, pr4⟩, ⟨nm1, nm2, nm3⟩, ⟨nd1, nd2, nd3, nd4⟩, _, _, _, y2, _⟩ := ST_entry SH hm
  have ep : p0 = p := by omega
  subst ep
  have fol := PH.2.2.2.2.2.2.2.2.2.2.2.2.1.1
  have h0 := h
  obtain ⟨s1, s2, s3, s4, ⟨s5, s6, s7, s8, s9, s10, s11⟩, s12, s13⟩ := h
  have hC0 := hC
  have hT1 := hT
  obtain ⟨c0, c1, c2, c3, c4, c5, c6, c7, c8, c9, c10, c11⟩ := hC
  obtain ⟨t0, t1, t2, t3, t4, t5, t6, t7, t8, t9, t10, t11, t12, t13, t14⟩ := hT
  have hth : t < th := s5
  obtain ⟨tn, tn1, tn2, tn3, _⟩ := id PH.1
  rw [b161_0 hL]
  apply vW_out
  refine vW_swap.mpr ?_
  refine t_enter1 (d := d' + 7) (A := 0) (a := 40 * th + 0) (m := m) (p := p0) (x3 := 0) hL' hX hX2 hV th7 (by rw [t5, if_pos rfl]; rfl) (by decide) rfl (by omega) pr2 pr3 (fun Ka' hKa => ?_)
  have hKa0 := hKa
  obtain ⟨z1, _⟩ := hKa
  apply vW_out
  refine vW_swap.mpr ?_
  have tRK : tR H Ka' := su_keep su_tR (fr_refl [] [] H) z1 rfl PH.1
  refine t_of0 (d := d + 8) (d' := d' + 7) (n := tn) (m := (m : Int)) hL hL' tRK tn2 (by omega) (by rw [z1 2075 _ rfl, ← fol.1]; exact fol.2) (fun J J' n' tr i1 i2 i3 i4 i5 i6 i7 => ?_)
  simp only [vWC_s, Nat.reduceAdd]
  have hWW : W ≤ 20000 := by have := sa_nn (I 1995) t th; omega
  have NE := n_ent2 (d := d) (d' := d') (Y := Y) (Y' := Y') (X := X) (mm := mm) (Nn := Nn) (Lp := Lp) (nm := nm) (pr := pr) (ht := ht) (I0 := H) (I0' := M) (Ia' := Ka') (I := J) (I' := J') (t := th) (A := 0) (m := m) (T := 8 + 5760 * th + p0) (W := W) (tr := tr) (n' := n') (x3 := 0) (x5 := 16) (Q := fun q q' => vWC (d + 9) 161 13 3 [vr 1990, vi th, vi m] [] (fun r => vWC (d' + 9) 400 89 3 [vr 2075, vi m, vi N, vi th, vu] [] (fun r' => Q r r') q') q) hL hL' SH PH BH hWW th7 (by rw [c5, if_pos rfl]; rfl) (by decide) hm (by rw [c0 1990 _ rfl]; exact hbg) (by rw [c4, if_neg (by omega), if_pos rfl]) (by omega) (by omega) ⟨by rw [hT1.2.1]; omega, by rw [hT1.2.2.2.2.2.1, if_pos rfl]; rfl⟩ i6 (by rw [pr4]; exact hKa0) i7 i1 i2 i4 i5 (by omega) ?_
  · obtain ⟨qq, hq, qq', hq', hB⟩ := NE
    exact ⟨qq', hq', (b161_13 hL).mpr ⟨qq, hq, hB⟩⟩
  · intro JF JF' p' nn' y e1 e2 e3 e4 e5 e6 e7 e8 e9 e10 e11
    have ep : p' = p0 := by omega
    subst ep
    have hh38 : H 38 y = I 38 y := c0 38 _ rfl
    simp only [vWC_s, Nat.reduceAdd, b400_92]
    have E9 := e9
    obtain ⟨f0, f1, ⟨f2, f3, f4, f5, f6, f7, f8⟩, ⟨f9, f10⟩, _⟩ := E9
    simp only [Nat.add_zero] at f5 f9 f10
    have k4 : JF' (X + 4) m = nd0 := by rw [fr_out f1 2081 2182 (by rfl) (by omega) (by omega)]; exact nd2
    have k6 : JF' (X + 6) m = y := by rw [fr_out f1 2081 2182 (by rfl) (by omega) (by omega)]; exact e6
    rw [nd2, e6] at e11
    have hm1 : ∀ K : vE → Prop, vW (d' + 9) 400 (94, [vr 2075, vi m, vi N, vi th, vi ((40 * th + 0 : Nat) : Int)], [], (JF', Y')) K ↔ K (.inl none, (if H 38 y = 1 then up (up JF' 2186 th 0) 2187 th 3 else JF', Y')) := by
      intro K
      rw [b400_94 hL' hV (by omega) (by omega) (by omega), hX]
      simp only [tn0]
      by_cases z : H 38 y = 1
      · rw [if_neg (by rw [k4, k6, w32_id (by omega) (by omega), w32_id (by omega) (by omega)]; exact fun q => q (e11.mp z)), if_pos z, b400_117 hL' (by omega) (by omega), b400_131]
        simp only [tn0]
      · rw [if_pos (by rw [k4, k6, w32_id (by omega) (by omega), w32_id (by omega) (by omega)]; exact fun q => z (e11.mpr q)), if_neg z, b400_131]
    simp only [hm1]
    have hh42 : H 42 y = I 42 y := c0 42 _ rfl
    by_cases z : H 38 y = 1
    · rw [if_pos z, if_pos z]
      have q97 := fun u (hu : u < th) => s2.1.2 u hu
      have l97 := (PH.2.2.2.2.2.2.2.2.2.2.2.2.2.2.2.1 th th7).2.1
      refine c_fin0 (d := d + 7) (m := m) hL th7 (by rw [f9, if_pos rfl]; rfl) (by rw [f5, if_pos rfl]; omega) (by rw [f0 1990 _ rfl]; exact c1) (fun u hu => ?_) (by rw [f0 1997 _ rfl]; exact l97) ?_
      · have q := q97 u hu
        rw [f0 1996 _ rfl, f0 1997 _ rfl, c6, if_neg (by omega), c0 1997 _ rfl]
        refine ⟨q.1.2, ?_, fun w => ?_⟩
        · have w := q.2.2.1
          unfold inI at w
          omega
        · have w2 := q.2.2.2.2.2.2.2.2.1.2 w
          omega
      · have G1 : fr [1994, 1995, 1996, 2003] [] JF (up (up (up (up JF 1994 th ((8 + 5760 * th : Nat) : Int)) 1995 th 0) 1996 th 3) 2003 th (-1)) := fr_upL (fr_upL (fr_upL (fr_upL (fr_refl _ _ _) rfl _ _) rfl _ _) rfl _ _) rfl _ _
        have G2 : fr [2186, 2187] [] JF' (up (up JF' 2186 th 0) 2187 th 3) := fr_upL (fr_upL (fr_refl _ _ _) rfl _ _) rfl _ _
        have g4 : up (up (up (up JF 1994 th ((8 + 5760 * th : Nat) : Int)) 1995 th 0) 1996 th 3) 2003 th (-1) 1994 th = ((8 + 5760 * th : Nat) : Int) := by rw [up_cell _ (by decide), up_cell _ (by decide), up_cell _ (by decide), up_same]
        have g5 : up (up (up (up JF 1994 th ((8 + 5760 * th : Nat) : Int)) 1995 th 0) 1996 th 3) 2003 th (-1) 1995 th = 0 := by rw [up_cell _ (by decide), up_cell _ (by decide), up_same]
        have g6 : up (up (up (up JF 1994 th ((8 + 5760 * th : Nat) : Int)) 1995 th 0) 1996 th 3) 2003 th (-1) 1996 th = 3 := by rw [up_cell _ (by decide), up_same]
        have g3 : ∀ u, up (up (up (up JF 1994 th ((8 + 5760 * th : Nat) : Int)) 1995 th 0) 1996 th 3) 2003 th (-1) 2003 u = JF 2003 u := fun u => by
          rw [up_at, up_cell _ (by decide), up_cell _ (by decide), up_cell _ (by decide)]
          by_cases zz : u = th
          · rw [if_pos zz, zz, f0 2003 _ rfl, c10, if_pos rfl]
          · rw [if_neg zz]
        have g0 : ∀ u, u ≠ th → up (up (up (up JF 1994 th ((8 + 5760 * th : Nat) : Int)) 1995 th 0) 1996 th 3) 2003 th (-1) 1994 u = JF 1994 u ∧ up (up (up (up JF 1994 th ((8 + 5760 * th : Nat) : Int)) 1995 th 0) 1996 th 3) 2003 th (-1) 1995 u = JF 1995 u ∧ up (up (up (up JF 1994 th ((8 + 5760 * th : Nat) : Int)) 1995 th 0) 1996 th 3) 2003 th (-1) 1996 u = JF 1996 u := fun u hu => by
          refine ⟨?_, ?_, ?_⟩
          · rw [up_cell _ (by decide), up_cell _ (by decide), up_cell _ (by decide), up_place _ _ hu]
          · rw [up_cell _ (by decide), up_cell _ (by decide), up_place _ _ hu, up_cell _ (by decide)]
          · rw [up_cell _ (by decide), up_place _ _ hu, up_cell _ (by decide), up_cell _ (by decide)]
        have b0 : ∀ u, u ≠ th → up (up JF' 2186 th 0) 2187 th 3 2186 u = JF' 2186 u ∧ up (up JF' 2186 th 0) 2187 th 3 2187 u = JF' 2187 u := fun u hu => by
          refine ⟨?_, ?_⟩
          · rw [up_cell _ (by decide), up_place _ _ hu]
          · rw [up_place _ _ hu, up_cell _ (by decide)]
        have b6 : up (up JF' 2186 th 0) 2187 th 3 2186 th = 0 := by rw [up_cell _ (by decide), up_same]
        have b7 : up (up JF' 2186 th 0) 2187 th 3 2187 th = 3 := up_same _ _ _ _
        generalize up (up (up (up JF 1994 th ((8 + 5760 * th : Nat) : Int)) 1995 th 0) 1996 th 3) 2003 th (-1) = G at G1 g4 g5 g6 g3 g0 ⊢
        generalize up (up JF' 2186 th 0) 2187 th 3 = G' at G2 b0 b6 b7 ⊢
        have hP : PT Lp G G' := by
          obtain ⟨q1, q2, q3, q4, q5, q6, q7, q8, q9, q10, q11, q12, q13, q14, q15, q16, q17, q18, q19, q20⟩ := e7
          have hD : pDone G G' := fun u hu => by
            have q := q15 u hu
            rw [G1 2001 _ rfl, g3, G2 2191 _ rfl, G2 2192 _ rfl, G1 1990 _ rfl]
            refine ⟨q.1, q.2.1, fun w1 w2 => ?_⟩
            by_cases zz : u = th
            · rw [zz, g6] at w2; omega
            · rw [(g0 u zz).2.2] at w2; exact q.2.2 w1 w2
          have hM9 : pMet G G' := ⟨by rw [G1 1990 _ rfl, G2 2075 _ rfl]; exact q9.1, fwR_leave (t := th) (A := 0) q9.2 (fun c z1 z2 => fr_out G1 35 66 (by rfl) z1 z2) (fr_row G2 2183 (fun _ => rfl)) (fr_row G2 2198 (fun _ => rfl)) (G2 2075 _ rfl) (fun u => by
            by_cases zz : u = th
            · rw [zz, b6, if_pos rfl]; rfl
            · rw [(b0 u zz).1, if_neg zz]) ((e9.2.2.2.1.2 th).trans (if_pos rfl)) (by rw [e9.2.2.2.2.1.2.1, if_pos rfl, tn0, e9.1 38 _ rfl, z]; decide) (by decide)⟩
          exact ⟨su_keep su_tR G1 G2 rfl q1, su_keep su_pPath G1 G2 rfl q2, su_keep su_loR G1 G2 rfl q3, su_keep su_pArr G1 G2 rfl q4, su_keep su_pStep G1 G2 rfl q5, su_keep su_pKeep G1 G2 rfl q6, su_keep su_pCost G1 G2 rfl q7, su_keep su_pCalls G1 G2 rfl q8, hM9, su_keep su_pPrint G1 G2 rfl q10, su_keep su_pBegun G1 G2 rfl q11, su_keep su_pLooks G1 G2 rfl q12, su_keep su_pPar G1 G2 rfl q13, su_keep su_pThr G1 G2 rfl q14, hD, su_keep su_pLast G1 G2 rfl q16, su_keep su_pFor G1 G2 rfl q17, su_keep su_pTurns G1 G2 rfl q18, su_keep su_pSeed G1 G2 rfl q19, su_keep su_pVars G1 G2 rfl q20⟩
        have hB : bud G G' W (ht 5000) := by
          obtain ⟨⟨n, b1, b2⟩, b3, b4⟩ := e8
          have x1 := fr_row G2 2255 (fun _ => rfl)
          have x2 := fr_row G2 2256 (fun _ => rfl)
          refine ⟨⟨n, hR_same b1 (G1 1960 _ rfl) (fr_row G1 1979 (fun _ => rfl)) (fr_row G1 1980 (fun _ => rfl)) (fr_row G1 1981 (fun _ => rfl)) (G2 2075 _ rfl) x1 x2 (fr_row G2 2257 (fun _ => rfl)) (fr_row G2 2258 (fun _ => rfl)), by rw [x1, x2]; exact b2⟩, by rw [G1 1990 _ rfl]; exact b3, ⟨fun j hj => ?_, tot_le b4.2 (fr_row G1 35 (fun _ => rfl)) (fr_row G2 2183 (fun _ => rfl)) (G1 1990 _ rfl)⟩⟩
          rw [G1 2014 j rfl, G1 1990 _ rfl]; exact b4.1 j hj
        have R := st_fin (Ath := 0) (sc := 3) (G := G) (G' := G') h0 hi th7 hC0 hT1 e9 hS hS2 hS3 hT0 Tb e3 G1 g0 G2 b0 ⟨g5, b6, by decide⟩ ⟨g6, b7, Or.inr rfl⟩ (fun q => by omega) (nw_end g5 b6 g4 g6) hP hB
        exact hQ G G' R.1 R.2
    · rw [if_neg z, if_neg z]
      have ac := e10 z
      rw [b161_16, if_neg (by rw [w32_id (by decide) (by decide)]; decide), b161_19]
      have R := st_fin (Ath := 1) (sc := 0) (G := JF) (G' := JF') h0 hi th7 hC0 hT1 e9 hS hS2 hS3 hT0 Tb e3 (fr_weak (fr_refl [] [] _) (by decide) (by decide)) (fun _ _ => ⟨rfl, rfl, rfl⟩) (fr_weak (fr_refl [] [] _) (by decide) (by decide)) (fun _ _ => ⟨rfl, rfl⟩) ⟨by rw [f9, if_pos rfl]; rfl, by rw [f10, if_pos rfl]; rfl, by decide⟩ ⟨by rw [f0 1996 _ rfl, c6, if_pos rfl], by rw [f1 2187 _ rfl, t6, if_pos rfl], Or.inl rfl⟩ (fun _ => by rw [← hh42]; exact ac.2) (nw_go hC0 hT1 e9 hX2 e2 e3 (by omega) (fun j hj => by rw [up_cell _ (by decide)]; exact hv j hj) ac.1) e7 e8
      exact hQ JF JF' R.1 R.2
end
