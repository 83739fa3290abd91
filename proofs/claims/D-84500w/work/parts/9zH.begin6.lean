/-! ===== begin: the first activation in both houses ===== -/
set_option maxRecDepth 20000
set_option maxHeartbeats 8000000
/-- the first thread goes -/
theorem bn_go {X mm Nn : Nat} {nm ht : Nat → Nat} {I H JF I' M JF' : vJ} {m p nn y tr Vv : Nat} {n x2 x3 x4 : Int} (hC : bgC I H p Vv x2 x3 x4) (hT : bgT I' M Nn x2 x3 x4) (hE : enF H JF M JF' X 0 0 m (8 + p) p nn y tr) (hX2 : X = 2081 ∨ X = 2119) (hm : nm m = p + nn) (pn : p + nn ≤ 16) (p4 : p ≤ 4) (ha : ∀ j : Nat, j < 4 → I 2063 j = I' 2182 j ∧ -2147483647 ≤ I 2063 j ∧ I 2063 j ≤ 2147483647) (hac : acR JF JF' X mm Nn (40 * 0)) : reR n nm ht X mm Nn JF JF' 0 := by
  obtain ⟨c0, _, c2, c3, c4, c5, c6, c7, c8, c9, c10⟩ := hC
  obtain ⟨t0, _, t2, t3, t4, t5, t6, t7, t8, t9, t10, t11, t12, t13⟩ := hT
  obtain ⟨e0, e1, ⟨e2, e3, e4, e5, e6, e7, e8⟩, ⟨e9, e10⟩, ⟨e11, e12, e13, e14, e15, e16, e17, e18⟩, ⟨e19, e20⟩, e21⟩ := hE
  have z6 : JF 1996 0 = 0 := by rw [e0 1996 _ rfl]; exact c9.2.2.1
  have z5 : JF 2005 0 = 0 := by rw [e0 2005 _ rfl]; exact c9.2.2.2.2.2.2.2
  have z06 : JF 2006 0 = m := by rw [e6, if_pos rfl]
  have z07 : JF 2007 0 = y := by rw [e11, if_pos rfl]
  have z09 : JF 2009 0 = ((8 : Nat) : Int) := by rw [e5, if_pos rfl]; omega
  have z00 : JF' 2200 0 = ((0 : Nat) : Int) := by rw [e7, if_pos rfl]; rfl
  have z94 : JF 1994 0 = ((8 + p + nn : Nat) : Int) := by rw [e4, if_pos rfl]
  refine ⟨1, 0, ⟨by rw [e9, if_pos rfl]; rfl, by rw [e10, if_pos rfl]; rfl, by decide⟩, ⟨fun _ => 8, fun _ => 0, fun k hk => ?_, fun _ => rfl, fun k hk => absurd hk (by omega), fun q => absurd q (by decide), fun _ => ?_, fun k i hk hi => ?_, fun k i hk z1 z2 => ?_⟩, fun k hk => ?_, fun k hk => absurd hk (by omega), ?_⟩
  · have k0 : k = 0 := by omega
    subst k0
    show JF 2009 0 = _ ∧ JF' 2200 0 = _ ∧ nm (JF 2006 0).toNat ≤ 16 ∧ 0 ≤ 128
    rw [z06, tn0, hm]
    exact ⟨z09, z00, pn, by decide⟩
  · show JF 1994 0 + ((0 : Nat) : Int) = ((8 : Nat) : Int) + (nm (JF 2006 0).toNat : Int) + ((0 : Nat) : Int) ∧ 0 ≤ 0
    rw [z94, z06, tn0, hm]
    exact ⟨by omega, by decide⟩
  · have k0 : k = 0 := by omega
    subst k0
    have hi : i < nm (JF 2006 0).toNat := hi
    rw [z06, tn0, hm] at hi
    show vv n (JF 1992 (8 + i)) (JF 1993 (8 + i)) (JF' 2205 (0 + i))
    rw [e2, e3, e8]
    by_cases z : i < p
    · rw [if_neg (by omega), if_neg (by omega), if_pos (by omega), if_pos (by omega), (c8 i z).1, (c8 i z).2, show 0 + i - 16 * (40 * 0 + 0) = i by omega, t11 i (by omega)]
      have q := ha i (by omega)
      exact Or.inl ⟨rfl, by rw [← q.1], q.2⟩
    · rw [if_pos (by omega), if_pos (by omega), if_pos (by omega), if_neg (by omega)]
      exact Or.inl ⟨rfl, rfl, by decide, by decide⟩
  · have w : i + 0 < 0 := z2 (by omega)
    exact absurd w (by omega)
  · have k0 : k = 0 := by omega
    subst k0
    exact hac
  · unfold stR
    simp only [Nat.sub_self, Nat.add_zero, Nat.mul_zero]
    rw [z6, z5, z07, tn0]
    refine ⟨fun q => by omega, fun _ => by decide, fun _ _ => ⟨trivial, z00, ?_, ?_⟩, fun q => by omega, fun q => by omega, fun q => by omega, fun _ q => by omega⟩
    · rw [e14, if_pos rfl, fr_out e1 2081 2182 (by rfl) (by omega) (by omega)]
    · rw [e13, if_pos rfl, fr_row e0 43 (fun _ => rfl)]
section
variable {d d' : Nat} {Y Y' : vY} {X mm Nn Lp : Nat} {nm pr ht : Nat → Nat} {I I' H M : vJ} {Q : vE → vE → Prop}
theorem bn_pair {m p Vv : Nat} {x2 x3 x4 : Int} (hL : vL Y) (hL' : vL Y') (SH : ST H M Y Y' X mm Nn Lp nm pr ht) (PH : PT Lp H M) (BH : bud H M 0 (ht 5000)) (hvs : H 1960 3100 = nm 5000) (hm : m < mm) (hpr : pr m = p) (hC : bgC I H p Vv x2 x3 x4) (hT : bgT I' M Nn x2 x3 x4) (ha : ∀ j : Nat, j < 4 → I 2063 j = I' 2182 j ∧ -2147483647 ≤ I 2063 j ∧ I 2063 j ≤ 2147483647)
    (hQ : ∀ G G', AS Y Y' X mm Nn Lp nm pr ht G G' 1 0 0 → G 1996 0 = 0 ∨ G 1996 0 = 3 → agD H M G G' → Q (.inl none, (G, Y)) (.inl none, (G', Y'))) :
    vW (d + 9) 161 (0, [vr 1990, vi ((0 : Nat) : Int), vi m], [], (H, Y)) (fun r => vW (d' + 8) 401 (0, [vr 2075, vi ((0 : Nat) : Int), vi m, vi 0, vu, vu], [], (M, Y')) (fun q' => vWC (d' + 9) 400 89 3 [vr 2075, vi m, vi 0, vi ((0 : Nat) : Int), vu] [] (fun r' => Q r r') q')) := by
  obtain ⟨hX, hX2, hV⟩ := SH.1
  have mm24 : mm ≤ 24 := SH.2.1.1.1
  have Nn7 : Nn ≤ 700 := SH.2.1.2
  obtain ⟨o, p0, nn0, nd0, w0, y0, pp0, oo, ⟨pr1, pr2, pr3, pr4⟩, ⟨nm1, nm2, nm3⟩, ⟨nd1, nd2, nd3, nd4⟩, _, _, _, y2, _⟩ := ST_entry SH hm
  have ep : p0 = p := by omega
  subst ep
  have fol := PH.2.2.2.2.2.2.2.2.2.2.2.2.1.1
  have hC0 := hC
  have hT1 := hT
  obtain ⟨c0, ⟨_, _, _, f4, _, _, _, f8, _⟩, c2, c3, c4, c5, c6, c7, c8, c9, c10⟩ := hC
  obtain ⟨t0, _, t2, t3, t4, t5, t6, t7, t8, t9, t10, t11, t12, t13⟩ := hT
  obtain ⟨tn, tn1, tn2, tn3, _⟩ := id PH.1
  rw [b161_0 hL]
  apply vW_out
  refine vW_swap.mpr ?_
  refine t_enter1 (d := d' + 7) (t := 0) (A := 0) (a := 40 * 0 + 0) (m := m) (p := p0) (x3 := 0) hL' hX hX2 hV (by decide) (by rw [t12.1]; rfl) (by decide) rfl (by omega) pr2 pr3 (fun Ka' hKa => ?_)
  have hKa0 := hKa
  obtain ⟨z1, _⟩ := hKa
  apply vW_out
  refine vW_swap.mpr ?_
  have tRK : tR H Ka' := su_keep su_tR (fr_refl [] [] H) z1 rfl PH.1
  refine t_of0 (d := d + 8) (d' := d' + 7) (n := tn) (m := (m : Int)) hL hL' tRK tn2 (by omega) (by rw [z1 2075 _ rfl, ← fol.1]; exact fol.2) (fun J J' n' tr i1 i2 i3 i4 i5 i6 i7 => ?_)
  simp only [vWC_s, Nat.reduceAdd]
  have NE := n_ent2 (d := d) (d' := d') (Y := Y) (Y' := Y') (X := X) (mm := mm) (Nn := Nn) (Lp := Lp) (nm := nm) (pr := pr) (ht := ht) (I0 := H) (I0' := M) (Ia' := Ka') (I := J) (I' := J') (t := 0) (A := 0) (m := m) (T := 8 + p0) (W := 0) (tr := tr) (n' := n') (x3 := 0) (x5 := 16) (Q := fun q q' => vWC (d + 9) 161 13 3 [vr 1990, vi ((0 : Nat) : Int), vi m] [] (fun r => vWC (d' + 9) 400 89 3 [vr 2075, vi m, vi 0, vi ((0 : Nat) : Int), vu] [] (fun r' => Q r r') q') q) hL hL' SH PH BH (by decide) (by decide) (by rw [c9.2.1]; rfl) (by decide) hm (by rw [f8]; decide) (by rw [c9.1]) (by omega) (by omega) ⟨by rw [hT1.2.1.2.2.1]; decide, by rw [t12.1]; rfl⟩ i6 (by rw [pr4]; exact hKa0) i7 i1 i2 i4 i5 (by omega) ?_
  · obtain ⟨qq, hq, qq', hq', hB⟩ := NE
    exact ⟨qq', hq', (b161_13 hL).mpr ⟨qq, hq, hB⟩⟩
  · intro JF JF' p' nn' y e1 e2 e3 e4 e5 e6 e7 e8 e9 e10 e11
    have ep : p' = p0 := by omega
    subst ep
    simp only [vWC_s, Nat.reduceAdd, b400_92]
    have E9 := e9
    obtain ⟨f0, f1, ⟨f2, f3, f4', f5, f6, f7, f8'⟩, ⟨f9, f10⟩, _⟩ := E9
    have k4 : JF' (X + 4) m = nd0 := by rw [fr_out f1 2081 2182 (by rfl) (by omega) (by omega)]; exact nd2
    have k6 : JF' (X + 6) m = y := by rw [fr_out f1 2081 2182 (by rfl) (by omega) (by omega)]; exact e6
    rw [nd2, e6] at e11
    have hm1 : ∀ K : vE → Prop, vW (d' + 9) 400 (94, [vr 2075, vi m, vi 0, vi ((0 : Nat) : Int), vi ((40 * 0 + 0 : Nat) : Int)], [], (JF', Y')) K ↔ K (.inl none, (if H 38 y = 1 then up (up JF' 2186 0 0) 2187 0 3 else JF', Y')) := by
      intro K
      rw [b400_94 hL' hV (by omega) (by omega) (by omega), hX]
      simp only [tn0]
      by_cases z : H 38 y = 1
      · rw [if_neg (by rw [k4, k6, w32_id (by omega) (by omega), w32_id (by omega) (by omega)]; exact fun q => q (e11.mp z)), if_pos z, b400_117 hL' (by omega) (by omega), b400_131]
        simp only [tn0]
      · rw [if_pos (by rw [k4, k6, w32_id (by omega) (by omega), w32_id (by omega) (by omega)]; exact fun q => z (e11.mpr q)), if_neg z, b400_131]
    simp only [hm1]
    by_cases z : H 38 y = 1
    · rw [if_pos z, if_pos z]
      have l97 := (PH.2.2.2.2.2.2.2.2.2.2.2.2.2.2.2.1 0 (by decide)).2.1
      refine c_fin0 (d := d + 7) (th := 0) (m := m) hL (by decide) (by rw [f9, if_pos rfl]; rfl) (by rw [f5, if_pos rfl]; omega) (by rw [f0 1990 _ rfl, f4]; rfl) (fun u hu => absurd hu (Nat.not_lt_zero _)) (by rw [f0 1997 _ rfl]; exact l97) ?_
      have G1 : fr [1994, 1995, 1996, 2003] [] JF (up (up (up (up JF 1994 0 ((8 + 5760 * 0 : Nat) : Int)) 1995 0 0) 1996 0 3) 2003 0 (-1)) := fr_upL (fr_upL (fr_upL (fr_upL (fr_refl _ _ _) rfl _ _) rfl _ _) rfl _ _) rfl _ _
      have G2 : fr [2186, 2187] [] JF' (up (up JF' 2186 0 0) 2187 0 3) := fr_upL (fr_upL (fr_refl _ _ _) rfl _ _) rfl _ _
      have g4 : up (up (up (up JF 1994 0 ((8 + 5760 * 0 : Nat) : Int)) 1995 0 0) 1996 0 3) 2003 0 (-1) 1994 0 = ((8 + 5760 * 0 : Nat) : Int) := by rw [up_cell _ (by decide), up_cell _ (by decide), up_cell _ (by decide), up_same]
      have g5 : up (up (up (up JF 1994 0 ((8 + 5760 * 0 : Nat) : Int)) 1995 0 0) 1996 0 3) 2003 0 (-1) 1995 0 = 0 := by rw [up_cell _ (by decide), up_cell _ (by decide), up_same]
      have g6 : up (up (up (up JF 1994 0 ((8 + 5760 * 0 : Nat) : Int)) 1995 0 0) 1996 0 3) 2003 0 (-1) 1996 0 = 3 := by rw [up_cell _ (by decide), up_same]
      have g3 : ∀ u, up (up (up (up JF 1994 0 ((8 + 5760 * 0 : Nat) : Int)) 1995 0 0) 1996 0 3) 2003 0 (-1) 2003 u = JF 2003 u := fun u => by
        rw [up_at, up_cell _ (by decide), up_cell _ (by decide), up_cell _ (by decide)]
        by_cases zz : u = 0
        · rw [if_pos zz, zz, f0 2003 _ rfl, c9.2.2.2.2.2.2.1]
        · rw [if_neg zz]
      have g0 : ∀ u, u ≠ 0 → up (up (up (up JF 1994 0 ((8 + 5760 * 0 : Nat) : Int)) 1995 0 0) 1996 0 3) 2003 0 (-1) 1996 u = JF 1996 u := fun u hu => by
        rw [up_cell _ (by decide), up_place _ _ hu, up_cell _ (by decide), up_cell _ (by decide)]
      have b0 : ∀ u, u ≠ 0 → up (up JF' 2186 0 0) 2187 0 3 2186 u = JF' 2186 u := fun u hu => by rw [up_cell _ (by decide), up_place _ _ hu]
      have b6 : up (up JF' 2186 0 0) 2187 0 3 2186 0 = 0 := by rw [up_cell _ (by decide), up_same]
      have b7 : up (up JF' 2186 0 0) 2187 0 3 2187 0 = 3 := up_same _ _ _ _
      generalize up (up (up (up JF 1994 0 ((8 + 5760 * 0 : Nat) : Int)) 1995 0 0) 1996 0 3) 2003 0 (-1) = G at G1 g4 g5 g6 g3 g0 ⊢
      generalize up (up JF' 2186 0 0) 2187 0 3 = G' at G2 b0 b6 b7 ⊢
      have hP : PT Lp G G' := by
        obtain ⟨q1, q2, q3, q4, q5, q6, q7, q8, q9, q10, q11, q12, q13, q14, q15, q16, q17, q18, q19, q20⟩ := e7
        have hD : pDone G G' := fun u hu => by
          have q := q15 u hu
          rw [G1 2001 _ rfl, g3, G2 2191 _ rfl, G2 2192 _ rfl, G1 1990 _ rfl]
          refine ⟨q.1, q.2.1, fun w1 w2 => ?_⟩
          by_cases zz : u = 0
          · rw [zz, g6] at w2; omega
          · rw [g0 u zz] at w2; exact q.2.2 w1 w2
        have hM9 : pMet G G' := ⟨by rw [G1 1990 _ rfl, G2 2075 _ rfl]; exact q9.1, fwR_leave (t := 0) (A := 0) q9.2 (fun c z1 z2 => fr_out G1 35 66 (by rfl) z1 z2) (fr_row G2 2183 (fun _ => rfl)) (fr_row G2 2198 (fun _ => rfl)) (G2 2075 _ rfl) (fun u => by
          by_cases zz : u = 0
          · rw [zz, b6, if_pos rfl]; rfl
          · rw [b0 u zz, if_neg zz]) ((e9.2.2.2.1.2 0).trans (if_pos rfl)) (by rw [e9.2.2.2.2.1.2.1, if_pos rfl, tn0, e9.1 38 _ rfl, z]; decide) (by decide)⟩
        exact ⟨su_keep su_tR G1 G2 rfl q1, su_keep su_pPath G1 G2 rfl q2, su_keep su_loR G1 G2 rfl q3, su_keep su_pArr G1 G2 rfl q4, su_keep su_pStep G1 G2 rfl q5, su_keep su_pKeep G1 G2 rfl q6, su_keep su_pCost G1 G2 rfl q7, su_keep su_pCalls G1 G2 rfl q8, hM9, su_keep su_pPrint G1 G2 rfl q10, su_keep su_pBegun G1 G2 rfl q11, su_keep su_pLooks G1 G2 rfl q12, su_keep su_pPar G1 G2 rfl q13, su_keep su_pThr G1 G2 rfl q14, hD, su_keep su_pLast G1 G2 rfl q16, su_keep su_pFor G1 G2 rfl q17, su_keep su_pTurns G1 G2 rfl q18, su_keep su_pSeed G1 G2 rfl q19, su_keep su_pVars G1 G2 rfl q20⟩
      have hB : bud G G' 0 (ht 5000) := by
        obtain ⟨⟨n, b1, b2⟩, b3, b4⟩ := e8
        have x1 := fr_row G2 2255 (fun _ => rfl)
        have x2 := fr_row G2 2256 (fun _ => rfl)
        refine ⟨⟨n, hR_same b1 (G1 1960 _ rfl) (fr_row G1 1979 (fun _ => rfl)) (fr_row G1 1980 (fun _ => rfl)) (fr_row G1 1981 (fun _ => rfl)) (G2 2075 _ rfl) x1 x2 (fr_row G2 2257 (fun _ => rfl)) (fr_row G2 2258 (fun _ => rfl)), by rw [x1, x2]; exact b2⟩, by rw [G1 1990 _ rfl]; exact b3, ⟨fun j hj => ?_, tot_le b4.2 (fr_row G1 35 (fun _ => rfl)) (fr_row G2 2183 (fun _ => rfl)) (G1 1990 _ rfl)⟩⟩
        rw [G1 2014 j rfl, G1 1990 _ rfl]; exact b4.1 j hj
      exact hQ G G' (bn_AS (Ath := 0) (sc := 3) hC0 hT1 e9 SH hvs G1 G2 ⟨g5, b6, by decide⟩ ⟨g6, b7, Or.inr rfl⟩ (fun q => absurd q (by decide)) (nw_end g5 b6 g4 g6) hP hB) (Or.inr g6) ⟨fr_trans (fr_sub f0 (by rfl) (by rfl)) (fr_sub G1 (by rfl) (by rfl)), fr_trans (fr_sub f1 (by rfl) (by rfl)) (fr_sub G2 (by rfl) (by rfl))⟩
    · rw [if_neg z, if_neg z]
      have ac := e10 z
      rw [b161_16, if_neg (by rw [w32_id (by decide) (by decide)]; decide), b161_19]
      have z6 : JF 1996 0 = 0 := by rw [f0 1996 _ rfl]; exact c9.2.2.1
      exact hQ JF JF' (bn_AS (Ath := 1) (sc := 0) hC0 hT1 e9 SH hvs (fr_weak (fr_refl [] [] _) (by decide) (by decide)) (fr_weak (fr_refl [] [] _) (by decide) (by decide)) ⟨by rw [f9, if_pos rfl]; rfl, by rw [f10, if_pos rfl]; rfl, by decide⟩ ⟨z6, by rw [f1 2187 _ rfl]; exact t12.2.1, Or.inl rfl⟩ (fun _ => ac.2) (bn_go hC0 hT1 e9 hX2 e2 e3 e4 ha ac.1) e7 e8) (Or.inl z6) ⟨fr_sub f0 (by rfl) (by rfl), fr_sub f1 (by rfl) (by rfl)⟩
end
