/-! ===== a thread is started: parts of the relation ahead of its first activation; it goes, it ends at once ===== -/
set_option maxRecDepth 20000
set_option maxHeartbeats 4000000
theorem nw_PT {Y Y' : vY} {X mm Nn Lp : Nat} {nm pr ht : Nat → Nat} {I I' H M : vJ} {th t A i W N p T0 S : Nat} (h : IS Y Y' X mm Nn Lp nm pr ht I I' th t A i W N) (hC : nwC I H t th p T0 N) (hT : nwT (up I' 2199 (40 * t + (A - 1)) ((i : Int) + 1)) M (40 * t + (A - 1)) th p S N) (T8 : 8 ≤ T0) : PT Lp H M ∧ bud H M W (ht 5000) ∧ ST H M Y Y' X mm Nn Lp nm pr ht := by
  obtain ⟨s1, s2, s3, s4, ⟨s5, s6, s7, s8, s9, s10, s11⟩, s12, s13⟩ := h
  obtain ⟨c0, c1, c2, c3, c4, c5, c6, c7, c8, c9, c10, c11⟩ := hC
  obtain ⟨t0, t1, t2, t3, t4, t5, t6, t7, t8, t9, t10, t11, t12, t13, t14⟩ := hT
  have thr : I 1990 3390 = th := s2.1.1.1
  have thr' : I' 2075 7731 = th := s2.1.1.2.1
  clear s12 s13 s2
  have F2 : fr [2199, 2200, 2206, 2263, 2186, 2187, 2188, 2190, 2191, 2192, 2193, 2194, 2195, 2196] [(2075, 7731)] I' M := fr_trans (fr_upL (fr_refl _ _ _) rfl _ _) (fr_weak t0 (by decide) (by decide))
  refine ⟨?_, ?_, ST_ag s1 (agT_fr c0 F2 rfl)⟩
  · obtain ⟨q1, q2, q3, q4, q5, q6, q7, q8, q9, q10, q11, q12, q13, q14, q15, q16, q17, q18, q19, q20⟩ := s3
    have hD : pDone H M := fun u hu => by
      have q := q15 u hu
      rw [c8, t9, c10, t10, c1, c6]
      by_cases z : u = th
      · rw [if_pos z, if_pos z, if_pos z, if_pos z]; exact ⟨rfl, rfl, fun _ _ => rfl⟩
      · rw [if_neg z, if_neg z, if_neg z, if_neg z, if_neg z, up_cell _ (by decide), up_cell _ (by decide)]
        rw [thr] at q
        exact ⟨q.1, q.2.1, fun a b => q.2.2 (by omega) b⟩
    have hLa : pLast H M := fun u hu => by
      have q := q16 u hu
      rw [c9, t11, t12, c1, c0 1990 3388 rfl, c0 1997 _ rfl, c0 1999 _ rfl, t7, s7]
      rw [thr, s7] at q
      by_cases z : u = th
      · rw [if_pos z, if_pos z, if_pos z, if_pos z]
        exact ⟨fun _ => ⟨by rw [if_neg (by decide)], ⟨by omega, by omega⟩, by omega, by omega⟩, q.2.1, ⟨by omega, by omega⟩, q.2.2.2⟩
      · rw [if_neg z, if_neg z, if_neg z, if_neg z, up_cell _ (by decide), up_cell _ (by decide), up_cell _ (by decide)]
        exact ⟨fun a => q.1 (by omega), q.2⟩
    have hV : pVars H M := fun v hv8 hv9 => by
      rw [c0 1960 _ rfl] at hv9
      rw [c2, c3, if_neg (by omega), if_neg (by omega), if_neg (by omega), if_neg (by omega), c0 1990 _ rfl, F2 2185 _ rfl]; exact q20 v hv8 hv9
    have hSe : pSeed H M := by
      unfold pSeed at *
      rw [c0 1990 3394 rfl, c0 1990 3395 rfl, c0 1990 3389 rfl, c1, F2 2075 7740 rfl, F2 2075 7827 rfl, F2 2075 7730 rfl, F2 2075 7728 rfl]
      rw [thr] at q19
      exact ⟨q19.1, q19.2.1, ⟨q19.2.2.1.1, q19.2.2.1.2.1, by have := q19.2.2.1.2.2; omega⟩, q19.2.2.2⟩
    have hM9 : pMet H M := ⟨by rw [c0 1990 _ rfl, F2 2075 _ rfl]; exact q9.1, fwR_thread (th := th) q9.2 (fun c z1 z2 => fr_out c0 35 66 (by rfl) z1 z2) (fr_row F2 2183 (fun _ => rfl)) (fr_row F2 2198 (fun _ => rfl)) thr' t1 (fun u => by rw [t5, up_cell _ (by decide)])⟩
    exact ⟨su_keep su_tR c0 F2 rfl q1, su_keep su_pPath c0 F2 rfl q2, su_keep su_loR c0 F2 rfl q3, su_keep su_pArr c0 F2 rfl q4, su_keep su_pStep c0 F2 rfl q5, su_keep su_pKeep c0 F2 rfl q6, su_keep su_pCost c0 F2 rfl q7, su_keep su_pCalls c0 F2 rfl q8, hM9, su_keep su_pPrint c0 F2 rfl q10, su_keep su_pBegun c0 F2 rfl q11, su_keep su_pLooks c0 F2 rfl q12, su_keep su_pPar c0 F2 rfl q13, su_keep su_pThr c0 F2 rfl q14, hD, hLa, su_keep su_pFor c0 F2 rfl q17, su_keep su_pTurns c0 F2 rfl q18, hSe, hV⟩
  · obtain ⟨⟨n, b1, b2⟩, b3, b4⟩ := s4
    have x1 := fr_row F2 2255 (fun _ => rfl)
    have x2 := fr_row F2 2256 (fun _ => rfl)
    refine ⟨⟨n, hR_same b1 (c0 1960 _ rfl) (fr_row c0 1979 (fun _ => rfl)) (fr_row c0 1980 (fun _ => rfl)) (fr_row c0 1981 (fun _ => rfl)) (F2 2075 _ rfl) x1 x2 (fr_row F2 2257 (fun _ => rfl)) (fr_row F2 2258 (fun _ => rfl)), by rw [x1, x2]; exact b2⟩, by rw [c0 1990 _ rfl]; exact b3, ⟨fun j hj => ?_, tot_le b4.2 (fr_row c0 35 (fun _ => rfl)) (fr_row F2 2183 (fun _ => rfl)) (c0 1990 _ rfl)⟩⟩
    rw [c0 2014 j rfl, c0 1990 _ rfl]; exact b4.1 j hj
/-- it goes -/
theorem nw_go {X mm Nn : Nat} {nm ht : Nat → Nat} {I I' H M JF JF' : vJ} {th t m p nn y tr T0 S N : Nat} {a : Nat} {n : Int} (hC : nwC I H t th p T0 N) (hT : nwT I' M a th p S N) (hE : enF H JF M JF' X th 0 m (8 + 5760 * th + p) p nn y tr) (hX2 : X = 2081 ∨ X = 2119) (hm : nm m = p + nn) (pn : p + nn ≤ 16) (Tb : T0 < 8 + 5760 * th) (hv : ∀ j, j < p → vv n (I 1992 (T0 + j)) (I 1993 (T0 + j)) (I' 2206 (160 * a + S + j))) (hac : acR JF JF' X mm Nn (40 * th)) : reR n nm ht X mm Nn JF JF' th := by
  obtain ⟨c0, c1, c2, c3, c4, c5, c6, c7, c8, c9, c10, c11⟩ := hC
  obtain ⟨t0, t1, t2, t3, t4, t5, t6, t7, t8, t9, t10, t11, t12, t13, t14⟩ := hT
  obtain ⟨e0, e1, ⟨e2, e3, e4, e5, e6, e7, e8⟩, ⟨e9, e10⟩, ⟨e11, e12, e13, e14, e15, e16, e17, e18⟩, ⟨e19, e20⟩, e21⟩ := hE
  simp only [Nat.add_zero] at e5 e6 e7 e8 e9 e10 e11 e12 e13 e14 e15 e16 e17 e18 e19 e20
  have z6 : JF 1996 th = 0 := by rw [e0 1996 _ rfl, c6, if_pos rfl]
  have z5 : JF 2005 th = 0 := by rw [e0 2005 _ rfl, c11, if_pos rfl]
  have z7 : JF 2007 (40 * th) = y := by rw [e11, if_pos rfl]
  refine ⟨1, 0, ⟨by rw [e9, if_pos rfl]; rfl, by rw [e10, if_pos rfl]; rfl, by decide⟩, thV_start (I' := M) (p := p) (nn := nn) (m := m) hm pn (fun j hj => ?_) (fun j j1 j2 => ?_) ?_ ?_ ?_ ?_ (fun j hj => ?_), fun k hk => ?_, fun k hk => by omega, ?_⟩
  · have v := hv j hj
    have w1 : JF 1992 (8 + 5760 * th + j) = I 1992 (T0 + j) := by rw [e2, if_neg (by omega), c2, if_neg (by omega), if_pos (by omega), show 8 + 5760 * th + j - (8 + 5760 * th) = j by omega]
    have w2 : JF 1993 (8 + 5760 * th + j) = I 1993 (T0 + j) := by rw [e3, if_neg (by omega), c3, if_neg (by omega), if_pos (by omega), show 8 + 5760 * th + j - (8 + 5760 * th) = j by omega]
    rw [w1, w2, t4 j hj]
    exact v
  · rw [e2, e3, if_pos (by omega), if_pos (by omega)]; exact ⟨rfl, rfl⟩
  · rw [e4, if_pos rfl]
  · rw [e5, if_pos rfl]; omega
  · rw [e6, if_pos rfl]
  · rw [e7, if_pos rfl]
  · rw [e8, if_pos (by omega), show 16 * (40 * th) + j - 16 * (40 * th) = j by omega]
  · have k0 : k = 0 := by omega
    subst k0
    exact hac
  · unfold stR
    simp only [Nat.sub_self, Nat.add_zero]
    rw [z6, z5, z7, tn0]
    refine ⟨fun q => by omega, fun _ => by decide, fun _ _ => ⟨trivial, by rw [e7, if_pos rfl], ?_, ?_⟩, fun q => by omega, fun q => by omega, fun q => by omega, fun _ q => by omega⟩
    · rw [e14, if_pos rfl, fr_out e1 2081 2182 (by rfl) (by omega) (by omega)]
    · rw [e13, if_pos rfl, fr_row e0 43 (fun _ => rfl)]
/-- it has nothing to do: it has ended -/
theorem nw_end {X mm Nn : Nat} {nm ht : Nat → Nat} {G G' : vJ} {th : Nat} {n : Int} (a1 : G 1995 th = 0) (a2 : G' 2186 th = 0) (a3 : G 1994 th = ((8 + 5760 * th : Nat) : Int)) (a4 : G 1996 th = 3) : reR n nm ht X mm Nn G G' th := by
  refine ⟨0, 0, ⟨a1, a2, by decide⟩, ⟨fun _ => 0, fun _ => 0, fun k hk => absurd hk (Nat.not_lt_zero _), fun q => absurd q (Nat.lt_irrefl _), fun k hk => absurd hk (Nat.not_lt_zero _), fun _ => by rw [a3]; omega, fun q => absurd q (Nat.lt_irrefl _), fun k j hk => absurd hk (Nat.not_lt_zero _), fun k j hk => absurd hk (Nat.not_lt_zero _)⟩, fun k hk => absurd hk (Nat.not_lt_zero _), fun k hk => absurd hk (Nat.not_lt_zero _), ?_⟩
  unfold stR
  rw [a4]
  exact ⟨fun _ => rfl, fun q => by omega, fun q => by omega, fun q => by omega, fun q => by omega, fun q => by omega, fun q => by omega⟩
