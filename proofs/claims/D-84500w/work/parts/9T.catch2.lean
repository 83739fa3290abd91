/-! ===== a failure is caught: both houses, whole ===== -/
set_option maxRecDepth 20000
set_option maxHeartbeats 4000000
section
variable {d d' : Nat} {Y Y' : vY} {X mm Nn Lp : Nat} {nm pr ht : Nat → Nat} {I I' : vJ} {th t A W N : Nat} {Q : vE → vE → Prop}
/-- the house finds the way to a catch: name and pile are put first -/
theorem c_wayC {K : vE → Prop} {x y w0 j B m o T nms sl f : Nat} {so : Int} (hL : vL Y) (h8 : t < 8) (hA : I 1995 t = (B : Int) + 1) (hA2 : B < 40) (hx : I 2007 (40 * t + B) = x) (xb : x < 700) (hw0 : I 48 x = w0) (wb : w0 + j < 2100) (hs : ∀ j', j' < j → w32 (I 52 (w0 + j')) ≠ w32 (I 52 (w0 + j))) (h52 : I 52 (w0 + j) = so) (h51 : I 51 (w0 + j) = y) (h50 : I 50 (w0 + j) = x) (yb : y < 700) (k11 : I 38 y = 11) (hm : I 2006 (40 * t + B) = m) (mb : m < 24) (ho : Y.1 1989 m = o ∧ 2297 ≤ o ∧ Y.2.1 o = 15) (hn : I o 3847 = nms) (hT : I 2009 (40 * t + B) = T) (hsl : I 40 y = sl) (Tb : T + sl < 46088) (kd : 0 ≤ I 1990 3401 ∧ I 1990 3401 ≤ 2) (hf : f < 10) (hfl : I 1990 3400 = f) : vW (d + 9) 195 (0, [vr 1990, vi t, vi so, vu, vu, vu, vu], [], (I, Y)) K ↔ vW (d + 8) 164 (28, [vr 1990, vi t, vi ((w0 + j : Nat) : Int), vi ((40 * t + B : Nat) : Int), vi x, vi y, vu], [], (up (up (up (up I 1994 t ((T : Int) + nms)) 1992 (T + sl) (I 1990 3401)) 1993 (T + sl) (I 1990 3402)) 2038 f (I 2038 f + 1), Y)) (vWC (d + 9) 195 144 3 [vr 1990, vi t, vi so, vi ((40 * t + B : Nat) : Int), vi ((w0 + j : Nat) : Int), vi y, vu] [] K) := by
  rw [b195_0 hL, c_act (A := B) hL h8 hA]
  simp only [vWC_s, Nat.reduceAdd]
  rw [b195_5 hL (by omega) (by omega) (by rw [tn0, hx]; omega) (by rw [tn0, hx]; omega), tn0, hx, tn0, hw0]
  have cf := c_find (d := d + 9) (I := I) (t := t) (K := K) (a := 40 * t + B) (s := j) (w := w0) (x := x) hL hw0 (by omega) hs j 0 (by omega)
  rw [h52] at cf
  rw [show ((w0 + 0 : Nat) : Int) = (w0 : Int) from rfl] at cf
  rw [cf, h51, b195_54 hL (by omega) (by omega), tn0, k11, if_neg (fun q => q rfl), b195_69 hL (by omega) (by omega) (by rw [tn0, hm]; omega) (by rw [tn0, hm]; omega) (by rw [tn0, hm, tn0, ho.1]; omega) (by rw [tn0, hm, tn0, ho.1]; exact ho.2.2) (by omega) (by omega) (by omega) (by omega)]
  simp only [tn0, hm, ho.1, hn, hT, hsl]
  rw [show (T : Int) + (sl : Int) = ((T + sl : Nat) : Int) by omega, c_set hL Tb kd]
  simp only [vWC_n, Nat.reduceAdd]
  have z0 : up (up (up I 1994 t ((T : Int) + nms)) 1992 (T + sl) (I 1990 3401)) 1993 (T + sl) (I 1990 3402) 1990 3400 = f := by rw [up_cell _ (by decide), up_cell _ (by decide), up_cell _ (by decide)]; exact hfl
  rw [b195_125 hL (by rw [z0]; omega) (by rw [z0]; omega), z0, tn0, b195_140 hL, b164_0 hL, c_act (A := B) hL h8 (by rw [up_cell _ (by decide), up_cell _ (by decide), up_cell _ (by decide), up_cell _ (by decide)]; exact hA)]
  simp only [vWC_s, Nat.reduceAdd]
  rw [b164_5 hL (by omega) (by omega)]
  simp only [tn0]
  rw [up_cell _ (show (50 : Nat) ≠ 2038 by decide), up_cell _ (show (50 : Nat) ≠ 1993 by decide), up_cell _ (show (50 : Nat) ≠ 1992 by decide), up_cell _ (show (50 : Nat) ≠ 1994 by decide), h50, up_cell _ (show (51 : Nat) ≠ 2038 by decide), up_cell _ (show (51 : Nat) ≠ 1993 by decide), up_cell _ (show (51 : Nat) ≠ 1992 by decide), up_cell _ (show (51 : Nat) ≠ 1994 by decide), h51, up_cell _ (show (2038 : Nat) ≠ 1993 by decide), up_cell _ (show (2038 : Nat) ≠ 1992 by decide), up_cell _ (show (2038 : Nat) ≠ 1994 by decide)]
theorem fail_C {x w0 j y m o f B : Nat} {p e : Int} {x6 x7 x8 : vV} (hL : vL Y) (hL' : vL Y') (h : IFs Y Y' X mm Nn Lp nm pr ht I I' th t (B + 1) W N) (hx : I 2007 (40 * t + B) = x) (f1 : I 48 x = w0 ∧ I' (X + 20) x = w0 ∧ I' (X + 21) x = (j : Int) + 1) (f2 : wF I I' Y Y' X mm Nn (w0 + j) x y m o p) (f3 : I 52 (w0 + j) = 3) (f4 : ∀ j', j' < j → w32 (I 52 (w0 + j')) ≠ w32 (I 52 (w0 + j))) (f6 : I 42 y ≤ I 42 x ∧ lkA (I' (X + 16)) (I 42 x - I 42 y).toNat x y) (ky : I 38 y = 11) (hsl : I' (X + 13) y = I 40 y ∧ 0 ≤ I 40 y ∧ I 40 y < I' (X + 3) m) (hf : f < 10) (hfl : I 1990 3400 = f) (hvv : vv (I 1990 3376) (I 1990 3401) (I 1990 3402) e)
    (hStay : ∀ F F', AS Y Y' X mm Nn Lp nm pr ht F F' th (W + 1) N → Q (.inl (some (vi 9)), (F, Y)) (.inl (some (vi 0)), (F', Y'))) :
    vW (d + 9) 195 (0, [vr 1990, vi t, vi 3, vu, vu, vu, vu], [], (I, Y)) (fun r => vW (d' + 6) 437 (13, [vr 2075, vi t, vi f, vl e, vu, vi 1, x6, x7, x8], [], (I', Y')) (fun r' => Q r r')) := by
  have h0 := h
  obtain ⟨s1, s2, s3, s4, ⟨s5, s6, s7, s8, s9, s10, s11⟩, s12, ⟨⟨r1, r2, r3, r4⟩, ⟨r5, r6⟩, r7, r8, r9⟩⟩ := h
  have th8 := s2.1.1.2.2
  have h8 : t < 8 := by omega
  obtain ⟨hX, hX2, hV⟩ := s1.1
  have Nn7 := s1.2.1.2
  rw [Nat.add_sub_cancel] at r7
  have rB := r8 B (by omega)
  have xN : x < Nn := by have := rB.2.1; clear f6; omega
  have wb := f2.1.1.1
  have we := f2.1.2.1.1
  have wf := f2.1.2.1.2.1
  have wh := f2.1.2.1.2.2.2
  have wy := f2.1.2.2.2.2.2.1
  have yN := f2.2.1.2.1
  have wk1 := f2.2.2.2.1.1
  have wk2 := f2.2.2.2.1.2.1
  have mmb := f2.2.2.2.1.2.2
  have wo := f2.2.2.2.2.1
  have wn := f2.2.2.2.2.2.1.2.1
  have a3 : 40 * t + B < 320 := by omega
  have mm24 := s1.2.1.1.1
  have hm : I 2006 (40 * t + B) = (m : Int) := by
    have := rB.2.1.2.2.2
    rw [hx, tn0] at this
    omega
  -- the member's names
  obtain ⟨o', p', nn, nd, me1, me2, me3, _⟩ := s1.2.2.2.2.2.2.1 m mmb
  have eo : o' = o := by rw [← me1.1]; exact wo.1
  subst eo
  obtain ⟨sl, hsl2⟩ : ∃ sl : Nat, I 40 y = sl := ⟨(I 40 y).toNat, by omega⟩
  have slb : sl < nm m := by have := me3.2.1; omega
  obtain ⟨T, hT0, Tb⟩ : ∃ T : Nat, I 2009 (40 * t + B) = T ∧ (8 + 5760 * t ≤ T ∧ T + 16 < 8 + 5760 * t + 5760) := by
    obtain ⟨b, s, h1, h2, h3, _⟩ := r7
    have z1 := h1 B (by omega)
    have bd := thV_bd h2 h3 (fun k hk => ⟨(h1 k hk).2.2.1, (h1 k hk).2.2.2⟩) B (by omega)
    rw [up_cell _ (show 2009 ≠ 1994 by decide)] at z1
    exact ⟨b B, z1.1, by omega⟩
  have nm16 : nm m ≤ 16 := by have := me3.2.2.1; have := me3.2.2.2; omega
  obtain ⟨nms, hnms⟩ : ∃ nms : Nat, nms = nm m := ⟨_, rfl⟩
  have hnn : I o' 3847 = nms := by rw [me3.1, hnms, me3.2.2.2]
  have kdv := vv_kind hvv
  have cw := fun K => c_wayC (d := d) (K := K) (x := x) (y := y) (w0 := w0) (j := j) (B := B) (m := m) (o := o') (T := T) (nms := nms) (sl := sl) (f := f) hL h8 (by rw [r1]; omega) (by omega) hx (by omega) f1.1 (by omega) f4 f3 wf we (by omega) ky hm (by omega) wo hnn hT0 hsl2 (by omega) kdv hf hfl
  rw [cw]
  have tf := fun K => t_fail (d' := d' + 5) (K := K) (B := B) (x := x) (y := y) (f := f) (e := e) (x6 := x6) (x7 := x7) (x8 := x8) hL' hX hV h8 (by omega) (by rw [r2]; omega) (by rw [← rB.2.1.1]; exact hx) (by omega) f1.2.1 f1.2.2 (by omega) wh
  simp only [tf]
  obtain ⟨w, hw⟩ : ∃ w : Nat, w = w0 + j := ⟨_, rfl⟩
  rw [← hw] at f2 f3 wb we wf wh ⊢
  clear cw tf f4
  -- the house's memory behind the puts
  have FC : fr [1992, 1993, 1994, 2038] [] I (up (up (up (up I 1994 t ((T : Int) + nms)) 1992 (T + sl) (I 1990 3401)) 1993 (T + sl) (I 1990 3402)) 2038 f (I 2038 f + 1)) := fr_upL (fr_upL (fr_upL (fr_upL (fr_refl _ _ _) rfl _ _) rfl _ _) rfl _ _) rfl _ _
  have e92 : ∀ q, up (up (up (up I 1994 t ((T : Int) + nms)) 1992 (T + sl) (I 1990 3401)) 1993 (T + sl) (I 1990 3402)) 2038 f (I 2038 f + 1) 1992 q = if q = T + sl then I 1990 3401 else I 1992 q := fun q => by rw [up_cell _ (by decide), up_cell _ (by decide), up_at, up_cell _ (by decide)]
  have e93 : ∀ q, up (up (up (up I 1994 t ((T : Int) + nms)) 1992 (T + sl) (I 1990 3401)) 1993 (T + sl) (I 1990 3402)) 2038 f (I 2038 f + 1) 1993 q = if q = T + sl then I 1990 3402 else I 1993 q := fun q => by rw [up_cell _ (by decide), up_at, up_cell _ (by decide), up_cell _ (by decide)]
  have e94 : ∀ q, up (up (up (up I 1994 t ((T : Int) + nms)) 1992 (T + sl) (I 1990 3401)) 1993 (T + sl) (I 1990 3402)) 2038 f (I 2038 f + 1) 1994 q = if q = t then (T : Int) + nms else I 1994 q := fun q => by rw [up_cell _ (by decide), up_cell _ (by decide), up_cell _ (by decide), up_at]
  have e38 : ∀ q, up (up (up (up I 1994 t ((T : Int) + nms)) 1992 (T + sl) (I 1990 3401)) 1993 (T + sl) (I 1990 3402)) 2038 f (I 2038 f + 1) 2038 q = if q = f then I 2038 f + 1 else I 2038 q := fun q => by rw [up_at, up_cell _ (by decide), up_cell _ (by decide), up_cell _ (by decide)]
  generalize up (up (up (up I 1994 t ((T : Int) + nms)) 1992 (T + sl) (I 1990 3401)) 1993 (T + sl) (I 1990 3402)) 2038 f (I 2038 f + 1) = C at FC e92 e93 e94 e38 ⊢
  have FR : fr [] [] I' I' := fr_refl _ _ _
  have aC := agT_fr FC FR rfl
  have sC := ST_ag s1 aC
  have lC : LZ C I' th 8 (-1) := su_keep su_LZ FC FR rfl s2
  have pC : PT0 Lp C I' := by
    obtain ⟨q1, q2, q3, q4, q5, q6, q7, q8, q9, q10, q11, q12, q13, q15, q16, q17, q18, q19, q20⟩ := PT_0 s3
    have hVv : pVars C I' := fun v hv hv9 => by
      rw [FC 1960 _ rfl] at hv9
      rw [FC 1990 _ rfl, e92, e93, if_neg (by omega), if_neg (by omega)]
      exact q20 v hv hv9
    exact ⟨su_keep su_tR FC FR rfl q1, su_keep su_pPath FC FR rfl q2, su_keep su_loR FC FR rfl q3, su_keep su_pArr FC FR rfl q4, su_keep su_pStep FC FR rfl q5, su_keep su_pKeep FC FR rfl q6, su_keep su_pCost FC FR rfl q7, su_keep su_pCalls FC FR rfl q8, su_keep su_pMet FC FR rfl q9, su_keep su_pPrint FC FR rfl q10, su_keep su_pBegun FC FR rfl q11, su_keep su_pLooks FC FR rfl q12, su_keep su_pPar FC FR rfl q13, su_keep su_pDone FC FR rfl q15, su_keep su_pLast FC FR rfl q16, su_keep su_pFor FC FR rfl q17, su_keep su_pTurns FC FR rfl q18, su_keep su_pSeed FC FR rfl q19, hVv⟩
  have bC : bud C I' W (ht 5000) := by
    obtain ⟨⟨n, b1, b2⟩, b3, b4⟩ := s4
    refine ⟨⟨n, hR_same b1 (FC 1960 _ rfl) (fr_row FC 1979 (fun _ => rfl)) (fr_row FC 1980 (fun _ => rfl)) (fr_row FC 1981 (fun _ => rfl)) rfl rfl rfl rfl rfl, b2⟩, by rw [FC 1990 _ rfl]; exact b3, ⟨fun jj hjj => ?_, tot_le b4.2 (fr_row FC 35 (fun _ => rfl)) rfl (FC 1990 _ rfl)⟩⟩
    rw [FC 2014 jj rfl, FC 1990 _ rfl]; exact b4.1 jj hjj
  have c42 := fr_row FC 42 (fun _ => rfl)
  apply vW_out
  have lvg := lv_goC (d := d + 3) (d' := d') (x := x) (y := y) (w := w) (A := B + 1) (N := N) (Q := fun q r' => vWC (d + 9) 195 144 3 [vr 1990, vi t, vi 3, vi ((40 * t + B : Nat) : Int), vi w, vi y, vu] [] (fun r => vWC (d' + 6) 437 82 3 [vr 2075, vi t, vi f, vl e, vu, vi 1, vi ((40 * t + B : Nat) : Int), vi x, vi w] [] (fun r' => Q r r') r') q) hL hL' sC lC pC bC s5 (by rw [FC 1990 _ rfl]; exact s7) s8 (by rw [FC 1995 _ rfl]; exact r1) r3 r4 (by rw [FC 1996 _ rfl]; exact r5) (by rw [FC 2005 _ rfl]; exact r6) (fun k hk => by rw [FC 2007 _ rfl]; have := (r8 k hk).2.1; exact ⟨this.2.1, this.2.2.1⟩) (by rw [FC 2007 _ rfl]; exact hx) yN (by rw [c42]; exact f6)
  rw [Nat.add_sub_cancel] at lvg
  refine lvg (fun J J' hZ hPJ hBJ q1 q2 wk j96 j05 hl => ?_)
  clear lvg f6
  simp only [vWC_n, Nat.reduceAdd]
  have aT := agT_fr q1 q2 rfl
  have hwF := wF_ag (wF_ag f2 hX2 aC) hX2 aT
  have sJ := ST_ag sC aT
  have m403 : ∀ K : vE → Prop, vW (d' + 6) 437 (85, [vr 2075, vi t, vi f, vl e, vu, vi 1, vi ((40 * t + B : Nat) : Int), vi x, vi w], [], (J', Y')) K ↔ vW (d' + 5) 403 (0, [vr 2075, vi ((40 * t + B : Nat) : Int), vi w, vu, vu, vu], [], (J', Y')) (vWC (d' + 6) 437 90 3 [vr 2075, vi t, vi f, vl e, vu, vi 1, vi ((40 * t + B : Nat) : Int), vi x, vi w] [] K) := fun K => b437_85 hL'
  simp only [m403]
  show vW (d + 8) 164 (80, [vr 1990, vi t, vi w, vi ((40 * t + B : Nat) : Int), vi x, vi y, vu], [], (J, Y)) (vWC (d + 9) 195 144 3 [vr 1990, vi t, vi 3, vi ((40 * t + B : Nat) : Int), vi w, vi y, vu] [] (fun r => vW (d' + 5) 403 (0, [vr 2075, vi ((40 * t + B : Nat) : Int), vi w, vu, vu, vu], [], (J', Y')) (vWC (d' + 6) 437 90 3 [vr 2075, vi t, vi f, vl e, vu, vi 1, vi ((40 * t + B : Nat) : Int), vi x, vi w] [] (fun r' => Q r r'))))
  apply vW_out
  have hWW : W ≤ 20000 := by have := sa_nn (I 1995) t th; omega
  have R1 : fr [2017, 2018, 2019, 2022, 2023, 2024, 2025, 2026, 1996, 2005, 2004, 2000, 2012, 2013, 1992, 1993, 1994, 2038] [] I J := fr_trans (fr_weak FC (by decide) (by decide)) (fr_weak q1 (by decide) (by decide))
  refine g_goB0 (d := d + 4) (d' := d' + 1) (x := x) (y := y) (m := m) (o := o') (mm := mm) (Nn := Nn) (Lp := Lp) (W := W) (p := p) (l := (W : Int) + 1) hL hL' hX hX2 hV sJ.2.2.1 sJ.2.1.1.1 hwF a3 hPJ hBJ hWW ⟨by rw [R1 2006 _ rfl]; exact hm, by rw [q2 2197 _ rfl, ← rB.1.1]; exact hm⟩ ⟨by rw [q2 2198 _ rfl, ← rB.2.1.1]; exact hx, lvb_at hZ.1.1.1.2.1 s5 (by rw [q2 2186 _ rfl]; exact r2) (by omega) (by omega)⟩ (fun hp => ?_) (fun F F' k1z k2z k3 k4 k5 k6 k7 k8 k9' k10 k11' => ?_)
  · have z := rB.2.2.2
    rw [hm, tn0, wn, hx, tn0] at z
    have z2 := z hp
    rw [R1 2011 _ rfl, q2 2202 _ rfl, q2 2203 _ rfl, fr_row q2 2178 (fun _ => rfl), R1 62 _ rfl]
    exact z2
  clear k3
  have H1 : fr [65, 2011, 1979, 1980, 1981, 1970, 1971, 1972, 1973, 1975, 1976, 1977, 1978, 2014] [(1990, 3392), (1960, 3090)] J F := k4
  have H2 : fr [2183, 2202, 2203, 2255, 2256, 2257, 2258, 2241, 2242, 2243, 2244, 2245, 2246, 2247, 2248, 2209, 2198, 2199, 2200] [(2075, 7736), (2075, 7818)] J' F' := k5
  simp only [vWC_n, Nat.reduceAdd]
  have x38 : F 38 y = 11 := by rw [H1 38 _ rfl, R1 38 _ rfl]; exact ky
  have x43 : F 43 y = I 43 y := by rw [H1 43 _ rfl, R1 43 _ rfl]
  rw [b195_147 hL (by omega) (by omega), tn0, x38, if_neg (by decide), b195_161 hL (by omega) (by omega), tn0, x38, if_neg (by decide), b195_175 hL, b169_0 hL (by omega) (by omega) (by omega) (by omega)]
  simp only [tn0, vWC_n, Nat.reduceAdd, b195_182, x43]
  have y98 : F' 2198 (40 * t + B) = y := by rw [(k9' _).1, if_pos rfl]
  have y9 : F' (X + 9) y = 11 := by
    rw [fr_out H2 2081 2182 (by rfl) (by omega) (by omega), fr_out q2 2081 2182 (by rfl) (by omega) (by omega), ← wy.1]; exact ky
  have y13 : F' (X + 13) y = sl := by
    rw [fr_out H2 2081 2182 (by rfl) (by omega) (by omega), fr_out q2 2081 2182 (by rfl) (by omega) (by omega), hsl.1]; exact hsl2
  have m13 : ∀ K : vE → Prop, vW (d' + 6) 437 (93, [vr 2075, vi t, vi f, vl e, vu, vi 1, vi ((40 * t + B : Nat) : Int), vi x, vi w], [], (F', Y')) K ↔ K (.inl (some (vi 0)), (up (up F' 2205 (16 * (40 * t + B) + sl) e) 2250 f (F' 2250 f + 1), Y')) := fun K => by
    rw [b437_93 hL' hV (by omega) (by omega) (by rw [tn0, y98]; omega) (by rw [tn0, y98]; omega), hX, tn0, y98, tn0, y9, if_neg (fun q => q rfl), b437_113 hL' hV (by omega) (by omega) (by rw [tn0, y98]; omega) (by rw [tn0, y98]; omega), hX, tn0, y98, tn0, y13, b442_0, if_pos (by rw [w32_id (by decide) (by decide), w32_id (by omega) (by omega)]; omega), b442_18 hL' (by omega) (by omega), b442_30]
    simp only [vWC_n, Nat.reduceAdd]
    rw [b437_135 hL' (by omega) (by omega), tn0, show (16 * ((40 * t + B : Nat) : Int) + (sl : Int)).toNat = 16 * (40 * t + B) + sl by omega, up_cell _ (show (2250 : Nat) ≠ 2205 by decide)]
  simp only [m13]
  -- the memories at the end
  have G1 : fr [2007, 2008] [] F (up (up F 2007 (40 * t + B) (y : Int)) 2008 (40 * t + B) (I 43 y)) := fr_upL (fr_upL (fr_refl _ _ _) rfl _ _) rfl _ _
  have n7 : ∀ b, up (up F 2007 (40 * t + B) (y : Int)) 2008 (40 * t + B) (I 43 y) 2007 b = if b = 40 * t + B then (y : Int) else I 2007 b := fun b => by rw [up_cell _ (by decide), up_at, H1 2007 _ rfl, R1 2007 _ rfl]
  have n8 : ∀ b, up (up F 2007 (40 * t + B) (y : Int)) 2008 (40 * t + B) (I 43 y) 2008 b = if b = 40 * t + B then I 43 y else I 2008 b := fun b => by rw [up_at, up_cell _ (by decide), H1 2008 _ rfl, R1 2008 _ rfl]
  have G2 : fr [2205, 2250] [] F' (up (up F' 2205 (16 * (40 * t + B) + sl) e) 2250 f (F' 2250 f + 1)) := fr_upL (fr_upL (fr_refl _ _ _) rfl _ _) rfl _ _
  have m5 : ∀ q, up (up F' 2205 (16 * (40 * t + B) + sl) e) 2250 f (F' 2250 f + 1) 2205 q = if q = 16 * (40 * t + B) + sl then e else I' 2205 q := fun q => by rw [up_cell _ (by decide), up_at, H2 2205 _ rfl, q2 2205 _ rfl]
  have m50 : ∀ q, up (up F' 2205 (16 * (40 * t + B) + sl) e) 2250 f (F' 2250 f + 1) 2250 q = if q = f then F' 2250 f + 1 else F' 2250 q := fun q => by rw [up_at, up_cell _ (by decide)]
  refine hStay _ _ ?_
  have LM : LZ (up (up F 2007 (40 * t + B) (y : Int)) 2008 (40 * t + B) (I 43 y)) F' th 8 (-1) := LZ_moveL (A := B + 1) hZ.1 hZ.2 s5 (by rw [R1 1995 _ rfl]; exact r1) (by omega) j96 j05 (fr_upL (fr_upL (fr_weak H1 (by decide) (by decide)) rfl _ _) rfl _ _) H2 (fun b hb => by rw [Nat.add_sub_cancel] at hb; rw [n7, if_neg hb, R1 2007 _ rfl]) (by
    rw [Nat.add_sub_cancel, n7, if_pos rfl, tn0]
    exact ⟨hl.2.1, fun jj hjj => hl.2.2 jj (by rw [← hl.2.1]; exact hjj), by rw [hl.1, hl.2.1]⟩)
  generalize up (up F 2007 (40 * t + B) (y : Int)) 2008 (40 * t + B) (I 43 y) = JF at G1 n7 n8 LM ⊢
  generalize up (up F' 2205 (16 * (40 * t + B) + sl) e) 2250 f (F' 2250 f + 1) = JF' at G2 m5 m50 ⊢
  have GF : fr [] [] JF JF := fr_refl _ _ _
  have T1 : fr [2017, 2018, 2019, 2022, 2023, 2024, 2025, 2026, 1996, 2005, 2004, 2000, 2012, 2013, 65, 2011, 1979, 1980, 1981, 1970, 1971, 1972, 1973, 1975, 1976, 1977, 1978, 2014, 1992, 1993, 1994, 2007, 2008, 2038] [(1990, 3392), (1960, 3090)] I JF := fr_trans (fr_trans (fr_weak R1 (by decide) (by decide)) (fr_weak H1 (by decide) (by decide))) (fr_weak G1 (by decide) (by decide))
  have T2 : fr [2211, 2212, 2213, 2214, 2217, 2218, 2219, 2220, 2221, 2222, 2187, 2196, 2195, 2190, 2204, 2183, 2202, 2203, 2255, 2256, 2257, 2258, 2241, 2242, 2243, 2244, 2245, 2246, 2247, 2248, 2209, 2198, 2199, 2200, 2205, 2250] [(2075, 7736), (2075, 7818)] I' JF' := fr_trans (fr_trans (fr_weak q2 (by decide) (by decide)) (fr_weak H2 (by decide) (by decide))) (fr_weak G2 (by decide) (by decide))
  have v92 : ∀ q, JF 1992 q = if q = T + sl then I 1990 3401 else I 1992 q := fun q => by rw [G1 1992 _ rfl, H1 1992 _ rfl, q1 1992 _ rfl, e92]
  have v93 : ∀ q, JF 1993 q = if q = T + sl then I 1990 3402 else I 1993 q := fun q => by rw [G1 1993 _ rfl, H1 1993 _ rfl, q1 1993 _ rfl, e93]
  have v94 : ∀ q, JF 1994 q = if q = t then (T : Int) + nms else I 1994 q := fun q => by rw [G1 1994 _ rfl, H1 1994 _ rfl, q1 1994 _ rfl, e94]
  have m00 : ∀ b, JF' 2200 b = if b = 40 * t + B then 0 else I' 2200 b := fun b => by
    rw [G2 2200 _ rfl, (k9' b).2.2, q2 2200 _ rfl]
  have tn := thV_name (J := JF) (J' := JF') (j := sl) (P := T + sl) (kd := I 1990 3401) (v := I 1990 3402) (e := e) r7 (by omega) r4 (by rw [Nat.add_sub_cancel, up_cell _ (by decide), hm, tn0]; exact slb) (by rw [Nat.add_sub_cancel, up_cell _ (by decide), hT0]; rfl) hvv (fun q => by rw [up_cell _ (by decide)]; exact v92 q) (fun q => by rw [up_cell _ (by decide)]; exact v93 q) (funext fun u => by rw [v94, up_at, hT0, hm, tn0, hnms]) (by rw [up_row _ (by decide)]; exact fr_row T1 2009 (fun _ => rfl)) (by rw [up_row _ (by decide)]; exact fr_row T1 2006 (fun _ => rfl)) (funext fun u => by rw [m00, up_at]) (fun q => by rw [up_cell _ (by decide), Nat.add_sub_cancel]; exact m5 q) (by rw [up_row _ (by decide)]; exact fr_row T2 2206 (fun _ => rfl))
  have PF : PT Lp JF JF' := by
    refine PT_1 ?_ (fun jj hjj => ?_)
    · obtain ⟨q1, q2, q3, q4, q5, q6, q7, q8, q9, q10, q11, q12, q13, q15, q16, q17, q18, q19, q20⟩ := k1z
      exact ⟨su_keep su_tR G1 G2 rfl q1, su_keep su_pPath G1 G2 rfl q2, su_keep su_loR G1 G2 rfl q3, su_keep su_pArr G1 G2 rfl q4, su_keep su_pStep G1 G2 rfl q5, su_keep su_pKeep G1 G2 rfl q6, su_keep su_pCost G1 G2 rfl q7, su_keep su_pCalls G1 G2 rfl q8, su_keep su_pMet G1 G2 rfl q9, su_keep su_pPrint G1 G2 rfl q10, su_keep su_pBegun G1 G2 rfl q11, su_keep su_pLooks G1 G2 rfl q12, su_keep su_pPar G1 G2 rfl q13, su_keep su_pDone G1 G2 rfl q15, su_keep su_pLast G1 G2 rfl q16, su_keep su_pFor G1 G2 rfl q17, su_keep su_pTurns G1 G2 rfl q18, su_keep su_pSeed G1 G2 rfl q19, su_keep su_pVars G1 G2 rfl q20⟩
    · have a := (PT_14 s3) jj hjj
      rw [T1 2037 _ rfl, T2 2249 _ rfl, T1 2039 _ rfl, T2 2251 _ rfl, T1 2040 _ rfl, T2 2252 _ rfl, m50, G1 2038 _ rfl, H1 2038 _ rfl, q1 2038 _ rfl, e38, H2 2250 _ rfl, H2 2250 _ rfl, q2 2250 _ rfl, q2 2250 _ rfl]
      by_cases z : jj = f
      · subst z
        simp only [if_true]
        exact ⟨a.1, by rw [a.2.1], a.2.2.1, a.2.2.2⟩
      · simp only [z, if_false]
        exact a
  have BF : bud JF JF' (W + 1) (ht 5000) := by
    obtain ⟨⟨n, b1, b2⟩, b3, b4⟩ := k2z
    have x1 := fr_row G2 2255 (fun _ => rfl)
    have x2 := fr_row G2 2256 (fun _ => rfl)
    refine ⟨⟨n, hR_same b1 (G1 1960 _ rfl) (fr_row G1 1979 (fun _ => rfl)) (fr_row G1 1980 (fun _ => rfl)) (fr_row G1 1981 (fun _ => rfl)) (G2 2075 _ rfl) x1 x2 (fr_row G2 2257 (fun _ => rfl)) (fr_row G2 2258 (fun _ => rfl)), by rw [x1, x2]; exact b2⟩, by rw [G1 1990 _ rfl]; omega, ⟨fun jj hjj => ?_, tot_le b4.2 (fr_row G1 35 (fun _ => rfl)) (fr_row G2 2183 (fun _ => rfl)) (G1 1990 _ rfl)⟩⟩
    rw [G1 2014 jj rfl, G1 1990 _ rfl]; exact b4.1 jj hjj
  have fin := AS_at (JF := JF) (JF' := JF') (y := y) (m := m) h0 (su_keep su_LZ GF G2 rfl LM) PF BF T1 T2 (fun u hu ut => by
    have w9 := wk u hu ut
    rw [G1 1996 _ rfl, H1 1996 _ rfl, G1 2005 _ rfl, H1 2005 _ rfl]
    rw [FC 1996 _ rfl, FC 2005 _ rfl] at w9
    exact w9) (by rw [G1 1996 _ rfl, H1 1996 _ rfl]; exact j96) (by rw [G1 2005 _ rfl, H1 2005 _ rfl]; exact j05) tn.1 (fun u hu => agV_of hu (fun q hq => ⟨by rw [v92, if_neg (by omega)], by rw [v93, if_neg (by omega)]⟩) (fun v9 hv9 => by rw [v94, if_neg hv9]) (fun b hb => ⟨T1 2009 _ rfl, T1 2006 _ rfl, by rw [m00, if_neg (by omega)]⟩) (fun q hq => by rw [m5, if_neg (by omega)]) (fun q _ => T2 2206 _ rfl))
  rw [Nat.add_sub_cancel] at fin
  refine fin n7 n8 (fun b => by rw [G2 2198 _ rfl, (k9' b).1, q2 2198 _ rfl]) (fun b => by rw [G2 2199 _ rfl, (k9' b).2.1, q2 2199 _ rfl, fr_out q2 2081 2182 (by rfl) (by omega) (by omega)]) m00 (fun b hb => ⟨by rw [G1 2011 _ rfl, (k6 b hb).1, R1 2011 _ rfl], by rw [G2 2202 _ rfl, (k6 b hb).2.1, q2 2202 _ rfl], by rw [G2 2203 _ rfl, (k6 b hb).2.2, q2 2203 _ rfl]⟩) yN (by rw [ky]; decide) hm wk2 (fun hp => ?_)
  rw [wn] at hp
  have z := k7 hp (Or.inr (fun q => by rw [R1 38 _ rfl, ky] at q; omega))
  rw [G1 2011 _ rfl, fr_row G2 2178 (fun _ => rfl), G2 2202 _ rfl, G2 2203 _ rfl, wn]
  rw [R1 62 _ rfl] at z
  exact z
end
