/-! ===== node RETURN: both houses ===== -/
set_option maxRecDepth 20000
set_option maxHeartbeats 4000000
section
variable {d d' : Nat} {Y Y' : vY} {X mm Nn Lp : Nat} {nm pr ht : Nat → Nat} {I I' : vJ} {th t A i W N : Nat} {Q QQ : vE → vE → Prop}
/-- the house leaves an activation with the value that was got -/
theorem c_lend9 {K : vE → Prop} {B w x y T : Nat} {so : Int} (hL : vL Y) (h8 : t < 8) (hA : I 1995 t = (B : Int) + 1) (hA2 : B < 40) (hB : I 2009 (40 * t + B) = T) (hy : y < 700) (k1 : I 38 y = 1) (hw : w < 2100) (h50 : I 50 w = x) (hx : x < 700) (kx : I 38 x = 9) : vW (d + 9) 195 (147, [vr 1990, vi t, vi so, vi ((40 * t + B : Nat) : Int), vi w, vi y, vu], [], (I, Y)) K ↔ vW (d + 9) 195 (282, [vr 1990, vi t, vi so, vi ((40 * t + B : Nat) : Int), vi w, vi y, vi 0], [], (up (up I 1994 t T) 1995 t B, Y)) K := by
  have l1 := hL.1 2039 (by decide) (by decide)
  have l2 : Y.2.1 2039 = 100 := l1.1
  have l3 : Y.2.2.1 2039 = 10 := l1.2
  have e : (B : Int) + 1 - 1 = B := by omega
  rw [b195_147 hL (by omega) (by omega), tn0, k1, if_pos rfl, b195_185 hL (by omega) (by omega), tn0, k1, if_pos (by decide), b195_203, b195_204, b195_206, if_neg (by decide), b195_211 hL (by omega) (by omega) (by rw [tn0, h50]; omega) (by rw [tn0, h50]; omega), tn0, h50, tn0, kx, if_pos rfl, b195_244 hL, if_pos (by decide), b195_262, b195_263 (by decide) (by rw [l3]; decide) (by decide) l2, if_pos (by decide), b195_274, b195_275 (by decide) (by rw [l3]; decide) (by decide) (by decide) l2, up_zero, b195_277 hL, b170_0 hL, c_act (A := B) hL h8 hA]
  simp only [vWC_s, Nat.reduceAdd]
  rw [b170_14 hL (by omega) (by omega) (by omega) (by omega) (by omega) (by omega)]
  simp only [tn0, vWC_n, Nat.reduceAdd]
  rw [hB, hA, e]
theorem mv_r9 {x w : Nat} {e : Int} (hL : vL Y) (hL' : vL Y') (h : IFs Y Y' X mm Nn Lp nm pr ht I I' th t A W N) (hx : I 2007 (40 * t + (A - 1)) = x) (k9 : I 38 x = 9) (hw : (w : Int) = I 48 x) (hvv : vv (I 1990 3376) (I 1990 3401) (I 1990 3402) e)
    (hStay : ∀ J J', AS Y Y' X mm Nn Lp nm pr ht J J' th (W + 1) N → Q (.inl (some (vi 9)), (J, Y)) (.inl (some (vi 0)), (J', Y')))
    (hBack : ∀ (B : Nat) (F F' : vJ) (pc nd y : Nat), A = B + 1 → 0 < B → IS Y Y' X mm Nn Lp nm pr ht F F' th t B pc (W + 1) N → F 2007 (40 * t + (B - 1)) = nd → vW (d + 8) 177 (33, [vr 1990, vi t, vi ((40 * t + (B - 1) : Nat) : Int), vi nd, vi (2 * (pc : Int)), vr 37, vu, vu, vu], [], (F, Y)) (vWC (d + 9) 195 367 3 [vr 1990, vi t, vi 0, vi ((40 * t + B : Nat) : Int), vi w, vi y, vi 0] [] (fun r => Q r (.inl (some (vi 1)), (F', Y'))))) :
    vW (d + 9) 195 (0, [vr 1990, vi t, vi 0, vu, vu, vu, vu], [], (I, Y)) (fun r => vW (d' + 10) 443 (208, [vr 2075, vi t, vi ((40 * t + (A - 1) : Nat) : Int), vi x, vi w, vu, vu], [vl e], (I', Y')) (fun r' => Q r r')) := by
  have h0 := h
  obtain ⟨s1, s2, s3, s4, ⟨s5, s6, s7, s8, s9, s10, s11⟩, s12, ⟨⟨r1, r2, r3, r4⟩, ⟨r5, r6⟩, r7, r8, r9⟩⟩ := h
  have th8 := s2.1.1.2.2
  have h8 : t < 8 := by omega
  obtain ⟨hX, hX2, hV⟩ := s1.1
  have Nn7 := s1.2.1.2
  have xN : x < Nn := by have := (r8 (A - 1) (by omega)).2.1; omega
  have nf := s1.2.2.2.2.1 x xN
  have wm : I' (X + 21) x = wkN (I 38 x) := nf.2.1.2.2
  obtain ⟨w', y, m, o, p, w1, w2, w3, w4, w5, w6, w7, w8, w9, w10, w11, w12, w13⟩ := s1.2.2.2.2.2.1 x 0 xN (by rw [wm, k9]; decide)
  have ew : w' = w := by clear w4 w5 w6 w7 w8 w9 w10 w11 w12 w13; omega
  subst ew
  have w52 : I 52 w' = 0 := by rw [w3, k9]; decide
  have ky : I 38 y = 1 := w7 k9 w52
  have y42 : I 42 y = 0 := w6.2 (Or.inl ky)
  have hlk := w8 (Or.inr (Or.inl k9))
  clear w4 w5 w6 w7 w8 w9 w10 w11 w12 w13
  have wb := w2.1.1.1
  have we := w2.1.2.1.1
  have wf := w2.1.2.1.2.1
  have wh := w2.1.2.1.2.2.2
  have yN := w2.2.1.2.1
  have wk1 := w2.2.2.2.1.1
  have wn := w2.2.2.2.2.2.1.2.1
  cases A with
  | zero => omega
  | succ B =>
  rw [Nat.add_sub_cancel] at *
  have a3 : 40 * t + B < 320 := by omega
  rw [show w' = w' + 0 from rfl] at we wf w52
  have cw := fun K => c_way (d := d) (K := K) (x := x) (y := y) (w0 := w') (j := 0) (B := B) hL h8 (by rw [r1]; omega) (by omega) hx (by omega) hw.symm (by omega) (fun _ q => absurd q (by omega)) w52 wf we (by omega) (by rw [ky]; decide) (by rw [ky]; decide)
  rw [Nat.add_zero] at cw we wf w52
  rw [cw]
  have m438 : ∀ K : vE → Prop, vW (d' + 10) 443 (208, [vr 2075, vi t, vi ((40 * t + B : Nat) : Int), vi x, vi w', vu, vu], [vl e], (I', Y')) K ↔ vW (d' + 9) 438 (0, [vr 2075, vi ((40 * t + B : Nat) : Int), vi x, vi y, vu], [], (I', Y')) (vWC (d' + 10) 443 223 3 [vr 2075, vi t, vi ((40 * t + B : Nat) : Int), vi x, vi w', vl e, vu] [] K) := fun K => by
    rw [b443_208 hL' hV (by omega) (by omega), hX, tn0, wh]
  simp only [m438]
  apply vW_out
  have lvg := lv_go (d := d + 3) (d' := d' + 4) (x := x) (y := y) (w := w') (Q := fun q r' => vWC (d + 9) 195 144 3 [vr 1990, vi t, vi 0, vi ((40 * t + B : Nat) : Int), vi w', vi y, vu] [] (fun r => vWC (d' + 10) 443 223 3 [vr 2075, vi t, vi ((40 * t + B : Nat) : Int), vi x, vi w', vl e, vu] [] (fun r' => Q r r') r') q) hL hL' h0 hx yN hlk
  rw [Nat.add_sub_cancel] at lvg
  refine lvg (fun J J' hJ f1 f2 hl => ?_)
  clear lvg cw hlk
  simp only [vWC_n, Nat.reduceAdd]
  have hIL0 := hJ
  obtain ⟨j1, ⟨j2, j2l⟩, j3, j4, ⟨j5, j6, j7, j8, j9, j10, j11⟩, j12, ⟨⟨u1, u2, u3, u4⟩, ⟨u5, u6⟩, u7, u8, u9⟩⟩ := hJ
  have aT := agT_fr f1 f2 rfl
  have hwF := wF_ag w2 hX2 aT
  have m403 : ∀ K : vE → Prop, vW (d' + 10) 443 (226, [vr 2075, vi t, vi ((40 * t + B : Nat) : Int), vi x, vi w', vl e, vu], [], (J', Y')) K ↔ vW (d' + 9) 403 (0, [vr 2075, vi ((40 * t + B : Nat) : Int), vi w', vu, vu, vu], [], (J', Y')) (vWC (d' + 10) 443 230 3 [vr 2075, vi t, vi ((40 * t + B : Nat) : Int), vi x, vi w', vl e, vu] [] K) := fun K => b443_226 hL'
  simp only [m403]
  show vW (d + 8) 164 (80, [vr 1990, vi t, vi w', vi ((40 * t + B : Nat) : Int), vi x, vi y, vu], [], (J, Y)) (vWC (d + 9) 195 144 3 [vr 1990, vi t, vi 0, vi ((40 * t + B : Nat) : Int), vi w', vi y, vu] [] (fun r => vW (d' + 9) 403 (0, [vr 2075, vi ((40 * t + B : Nat) : Int), vi w', vu, vu, vu], [], (J', Y')) (vWC (d' + 10) 443 230 3 [vr 2075, vi t, vi ((40 * t + B : Nat) : Int), vi x, vi w', vl e, vu] [] (fun r' => Q r r'))))
  apply vW_out
  have hWW : W ≤ 20000 := by have := sa_nn (J 1995) t th; omega
  obtain ⟨c1, c2, c3, c4⟩ := u8 B (by omega)
  have jx : J 2007 (40 * t + B) = x := by rw [f1 2007 _ rfl]; exact hx
  have wk1' := hwF.2.2.2.1.1
  have wn' := hwF.2.2.2.2.2.1.2.1
  have hm : J 2006 (40 * t + B) = (m : Int) := by
    have := c2.2.2.2
    rw [jx, tn0] at this
    omega
  refine g_goB0 (d := d + 4) (d' := d' + 5) (x := x) (y := y) (m := m) (o := o) (mm := mm) (Nn := Nn) (Lp := Lp) (W := W) (p := p) (l := (W : Int) + 1) hL hL' hX hX2 hV j1.2.2.1 j1.2.1.1.1 hwF a3 (PT_0 j3) j4 hWW ⟨hm, by omega⟩ ⟨by rw [← c2.1]; exact jx, lvb_at j2.1.1.2.1 j5 u2 (by omega) u4⟩ (fun hp => ?_) (fun F F' k1z k2z k3 k4 k5 k6 k7 k8 k9' k10 k11' => ?_)
  · have z := c4
    rw [hm, tn0, wn', jx, tn0] at z
    exact z hp
  clear k3
  have H1 : fr [65, 2011, 1979, 1980, 1981, 1970, 1971, 1972, 1973, 1975, 1976, 1977, 1978, 2014] [(1990, 3392), (1960, 3090)] J F := k4
  have H2 : fr [2183, 2202, 2203, 2255, 2256, 2257, 2258, 2241, 2242, 2243, 2244, 2245, 2246, 2247, 2248, 2209, 2198, 2199, 2200] [(2075, 7736), (2075, 7818)] J' F' := k5
  have k1 : PT Lp F F' := PT_1 k1z (su_keep su_pThr H1 H2 rfl (PT_14 j3))
  have k2 : bud F F' (W + 1) (ht 5000) := ⟨k2z.1, by have := k2z.2.1; omega, k2z.2.2⟩
  clear k1z k2z
  simp only [vWC_n, Nat.reduceAdd]
  have g3 : ∀ b, b ≠ 40 * t + B → F' 2198 b = J' 2198 b ∧ F' 2199 b = J' 2199 b ∧ F' 2200 b = J' 2200 b ∧ F 2011 b = J 2011 b ∧ F' 2202 b = J' 2202 b ∧ F' 2203 b = J' 2203 b := fun b hb => ⟨by rw [(k9' b).1, if_neg hb], by rw [(k9' b).2.1, if_neg hb], by rw [(k9' b).2.2, if_neg hb], (k6 b hb).1, (k6 b hb).2.1, (k6 b hb).2.2⟩
  obtain ⟨T, hT0⟩ : ∃ T : Nat, J 2009 (40 * t + B) = T := by
    obtain ⟨b, s, h1, _⟩ := u7
    have z1 := h1 B (by omega)
    rw [up_cell _ (show 2009 ≠ 1994 by decide)] at z1
    exact ⟨b B, z1.1⟩
  have f38 : F 38 = I 38 := by rw [fr_row H1 38 (fun _ => rfl), fr_row f1 38 (fun _ => rfl)]
  rw [c_lend9 (x := x) (T := T) hL h8 (by rw [H1 1995 _ rfl, u1]; omega) (by omega) (by rw [H1 2009 _ rfl]; exact hT0) (by omega) (by rw [f38]; exact ky) (by omega) (by rw [H1 50 _ rfl, f1 50 _ rfl]; exact we) (by omega) (by rw [f38]; exact k9)]
  have m418 : ∀ K : vE → Prop, vW (d' + 10) 443 (233, [vr 2075, vi t, vi ((40 * t + B : Nat) : Int), vi x, vi w', vl e, vu], [], (F', Y')) K ↔ vW (d' + 9) 418 (10, [vr 2075, vi t, vl e, vu], [], (up F' 2186 t (B : Int), Y')) (vWC (d' + 10) 443 237 3 [vr 2075, vi t, vi ((40 * t + B : Nat) : Int), vi x, vi w', vl e, vu] [] K) := fun K => by
    rw [b443_233 hL', b418_0 hL' (by omega) (by omega), tn0, H2 2186 _ rfl, u2, show ((B + 1 : Nat) : Int) - 1 = B by omega]
  simp only [m418]
  have hd : J 2012 (40 * t + B) = 0 := by
    rw [hl.1, fr_row f1 42 (fun _ => rfl)]; exact y42
  have arF : J 1990 3376 = I 1990 3376 := f1 1990 _ rfl
  have hE : goE J J' F' (40 * t + B) := ⟨k5, by rw [(k9' _).1, if_pos rfl, tn0, f1 38 _ rfl, ky]; decide⟩
  cases B with
  | zero =>
    have eT : T = 8 + 5760 * t := by
      obtain ⟨b, s, h1, h2, _⟩ := u7
      have q1 := (h1 0 (by omega)).1
      rw [up_cell _ (show 2009 ≠ 1994 by decide), h2 (by omega)] at q1
      omega
    subst eT
    refine mv_end0g (d' := d' + 1) (Q := fun r q => vWC (d' + 10) 443 237 3 [vr 2075, vi t, vi ((40 * t + 0 : Nat) : Int), vi x, vi w', vl e, vu] [] (fun r' => Q r r') q) hL hL' hIL0 k1 k2 k4 hE (fr_refl _ _ _) hd g3 (fun F2 F2' hA2 => ?_)
    simp only [vWC_s, Nat.reduceAdd]
    rw [b443_240 (Or.inl rfl)]
    exact hStay F2 F2' hA2
  | succ B =>
    refine mv_end1g (d' := d' + 1) (T := T) (Q := fun r q => vWC (d' + 10) 443 237 3 [vr 2075, vi t, vi ((40 * t + (B + 1) : Nat) : Int), vi x, vi w', vl e, vu] [] (fun r' => Q r r') q) hL hL' hIL0 (by omega) k1 k2 k4 hE (fr_refl _ _ _) rfl rfl (by rw [arF, H1 1990 _ rfl, H1 1990 3402 rfl, f1 1990 _ rfl, f1 1990 3402 rfl]; exact hvv) hT0 hd g3 (fun F2 F2' pc nd e1 e2 => ?_)
    refine vWmo (Nat.le_refl _) (fun q hq => vWC_mo (fun r hr => ?_) hq) (hBack (B + 1) F2 F2' pc nd y rfl (by omega) e1 e2)
    simp only [vWC_s, Nat.reduceAdd]
    rw [b443_240 (Or.inr rfl)]
    exact hr
/-- the model goes back with a value, and what comes behind it -/
def onr (D D' : Nat) (Y Y' : vY) (t a nd w : Nat) (y5 y6 : vV) (e : Int) (J J' : vJ) (Q : vE → vE → Prop) : Prop := vW D 443 (208, [vr 2075, vi t, vi a, vi nd, vi w, vu, vu], [vl e], (J', Y')) (fun q => ∃ (s : Int) (M : vJ × vY), q = (.inl (some (vi s)), M) ∧ (s = 0 ∨ s = 1) ∧ vW D' 422 (2, [vr 2075, vi t, vi s, vi a, vi nd, y5, y6], [], M) (fun r' => Q (.inl (some (vi 0)), (J, Y)) r'))
theorem ret_go {x w D' : Nat} {a0 k0 e : Int} {y5 y6 : vV} (hL : vL Y) (hL' : vL Y') (h : IFs Y Y' X mm Nn Lp nm pr ht I I' th t A W N) (hx : I 2007 (40 * t + (A - 1)) = x) (k9 : I 38 x = 9) (hw : (w : Int) = I 48 x) (hvv : vv (I 1990 3376) (I 1990 3401) (I 1990 3402) e) (hQ : bk d Y t a0 k0 QQ Q)
    (hStay : ∀ F F', AS Y Y' X mm Nn Lp nm pr ht F F' th (W + 1) N → vW (d + 10) 174 (170, [vr 1990, vi t, vi a0, vi k0, vi 9], [], (F, Y)) (fun z => QQ z (.inl none, (F', Y'))))
    (hBack : ∀ (B : Nat) (F F' : vJ) (pc nd : Nat) (Q2 : vE → vE → Prop), bk d Y t a0 k0 QQ Q2 → A = B + 1 → 0 < B → IS Y Y' X mm Nn Lp nm pr ht F F' th t B pc (W + 1) N → F 2007 (40 * t + (B - 1)) = nd → vW (d + 8) 177 (33, [vr 1990, vi t, vi ((40 * t + (B - 1) : Nat) : Int), vi nd, vi (2 * (pc : Int)), vr 37, vu, vu, vu], [], (F, Y)) (fun r => vW D' 422 (2, [vr 2075, vi t, vi 1, vi ((40 * t + (A - 1) : Nat) : Int), vi x, y5, y6], [], (F', Y')) (fun r' => Q2 r r'))) :
    onr (d' + 10) D' Y Y' t (40 * t + (A - 1)) x w y5 y6 e I I' Q := by
  have r6 : I 2005 t = 0 := h.2.2.2.2.2.2.2.1.2
  have main := mv_r9 (d := d) (d' := d') (x := x) (w := w) (e := e) (Q := fun r q => ∃ (s : Int) (M : vJ × vY), q = (.inl (some (vi s)), M) ∧ (s = 0 ∨ s = 1) ∧ vW D' 422 (2, [vr 2075, vi t, vi s, vi ((40 * t + (A - 1) : Nat) : Int), vi x, y5, y6], [], M) (fun r' => vWC (d + 10) 174 162 3 [vr 1990, vi t, vi a0, vi k0, vi 0] [] (fun z => QQ z r') r)) hL hL' h hx k9 hw hvv (fun F F' hA => ?_) (fun B F F' pc nd y e1 e2 e3 e4 => ?_)
  · refine vWmo (Nat.le_refl _) (fun q hq => ?_) (vW_swap.mp main)
    obtain ⟨r, hr, s, M, q1, q2, q3⟩ := hq
    refine ⟨s, M, q1, q2, vWmo (Nat.le_refl _) (fun r' hc => hQ _ _ _ r6 ?_) q3⟩
    rw [b174_151, if_neg (by decide), b174_158 hL]
    exact ⟨r, hr, hc⟩
  · refine ⟨0, (F', Y'), rfl, Or.inl rfl, ?_⟩
    rw [b422_2, if_pos (by decide), b422_121]
    simp only [vWC_s, Nat.reduceAdd]
    rw [b174_165, b174_151, if_pos rfl]
    exact hStay F F' hA
  · have g := hBack B F F' pc nd (fun r r' => vWC (d + 9) 195 367 3 [vr 1990, vi t, vi 0, vi ((40 * t + B : Nat) : Int), vi w, vi y, vi 0] [] (fun r2 => vWC (d + 10) 174 162 3 [vr 1990, vi t, vi a0, vi k0, vi 0] [] (fun z => QQ z r') r2) r) (fun s J r' _ hz => ?_) e1 e2 e3 e4
    · refine vWmo (Nat.le_refl _) (fun r hr => ?_) g
      exact vWC_mo (fun r2 hr2 => ⟨1, (F', Y'), rfl, Or.inr rfl, hr2⟩) (vWC_out hr)
    · simp only [vWC_s, Nat.reduceAdd, b195_370]
      rw [b174_165]
      exact hz
theorem e_ret {nd w : Nat} {x6 x7 x8 y3 y4 y5 y6 : vV} (hL : vL Y) (hL' : vL Y') (h : IS Y Y' X mm Nn Lp nm pr ht I I' th t A i W N) (hi : ¬ (i : Int) < I' (X + 12) (I 2007 (40 * t + (A - 1))).toNat) (hnd : I 2007 (40 * t + (A - 1)) = nd) (hw : I 48 nd = w) (hk : I 38 nd = 9)
    (hOn : ∀ (J J' : vJ) (e : Int), IFs Y Y' X mm Nn Lp nm pr ht J J' th t A W N → J 2007 (40 * t + (A - 1)) = nd → J 38 = I 38 → J 48 = I 48 → vv (J 1990 3376) (J 1990 3401) (J 1990 3402) e → onr (d' + 10) (d' + 11) Y Y' t (40 * t + (A - 1)) nd w y5 y6 e J J' Q) :
    vW (d + 9) 177 (33, [vr 1990, vi t, vi ((40 * t + (A - 1) : Nat) : Int), vi nd, vi (2 * (i : Int)), vr 37, x6, x7, x8], [], (I, Y)) (fun r => vW (d' + 11) 422 (2, [vr 2075, vi t, vi 1, y3, y4, y5, y6], [], (I', Y')) (fun r' => Q r r')) := by
  obtain ⟨nd', B, T, w', ⟨a1, a2, a3, a4⟩, ⟨b1, b2, b3, b3'⟩, ⟨b4, b5, b6⟩, ⟨c1, c2, c3⟩, ⟨c4, c5⟩, c6, ⟨c7, c8, c9, c10, c11, c12⟩, ⟨v1, v2⟩, ⟨p1, p2, p3⟩⟩ := IS_end h hi
  have e0 : nd' = nd := by omega
  subst e0
  have e1 : w' = w := by omega
  subst e1
  obtain ⟨hX, hX2, hV⟩ := h.1.1
  have hv1 : wkV (I 38 nd') = 1 := by rw [hk]; decide
  rw [c6, hv1] at p3 c9
  have vt := v2 0 (by rw [c6, hv1]; decide)
  rw [Nat.add_zero, Nat.add_zero] at vt
  obtain ⟨p, hp⟩ : ∃ p : Nat, p = B + nm (I 2006 (40 * t + (A - 1))).toNat := ⟨_, rfl⟩
  rw [← hp] at vt
  have E : I 1994 t - 1 = (p : Int) := by omega
  have hm : ∀ K : vE → Prop, vW (d' + 11) 422 (2, [vr 2075, vi t, vi 1, y3, y4, y5, y6], [], (I', Y')) K ↔ vW (d' + 10) 443 (0, [vr 2075, vi t, vi ((40 * t + (A - 1) : Nat) : Int), vi nd', vu, vu, vu], [], (I', Y')) (vWC (d' + 11) 422 114 3 [vr 2075, vi t, vi 1, vi ((40 * t + (A - 1) : Nat) : Int), vi nd', y5, y6] [] K) := fun K => t_end (X := X) hL' hX hV a1 rfl a4 p1 b2 b3 b5 b6 p2
  have F2 : fr [2199, 2200] [] I' (up I' 2200 (40 * t + (A - 1)) ((0 : Nat) : Int)) := fr_upL (fr_refl _ _ _) rfl _ _
  have hI : IFs Y Y' X mm Nn Lp nm pr ht I (up I' 2200 (40 * t + (A - 1)) ((0 : Nat) : Int)) th t A W N := IS_fail h F2 (fun b hb => ⟨up_cell _ (by decide) _ _ _, up_place _ _ hb _⟩)
  have m443 : ∀ K : vE → Prop, vW (d' + 10) 443 (0, [vr 2075, vi t, vi ((40 * t + (A - 1) : Nat) : Int), vi nd', vu, vu, vu], [], (I', Y')) K ↔ vW (d' + 10) 443 (208, [vr 2075, vi t, vi ((40 * t + (A - 1) : Nat) : Int), vi nd', vi w', vu, vu], [vl (I' 2206 (160 * (40 * t + (A - 1))))], (up I' 2200 (40 * t + (A - 1)) ((0 : Nat) : Int), Y')) K := by
    intro K
    rw [b443_0 hL' hV (by omega) (by omega), hX, tn0, c1, c5, hk, show w32 9 = 9 from w32_id (by decide) (by decide)]
    simp only [Int.reduceEq, if_true, if_false]
    rw [b443_203 hL', t_pop (S := 0) hL' a4 (by rw [p3]; rfl) (by decide)]
    simp only [vWC_s, Nat.reduceAdd, Nat.add_zero]
  generalize up I' 2200 (40 * t + (A - 1)) ((0 : Nat) : Int) = J' at hI m443 F2
  generalize I' 2206 (160 * (40 * t + (A - 1))) = e at vt m443
  rw [c_end hL b3 b4 b6, b187_0 hL (by omega) (by omega) (by omega) (by omega)]
  simp only [hm, m443, tn0]
  rw [hk, show w32 9 = 9 from w32_id (by decide) (by decide)]
  simp only [Int.reduceEq, if_true, if_false]
  rw [E, b187_162 hL (by omega) (by omega), tn0]
  simp only [vWC_s, Nat.reduceAdd, b177_370]
  have G1 : fr [] [(1990, 3401), (1990, 3402)] I (up (up I 1990 3401 (I 1992 p)) 1990 3402 (I 1993 p)) := fr_upP (fr_upP (fr_refl _ _ _) rfl _) rfl _
  have z1 : up (up I 1990 3401 (I 1992 p)) 1990 3402 (I 1993 p) 1990 3401 = I 1992 p := by rw [up_place _ _ (by decide), up_same]
  have z2 : up (up I 1990 3401 (I 1992 p)) 1990 3402 (I 1993 p) 1990 3402 = I 1993 p := up_same _ _ _ _
  generalize up (up I 1990 3401 (I 1992 p)) 1990 3402 (I 1993 p) = G at G1 z1 z2 ⊢
  have G2 : fr [] [] J' J' := fr_refl _ _ _
  have hPT : PT Lp G J' := by
    obtain ⟨q1, q2, q3, q4, q5, q6, q7, q8, q9, q10, q11, q12, q13, q14, q15, q16, q17, q18, q19, q20⟩ := hI.2.2.1
    exact ⟨su_keep su_tR G1 G2 rfl q1, su_keep su_pPath G1 G2 rfl q2, su_keep su_loR G1 G2 rfl q3, su_keep su_pArr G1 G2 rfl q4, su_keep su_pStep G1 G2 rfl q5, su_keep su_pKeep G1 G2 rfl q6, su_keep su_pCost G1 G2 rfl q7, su_keep su_pCalls G1 G2 rfl q8, su_keep su_pMet G1 G2 rfl q9, su_keep su_pPrint G1 G2 rfl q10, su_keep su_pBegun G1 G2 rfl q11, su_keep su_pLooks G1 G2 rfl q12, su_keep su_pPar G1 G2 rfl q13, su_keep su_pThr G1 G2 rfl q14, su_keep su_pDone G1 G2 rfl q15, su_keep su_pLast G1 G2 rfl q16, su_keep su_pFor G1 G2 rfl q17, su_keep su_pTurns G1 G2 rfl q18, su_keep su_pSeed G1 G2 rfl q19, su_keep su_pVars G1 G2 rfl q20⟩
  have o := hOn G J' e (IFs_keep hI (fr_weak G1 (by decide) (by decide)) (fr_refl _ _ _) hPT) (by rw [G1 2007 _ rfl]; exact b1) (fr_row G1 38 (fun _ => rfl)) (fr_row G1 48 (fun _ => rfl)) (by rw [z1, z2, G1 1990 _ rfl]; exact vt)
  refine vWmo (Nat.le_refl _) (fun q hq => ?_) o
  obtain ⟨s, ⟨M1, M2⟩, q1, q2, q3⟩ := hq
  rw [q1]
  simp only [vWC_s, Nat.reduceAdd]
  rw [b422_117, b422_118]
  exact q3
end
