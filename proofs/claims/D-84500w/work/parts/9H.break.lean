/-! ===== node BREAK: both houses ===== -/
set_option maxRecDepth 20000
set_option maxHeartbeats 4000000
section
variable {d d' : Nat} {Y Y' : vY} {X mm Nn Lp : Nat} {nm pr ht : Nat → Nat} {I I' : vJ} {th t A i W N : Nat} {Q QQ : vE → vE → Prop}
theorem mv_brk {x w : Nat} (hL : vL Y) (hL' : vL Y') (h : IFs Y Y' X mm Nn Lp nm pr ht I I' th t A W N) (hx : I 2007 (40 * t + (A - 1)) = x) (hTop : I 1994 t = I 2009 (40 * t + (A - 1)) + nm (I 2006 (40 * t + (A - 1))).toNat) (kk : I 38 x = 16) (hw : (w : Int) = I 48 x)
    (hStay : ∀ J J', AS Y Y' X mm Nn Lp nm pr ht J J' th (W + 1) N → Q (.inl (some (vi 9)), (J, Y)) (.inl (some (vi 0)), (J', Y')))
    (hBack : ∀ (B : Nat) (F F' : vJ) (pc nd y : Nat), A = B + 1 → 0 < B → IS Y Y' X mm Nn Lp nm pr ht F F' th t B pc (W + 1) N → F 2007 (40 * t + (B - 1)) = nd → vW (d + 8) 177 (33, [vr 1990, vi t, vi ((40 * t + (B - 1) : Nat) : Int), vi nd, vi (2 * (pc : Int)), vr 37, vu, vu, vu], [], (F, Y)) (vWC (d + 9) 195 367 3 [vr 1990, vi t, vi 0, vi ((40 * t + B : Nat) : Int), vi w, vi y, vi 0] [] (fun r => Q r (.inl (some (vi 1)), (F', Y'))))) :
    vW (d + 9) 195 (0, [vr 1990, vi t, vi 0, vu, vu, vu, vu], [], (I, Y)) (fun r => vW (d' + 10) 443 (327, [vr 2075, vi t, vi ((40 * t + (A - 1) : Nat) : Int), vi x, vi w, vu, vu], [], (I', Y')) (fun r' => Q r r')) := by
  have h0 := h
  obtain ⟨s1, s2, s3, s4, ⟨s5, s6, s7, s8, s9, s10, s11⟩, s12, ⟨⟨r1, r2, r3, r4⟩, ⟨r5, r6⟩, r7, r8, r9⟩⟩ := h
  have th8 := s2.1.1.2.2
  have h8 : t < 8 := by omega
  obtain ⟨hX, hX2, hV⟩ := s1.1
  have Nn7 := s1.2.1.2
  have xN : x < Nn := by have := (r8 (A - 1) (by omega)).2.1; omega
  have nf := s1.2.2.2.2.1 x xN
  have wm : I' (X + 21) x = wkN (I 38 x) := nf.2.1.2.2
  obtain ⟨w', y, m, o, p, w1, w2, w3, w4, w5, w6, w7, w8, w9, w10, w11, w12, w13⟩ := s1.2.2.2.2.2.1 x 0 xN (by rw [wm, kk]; decide)
  have ew : w' = w := by clear w4 w5 w6 w7 w8 w9 w10 w11 w12 w13; omega
  subst ew
  have w52 : I 52 w' = 0 := by rw [w3, kk]; decide
  have ky := w5 (by rw [w52]; decide)
  have y42 : I 38 y = 1 → I 42 y = 0 := fun q => w6.2 (Or.inl q)
  have k0y : I 38 y ≠ 0 := w6.1
  have hlk := w8 (Or.inr (Or.inr kk))
  clear w4 w5 w6 w7 w8 w9 w10 w11 w12 w13
  have wb := w2.1.1.1
  have we := w2.1.2.1.1
  have wf := w2.1.2.1.2.1
  have wh := w2.1.2.1.2.2.2
  have wy := w2.1.2.2.2.2.2.1
  have yN := w2.2.1.2.1
  have a3 : 40 * t + (A - 1) < 320 := by omega
  rw [show w' = w' + 0 from rfl] at we wf w52
  have cw := fun K => c_way (d := d) (K := K) (x := x) (y := y) (w0 := w') (j := 0) (B := A - 1) hL h8 (by rw [r1]; omega) (by omega) hx (by omega) hw.symm (by omega) (fun _ q => absurd q (by omega)) w52 wf we (by omega) ky.1 wy.2
  rw [Nat.add_zero] at cw we wf w52
  rw [cw]
  have m438 : ∀ K : vE → Prop, vW (d' + 10) 443 (327, [vr 2075, vi t, vi ((40 * t + (A - 1) : Nat) : Int), vi x, vi w', vu, vu], [], (I', Y')) K ↔ vW (d' + 9) 438 (0, [vr 2075, vi ((40 * t + (A - 1) : Nat) : Int), vi x, vi y, vu], [], (I', Y')) (vWC (d' + 10) 443 340 3 [vr 2075, vi t, vi ((40 * t + (A - 1) : Nat) : Int), vi x, vi w', vu, vu] [] K) := fun K => by
    rw [b443_327 hL' hV (by omega) (by omega), hX, tn0, wh]
  simp only [m438]
  apply vW_out
  refine lv_go (d := d + 3) (d' := d' + 4) (x := x) (y := y) (w := w') (Q := fun q r' => vWC (d + 9) 195 144 3 [vr 1990, vi t, vi 0, vi ((40 * t + (A - 1) : Nat) : Int), vi w', vi y, vu] [] (fun r => vWC (d' + 10) 443 340 3 [vr 2075, vi t, vi ((40 * t + (A - 1) : Nat) : Int), vi x, vi w', vu, vu] [] (fun r' => Q r r') r') q) hL hL' h0 hx yN hlk (fun J J' hJ f1 f2 hl => ?_)
  clear cw hlk
  simp only [vWC_n, Nat.reduceAdd]
  have aT := agT_fr f1 f2 rfl
  have hwF := wF_ag w2 hX2 aT
  have m417 : ∀ K : vE → Prop, vW (d' + 10) 443 (343, [vr 2075, vi t, vi ((40 * t + (A - 1) : Nat) : Int), vi x, vi w', vu, vu], [], (J', Y')) K ↔ vW (d' + 9) 417 (0, [vr 2075, vi ((40 * t + (A - 1) : Nat) : Int), vi w'], [], (J', Y')) (vWC (d' + 10) 443 347 3 [vr 2075, vi t, vi ((40 * t + (A - 1) : Nat) : Int), vi x, vi w', vu, vu] [] K) := fun K => b443_343 hL'
  simp only [m417]
  have e38 := fr_row f1 38 (fun _ => rfl)
  have e42 := fr_row f1 42 (fun _ => rfl)
  refine mv_wgo (m := m) (o := o) (p := p) (Q := fun r q => vWC (d' + 10) 443 347 3 [vr 2075, vi t, vi ((40 * t + (A - 1) : Nat) : Int), vi x, vi w', vu, vu] [] (fun r' => Q r r') q) hL hL' hJ (by rw [f1 2007 _ rfl]; exact hx) (by rw [f1 1994 _ rfl, f1 2009 _ rfl, f1 2006 _ rfl]; exact hTop) hwF (by rw [e38, kk]; decide) (by rw [e38]; exact ⟨ky.2, k0y⟩) hl (by rw [e38, e42]; exact y42) (fun F F' hA => ?_) (fun B F F' pc nd y2 e1 e2 e3 e4 => ?_)
  · simp only [vWC_s, Nat.reduceAdd]
    rw [b443_350 (Or.inl rfl)]
    exact hStay F F' hA
  · refine vWmo (Nat.le_refl _) (fun q hq => vWC_mo (fun r hr => ?_) hq) (hBack B F F' pc nd y2 e1 e2 e3 e4)
    simp only [vWC_s, Nat.reduceAdd]
    rw [b443_350 (Or.inr rfl)]
    exact hr
/-- the model at a place of its node's part, and what comes behind it -/
def onp (D D' : Nat) (Y Y' : vY) (t a nd w pc : Nat) (y5 y6 : vV) (so : Int) (J J' : vJ) (Q : vE → vE → Prop) : Prop := vW D 443 (pc, [vr 2075, vi t, vi a, vi nd, vi w, vu, vu], [], (J', Y')) (fun q => ∃ (s : Int) (M : vJ × vY), q = (.inl (some (vi s)), M) ∧ (s = 0 ∨ s = 1) ∧ vW D' 422 (2, [vr 2075, vi t, vi s, vi a, vi nd, y5, y6], [], M) (fun r' => Q (.inl (some (vi so)), (J, Y)) r'))
theorem brk_go {x w D' : Nat} {a0 k0 : Int} {y5 y6 : vV} (hL : vL Y) (hL' : vL Y') (h : IFs Y Y' X mm Nn Lp nm pr ht I I' th t A W N) (hx : I 2007 (40 * t + (A - 1)) = x) (hTop : I 1994 t = I 2009 (40 * t + (A - 1)) + nm (I 2006 (40 * t + (A - 1))).toNat) (kk : I 38 x = 16) (hw : (w : Int) = I 48 x) (hQ : bk d Y t a0 k0 QQ Q)
    (hStay : ∀ F F', AS Y Y' X mm Nn Lp nm pr ht F F' th (W + 1) N → vW (d + 10) 174 (170, [vr 1990, vi t, vi a0, vi k0, vi 9], [], (F, Y)) (fun z => QQ z (.inl none, (F', Y'))))
    (hBack : ∀ (B : Nat) (F F' : vJ) (pc nd : Nat) (Q2 : vE → vE → Prop), bk d Y t a0 k0 QQ Q2 → A = B + 1 → 0 < B → IS Y Y' X mm Nn Lp nm pr ht F F' th t B pc (W + 1) N → F 2007 (40 * t + (B - 1)) = nd → vW (d + 8) 177 (33, [vr 1990, vi t, vi ((40 * t + (B - 1) : Nat) : Int), vi nd, vi (2 * (pc : Int)), vr 37, vu, vu, vu], [], (F, Y)) (fun r => vW D' 422 (2, [vr 2075, vi t, vi 1, vi ((40 * t + (A - 1) : Nat) : Int), vi x, y5, y6], [], (F', Y')) (fun r' => Q2 r r'))) :
    onp (d' + 10) D' Y Y' t (40 * t + (A - 1)) x w 327 y5 y6 0 I I' Q := by
  have r6 : I 2005 t = 0 := h.2.2.2.2.2.2.2.1.2
  have main := mv_brk (d := d) (d' := d') (x := x) (w := w) (Q := fun r q => ∃ (s : Int) (M : vJ × vY), q = (.inl (some (vi s)), M) ∧ (s = 0 ∨ s = 1) ∧ vW D' 422 (2, [vr 2075, vi t, vi s, vi ((40 * t + (A - 1) : Nat) : Int), vi x, y5, y6], [], M) (fun r' => vWC (d + 10) 174 162 3 [vr 1990, vi t, vi a0, vi k0, vi 0] [] (fun z => QQ z r') r)) hL hL' h hx hTop kk hw (fun F F' hA => ?_) (fun B F F' pc nd y e1 e2 e3 e4 => ?_)
  · refine vWmo (Nat.le_refl _) (fun q hq => ?_) (vW_swap.mp main)
    obtain ⟨r, hr, s, M, q1, q2, q3⟩ := hq
    refine ⟨s, M, q1, q2, vWmo (Nat.le_refl _) (fun r' hc => hQ _ _ _ r6 ?_) q3⟩
    rw [b174_151, if_neg (by decide), b174_158 hL]
    exact ⟨r, hr, hc⟩
  · refine ⟨0, (F', Y'), rfl, Or.inl rfl, ?_⟩
    rw [b422_2, if_pos (by decide), b422_121]
    simp only [vWC_s, Nat.reduceAdd]
    rw [b174_165, b174_151, if_pos rfl]
    exact hStay F F' hA
  · have g := hBack B F F' pc nd (fun r r' => vWC (d + 9) 195 367 3 [vr 1990, vi t, vi 0, vi ((40 * t + B : Nat) : Int), vi w, vi y, vi 0] [] (fun r2 => vWC (d + 10) 174 162 3 [vr 1990, vi t, vi a0, vi k0, vi 0] [] (fun z => QQ z r') r2) r) (fun s J r' _ hz => ?_) e1 e2 e3 e4
    · refine vWmo (Nat.le_refl _) (fun r hr => ?_) g
      exact vWC_mo (fun r2 hr2 => ⟨1, (F', Y'), rfl, Or.inr rfl, hr2⟩) (vWC_out hr)
    · simp only [vWC_s, Nat.reduceAdd, b195_370]
      rw [b174_165]
      exact hz
theorem e_break {nd w : Nat} {x6 x7 x8 y3 y4 y5 y6 : vV} (hL : vL Y) (hL' : vL Y') (h : IS Y Y' X mm Nn Lp nm pr ht I I' th t A i W N) (hi : ¬ (i : Int) < I' (X + 12) (I 2007 (40 * t + (A - 1))).toNat) (hnd : I 2007 (40 * t + (A - 1)) = nd) (hw : I 48 nd = w) (hk : I 38 nd = 16)
    (hOn : ∀ (J J' : vJ), IFs Y Y' X mm Nn Lp nm pr ht J J' th t A W N → J 2007 (40 * t + (A - 1)) = nd → J 38 = I 38 → J 48 = I 48 → J 1994 t = J 2009 (40 * t + (A - 1)) + nm (J 2006 (40 * t + (A - 1))).toNat → onp (d' + 10) (d' + 11) Y Y' t (40 * t + (A - 1)) nd w 327 y5 y6 0 J J' Q) :
    vW (d + 9) 177 (33, [vr 1990, vi t, vi ((40 * t + (A - 1) : Nat) : Int), vi nd, vi (2 * (i : Int)), vr 37, x6, x7, x8], [], (I, Y)) (fun r => vW (d' + 11) 422 (2, [vr 2075, vi t, vi 1, y3, y4, y5, y6], [], (I', Y')) (fun r' => Q r r')) := by
  obtain ⟨nd', B, T, w', ⟨a1, a2, a3, a4⟩, ⟨b1, b2, b3, b3'⟩, ⟨b4, b5, b6⟩, ⟨c1, c2, c3⟩, ⟨c4, c5⟩, c6, ⟨c7, c8, c9, c10, c11, c12⟩, ⟨v1, v2⟩, ⟨p1, p2, p3⟩⟩ := IS_end h hi
  have e0 : nd' = nd := by omega
  subst e0
  have e1 : w' = w := by omega
  subst e1
  obtain ⟨hX, hX2, hV⟩ := h.1.1
  have hv1 : wkV (I 38 nd') = 0 := by rw [hk]; decide
  rw [c6, hv1] at p3 c9
  have hI : IFs Y Y' X mm Nn Lp nm pr ht I I' th t A W N := IS_fail h (fr_refl _ _ _) (fun b _ => ⟨rfl, rfl⟩)
  have hm : ∀ K : vE → Prop, vW (d' + 11) 422 (2, [vr 2075, vi t, vi 1, y3, y4, y5, y6], [], (I', Y')) K ↔ vW (d' + 10) 443 (0, [vr 2075, vi t, vi ((40 * t + (A - 1) : Nat) : Int), vi nd', vu, vu, vu], [], (I', Y')) (vWC (d' + 11) 422 114 3 [vr 2075, vi t, vi 1, vi ((40 * t + (A - 1) : Nat) : Int), vi nd', y5, y6] [] K) := fun K => t_end (X := X) hL' hX hV a1 rfl a4 p1 b2 b3 b5 b6 p2
  have m443 : ∀ K : vE → Prop, vW (d' + 10) 443 (0, [vr 2075, vi t, vi ((40 * t + (A - 1) : Nat) : Int), vi nd', vu, vu, vu], [], (I', Y')) K ↔ vW (d' + 10) 443 (327, [vr 2075, vi t, vi ((40 * t + (A - 1) : Nat) : Int), vi nd', vi w', vu, vu], [], (I', Y')) K := by
    intro K
    rw [b443_0 hL' hV (by omega) (by omega), hX, tn0, c1, c5, hk, show w32 16 = 16 from w32_id (by decide) (by decide)]
    simp only [Int.reduceEq, if_true, if_false]
  rw [c_end hL b3 b4 b6, b187_0 hL (by omega) (by omega) (by omega) (by omega)]
  simp only [hm, m443, tn0]
  rw [hk, show w32 16 = 16 from w32_id (by decide) (by decide)]
  simp only [Int.reduceEq, if_true, if_false]
  rw [b187_438]
  simp only [vWC_s, Nat.reduceAdd, b177_370]
  refine vWmo (Nat.le_refl _) (fun q hq => ?_) (hOn I I' hI b1 rfl rfl (by omega))
  obtain ⟨s, ⟨M1, M2⟩, q1, q2, q3⟩ := hq
  rw [q1]
  simp only [vWC_s, Nat.reduceAdd]
  rw [b422_117, b422_118]
  exact q3
end
