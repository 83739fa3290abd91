/-! ===== one activation fails, with no catch: both houses ===== -/
set_option maxRecDepth 20000
set_option maxHeartbeats 4000000
section
variable {d d' : Nat} {Y Y' : vY} {X mm Nn Lp : Nat} {nm pr ht : Nat → Nat} {I I' : vJ} {th t A W N : Nat} {Q : vE → vE → Prop}
theorem fail_F {x w0 j y m o f B : Nat} {p e : Int} {x6 x7 x8 : vV} (hL : vL Y) (hL' : vL Y') (h : IFs Y Y' X mm Nn Lp nm pr ht I I' th t (B + 1) W N) (hx : I 2007 (40 * t + B) = x) (f1 : I 48 x = w0 ∧ I' (X + 20) x = w0 ∧ I' (X + 21) x = (j : Int) + 1) (f2 : wF I I' Y Y' X mm Nn (w0 + j) x y m o p) (f3 : I 52 (w0 + j) = 3) (f4 : ∀ j', j' < j → w32 (I 52 (w0 + j')) ≠ w32 (I 52 (w0 + j))) (f6 : I 42 y ≤ I 42 x ∧ lkA (I' (X + 16)) (I 42 x - I 42 y).toNat x y) (ky : I 38 y = 2) (y42 : I 42 y = 0) (hf : f < 10) (hfl : I 1990 3400 = f)
    (hStay : ∀ F F', AS Y Y' X mm Nn Lp nm pr ht F F' th (W + 1) N → Q (.inl (some (vi 9)), (F, Y)) (.inl (some (vi 0)), (F', Y')))
    (hMore : ∀ (F F' : vJ) (z6 z7 z8 : vV), 0 < B → IFs Y Y' X mm Nn Lp nm pr ht F F' th t B (W + 1) N → F 1990 3400 = f → F 1990 3401 = I 1990 3401 → F 1990 3402 = I 1990 3402 → F 1990 3376 = I 1990 3376 → F 38 = I 38 → F 2007 = I 2007 → vW (d' + 6) 437 (13, [vr 2075, vi t, vi f, vl e, vu, vi 1, z6, z7, z8], [], (F', Y')) (fun r' => Q (.inl (some (vi 3)), (F, Y)) r')) :
    vW (d + 9) 195 (0, [vr 1990, vi t, vi 3, vu, vu, vu, vu], [], (I, Y)) (fun r => vW (d' + 6) 437 (13, [vr 2075, vi t, vi f, vl e, vu, vi 1, x6, x7, x8], [], (I', Y')) (fun r' => Q r r')) := by
  have h0 := h
  obtain ⟨s1, s2, s3, s4, ⟨s5, s6, s7, s8, s9, s10, s11⟩, s12, ⟨⟨r1, r2, r3, r4⟩, ⟨r5, r6⟩, r7, r8, r9⟩⟩ := h
  have th8 := s2.1.1.2.2
  have h8 : t < 8 := by omega
  obtain ⟨hX, hX2, hV⟩ := s1.1
  have Nn7 := s1.2.1.2
  rw [Nat.add_sub_cancel] at r7
  have rB := r8 B (by omega)
  have xN : x < Nn := by have := rB.2.1; clear f6; omega
  have wb := f2.1.1.1
  have we := f2.1.2.1.1
  have wf := f2.1.2.1.2.1
  have wh := f2.1.2.1.2.2.2
  have wy := f2.1.2.2.2.2.2.1
  have yN := f2.2.1.2.1
  have a3 : 40 * t + B < 320 := by omega
  have cw := fun K => c_way (d := d) (K := K) (x := x) (y := y) (w0 := w0) (j := j) (B := B) hL h8 (by rw [r1]; omega) (by omega) hx (by omega) f1.1 (by omega) f4 f3 wf we (by omega) (by rw [ky]; decide) (by rw [ky]; decide)
  rw [cw]
  have tf := fun K => t_fail (d' := d' + 5) (K := K) (B := B) (x := x) (y := y) (f := f) (e := e) (x6 := x6) (x7 := x7) (x8 := x8) hL' hX hV h8 (by omega) (by rw [r2]; omega) (by rw [← rB.2.1.1]; exact hx) (by omega) f1.2.1 f1.2.2 (by omega) wh
  simp only [tf]
  obtain ⟨w, hw⟩ : ∃ w : Nat, w = w0 + j := ⟨_, rfl⟩
  rw [← hw] at f2 f3 wb we wf wh ⊢
  apply vW_out
  have lvg := lv_go (d := d + 3) (d' := d') (x := x) (y := y) (w := w) (Q := fun q r' => vWC (d + 9) 195 144 3 [vr 1990, vi t, vi 3, vi ((40 * t + B : Nat) : Int), vi w, vi y, vu] [] (fun r => vWC (d' + 6) 437 82 3 [vr 2075, vi t, vi f, vl e, vu, vi 1, vi ((40 * t + B : Nat) : Int), vi x, vi w] [] (fun r' => Q r r') r') q) hL hL' h0 hx yN f6
  rw [Nat.add_sub_cancel] at lvg
  refine lvg (fun J J' hJ q1 q2 hl => ?_)
  clear lvg cw f6 f4 tf
  simp only [vWC_n, Nat.reduceAdd]
  have hIL0 := hJ
  obtain ⟨j1, ⟨j2, j2l⟩, j3, j4, ⟨j5, j6, j7, j8, j9, j10, j11⟩, j12, ⟨⟨u1, u2, u3, u4⟩, ⟨u5, u6⟩, u7, u8, u9⟩⟩ := hJ
  have aT := agT_fr q1 q2 rfl
  have hwF := wF_ag f2 hX2 aT
  have m403 : ∀ K : vE → Prop, vW (d' + 6) 437 (85, [vr 2075, vi t, vi f, vl e, vu, vi 1, vi ((40 * t + B : Nat) : Int), vi x, vi w], [], (J', Y')) K ↔ vW (d' + 5) 403 (0, [vr 2075, vi ((40 * t + B : Nat) : Int), vi w, vu, vu, vu], [], (J', Y')) (vWC (d' + 6) 437 90 3 [vr 2075, vi t, vi f, vl e, vu, vi 1, vi ((40 * t + B : Nat) : Int), vi x, vi w] [] K) := fun K => b437_85 hL'
  simp only [m403]
  show vW (d + 8) 164 (80, [vr 1990, vi t, vi w, vi ((40 * t + B : Nat) : Int), vi x, vi y, vu], [], (J, Y)) (vWC (d + 9) 195 144 3 [vr 1990, vi t, vi 3, vi ((40 * t + B : Nat) : Int), vi w, vi y, vu] [] (fun r => vW (d' + 5) 403 (0, [vr 2075, vi ((40 * t + B : Nat) : Int), vi w, vu, vu, vu], [], (J', Y')) (vWC (d' + 6) 437 90 3 [vr 2075, vi t, vi f, vl e, vu, vi 1, vi ((40 * t + B : Nat) : Int), vi x, vi w] [] (fun r' => Q r r'))))
  apply vW_out
  have hWW : W ≤ 20000 := by have := sa_nn (J 1995) t th; omega
  obtain ⟨c1, c2, c3, c4⟩ := u8 B (by omega)
  have jx : J 2007 (40 * t + B) = x := by rw [q1 2007 _ rfl]; exact hx
  have wk1' := hwF.2.2.2.1.1
  have wn' := hwF.2.2.2.2.2.1.2.1
  have hm : J 2006 (40 * t + B) = (m : Int) := by
    have := c2.2.2.2
    rw [jx, tn0] at this
    omega
  refine g_goB0 (d := d + 4) (d' := d' + 1) (x := x) (y := y) (m := m) (o := o) (mm := mm) (Nn := Nn) (Lp := Lp) (W := W) (p := p) (l := (W : Int) + 1) hL hL' hX hX2 hV j1.2.2.1 j1.2.1.1.1 hwF a3 (PT_0 j3) j4 hWW ⟨hm, by omega⟩ ⟨by rw [← c2.1]; exact jx, lvb_at j2.1.1.2.1 j5 u2 (by omega) u4⟩ (fun hp => ?_) (fun F F' k1z k2z k3 k4 k5 k6 k7 k8 k9' k10 k11' => ?_)
  · have z := c4
    rw [hm, tn0, wn', jx, tn0] at z
    exact z hp
  clear k3
  have H1 : fr [65, 2011, 1979, 1980, 1981, 1970, 1971, 1972, 1973, 1975, 1976, 1977, 1978, 2014] [(1990, 3392), (1960, 3090)] J F := k4
  have H2 : fr [2183, 2202, 2203, 2255, 2256, 2257, 2258, 2241, 2242, 2243, 2244, 2245, 2246, 2247, 2248, 2209, 2198, 2199, 2200] [(2075, 7736), (2075, 7818)] J' F' := k5
  have k1 : PT Lp F F' := PT_1 k1z (su_keep su_pThr H1 H2 rfl (PT_14 j3))
  have k2 : bud F F' (W + 1) (ht 5000) := ⟨k2z.1, by have := k2z.2.1; omega, k2z.2.2⟩
  clear k1z k2z
  simp only [vWC_n, Nat.reduceAdd]
  have g3 : ∀ b, b ≠ 40 * t + B → F' 2198 b = J' 2198 b ∧ F' 2199 b = J' 2199 b ∧ F' 2200 b = J' 2200 b ∧ F 2011 b = J 2011 b ∧ F' 2202 b = J' 2202 b ∧ F' 2203 b = J' 2203 b := fun b hb => ⟨by rw [(k9' b).1, if_neg hb], by rw [(k9' b).2.1, if_neg hb], by rw [(k9' b).2.2, if_neg hb], (k6 b hb).1, (k6 b hb).2.1, (k6 b hb).2.2⟩
  obtain ⟨T, hT0⟩ : ∃ T : Nat, J 2009 (40 * t + B) = T := by
    obtain ⟨b, s, h1, _⟩ := u7
    have z1 := h1 B (by omega)
    rw [up_cell _ (show 2009 ≠ 1994 by decide)] at z1
    exact ⟨b B, z1.1⟩
  have f38 : F 38 = I 38 := by rw [fr_row H1 38 (fun _ => rfl), fr_row q1 38 (fun _ => rfl)]
  have ffl : F 1990 3400 = f := by rw [H1 1990 _ rfl, q1 1990 _ rfl]; exact hfl
  rw [c_fend (T := T) (f := f) hL h8 (by rw [H1 1995 _ rfl, u1]; omega) (by omega) (by rw [H1 2009 _ rfl]; exact hT0) (by omega) (by rw [f38]; exact ky) hf ffl]
  have y98 : F' 2198 (40 * t + B) = y := by rw [(k9' _).1, if_pos rfl]
  have y9 : F' (X + 9) y = 2 := by
    rw [fr_out H2 2081 2182 (by rfl) (by omega) (by omega), fr_out q2 2081 2182 (by rfl) (by omega) (by omega), ← wy.1]; exact ky
  have y86 : F' 2186 t - 1 = (B : Int) := by rw [H2 2186 _ rfl, u2]; omega
  have m13 : ∀ K : vE → Prop, vW (d' + 6) 437 (93, [vr 2075, vi t, vi f, vl e, vu, vi 1, vi ((40 * t + B : Nat) : Int), vi x, vi w], [], (F', Y')) K ↔ vW (d' + 6) 437 (13, [vr 2075, vi t, vi f, vl e, vu, vi (if (B : Int) ≤ 0 then 0 else 1), vi ((40 * t + B : Nat) : Int), vi x, vi w], [], (up (up F' 2251 f (F' 2251 f + 1)) 2186 t (B : Int), Y')) K := fun K => by
    rw [b437_93 hL' hV (by omega) (by omega) (by rw [tn0, y98]; omega) (by rw [tn0, y98]; omega), hX, tn0, y98, tn0, y9, if_pos (by decide), b437_147 hL' (by omega) (by omega) (by omega) (by omega)]
    simp only [tn0]
    rw [y86, m437_167 hL' (by omega) (by omega), tn0, up_same, w32_id (by omega) (by omega), b437_181]
  simp only [m13]
  have hd : J 2012 (40 * t + B) = 0 := by
    rw [hl.1, fr_row q1 42 (fun _ => rfl)]; exact y42
  cases B with
  | zero =>
    have eT : T = 8 + 5760 * t := by
      obtain ⟨b, s, h1, h2, _⟩ := u7
      have z := (h1 0 (by omega)).1
      rw [up_cell _ (show 2009 ≠ 1994 by decide), h2 (by omega)] at z
      omega
    subst eT
    rw [if_pos (by decide)]
    exact fail_end0 hL hL' hIL0 k1 k2 k4 ⟨k5, by rw [show 40 * t = 40 * t + 0 from rfl, y98, tn0, ← H1 38 _ rfl, f38, ky]; decide⟩ hf ffl hd g3 hStay
  | succ B =>
    have nB : ¬ ((B + 1 : Nat) : Int) ≤ 0 := by omega
    have E0 : fr [1994, 1995, 2039] [] F (up (up (up F 2039 f (F 2039 f + 1)) 1994 t (T : Int)) 1995 t ((B + 1 : Nat) : Int)) := fr_upL (fr_upL (fr_upL (fr_refl _ _ _) rfl _ _) rfl _ _) rfl _ _
    have E2 : fr [2186, 2251] [] F' (up (up F' 2251 f (F' 2251 f + 1)) 2186 t ((B + 1 : Nat) : Int)) := fr_upL (fr_upL (fr_refl _ _ _) rfl _ _) rfl _ _
    have z1 : ∀ u, up (up (up F 2039 f (F 2039 f + 1)) 1994 t (T : Int)) 1995 t ((B + 1 : Nat) : Int) 1995 u = if u = t then ((B + 1 : Nat) : Int) else F 1995 u := fun u => by rw [up_at, up_cell _ (by decide), up_cell _ (by decide)]
    have z2 : ∀ u, up (up (up F 2039 f (F 2039 f + 1)) 1994 t (T : Int)) 1995 t ((B + 1 : Nat) : Int) 1994 u = if u = t then (T : Int) else F 1994 u := fun u => by rw [up_cell _ (by decide), up_at, up_cell _ (by decide)]
    have z3 : ∀ u, up (up (up F 2039 f (F 2039 f + 1)) 1994 t (T : Int)) 1995 t ((B + 1 : Nat) : Int) 2039 u = if u = f then F 2039 f + 1 else F 2039 u := fun u => by rw [up_cell _ (by decide), up_cell _ (by decide), up_at]
    have z4 : ∀ u, up (up F' 2251 f (F' 2251 f + 1)) 2186 t ((B + 1 : Nat) : Int) 2186 u = if u = t then ((B + 1 : Nat) : Int) else F' 2186 u := fun u => by rw [up_at, up_cell _ (by decide)]
    have z5 : ∀ u, up (up F' 2251 f (F' 2251 f + 1)) 2186 t ((B + 1 : Nat) : Int) 2251 u = if u = f then F' 2251 f + 1 else F' 2251 u := fun u => by rw [up_cell _ (by decide), up_at]
    generalize up (up (up F 2039 f (F 2039 f + 1)) 1994 t (T : Int)) 1995 t ((B + 1 : Nat) : Int) = G at E0 z1 z2 z3 ⊢
    generalize up (up F' 2251 f (F' 2251 f + 1)) 2186 t ((B + 1 : Nat) : Int) = G' at E2 z4 z5 ⊢
    rw [b195_282 hL (by omega) (by omega), tn0, z1, if_pos rfl, w32_id (by omega) (by omega), if_pos (by omega), b195_345, if_neg (by decide), b195_350]
    simp only [nB, if_false]
    have hPT : PT Lp G G' := by
      obtain ⟨q1, q2, q3, q4, q5, q6, q7, q8, q9, q10, q11, q12, q13, q14, q15, q16, q17, q18, q19, q20⟩ := k1
      have hTh : pThr G G' := fun jj hjj => by
        have a := q14 jj hjj
        rw [E0 2037 _ rfl, E2 2249 _ rfl, E0 2038 _ rfl, E2 2250 _ rfl, E0 2040 _ rfl, E2 2252 _ rfl, z3, z5]
        by_cases z : jj = f
        · subst z
          simp only [if_true]
          exact ⟨a.1, a.2.1, by rw [a.2.2.1], a.2.2.2⟩
        · simp only [z, if_false]
          exact a
      have hM9 : pMet G G' := ⟨by rw [E0 1990 _ rfl, E2 2075 _ rfl]; exact q9.1, fwR_leave (t := t) (A := B + 1) q9.2 (fun c z1 z2 => fr_out E0 35 66 (by rfl) z1 z2) (fr_row E2 2183 (fun _ => rfl)) (fr_row E2 2198 (fun _ => rfl)) (E2 2075 _ rfl) z4 (by omega) (by rw [y98, tn0, f38, ky]; decide) (by omega)⟩
      exact ⟨su_keep su_tR E0 E2 rfl q1, su_keep su_pPath E0 E2 rfl q2, su_keep su_loR E0 E2 rfl q3, su_keep su_pArr E0 E2 rfl q4, su_keep su_pStep E0 E2 rfl q5, su_keep su_pKeep E0 E2 rfl q6, su_keep su_pCost E0 E2 rfl q7, su_keep su_pCalls E0 E2 rfl q8, hM9, su_keep su_pPrint E0 E2 rfl q10, su_keep su_pBegun E0 E2 rfl q11, su_keep su_pLooks E0 E2 rfl q12, su_keep su_pPar E0 E2 rfl q13, hTh, su_keep su_pDone E0 E2 rfl q15, su_keep su_pLast E0 E2 rfl q16, su_keep su_pFor E0 E2 rfl q17, su_keep su_pTurns E0 E2 rfl q18, su_keep su_pSeed E0 E2 rfl q19, su_keep su_pVars E0 E2 rfl q20⟩
    exact hMore G G' _ _ _ (by omega) (IFs_drop (T0 := T) hIL0 (by omega) hPT k2 k4 k5 g3 hd hT0 E0 z2 z1 E2 z4) (by rw [E0 1990 _ rfl]; exact ffl) (by rw [E0 1990 _ rfl, H1 1990 _ rfl, q1 1990 _ rfl]) (by rw [E0 1990 _ rfl, H1 1990 _ rfl, q1 1990 _ rfl]) (by rw [E0 1990 _ rfl, H1 1990 _ rfl, q1 1990 _ rfl]) (by rw [fr_row E0 38 (fun _ => rfl)]; exact f38) (by rw [fr_row E0 2007 (fun _ => rfl), fr_row H1 2007 (fun _ => rfl), fr_row q1 2007 (fun _ => rfl)])
end
