/-! ===== the way behind a lock or a thread waited for ===== -/
set_option maxRecDepth 20000
set_option maxHeartbeats 4000000
section
variable {d d' : Nat} {Y Y' : vY} {X mm Nn Lp : Nat} {nm pr ht : Nat → Nat} {I I' : vJ} {th t A i W N : Nat} {Q QQ : vE → vE → Prop}
theorem mv_il {x w : Nat} {L : Int} (hL : vL Y) (hL' : vL Y') (h : IL Y Y' X mm Nn Lp nm pr ht I I' th t A W N) (hx : I 2007 (40 * t + (A - 1)) = x) (hTop : I 1994 t = I 2009 (40 * t + (A - 1)) + nm (I 2006 (40 * t + (A - 1))).toNat) (kx : I 38 x = 12 ∧ L = I 42 x + 1 ∨ I 38 x = 14 ∧ L = I 42 x) (hw : (w : Int) = I 48 x) (hl : I 2012 (40 * t + (A - 1)) = L ∧ I' 2204 (40 * t + (A - 1)) = L ∧ ∀ j : Nat, (j : Int) < L → I 2013 ((40 * t + (A - 1)) * 12 + j) = I' 2210 (12 * (40 * t + (A - 1)) + j))
    (hStay : ∀ J J', AS Y Y' X mm Nn Lp nm pr ht J J' th (W + 1) N → Q (.inl (some (vi 9)), (J, Y)) (.inl (some (vi 0)), (J', Y')))
    (hBack : ∀ (B : Nat) (F F' : vJ) (pc nd y : Nat), A = B + 1 → 0 < B → IS Y Y' X mm Nn Lp nm pr ht F F' th t B pc (W + 1) N → F 2007 (40 * t + (B - 1)) = nd → vW (d + 8) 177 (33, [vr 1990, vi t, vi ((40 * t + (B - 1) : Nat) : Int), vi nd, vi (2 * (pc : Int)), vr 37, vu, vu, vu], [], (F, Y)) (vWC (d + 9) 195 367 3 [vr 1990, vi t, vi 0, vi ((40 * t + B : Nat) : Int), vi w, vi y, vi 0] [] (fun r => Q r (.inl (some (vi 1)), (F', Y'))))) :
    vW (d + 9) 195 (0, [vr 1990, vi t, vi 0, vu, vu, vu, vu], [], (I, Y)) (fun r => vW (d' + 9) 417 (0, [vr 2075, vi ((40 * t + (A - 1) : Nat) : Int), vi w], [], (I', Y')) (fun r' => Q r r')) := by
  have h0 := h
  obtain ⟨s1, ⟨s2, s2l⟩, s3, s4, ⟨s5, s6, s7, s8, s9, s10, s11⟩, s12, ⟨⟨r1, r2, r3, r4⟩, ⟨r5, r6⟩, r7, r8, r9⟩⟩ := h
  have th8 := s2.1.1.2.2
  have h8 : t < 8 := by omega
  obtain ⟨hX, hX2, hV⟩ := s1.1
  have Nn7 := s1.2.1.2
  have xN : x < Nn := by have := (r8 (A - 1) (by omega)).2.1; clear kx hl; omega
  have nf := s1.2.2.2.2.1 x xN
  have wm : I' (X + 21) x = wkN (I 38 x) := nf.2.1.2.2
  have k2 : wkN (I 38 x) = 2 ∧ wkS (I 38 x) 0 = 0 := by
    rcases kx with q | q
    · rw [q.1]; decide
    · rw [q.1]; decide
  obtain ⟨w', y, m, o, p, w1, w2, w3, w4, w5, w6, w7, w8, w9, w10, w11, w12, w13⟩ := s1.2.2.2.2.2.1 x 0 xN (by rw [wm, k2.1]; decide)
  have ew : w' = w := by clear w4 w5 w6 w7 w8 w9 w10 w11 w12 w13 kx hl; omega
  subst ew
  have w52 : I 52 w' = 0 := by rw [w3]; exact k2.2
  have ky := w5 (by rw [w52]; decide)
  have y42 : I 38 y = 1 → I 42 y = 0 := fun q => w6.2 (Or.inl q)
  have k0y : I 38 y ≠ 0 := w6.1
  have eL : I 42 y = L := by
    rcases kx with q | q
    · rw [w9 (by rw [w52]; decide) q.1, q.2]
    · rw [w11 (by rw [w52]; decide) (by rw [q.1]; decide) (by rw [q.1]; decide) (by rw [q.1]; decide) (by rw [q.1]; decide), q.2]
  have k9 : I 38 x ≠ 9 := by
    rcases kx with q | q <;> (rw [q.1]; decide)
  clear w4 w5 w6 w7 w8 w9 w10 w11 w12 w13 kx
  have wb := w2.1.1.1
  have we := w2.1.2.1.1
  have wf := w2.1.2.1.2.1
  have wy := w2.1.2.2.2.2.2.1
  have yN := w2.2.1.2.1
  rw [show w' = w' + 0 from rfl] at we wf w52
  have cw := fun K => c_way (d := d) (K := K) (x := x) (y := y) (w0 := w') (j := 0) (B := A - 1) hL h8 (by rw [r1]; omega) (by omega) hx (by omega) hw.symm (by omega) (fun _ q => absurd q (by omega)) w52 wf we (by omega) ky.1 wy.2
  rw [Nat.add_zero] at cw we wf w52
  rw [cw, b164_28 hL (by omega) (by omega) (by omega) (by omega), tn0, tn0, hl.1, eL, if_pos (Int.le_refl _)]
  exact mv_wgo (m := m) (o := o) (p := p) hL hL' h0 hx hTop w2 k9 ⟨ky.2, k0y⟩ (by rw [eL]; exact hl) y42 hStay hBack
theorem il_go {x w D' : Nat} {L a0 k0 : Int} {y5 y6 : vV} (hL : vL Y) (hL' : vL Y') (h : IL Y Y' X mm Nn Lp nm pr ht I I' th t A W N) (hx : I 2007 (40 * t + (A - 1)) = x) (hTop : I 1994 t = I 2009 (40 * t + (A - 1)) + nm (I 2006 (40 * t + (A - 1))).toNat) (kx : I 38 x = 12 ∧ L = I 42 x + 1 ∨ I 38 x = 14 ∧ L = I 42 x) (hw : (w : Int) = I 48 x) (hl : I 2012 (40 * t + (A - 1)) = L ∧ I' 2204 (40 * t + (A - 1)) = L ∧ ∀ j : Nat, (j : Int) < L → I 2013 ((40 * t + (A - 1)) * 12 + j) = I' 2210 (12 * (40 * t + (A - 1)) + j)) (hQ : bk d Y t a0 k0 QQ Q)
    (hStay : ∀ F F', AS Y Y' X mm Nn Lp nm pr ht F F' th (W + 1) N → vW (d + 10) 174 (170, [vr 1990, vi t, vi a0, vi k0, vi 9], [], (F, Y)) (fun z => QQ z (.inl none, (F', Y'))))
    (hBack : ∀ (B : Nat) (F F' : vJ) (pc nd : Nat) (Q2 : vE → vE → Prop), bk d Y t a0 k0 QQ Q2 → A = B + 1 → 0 < B → IS Y Y' X mm Nn Lp nm pr ht F F' th t B pc (W + 1) N → F 2007 (40 * t + (B - 1)) = nd → vW (d + 8) 177 (33, [vr 1990, vi t, vi ((40 * t + (B - 1) : Nat) : Int), vi nd, vi (2 * (pc : Int)), vr 37, vu, vu, vu], [], (F, Y)) (fun r => vW D' 422 (2, [vr 2075, vi t, vi 1, vi ((40 * t + (A - 1) : Nat) : Int), vi x, y5, y6], [], (F', Y')) (fun r' => Q2 r r'))) :
    onw (d' + 9) D' Y Y' t (40 * t + (A - 1)) x w y5 y6 0 I I' Q :=
  go_gen (ww := w) hL h.2.2.2.2.2.2.2.1.2 (by decide) hQ hStay hBack (fun Q0 a b => mv_il (d := d) (d' := d') hL hL' h hx hTop kx hw hl a b)
end
