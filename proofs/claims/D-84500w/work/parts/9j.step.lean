/-! ===== a step in both houses, up to its end ===== -/
set_option maxRecDepth 20000
set_option maxHeartbeats 8000000
section
variable {d d' : Nat} {Y Y' : vY} {X mm Nn Lp : Nat} {nm pr ht : Nat → Nat} {I I' : vJ} {th t W N : Nat} {Q : vE → vE → Prop}
theorem st_step (hL : vL Y) (hL' : vL Y') (h : AS Y Y' X mm Nn Lp nm pr ht I I' th W N) (hN : N < 20000) (htu : I 1990 3389 = t) (h6 : I 1996 t = 0)
    (hStay : ∀ (a k nd : Int) (th' W' : Nat) (F F' : vJ), AS Y Y' X mm Nn Lp nm pr ht F F' th' W' (N + 1) → vW (d + 13) 174 (170, [vr 1990, vi t, vi a, vi k, vi 9], [], (F, Y)) (fun z => vW (d' + 13) 412 (228, [vr 2075, vi t, vi a, vi nd, vi k, vu], [], (F', Y')) (fun z' => Q z z'))) :
    vW (d + 13) 174 (0, [vr 1990, vu, vu, vu, vu], [], (I, Y)) (fun r => vW (d' + 13) 412 (0, [vr 2075, vu, vu, vu, vu, vu], [], (I', Y')) (fun r' => Q r r')) := by
  have h0 := h
  obtain ⟨s1, s2, s3, s4, ⟨⟨s5, s6, s7⟩, s8, s9, s10⟩, s11⟩ := h
  obtain ⟨hX, hX2, hV⟩ := s1.1
  have mm24 : mm ≤ 24 := s1.2.1.1.1
  have Nn7 : Nn ≤ 700 := s1.2.1.2
  have th8 := s2.1.1.2.2
  have se := s3.2.2.2.2.2.2.2.2.2.2.2.2.2.2.2.2.2.2.1.2.2.1
  have tth : t < th := by
    have a := se.2.2
    rw [htu, s2.1.1.1] at a
    omega
  have htu' : I' 2075 7730 = t := by rw [← se.1]; exact htu
  have t8 : t < 8 := by omega
  obtain ⟨A, dl, ⟨a1, a2, a3⟩, a4, a5, a6, a7⟩ := s11 t tth
  unfold stR at a7
  have pA := a7.2.1 (by omega)
  clear a7 a4 a6
  obtain ⟨c1, c2, c3, _⟩ := a5 (A - 1) (by omega)
  clear a5
  obtain ⟨nd, hnd⟩ : ∃ nd : Nat, I 2007 (40 * t + (A - 1)) = nd := ⟨(I 2007 (40 * t + (A - 1))).toNat, by omega⟩
  obtain ⟨m, hm⟩ : ∃ m : Nat, I 2006 (40 * t + (A - 1)) = m := ⟨(I 2006 (40 * t + (A - 1))).toNat, by omega⟩
  obtain ⟨tp, htp⟩ : ∃ tp : Nat, I 2010 (40 * t + (A - 1)) = tp := ⟨(I 2010 (40 * t + (A - 1))).toNat, by omega⟩
  have ndN : nd < Nn := by omega
  have nf := s1.2.2.2.2.1 nd ndN
  obtain ⟨k, hk⟩ : ∃ k : Int, I 38 nd = k := ⟨_, rfl⟩
  have k16 : 0 ≤ k ∧ k ≤ 16 := by rw [← hk]; exact nf.1.2
  have k9 : I' (X + 9) nd = k := by rw [← nf.1.1]; exact hk
  clear nf
  obtain ⟨tn, tn1, tn2, _⟩ := s3.1
  have px := (s3.2.2.2.2.2.2.2.2.2.2.2.2.1.2.2 k.toNat (by omega)).1
  have la := (s3.2.2.2.2.2.2.2.2.2.2.2.2.2.2.2.1 t t8).1 (by rw [s2.1.1.1]; omega)
  have h05 := (s2.1.2 t tth).2.2.2.2.2.1
  refine c_open (d := d + 12) (A := A - 1) (nd := nd) (tp := tp) (m := m) (N := N) (k := k) (x := I 2047 k.toNat) hL t8 htu (by rw [a1]; omega) (by omega) hnd (by omega) hk (by omega) rfl htp (by omega) hm (by omega) s8 hN (fun J hJ => ?_)
  refine vW_swap.mpr ?_
  refine t_open (d := d' + 12) (A := A - 1) (nd := nd) (tp := tp) (m := m) (N := N) (k := k) (x := I 2047 k.toNat) hL' hX hX2 hV t8 htu' (by rw [a2]; omega) (by omega) (by omega) (by omega) k9 (by omega) px.symm (by omega) (by omega) (by omega) (by omega) s9 hN (by unfold inI; omega) (fun J' hJ' => ?_)
  refine vW_swap.mp ?_
  obtain ⟨AO, ⟨AO2, AO3⟩, AO4⟩ := AS_open h0 hN tth hJ hJ' k16
  have c0 := hJ.1
  have t0 := hJ'.1
  have j6 : J 1996 t = 0 := by rw [c0 1996 _ rfl]; exact h6
  have j5 : J 2005 t = I 2005 t := c0 2005 _ rfl
  have j5' : J' 2196 t = I 2005 t := by rw [t0 2196 _ rfl]; exact h05.1.symm
  rcases h05.2 with z | z
  · rw [z] at j5 j5'
    have hm1 : ∀ K : vE → Prop, vW (d' + 13) 412 (138, [vr 2075, vi t, vi ((40 * t + (A - 1) : Nat) : Int), vi nd, vi k, vu], [], (J', Y')) K ↔ vW (d' + 13) 412 (223, [vr 2075, vi t, vi ((40 * t + (A - 1) : Nat) : Int), vi nd, vi k, vu], [], (J', Y')) K := fun K => by
      rw [b412_138 hL' (by omega) (by omega), tn0, j5', if_pos (by decide)]
    simp only [hm1]
    rw [b174_115 hL (by omega) (by omega), tn0, j5, if_pos (by decide)]
    exact s_run hL hL' AO (by omega) tth AO2 AO3 AO4 j6 j5 (fun th' W' F F' hF => hStay _ _ _ th' W' F F' hF)
  · rw [z] at j5 j5'
    have hm1 : ∀ K : vE → Prop, vW (d' + 13) 412 (138, [vr 2075, vi t, vi ((40 * t + (A - 1) : Nat) : Int), vi nd, vi k, vu], [], (J', Y')) K ↔ vW (d' + 13) 412 (147, [vr 2075, vi t, vi ((40 * t + (A - 1) : Nat) : Int), vi nd, vi k, vu], [], (J', Y')) K := fun K => by
      rw [b412_138 hL' (by omega) (by omega), tn0, j5', if_neg (by decide)]
    simp only [hm1]
    rw [b174_115 hL (by omega) (by omega), tn0, j5, if_neg (by decide)]
    exact s_woke hL hL' AO (by omega) tth AO2 AO3 AO4 j6 j5 (by rw [c0 1995 _ rfl]; exact a1) (by rw [c0 2007 _ rfl]; exact hnd) (by rw [c0 38 _ rfl]; exact hk) (fun th' W' F F' hF => hStay _ _ _ th' W' F F' hF)
end
