/-! ===== a step of a thread that was not woken ===== -/
set_option maxRecDepth 20000
set_option maxHeartbeats 4000000
theorem AS_IS {Y Y' : vY} {X mm Nn Lp : Nat} {nm pr ht : Nat → Nat} {I I' : vJ} {th t W N : Nat} (h : AS Y Y' X mm Nn Lp nm pr ht I I' th W N) (hN : 1 ≤ N) (tth : t < th) (hco : I 1990 3393 < N) (hW : (W : Int) + sa (I 1995) 8 th < N) (hno : I' 2075 7829 = t) (h6 : I 1996 t = 0) (h5 : I 2005 t = 0) : ∃ A i nd : Nat, (0 < A ∧ A ≤ 40 ∧ I 1995 t = A) ∧ (I 2007 (40 * t + (A - 1)) = nd ∧ nd < Nn) ∧ I 2008 (40 * t + (A - 1)) = 2 * (i : Int) ∧ IS Y Y' X mm Nn Lp nm pr ht I I' th t A i W N := by
  obtain ⟨s1, s2, s3, s4, ⟨⟨s5, s6, s7⟩, s8, s9, s10⟩, s11⟩ := h
  obtain ⟨A, dl, ⟨a1, a2, a3⟩, a4, a5, a6, a7⟩ := s11 t tth
  have th8 := s2.1.1.2.2
  have st := a7
  unfold stR at st
  have pA := st.2.1 (by omega)
  have st3 := st.2.2.1 h6 h5
  have ac := a5 (A - 1) (by omega)
  obtain ⟨nd, hnd⟩ : ∃ nd : Nat, I 2007 (40 * t + (A - 1)) = nd := ⟨(I 2007 (40 * t + (A - 1))).toNat, by have := ac.2.1; omega⟩
  have ndN : nd < Nn := by have := ac.2.1; omega
  obtain ⟨n1, n2, cf, ct, n3, n4, n5, n6, n7, n8, n9, n10⟩ := s1.2.2.2.2.1 nd ndN
  have sl := sa_all (ac := I 1995) tth th8
  rw [a1, if_pos (by omega)] at sl
  have d0 : dl = 0 := st3.1
  subst d0
  refine ⟨A, cf, nd, ⟨pA, a3, a1⟩, ⟨hnd, ndN⟩, ?_, s1, s2, s3, s4, ⟨tth, ⟨by omega, ⟨s6.1, hco⟩, s7⟩, s8, s9, hN, s10, hno⟩, fun u hu _ => s11 u hu, ⟨a1, a2, pA, a3⟩, ⟨h6, h5⟩, a4, a5, a6, ?_, ?_, ?_⟩
  · rw [st3.2.2.2, hnd, tn0, n3]
  · rw [hnd, tn0, n4, n6]; omega
  · rw [st3.2.2.1, hnd, tn0, n4]
  · rw [st3.2.1, n9]; rfl
section
variable {d d' : Nat} {Y Y' : vY} {X mm Nn Lp : Nat} {nm pr ht : Nat → Nat} {I I' : vJ} {th t W N : Nat} {Q : vE → vE → Prop}
theorem s_run {a0 k0 : Int} {b x0 c0 : Int} (hL : vL Y) (hL' : vL Y') (h : AS Y Y' X mm Nn Lp nm pr ht I I' th W N) (hN : 1 ≤ N) (tth : t < th) (hco : I 1990 3393 < N) (hW : (W : Int) + sa (I 1995) 8 th < N) (hno : I' 2075 7829 = t) (h6 : I 1996 t = 0) (h5 : I 2005 t = 0)
    (hStay : ∀ (th' W' : Nat) (F F' : vJ), AS Y Y' X mm Nn Lp nm pr ht F F' th' W' N → vW (d + 13) 174 (170, [vr 1990, vi t, vi a0, vi k0, vi 9], [], (F, Y)) (fun z => vW (d' + 13) 412 (228, [vr 2075, vi t, vi b, vi x0, vi c0, vu], [], (F', Y')) (fun z' => Q z z'))) :
    vW (d + 13) 174 (137, [vr 1990, vi t, vi a0, vi k0, vi 0], [], (I, Y)) (fun r => vW (d' + 13) 412 (223, [vr 2075, vi t, vi b, vi x0, vi c0, vu], [], (I', Y')) (fun r' => Q r r')) := by
  obtain ⟨A, i, nd, ⟨pA, A40, a1⟩, ⟨hnd, ndN⟩, h8, hI⟩ := AS_IS h hN tth hco hW hno h6 h5
  have t8 : t < 8 := by have := h.2.1.1.1.2.2; omega
  rw [b174_137 hL, b177_0 hL, c_act (A := A - 1) hL t8 (by rw [a1]; omega)]
  simp only [vWC_s, Nat.reduceAdd]
  rw [b177_5 hL (by omega) (by omega)]
  simp only [tn0, hnd, h8]
  apply vW_out
  simp only [b412_223 hL', b422_0]
  have key := works (d := d + 2) (d' := d') (a0 := a0) (k0 := k0) (t := t) (QQ := fun z r' => vWC (d' + 13) 412 225 3 [vr 2075, vi t, vi b, vi x0, vi c0, vu] [] (fun r'' => Q z r'') r') hL hL' (k_start (d := d) (d' := d') hL hL') (fun th' W' F F' hA => hStay th' W' F F' hA) A A th W I I' i nd (fun q r' => vWC (d' + 13) 412 225 3 [vr 2075, vi t, vi b, vi x0, vi c0, vu] [] (fun r'' => vWC (d + 13) 174 139 3 [vr 1990, vi t, vi a0, vi k0, vi 0] [] (fun r => Q r r'') q) r') (Nat.le_refl _) (fun s J r' hJ hz => ?_) hI hnd
  · exact vWmo (Nat.le_succ _) (fun _ hq => hq) (key vu vu vu vu vu vu vu)
  · obtain ⟨z, hz1, hz2⟩ := hz
    refine vWC_mono (fun r'' hr => ?_) hz2
    simp only [vWC_s, Nat.reduceAdd]
    rw [b174_142, b174_144 hL (by omega) (by omega), tn0]
    have e : up J 2005 t 0 = J := by rw [← hJ]; exact up_self _ _ _
    rw [e]
    exact ⟨z, hz1, hr⟩
end
