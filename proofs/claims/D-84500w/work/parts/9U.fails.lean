/-! ===== failures: the step's loop beside the model's ===== -/
set_option maxRecDepth 20000
set_option maxHeartbeats 4000000
/-- a node that has code leaves a value -/
theorem wkV_code {Y Y' : vY} {X mm Nn Lp : Nat} {nm pr ht : Nat → Nat} {I I' : vJ} {n pc : Nat} (s1 : ST I I' Y Y' X mm Nn Lp nm pr ht) (nN : n < Nn) (h1 : I' (X + 11) n < pc) (h2 : (pc : Int) ≤ I' (X + 12) n) : 1 ≤ wkV (I 38 n) := by
  obtain ⟨_, _, cf, ct, k1, k2, k3, k4, k5, k6, k7, k8⟩ := s1.2.2.2.2.1 n nN
  obtain ⟨c, hc⟩ : ∃ c, ct = c + 1 := ⟨ct - 1, by omega⟩
  subst hc
  have cc := s1.2.2.2.2.2.2.2.1 n nN c (by omega) (by omega)
  obtain ⟨o1, _, _⟩ := cc
  rw [← k8]
  clear k1 k2 k3 k4 k8
  unfold opF at o1
  rcases o1 with o | o | o | o | o | o | o | o | o | o | o
  · have := o.2.2.2.2.2; omega
  · have := o.2.2; omega
  · have := o.2.2.2.2.2; omega
  · have := o.2.2.2.2.2; omega
  · have a := o.2.2.1; have := o.2.2.2; omega
  · have a := o.2.2.1; have := o.2.2.2; omega
  · have a := o.2.2.1; have := o.2.2.2; omega
  · have a := o.2.2.1; have := o.2.2.2; omega
  · have a := o.2.2.1; have := o.2.2.2; omega
  · have a := o.2.2.1; have := o.2.2.2; omega
  · have := o.2.2.2.2.2.2; omega
section
variable {d d' : Nat} {Y Y' : vY} {X mm Nn Lp : Nat} {nm pr ht : Nat → Nat} {th t N : Nat} {Q QQ : vE → vE → Prop}
theorem fail_loop {f : Nat} {e a0 k0 : Int} (hL : vL Y) (hL' : vL Y') (hf : f < 10)
    (hStay : ∀ (W' : Nat) (F F' : vJ), AS Y Y' X mm Nn Lp nm pr ht F F' th W' N → vW (d + 10) 174 (170, [vr 1990, vi t, vi a0, vi k0, vi 9], [], (F, Y)) (fun z => QQ z (.inl none, (F', Y')))) :
    ∀ (A W : Nat) (I I' : vJ) (x : Nat) (z6 z7 z8 : vV), IFs Y Y' X mm Nn Lp nm pr ht I I' th t A W N → I 2007 (40 * t + (A - 1)) = x → 1 ≤ wkV (I 38 x) → I 1990 3400 = f → vv (I 1990 3376) (I 1990 3401) (I 1990 3402) e → vW (d + 10) 174 (151, [vr 1990, vi t, vi a0, vi k0, vi 3], [], (I, Y)) (fun z => vW (d' + 6) 437 (13, [vr 2075, vi t, vi f, vl e, vu, vi 1, z6, z7, z8], [], (I', Y')) (fun q => ∃ F' : vJ, q = (.inl (some (vi 0)), (F', Y')) ∧ QQ z (.inl none, (F', Y')))) := by
  intro A
  induction A with
  | zero =>
    intro W I I' x z6 z7 z8 h
    have := h.2.2.2.2.2.2.1.2.2.1
    omega
  | succ B ih =>
    intro W I I' x z6 z7 z8 h hx hk hfl hvv
    rw [Nat.add_sub_cancel] at hx
    have xN : x < Nn := by
      have r8 := h.2.2.2.2.2.2.2.2.2.1 B (by omega)
      have := r8.2.1
      omega
    obtain ⟨w0, j, y, m, o, p, f1, f2, f3, f4, f5, f6, f7, f8⟩ := fail_way h.1 xN hk
    rw [b174_151, if_neg (by decide), b174_158 hL]
    apply vW_out
    have st : ∀ F F', AS Y Y' X mm Nn Lp nm pr ht F F' th (W + 1) N → (fun (r q : vE) => vWC (d + 10) 174 162 3 [vr 1990, vi t, vi a0, vi k0, vi 3] [] (fun z => ∃ F' : vJ, q = (.inl (some (vi 0)), (F', Y')) ∧ QQ z (.inl none, (F', Y'))) r) (.inl (some (vi 9)), (F, Y)) (.inl (some (vi 0)), (F', Y')) := fun F F' hA => by
      simp only [vWC_s, Nat.reduceAdd]
      rw [b174_165, b174_151, if_pos rfl]
      exact vWmo (Nat.le_refl _) (fun z hz => ⟨F', rfl, hz⟩) (hStay (W + 1) F F' hA)
    rcases f5 with ky | ky
    · exact fail_C (Q := fun r q => vWC (d + 10) 174 162 3 [vr 1990, vi t, vi a0, vi k0, vi 3] [] (fun z => ∃ F' : vJ, q = (.inl (some (vi 0)), (F', Y')) ∧ QQ z (.inl none, (F', Y'))) r) hL hL' h hx f1 f2 f3 f4 f6 ky (f8 ky) hf hfl hvv st
    · refine fail_F (Q := fun r q => vWC (d + 10) 174 162 3 [vr 1990, vi t, vi a0, vi k0, vi 3] [] (fun z => ∃ F' : vJ, q = (.inl (some (vi 0)), (F', Y')) ∧ QQ z (.inl none, (F', Y'))) r) hL hL' h hx f1 f2 f3 f4 f6 ky (f7 ky) hf hfl st (fun F F' y6 y7 y8 hB hF g1 g2 g3 g4 g5 g6 => ?_)
      simp only [vWC_s, Nat.reduceAdd]
      simp only [b174_165]
      obtain ⟨x2, hx2⟩ : ∃ x2 : Nat, F 2007 (40 * t + (B - 1)) = x2 := by
        have r8 := hF.2.2.2.2.2.2.2.2.2.1 (B - 1) (by omega)
        have := r8.2.1.2.1
        exact ⟨(F 2007 (40 * t + (B - 1))).toNat, by omega⟩
      have k2 : 1 ≤ wkV (F 38 x2) := by
        obtain ⟨pc, _, _, c3, c4, _⟩ := h.2.2.2.2.2.2.2.2.2.2 (B - 1) (by omega)
        have e2 : I 2007 (40 * t + (B - 1)) = x2 := by rw [← g6]; exact hx2
        rw [e2, tn0] at c3 c4
        have r8 := h.2.2.2.2.2.2.2.2.2.1 (B - 1) (by omega)
        have x2N : x2 < Nn := by have := r8.2.1; omega
        rw [g5]
        exact wkV_code h.1 x2N c3 c4
      exact vW_swap.mp (ih (W + 1) F F' x2 y6 y7 y8 hF hx2 k2 g1 (by rw [g2, g3, g4]; exact hvv))
theorem fl_core {f x A W : Nat} {e a0 k0 : Int} {G M' : vJ} {z6 z7 z8 : vV} (hL : vL Y) (hL' : vL Y') (hf : f < 10) (h : IFs Y Y' X mm Nn Lp nm pr ht G M' th t A W N) (hx : G 2007 (40 * t + (A - 1)) = x) (hk : 1 ≤ wkV (G 38 x)) (hfl : G 1990 3400 = f) (hvv : vv (G 1990 3376) (G 1990 3401) (G 1990 3402) e) (hQ : bk d Y t a0 k0 QQ Q)
    (hStay : ∀ (W' : Nat) (F F' : vJ), AS Y Y' X mm Nn Lp nm pr ht F F' th W' N → vW (d + 10) 174 (170, [vr 1990, vi t, vi a0, vi k0, vi 9], [], (F, Y)) (fun z => QQ z (.inl none, (F', Y')))) :
    vW (d' + 6) 437 (13, [vr 2075, vi t, vi f, vl e, vu, vi 1, z6, z7, z8], [], (M', Y')) (fun q => ∃ F' : vJ, q = (.inl (some (vi 0)), (F', Y')) ∧ Q (.inl (some (vi 3)), (G, Y)) (.inl none, (F', Y'))) := by
  have r6 : G 2005 t = 0 := h.2.2.2.2.2.2.2.1.2
  refine vWmo (Nat.le_refl _) (fun q hq => ?_) (vW_swap.mp (fail_loop (d := d) (d' := d') (QQ := QQ) (e := e) hL hL' hf hStay A W G M' x z6 z7 z8 h hx hk hfl hvv))
  obtain ⟨z, hz, F', q1, q2⟩ := hq
  exact ⟨F', q1, hQ 3 G _ r6 ⟨z, hz, q2⟩⟩
/-- a failure that the house has noted, and the model -/
theorem IFs_fl {I J' : vJ} {A W f : Nat} {kd v : Int} (h : IFs Y Y' X mm Nn Lp nm pr ht I J' th t A W N) (hf : f < 10) : IFs Y Y' X mm Nn Lp nm pr ht (up (up (flC I f) 1990 3401 kd) 1990 3402 v) (up J' 2249 f (J' 2249 f + 1)) th t A W N ∧ (∀ c, c ≠ 1990 → c ≠ 2037 → up (up (flC I f) 1990 3401 kd) 1990 3402 v c = I c) ∧ (up (up (flC I f) 1990 3401 kd) 1990 3402 v 1990 3400 = f ∧ up (up (flC I f) 1990 3401 kd) 1990 3402 v 1990 3376 = I 1990 3376 ∧ up (up (flC I f) 1990 3401 kd) 1990 3402 v 1990 3401 = kd ∧ up (up (flC I f) 1990 3401 kd) 1990 3402 v 1990 3402 = v) := by
  have F1 : fr [2037] [(1990, 3401), (1990, 3402), (1990, 3400)] I (up (up (flC I f) 1990 3401 kd) 1990 3402 v) := fr_upP (fr_upP (fr_upL (fr_upP (fr_upP (fr_upP (fr_refl _ _ _) rfl _) rfl _) rfl _) rfl _ _) rfl _) rfl _
  have F2 : fr [2249] [] J' (up J' 2249 f (J' 2249 f + 1)) := fr_upL (fr_refl _ _ _) rfl _ _
  have z37 : ∀ q, up (up (flC I f) 1990 3401 kd) 1990 3402 v 2037 q = if q = f then I 2037 f + 1 else I 2037 q := fun q => by
    rw [up_cell _ (by decide), up_cell _ (by decide)]
    unfold flC
    rw [up_at, tn0, up_cell _ (by decide), up_cell _ (by decide), up_cell _ (by decide)]
  have z49 : ∀ q, up J' 2249 f (J' 2249 f + 1) 2249 q = if q = f then J' 2249 f + 1 else J' 2249 q := fun q => up_at _ _ _ _ _
  have hPT : PT Lp (up (up (flC I f) 1990 3401 kd) 1990 3402 v) (up J' 2249 f (J' 2249 f + 1)) := by
    obtain ⟨q1, q2, q3, q4, q5, q6, q7, q8, q9, q10, q11, q12, q13, q14, q15, q16, q17, q18, q19, q20⟩ := h.2.2.1
    have hTh : pThr (up (up (flC I f) 1990 3401 kd) 1990 3402 v) (up J' 2249 f (J' 2249 f + 1)) := fun jj hjj => by
      have a := q14 jj hjj
      rw [z37, z49, F1 2038 _ rfl, F1 2039 _ rfl, F1 2040 _ rfl, F2 2250 _ rfl, F2 2251 _ rfl, F2 2252 _ rfl]
      by_cases z : jj = f
      · subst z
        rw [if_pos rfl, if_pos rfl]
        exact ⟨by rw [a.1], a.2⟩
      · rw [if_neg z, if_neg z]; exact a
    exact ⟨su_keep su_tR F1 F2 rfl q1, su_keep su_pPath F1 F2 rfl q2, su_keep su_loR F1 F2 rfl q3, su_keep su_pArr F1 F2 rfl q4, su_keep su_pStep F1 F2 rfl q5, su_keep su_pKeep F1 F2 rfl q6, su_keep su_pCost F1 F2 rfl q7, su_keep su_pCalls F1 F2 rfl q8, su_keep su_pMet F1 F2 rfl q9, su_keep su_pPrint F1 F2 rfl q10, su_keep su_pBegun F1 F2 rfl q11, su_keep su_pLooks F1 F2 rfl q12, su_keep su_pPar F1 F2 rfl q13, hTh, su_keep su_pDone F1 F2 rfl q15, su_keep su_pLast F1 F2 rfl q16, su_keep su_pFor F1 F2 rfl q17, su_keep su_pTurns F1 F2 rfl q18, su_keep su_pSeed F1 F2 rfl q19, su_keep su_pVars F1 F2 rfl q20⟩
  refine ⟨IFs_keep h (fr_weak F1 (by decide) (by decide)) (fr_weak F2 (by decide) (by decide)) hPT, fun c c1 c2 => ?_, ?_, F1 1990 _ rfl, ?_, up_same _ _ _ _⟩
  · exact fr_row F1 c (fun g => frok_of (fun q hq => by simp only [List.mem_singleton] at hq; omega) (fun q hq z => by
      simp only [List.mem_cons, List.not_mem_nil, or_false] at hq
      rcases hq with r | r | r <;> (subst r; exact c1 z.1.symm)))
  · rw [up_place _ _ (by decide), up_place _ _ (by decide)]
    unfold flC
    rw [up_cell _ (by decide), up_place _ _ (by decide), up_place _ _ (by decide), up_same]
  · rw [up_place _ _ (by decide), up_same]
theorem flC_got (I : vJ) (f : Int) : flC I f = up (up (flC I f) 1990 3401 0) 1990 3402 f := by
  have e1 : flC I f 1990 3401 = 0 := by
    unfold flC
    rw [up_cell _ (by decide), up_place _ _ (by decide), up_same]
  have e2 : flC I f 1990 3402 = f := by
    unfold flC
    rw [up_cell _ (by decide), up_same]
  have h1 := up_self (flC I f) 1990 3401
  rw [e1] at h1
  have h2 := up_self (flC I f) 1990 3402
  rw [e2] at h2
  rw [h1, h2]
end
