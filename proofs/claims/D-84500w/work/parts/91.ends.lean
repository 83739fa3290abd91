/-! ===== the end of a node's code, in both houses ===== -/
set_option maxRecDepth 20000
set_option maxHeartbeats 4000000
/-- what lies on the top of the house's pile plays no part between codes and the way on -/
theorem IFs_top {Y Y' : vY} {X mm Nn Lp : Nat} {nm pr ht : Nat → Nat} {I I' : vJ} {th t A W N : Nat} (h : IFs Y Y' X mm Nn Lp nm pr ht I I' th t A W N) (x : Int) : IFs Y Y' X mm Nn Lp nm pr ht (up I 1994 t x) I' th t A W N := by
  obtain ⟨s1, s2, s3, s4, ⟨s5, s6, s7, s8, s9, s10, s11⟩, s12, ⟨⟨r1, r2, r3, r4⟩, ⟨r5, r6⟩, r7, r8, r9⟩⟩ := h
  have F1 : fr [1994] [] I (up I 1994 t x) := fr_upL (fr_refl _ _ _) rfl _ _
  have F2 : fr [] [] I' I' := fr_refl _ _ _
  have g := agT_fr F1 F2 rfl
  have hX := s1.1.2.1
  have gS : agS I I' (up I 1994 t x) I' X := ⟨g.1 38 (by decide) (by decide), g.1 43 (by decide) (by decide), g.1 62 (by decide) (by decide), rfl, rfl, rfl, rfl, rfl, by rw [F1 1960 _ rfl]; exact Int.le_refl _⟩
  obtain ⟨q1, q2, q3, q4, q5, q6, q7, q8, q9, q10, q11, q12, q13, q14, q15, q16, q17, q18, q19, q20⟩ := s3
  have arr : up I 1994 t x 1990 3376 = I 1990 3376 := F1 1990 _ rfl
  refine ⟨ST_ag s1 g, su_keep su_LZ F1 F2 rfl s2, ⟨su_keep su_tR F1 F2 rfl q1, su_keep su_pPath F1 F2 rfl q2, su_keep su_loR F1 F2 rfl q3, su_keep su_pArr F1 F2 rfl q4, su_keep su_pStep F1 F2 rfl q5, su_keep su_pKeep F1 F2 rfl q6, su_keep su_pCost F1 F2 rfl q7, su_keep su_pCalls F1 F2 rfl q8, su_keep su_pMet F1 F2 rfl q9, su_keep su_pPrint F1 F2 rfl q10, su_keep su_pBegun F1 F2 rfl q11, su_keep su_pLooks F1 F2 rfl q12, su_keep su_pPar F1 F2 rfl q13, su_keep su_pThr F1 F2 rfl q14, su_keep su_pDone F1 F2 rfl q15, su_keep su_pLast F1 F2 rfl q16, su_keep su_pFor F1 F2 rfl q17, su_keep su_pTurns F1 F2 rfl q18, su_keep su_pSeed F1 F2 rfl q19, su_keep su_pVars F1 F2 rfl q20⟩, ?_, ⟨s5, by rw [fr_row F1 1995 (fun _ => rfl), F1 1990 3393 rfl, F1 1960 3100 rfl]; exact s6, by rw [F1 1990 _ rfl]; exact s7, s8, s9, s10, s11⟩, fun u hu ut => ?_, ⟨⟨by rw [F1 1995 _ rfl]; exact r1, r2, r3, r4⟩, ⟨by rw [F1 1996 _ rfl]; exact r5, by rw [F1 2005 _ rfl]; exact r6⟩, ?_, fun k hk => ?_, fun k hk => ?_⟩⟩
  · obtain ⟨⟨n, b1, b2⟩, b3, b4⟩ := s4
    refine ⟨⟨n, hR_same b1 (F1 1960 _ rfl) (fr_row F1 1979 (fun _ => rfl)) (fr_row F1 1980 (fun _ => rfl)) (fr_row F1 1981 (fun _ => rfl)) rfl rfl rfl rfl rfl, b2⟩, by rw [F1 1990 _ rfl]; exact b3, ⟨fun j hj => ?_, tot_le b4.2 (fr_row F1 35 (fun _ => rfl)) rfl (F1 1990 _ rfl)⟩⟩
    rw [F1 2014 j rfl, F1 1990 _ rfl]; exact b4.1 j hj
  · rw [arr]
    exact reR_ag (s12 u hu ut) (Int.le_refl _) gS (agV_of ut (fun _ _ => ⟨F1 1992 _ rfl, F1 1993 _ rfl⟩) (fun v hv => up_place _ _ hv _) (fun b hb => ⟨F1 2009 _ rfl, F1 2006 _ rfl, rfl⟩) (fun q _ => rfl) (fun q _ => rfl)) ⟨⟨F1 1995 _ rfl, rfl⟩, fun k hk => ⟨F1 2006 _ rfl, F1 2007 _ rfl, F1 2008 _ rfl, F1 2010 _ rfl, F1 2011 _ rfl, rfl, rfl, rfl, rfl, rfl, rfl⟩⟩ (F1 1996 _ rfl) (F1 1997 _ rfl) (F1 2005 _ rfl)
  · rw [arr, up_up, F1 2009 _ rfl, F1 2006 _ rfl]; exact r7
  · have q := r8 k hk
    unfold acR at *
    rw [F1 2006 _ rfl, F1 2007 _ rfl, F1 2010 _ rfl, F1 2011 _ rfl, F1 1960 _ rfl, gS.1, gS.2.2.1]
    exact q
  · have q := r9 k hk
    unfold coR at *
    rw [F1 2007 _ rfl, F1 2008 _ rfl]
    exact q
theorem wkV_3 (k : Int) : wkV k ≤ 3 := by
  unfold wkV
  split
  · omega
  · split
    · omega
    · split <;> omega
/-- what is known where a node's code is over -/
theorem IS_end {Y Y' : vY} {X mm Nn Lp : Nat} {nm pr ht : Nat → Nat} {I I' : vJ} {th t A i W N : Nat} (h : IS Y Y' X mm Nn Lp nm pr ht I I' th t A i W N) (hi : ¬ (i : Int) < I' (X + 12) (I 2007 (40 * t + (A - 1))).toNat) : ∃ nd B T w : Nat, (t < 8 ∧ 0 < A ∧ A ≤ 40 ∧ 40 * t + (A - 1) < 320) ∧ (I 2007 (40 * t + (A - 1)) = nd ∧ I' 2198 (40 * t + (A - 1)) = nd ∧ nd < 700 ∧ nd < Nn) ∧ (I 44 nd = 2 * (i : Int) ∧ I' (X + 12) nd = (i : Int) ∧ i ≤ 2100) ∧ (I' (X + 9) nd = I 38 nd ∧ 0 ≤ I 38 nd ∧ I 38 nd ≤ 16) ∧ (I 48 nd = w ∧ I' (X + 20) nd = w) ∧ ht i = wkV (I 38 nd) ∧ (I 2009 (40 * t + (A - 1)) = B ∧ I 1994 t = T ∧ T = B + nm (I 2006 (40 * t + (A - 1))).toNat + ht i ∧ nm (I 2006 (40 * t + (A - 1))).toNat ≤ 16 ∧ 8 ≤ B ∧ B + 144 ≤ 46088) ∧ ((∀ j, j < nm (I 2006 (40 * t + (A - 1))).toNat → vv (I 1990 3376) (I 1992 (B + j)) (I 1993 (B + j)) (I' 2205 (16 * (40 * t + (A - 1)) + j))) ∧ (∀ j, j < ht i → vv (I 1990 3376) (I 1992 (B + nm (I 2006 (40 * t + (A - 1))).toNat + j)) (I 1993 (B + nm (I 2006 (40 * t + (A - 1))).toNat + j)) (I' 2206 (160 * (40 * t + (A - 1)) + j)))) ∧ (I' 2186 t = ((A - 1 : Nat) : Int) + 1 ∧ I' 2199 (40 * t + (A - 1)) = i ∧ I' 2200 (40 * t + (A - 1)) = ht i) := by
  obtain ⟨s1, s2, s3, s4, ⟨s5, s6, s7, s8, s9, s10, s11⟩, s12, s13⟩ := h
  have h8 : t < 8 := by have := s2.1.1.2.2; omega
  have s13' := s13
  obtain ⟨⟨r1, r2, r3, r4⟩, _, r7, r8, r9, r10, r11, r12⟩ := s13
  obtain ⟨c1, c2, c3, c4⟩ := r8 (A - 1) (by omega)
  obtain ⟨nd, hnd⟩ : ∃ nd : Nat, I 2007 (40 * t + (A - 1)) = nd := ⟨(I 2007 (40 * t + (A - 1))).toNat, by omega⟩
  have hN : Nn ≤ 700 := s1.2.1.2
  have ndN : nd < Nn := by omega
  obtain ⟨⟨n1, n2, n3⟩, ⟨n4, n5, n6⟩, cf, ct, k1, k2, k3, k4, k5, k6, k7, k8⟩ := s1.2.2.2.2.1 nd ndN
  rw [hnd] at r10 hi c2
  simp only [tn0] at r10 hi c2
  have e : ct = i := by omega
  subst e
  have := wkV_3 (I 38 nd)
  obtain ⟨B, T, b1, b2, b3, b4, b5, b6, b7, b8⟩ := ru_top s13' h8 (by omega)
  exact ⟨nd, B, T, (I 48 nd).toNat, ⟨h8, r3, r4, by omega⟩, ⟨hnd, by omega, by omega, ndN⟩, ⟨k3, k4, k6⟩, ⟨n1.symm, n2, n3⟩, ⟨by omega, by omega⟩, k8, ⟨b1, b2, b3, b4, b5, b6⟩, ⟨b7, b8⟩, ⟨by omega, r11, r12⟩⟩
section
variable {d d' : Nat} {Y Y' : vY} {X mm Nn Lp : Nat} {nm pr ht : Nat → Nat} {I I' : vJ} {th t A i W N : Nat} {Q : vE → vE → Prop}
theorem c_end {K : vE → Prop} {nd : Nat} {a : Int} {x6 x7 x8 : vV} (hL : vL Y) (hnd : nd < 700) (h44 : I 44 nd = 2 * (i : Int)) (hi : i ≤ 2100) : vW (d + 1) 177 (33, [vr 1990, vi t, vi a, vi nd, vi (2 * (i : Int)), vr 37, x6, x7, x8], [], (I, Y)) K ↔ vW d 187 (0, [vr 1990, vi t, vi a, vi nd, vu, vu], [], (I, Y)) (vWC (d + 1) 177 367 3 [vr 1990, vi t, vi a, vi nd, vi (2 * (i : Int)), vr 37, x6, x7, x8] [] K) := by
  rw [b177_33 hL (by omega) (by omega), tn0, h44, if_pos (Int.le_refl _), b177_363 hL]
theorem t_end {K : vE → Prop} {nd a : Nat} {y3 y4 y5 y6 : vV} (hL : vL Y) (hX : Y.1 2075 7689 = X) (hV : vreg Y 2081 38 (Y.1 2075 7689)) (h8 : t < 8) (ha : a = 40 * t + (A - 1)) (ha3 : a < 320) (hA : I 2186 t = ((A - 1 : Nat) : Int) + 1) (hn : I 2198 a = nd) (hnd : nd < 700) (h12 : I (X + 12) nd = i) (hi : i ≤ 2100) (h99 : I 2199 a = i) : vW (d + 1) 422 (2, [vr 2075, vi t, vi 1, y3, y4, y5, y6], [], (I, Y)) K ↔ vW d 443 (0, [vr 2075, vi t, vi a, vi nd, vu, vu, vu], [], (I, Y)) (vWC (d + 1) 422 114 3 [vr 2075, vi t, vi 1, vi a, vi nd, y5, y6] [] K) := by
  have e : 40 * (t : Int) + (((A - 1 : Nat) : Int) + 1) - 1 = (a : Int) := by omega
  rw [b422_2, if_neg (by decide), b422_6 hL (by omega) (by omega) (by rw [tn0, hA]; omega) (by rw [tn0, hA]; omega), tn0, hA, e, tn0, hn, b422_28 hL (by omega) (by omega) hV (by omega) (by omega), hX, tn0, tn0, h12, h99, if_pos (Int.le_refl _), b422_109 hL]
/-- the model takes way w, and what comes behind it -/
def onw (D D' : Nat) (Y Y' : vY) (t a nd w : Nat) (y5 y6 : vV) (so : Int) (J J' : vJ) (Q : vE → vE → Prop) : Prop := vW D 417 (0, [vr 2075, vi a, vi w], [], (J', Y')) (fun q => ∃ (s : Int) (M : vJ × vY), q = (.inl (some (vi s)), M) ∧ (s = 0 ∨ s = 1) ∧ vW D' 422 (2, [vr 2075, vi t, vi s, vi a, vi nd, y5, y6], [], M) (fun r' => Q (.inl (some (vi so)), (J, Y)) r'))
end
