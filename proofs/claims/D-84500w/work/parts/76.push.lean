/-! ===== codes one by one: numbers, nil, names, vars ===== -/
set_option maxRecDepth 20000
def pu (I : vJ) (t T : Nat) (k v : Int) : vJ := up (up (up I 1992 T k) 1993 T v) 1994 t ((T : Int) + 1)
def pt (I : vJ) (a i S : Nat) (e : Int) : vJ := up (up (up I 2199 a ((i : Int) + 1)) 2206 (160 * a + S) e) 2200 a ((S : Int) + 1)
theorem pu_fr (I : vJ) (t T : Nat) (k v : Int) : fr [1992, 1993, 1994, 2032] [] I (pu I t T k v) := fr_upL (fr_upL (fr_upL (fr_refl _ _ _) rfl _ _) rfl _ _) rfl _ _
theorem pt_fr (I : vJ) (a i S : Nat) (e : Int) : fr [2199, 2200, 2206, 2228] [] I (pt I a i S e) := fr_upL (fr_upL (fr_upL (fr_refl _ _ _) rfl _ _) rfl _ _) rfl _ _
section
variable {d d' : Nat} {I I' : vJ} {Y Y' : vY} {Q : vE → Prop}
theorem c_k0 {t a nd i ct T : Nat} {x6 x7 x8 : vV} (hL : vL Y) (h8 : t < 8) (hnd : nd < 700) (hto : I 44 nd = 2 * (ct : Int)) (hi : i < ct) (hct : ct ≤ 2100) (hk : I 37 (2 * i) = 0) (hT : I 1994 t = T) (hT2 : T < 46088) : vW (d + 2) 177 (33, [vr 1990, vi t, vi a, vi nd, vi (2 * (i : Int)), vr 37, x6, x7, x8], [], (I, Y)) Q ↔ vW (d + 2) 177 (33, [vr 1990, vi t, vi a, vi nd, vi (2 * (i : Int) + 2), vr 37, vi 0, vi (I 37 (2 * i + 1)), vi 0], [], (pu I t T 0 (I 37 (2 * i + 1)), Y)) Q := by
  rw [c_head_0 hL hnd hto hi hct hk, b177_132 hL, c_push hL h8 hT hT2 (by decide)]
  simp only [vWC_n, Nat.reduceAdd, b177_140, c_ok, pu]
theorem c_k1 {t a nd i ct T : Nat} {x6 x7 x8 : vV} (hL : vL Y) (h8 : t < 8) (hnd : nd < 700) (hto : I 44 nd = 2 * (ct : Int)) (hi : i < ct) (hct : ct ≤ 2100) (hk : I 37 (2 * i) = 1) (hT : I 1994 t = T) (hT2 : T < 46088) : vW (d + 2) 177 (33, [vr 1990, vi t, vi a, vi nd, vi (2 * (i : Int)), vr 37, x6, x7, x8], [], (I, Y)) Q ↔ vW (d + 2) 177 (33, [vr 1990, vi t, vi a, vi nd, vi (2 * (i : Int) + 2), vr 37, vi 1, vi (I 37 (2 * i + 1)), vi 0], [], (pu I t T 2 0, Y)) Q := by
  rw [c_head_1 hL hnd hto hi hct hk, b177_143 hL, c_push hL h8 hT hT2 (by decide)]
  simp only [vWC_n, Nat.reduceAdd, b177_150, c_ok, pu]
theorem c_k2 {t a nd i ct T B j : Nat} {x6 x7 x8 : vV} (hL : vL Y) (h8 : t < 8) (ha : a < 320) (hnd : nd < 700) (hto : I 44 nd = 2 * (ct : Int)) (hi : i < ct) (hct : ct ≤ 2100) (hk : I 37 (2 * i) = 2) (hT : I 1994 t = T) (hT2 : T < 46088) (hB : I 2009 a = B) (hj : I 37 (2 * i + 1) = j) (hBj : B + j < 46088) (hkd : 0 ≤ I 1992 (B + j) ∧ I 1992 (B + j) ≤ 2) : vW (d + 2) 177 (33, [vr 1990, vi t, vi a, vi nd, vi (2 * (i : Int)), vr 37, x6, x7, x8], [], (I, Y)) Q ↔ vW (d + 2) 177 (33, [vr 1990, vi t, vi a, vi nd, vi (2 * (i : Int) + 2), vr 37, vi 2, vi j, vi 0], [], (pu I t T (I 1992 (B + j)) (I 1993 (B + j)), Y)) Q := by
  rw [c_head_2 hL hnd hto hi hct hk, hj, b177_153 hL (by omega) (by omega) (by simp only [tn0, hB]; omega) (by simp only [tn0, hB]; omega)]
  simp only [tn0, hB, tn1]
  rw [c_push hL h8 hT hT2 hkd]
  simp only [vWC_n, Nat.reduceAdd, b177_186, c_ok, pu]
theorem c_k3 {t a nd i ct T j : Nat} {x6 x7 x8 : vV} (hL : vL Y) (h8 : t < 8) (hnd : nd < 700) (hto : I 44 nd = 2 * (ct : Int)) (hi : i < ct) (hct : ct ≤ 2100) (hk : I 37 (2 * i) = 3) (hT : I 1994 t = T) (hT2 : T < 46088) (hj : I 37 (2 * i + 1) = j) (hBj : j < 8) (hkd : 0 ≤ I 1992 j ∧ I 1992 j ≤ 2) : vW (d + 2) 177 (33, [vr 1990, vi t, vi a, vi nd, vi (2 * (i : Int)), vr 37, x6, x7, x8], [], (I, Y)) Q ↔ vW (d + 2) 177 (33, [vr 1990, vi t, vi a, vi nd, vi (2 * (i : Int) + 2), vr 37, vi 3, vi j, vi 0], [], (pu I t T (I 1992 j) (I 1993 j), Y)) Q := by
  rw [c_head_3 hL hnd hto hi hct hk, hj, b177_189 hL (by omega) (by omega)]
  simp only [tn0]
  rw [c_push hL h8 hT hT2 hkd]
  simp only [vWC_n, Nat.reduceAdd, b177_208, c_ok, pu]
theorem t_k0 {X t A a nd i ct S : Nat} {x3 x4 x5 x6 : vV} {v : Int} (hL : vL Y) (hX : Y.1 2075 7689 = X) (hX2 : X = 2081 ∨ X = 2119) (hV : vreg Y 2081 38 (Y.1 2075 7689)) (ht : t < 8) (hA : I 2186 t = (A : Int) + 1) (hA2 : A < 40) (ha : a = 40 * t + A) (hnd : I 2198 a = nd) (hnd2 : nd < 700) (hpc : I 2199 a = i) (hto : I (X + 12) nd = (ct : Int)) (hi : i < ct) (hct : ct ≤ 2100) (hk : I (X + 27) i = 0) (hv : I (X + 28) i = v) (hv0 : 0 ≤ v) (hv2 : v ≤ 999999999) (hS : I 2200 a = S) (hS2 : S < 160) : vW (d + 2) 422 (2, [vr 2075, vi t, vi 1, x3, x4, x5, x6], [], (I, Y)) Q ↔ vW (d + 2) 422 (2, [vr 2075, vi t, vi 1, vi a, vi nd, vi i, vi 0], [], (pt I a i S (4 * v), Y)) Q := by
  have e : v * 4 = 4 * v := by omega
  rw [t_head_0 hL hX hX2 hV ht hA hA2 ha hnd hnd2 hpc hto hi hct hk, hv]
  simp (disch := (first | assumption | omega | (simp only [up_app, Nat.reduceEqDiff, false_and, and_false, true_and, and_true, if_true, if_false, Nat.add_left_cancel_iff, Nat.add_right_cancel_iff, Nat.add_eq_left, Nat.left_eq_add, tn0, tn1, tn2, tn3, tn4, tn5, tn6, tn7, tn8, tn9]; omega))) only [b423_80, b399_0, b423_88, e, vWC_n, vWC_s, vWC_x, if01a, if01b, if_pos, if_neg, tn0, tn1, tn2, tn3, tn4, tn5, tn6, tn7, tn8, tn9, w32_id, w64_id, Nat.reduceAdd, reduceIte, Int.reduceLT, Int.reduceLE, Int.reduceEq, Int.reduceNe, Int.reduceAdd, Int.reduceSub, Int.reduceMul, Int.reduceNeg, Int.reduceToNat, ne_eq, not_true_eq_false, not_false_eq_true, true_and, and_true, false_and, and_false, true_or, or_true, false_or, or_false, if_true, if_false, and_self, or_self, ite_self]
  rw [t_push hL (by omega) (by rw [up_cell _ (by decide)]; exact hS) hS2]
  simp only [vWC_n, Nat.reduceAdd, b423_91, t_ok, pt]
theorem t_k1 {X t A a nd i ct S : Nat} {x3 x4 x5 x6 : vV} (hL : vL Y) (hX : Y.1 2075 7689 = X) (hX2 : X = 2081 ∨ X = 2119) (hV : vreg Y 2081 38 (Y.1 2075 7689)) (ht : t < 8) (hA : I 2186 t = (A : Int) + 1) (hA2 : A < 40) (ha : a = 40 * t + A) (hnd : I 2198 a = nd) (hnd2 : nd < 700) (hpc : I 2199 a = i) (hto : I (X + 12) nd = (ct : Int)) (hi : i < ct) (hct : ct ≤ 2100) (hk : I (X + 27) i = 1) (hS : I 2200 a = S) (hS2 : S < 160) : vW (d + 2) 422 (2, [vr 2075, vi t, vi 1, x3, x4, x5, x6], [], (I, Y)) Q ↔ vW (d + 2) 422 (2, [vr 2075, vi t, vi 1, vi a, vi nd, vi i, vi 0], [], (pt I a i S 2, Y)) Q := by
  rw [t_head_1 hL hX hX2 hV ht hA hA2 ha hnd hnd2 hpc hto hi hct hk, b423_93 hL]
  rw [t_push hL (by omega) (by rw [up_cell _ (by decide)]; exact hS) hS2]
  simp only [vWC_n, Nat.reduceAdd, b423_101, t_ok, pt]
theorem t_k2 {X t A a nd i ct S j : Nat} {x3 x4 x5 x6 : vV} (hL : vL Y) (hX : Y.1 2075 7689 = X) (hX2 : X = 2081 ∨ X = 2119) (hV : vreg Y 2081 38 (Y.1 2075 7689)) (ht : t < 8) (hA : I 2186 t = (A : Int) + 1) (hA2 : A < 40) (ha : a = 40 * t + A) (hnd : I 2198 a = nd) (hnd2 : nd < 700) (hpc : I 2199 a = i) (hto : I (X + 12) nd = (ct : Int)) (hi : i < ct) (hct : ct ≤ 2100) (hk : I (X + 27) i = 2) (hv : I (X + 28) i = j) (hj : j < 8) (hS : I 2200 a = S) (hS2 : S < 160) : vW (d + 2) 422 (2, [vr 2075, vi t, vi 1, x3, x4, x5, x6], [], (I, Y)) Q ↔ vW (d + 2) 422 (2, [vr 2075, vi t, vi 1, vi a, vi nd, vi i, vi 0], [], (pt I a i S (I 2185 j), Y)) Q := by
  rw [t_head_2 hL hX hX2 hV ht hA hA2 ha hnd hnd2 hpc hto hi hct hk, hv, b423_103 hL (by omega) (by omega)]
  simp only [tn0]
  rw [up_cell _ (show 2185 ≠ 2199 by decide)]
  rw [t_push hL (by omega) (by rw [up_cell _ (by decide)]; exact hS) hS2]
  simp only [vWC_n, Nat.reduceAdd, b423_115, t_ok, pt]
theorem t_k3 {X t A a nd i ct S j : Nat} {x3 x4 x5 x6 : vV} (hL : vL Y) (hX : Y.1 2075 7689 = X) (hX2 : X = 2081 ∨ X = 2119) (hV : vreg Y 2081 38 (Y.1 2075 7689)) (ht : t < 8) (hA : I 2186 t = (A : Int) + 1) (hA2 : A < 40) (ha : a = 40 * t + A) (hnd : I 2198 a = nd) (hnd2 : nd < 700) (hpc : I 2199 a = i) (hto : I (X + 12) nd = (ct : Int)) (hi : i < ct) (hct : ct ≤ 2100) (hk : I (X + 27) i = 3) (hv : I (X + 28) i = j) (hj : j < 16) (hS : I 2200 a = S) (hS2 : S < 160) : vW (d + 2) 422 (2, [vr 2075, vi t, vi 1, x3, x4, x5, x6], [], (I, Y)) Q ↔ vW (d + 2) 422 (2, [vr 2075, vi t, vi 1, vi a, vi nd, vi i, vi 0], [], (pt I a i S (I 2205 (16 * a + j)), Y)) Q := by
  have ix : 16 * (a : Int) + (j : Int) = ((16 * a + j : Nat) : Int) := by omega
  rw [t_head_3 hL hX hX2 hV ht hA hA2 ha hnd hnd2 hpc hto hi hct hk, hv, b423_117 hL (by omega) (by omega), ix]
  simp only [tn0]
  rw [up_cell _ (show 2205 ≠ 2199 by decide)]
  rw [t_push hL (by omega) (by rw [up_cell _ (by decide)]; exact hS) hS2]
  simp only [vWC_n, Nat.reduceAdd, b423_134, t_ok, pt]
end
/-- all that a code's place tells -/
theorem IS_at {Y Y' : vY} {X mm Nn Lp : Nat} {nm pr ht : Nat → Nat} {I I' : vJ} {th t A i W N : Nat} (h : IS Y Y' X mm Nn Lp nm pr ht I I' th t A i W N) (hi : (i : Int) < I' (X + 12) (I 2007 (40 * t + (A - 1))).toNat) : ∃ nd ct B T : Nat, (t < 8 ∧ 0 < A ∧ A ≤ 40 ∧ 40 * t + (A - 1) < 320) ∧ (I 2007 (40 * t + (A - 1)) = nd ∧ I' 2198 (40 * t + (A - 1)) = nd ∧ nd < 700 ∧ nd < Nn) ∧ (I 44 nd = 2 * (ct : Int) ∧ I' (X + 12) nd = (ct : Int) ∧ i < ct ∧ ct ≤ 2100) ∧ (I 2009 (40 * t + (A - 1)) = B ∧ I 1994 t = T ∧ T = B + nm (I 2006 (40 * t + (A - 1))).toNat + ht i ∧ nm (I 2006 (40 * t + (A - 1))).toNat ≤ 16 ∧ 8 ≤ B ∧ B + 144 ≤ 46088) ∧ ((∀ j, j < nm (I 2006 (40 * t + (A - 1))).toNat → vv (I 1990 3376) (I 1992 (B + j)) (I 1993 (B + j)) (I' 2205 (16 * (40 * t + (A - 1)) + j))) ∧ (∀ j, j < ht i → vv (I 1990 3376) (I 1992 (B + nm (I 2006 (40 * t + (A - 1))).toNat + j)) (I 1993 (B + nm (I 2006 (40 * t + (A - 1))).toNat + j)) (I' 2206 (160 * (40 * t + (A - 1)) + j)))) ∧ (opF (I 37 (2 * i)) (I 37 (2 * i + 1)) (I' (X + 27) i) (I' (X + 28) i) (I' (X + 29) i) (ht i) (ht (i + 1)) mm (nm (I 2006 (40 * t + (A - 1))).toNat) (nm 5000) pr ∧ ht i ≤ 100 ∧ ht (i + 1) ≤ 100) ∧ (I' 2186 t = ((A - 1 : Nat) : Int) + 1 ∧ I' 2199 (40 * t + (A - 1)) = i ∧ I' 2200 (40 * t + (A - 1)) = ht i) := by
  obtain ⟨s1, s2, s3, s4, ⟨s5, s6, s7, s8, s9, s10, s11⟩, s12, s13⟩ := h
  have h8 : t < 8 := by have := s2.1.1.2.2; omega
  have s13' := s13
  obtain ⟨⟨r1, r2, r3, r4⟩, _, r7, r8, r9, r10, r11, r12⟩ := s13
  obtain ⟨c1, c2, c3, c4⟩ := r8 (A - 1) (by omega)
  obtain ⟨nd, hnd⟩ : ∃ nd : Nat, I 2007 (40 * t + (A - 1)) = nd := ⟨(I 2007 (40 * t + (A - 1))).toNat, by omega⟩
  have hN : Nn ≤ 700 := s1.2.1.2
  have ndN : nd < Nn := by omega
  have co := s1.2.2.2.2.2.2.2.1 nd ndN
  obtain ⟨_, _, cf, ct, k1, k2, k3, k4, k5, k6, k7, k8⟩ := s1.2.2.2.2.1 nd ndN
  rw [hnd] at r10 hi c2
  simp only [tn0] at r10 hi c2
  obtain ⟨o1, o2, o3⟩ := co i r10.1 hi
  rw [c2.2.2.2] at o1
  obtain ⟨B, T, b1, b2, b3, b4, b5, b6, b7, b8⟩ := ru_top s13' h8 o2
  exact ⟨nd, ct, B, T, ⟨h8, r3, r4, by omega⟩, ⟨hnd, by omega, by omega, ndN⟩, ⟨k3, k4, by omega, k6⟩, ⟨b1, b2, b3, b4, b5, b6⟩, ⟨b7, b8⟩, ⟨o1, o2, o3⟩, ⟨by omega, r11, r12⟩⟩
