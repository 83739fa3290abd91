/-! ===== node JOIN: both houses ===== -/
set_option maxRecDepth 20000
set_option maxHeartbeats 4000000
theorem lQ_other {I I' J J' : vJ} {th t : Nat} (h : lQ I I' th) (a : I 1996 t ≠ 1) (b : J 1996 t ≠ 1) (e : ∀ u, u ≠ t → J 1996 u = I 1996 u ∧ J 1997 u = I 1997 u ∧ J 1999 u = I 1999 u) (h4 : J' 2222 = I' 2222) (h5 : J' 2221 = I' 2221) : lQ J J' th := by
  intro l hl
  obtain ⟨q, q1, q2, q3, q4, q5⟩ := h l hl
  have old : ∀ k, k < q → ∃ u : Nat, u ≠ t ∧ I' 2221 (8 * l + k) = u := fun k hk => by
    obtain ⟨u, u1, u2, u3⟩ := q3 k hk
    exact ⟨u, fun z => a (by rw [← z]; exact u3.1), u2⟩
  refine ⟨q, q1, by rw [h4]; exact q2, fun k hk => ?_, fun i k hik hk => ?_, fun u hu w => ?_⟩
  · obtain ⟨u, u1, u2, u3⟩ := q3 k hk
    have ut : u ≠ t := fun z => a (by rw [← z]; exact u3.1)
    exact ⟨u, u1, by rw [h5]; exact u2, by rw [(e u ut).1]; exact u3.1, by rw [(e u ut).2.1]; exact u3.2⟩
  · obtain ⟨u, u1, u2⟩ := old i (by omega)
    obtain ⟨v, v1, v2⟩ := old k hk
    have o := q4 i k hik hk
    rw [h5]
    rw [u2, v2, tn0, tn0] at o ⊢
    rw [(e u u1).2.2, (e v v1).2.2]
    exact o
  · have ut : u ≠ t := fun z => b (by rw [← z]; exact w.1)
    rw [h5]
    exact q5 u hu ⟨by rw [← (e u ut).1]; exact w.1, by rw [← (e u ut).2.1]; exact w.2⟩
theorem vW_out3 {d y pc n d2 y2 pc2 n2 d3 y3 pc3 n3 d0 y0 d' y' : Nat} {ls st ls2 st2 ls3 st3 : List vV} {F F' : vF} {Q : vE → vE → Prop} (h : vW d0 y0 F (fun q => vW d' y' F' (fun r' => vWC d y pc n ls st (vWC d2 y2 pc2 n2 ls2 st2 (vWC d3 y3 pc3 n3 ls3 st3 (fun r => Q r r'))) q))) : vW d0 y0 F (vWC d y pc n ls st (vWC d2 y2 pc2 n2 ls2 st2 (vWC d3 y3 pc3 n3 ls3 st3 (fun r => vW d' y' F' (fun r' => Q r r'))))) :=
  vWmo (Nat.le_refl _) (fun _ hq => vWC_mo (fun _ hq2 => vWC_mo (fun _ hq3 => vWC_out hq3) (vWC_out (Q := fun q3 r' => vWC d3 y3 pc3 n3 ls3 st3 (fun r => Q r r') q3) hq2)) (vWC_out (Q := fun q2 r' => vWC d2 y2 pc2 n2 ls2 st2 (vWC d3 y3 pc3 n3 ls3 st3 (fun r => Q r r')) q2) hq)) h
section
variable {d d' : Nat} {Y Y' : vY} {X mm Nn Lp : Nat} {nm pr ht : Nat → Nat} {I I' : vJ} {th t A i W N : Nat} {Q QQ : vE → vE → Prop}
/-- a thread that has not ended is waited for -/
theorem jn_wait {nd w v : Nat} (hL : vL Y) (hL' : vL Y') (h : IFs Y Y' X mm Nn Lp nm pr ht I I' th t A W N) (hx : I 2007 (40 * t + (A - 1)) = nd) (k14 : I 38 nd = 14) (hTop : I 1994 t = I 2009 (40 * t + (A - 1)) + nm (I 2006 (40 * t + (A - 1))).toNat) (h20 : I' 2200 (40 * t + (A - 1)) = 0) (hv : v < 8) (hvt : v < th)
    (hQ : ∀ J J', AS Y Y' X mm Nn Lp nm pr ht J J' th W N → J 2005 t = 0 → Q (.inl (some (vi 9)), (J, Y)) (.inl (some (vi 0)), (J', Y'))) :
    vW (d + 7) 194 (10, [vr 1990, vi t, vi v], [], (I, Y)) (fun r => vW (d' + 9) 451 (134, [vr 2075, vi t, vi ((40 * t + (A - 1) : Nat) : Int), vi w, vl (4 * (v : Int)), vu, vi v], [], (I', Y')) (fun r' => Q r r')) := by
  have h0 := h
  obtain ⟨s1, s2, s3, s4, ⟨s5, s6, s7, s8, s9, s10, s11⟩, s12, ⟨⟨r1, r2, r3, r4⟩, ⟨r5, r6⟩, r7, r8, r9⟩⟩ := h
  have th8 := s2.1.1.2.2
  have a3 : 40 * t + (A - 1) < 320 := by omega
  rw [b194_10 hL, b193_0 hL (by omega) (by omega), tn0]
  simp only [vWC_s, Nat.reduceAdd, b194_17]
  rw [b451_134 hL' (by omega) (by omega)]
  simp only [tn0]
  rw [t_push (S := 0) hL' a3 (by rw [up_cell _ (by decide), up_cell _ (by decide), up_cell _ (by decide)]; exact h20) (by decide)]
  simp only [vWC_n, Nat.reduceAdd, b451_166, Nat.add_zero]
  rw [s7, s8]
  have j2 : ∀ u, up (up (up (up (up I 1996 t 2) 1997 t v) 1998 t N) 1999 t (I 1990 3393)) 1990 3393 (I 1990 3393 + 1) 1996 u = if u = t then 2 else I 1996 u := fun u => by simp only [up_app, Nat.reduceEqDiff, false_and, and_false, true_and, and_true, if_true, if_false, Nat.add_left_cancel_iff, Nat.add_right_cancel_iff, Nat.add_eq_left, Nat.left_eq_add]
  have j3 : ∀ u, up (up (up (up (up I 1996 t 2) 1997 t v) 1998 t N) 1999 t (I 1990 3393)) 1990 3393 (I 1990 3393 + 1) 1997 u = if u = t then (v : Int) else I 1997 u := fun u => by simp only [up_app, Nat.reduceEqDiff, false_and, and_false, true_and, and_true, if_true, if_false, Nat.add_left_cancel_iff, Nat.add_right_cancel_iff, Nat.add_eq_left, Nat.left_eq_add]
  have j4 : ∀ u, up (up (up (up (up I 1996 t 2) 1997 t v) 1998 t N) 1999 t (I 1990 3393)) 1990 3393 (I 1990 3393 + 1) 1998 u = if u = t then (N : Int) else I 1998 u := fun u => by simp only [up_app, Nat.reduceEqDiff, false_and, and_false, true_and, and_true, if_true, if_false, Nat.add_left_cancel_iff, Nat.add_right_cancel_iff, Nat.add_eq_left, Nat.left_eq_add]
  have j5 : ∀ u, up (up (up (up (up I 1996 t 2) 1997 t v) 1998 t N) 1999 t (I 1990 3393)) 1990 3393 (I 1990 3393 + 1) 1999 u = if u = t then I 1990 3393 else I 1999 u := fun u => by simp only [up_app, Nat.reduceEqDiff, false_and, and_false, true_and, and_true, if_true, if_false, Nat.add_left_cancel_iff, Nat.add_right_cancel_iff, Nat.add_eq_left, Nat.left_eq_add]
  have j1 : ∀ u, up (up (up (up (up I 1996 t 2) 1997 t v) 1998 t N) 1999 t (I 1990 3393)) 1990 3393 (I 1990 3393 + 1) 1994 u = I 1994 u := fun u => by simp only [up_app, Nat.reduceEqDiff, false_and, and_false, true_and, and_true, if_true, if_false, Nat.add_left_cancel_iff, Nat.add_right_cancel_iff, Nat.add_eq_left, Nat.left_eq_add]
  have j6 : up (up (up (up (up I 1996 t 2) 1997 t v) 1998 t N) 1999 t (I 1990 3393)) 1990 3393 (I 1990 3393 + 1) 1990 3393 = I 1990 3393 + 1 := up_same _ _ _ _
  have F1 : fr [1994, 1996, 1997, 1998, 1999, 2021] [(1990, 3393)] I (up (up (up (up (up I 1996 t 2) 1997 t v) 1998 t N) 1999 t (I 1990 3393)) 1990 3393 (I 1990 3393 + 1)) := fr_upP (fr_upL (fr_upL (fr_upL (fr_upL (fr_refl _ _ _) rfl _ _) rfl _ _) rfl _ _) rfl _ _) rfl _
  have r21 : up (up (up (up (up I 1996 t 2) 1997 t v) 1998 t N) 1999 t (I 1990 3393)) 1990 3393 (I 1990 3393 + 1) 2021 = I 2021 := by rw [up_row _ (by decide), up_row _ (by decide), up_row _ (by decide), up_row _ (by decide), up_row _ (by decide)]
  have i2 : ∀ u, up (up (up (up (up I' 2187 t 2) 2188 t v) 2189 t N) 2206 (160 * (40 * t + (A - 1))) (4 * (v : Int))) 2200 (40 * t + (A - 1)) (((0 : Nat) : Int) + 1) 2187 u = if u = t then 2 else I' 2187 u := fun u => by simp only [up_app, Nat.reduceEqDiff, false_and, and_false, true_and, and_true, if_true, if_false, Nat.add_left_cancel_iff, Nat.add_right_cancel_iff, Nat.add_eq_left, Nat.left_eq_add]
  have i3 : ∀ u, up (up (up (up (up I' 2187 t 2) 2188 t v) 2189 t N) 2206 (160 * (40 * t + (A - 1))) (4 * (v : Int))) 2200 (40 * t + (A - 1)) (((0 : Nat) : Int) + 1) 2188 u = if u = t then (v : Int) else I' 2188 u := fun u => by simp only [up_app, Nat.reduceEqDiff, false_and, and_false, true_and, and_true, if_true, if_false, Nat.add_left_cancel_iff, Nat.add_right_cancel_iff, Nat.add_eq_left, Nat.left_eq_add]
  have i4 : ∀ u, up (up (up (up (up I' 2187 t 2) 2188 t v) 2189 t N) 2206 (160 * (40 * t + (A - 1))) (4 * (v : Int))) 2200 (40 * t + (A - 1)) (((0 : Nat) : Int) + 1) 2189 u = if u = t then (N : Int) else I' 2189 u := fun u => by simp only [up_app, Nat.reduceEqDiff, false_and, and_false, true_and, and_true, if_true, if_false, Nat.add_left_cancel_iff, Nat.add_right_cancel_iff, Nat.add_eq_left, Nat.left_eq_add]
  have i5 : ∀ u, up (up (up (up (up I' 2187 t 2) 2188 t v) 2189 t N) 2206 (160 * (40 * t + (A - 1))) (4 * (v : Int))) 2200 (40 * t + (A - 1)) (((0 : Nat) : Int) + 1) 2200 u = if u = 40 * t + (A - 1) then ((0 : Nat) : Int) + 1 else I' 2200 u := fun u => by simp only [up_app, Nat.reduceEqDiff, false_and, and_false, true_and, and_true, if_true, if_false, Nat.add_left_cancel_iff, Nat.add_right_cancel_iff, Nat.add_eq_left, Nat.left_eq_add]
  have i6 : ∀ u, up (up (up (up (up I' 2187 t 2) 2188 t v) 2189 t N) 2206 (160 * (40 * t + (A - 1))) (4 * (v : Int))) 2200 (40 * t + (A - 1)) (((0 : Nat) : Int) + 1) 2206 u = if u = 160 * (40 * t + (A - 1)) then 4 * (v : Int) else I' 2206 u := fun u => by simp only [up_app, Nat.reduceEqDiff, false_and, and_false, true_and, and_true, if_true, if_false, Nat.add_left_cancel_iff, Nat.add_right_cancel_iff, Nat.add_eq_left, Nat.left_eq_add]
  have F3 : fr [2187, 2188, 2189, 2200, 2206] [] I' (up (up (up (up (up I' 2187 t 2) 2188 t v) 2189 t N) 2206 (160 * (40 * t + (A - 1))) (4 * (v : Int))) 2200 (40 * t + (A - 1)) (((0 : Nat) : Int) + 1)) := fr_upL (fr_upL (fr_upL (fr_upL (fr_upL (fr_refl _ _ _) rfl _ _) rfl _ _) rfl _ _) rfl _ _) rfl _ _
  generalize up (up (up (up (up I 1996 t 2) 1997 t v) 1998 t N) 1999 t (I 1990 3393)) 1990 3393 (I 1990 3393 + 1) = J at j1 j2 j3 j4 j5 j6 F1 r21 ⊢
  generalize up (up (up (up (up I' 2187 t 2) 2188 t v) 2189 t N) 2206 (160 * (40 * t + (A - 1))) (4 * (v : Int))) 2200 (40 * t + (A - 1)) (((0 : Nat) : Int) + 1) = J' at i2 i3 i4 i5 i6 F3 ⊢
  have F2 : fr [2187, 2188, 2189, 2200, 2206, 2216, 2221, 2222] [] I' J' := fr_weak F3 (by decide) (by decide)
  refine hQ J J' (AS_wait (sc := 2) (x := nd) (v := v) h0 (Or.inr rfl) hx (fun q => absurd q (by decide)) (fun _ => k14) hv (fun _ => hvt) (lQ_other (t := t) s2.2.1 (by rw [r5]; decide) (by rw [j2, if_pos rfl]; decide) (fun u hu => ⟨by rw [j2, if_neg hu], by rw [j3, if_neg hu], by rw [j5, if_neg hu]⟩) (fr_row F3 2222 (fun _ => rfl)) (fr_row F3 2221 (fun _ => rfl))) (fun k hk => ?_) F1 F2 (fun u => ?_) j2 j3 j4 j5 j6 i2 i3 i4 i5 i6) (by rw [F1 2005 _ rfl]; exact r6)
  · have w := s2.2.2.1 k hk
    rw [F1 2017 _ rfl, F1 2018 _ rfl, F1 2019 _ rfl, F1 2020 _ rfl, r21, F1 2022 _ rfl, F1 2023 _ rfl, F1 2024 _ rfl, F1 2025 _ rfl, F1 2026 _ rfl, F1 1990 3388 rfl, F1 1990 3390 rfl, F3 2211 _ rfl, F3 2212 _ rfl, F3 2213 _ rfl, F3 2214 _ rfl, F3 2215 _ rfl, F3 2216 _ rfl, F3 2217 _ rfl, F3 2218 _ rfl, F3 2219 _ rfl, F3 2220 _ rfl]
    exact w
  · rw [j1]
    by_cases z : u = t
    · rw [if_pos z, z]; exact hTop
    · rw [if_neg z]
/-- a step is behind another one, ahead of a way: both houses -/
theorem IL_behind {D D' : Nat} {s : Int} (hL : vL Y) (hL' : vL Y') (h : IFs Y Y' X mm Nn Lp nm pr ht I I' th t A W N) (hs : 0 ≤ s ∧ s ≤ N)
    (hQ : ∀ J J', IL Y Y' X mm Nn Lp nm pr ht J J' th t A W N → fr [2041, 2042, 2043] [(1990, 3384)] I J → fr [2235, 2236] [(2075, 7798)] I' J' → (J 2012 (40 * t + (A - 1)) = I 42 (I 2007 (40 * t + (A - 1))).toNat ∧ J' 2204 (40 * t + (A - 1)) = I 42 (I 2007 (40 * t + (A - 1))).toNat ∧ ∀ j : Nat, (j : Int) < I 42 (I 2007 (40 * t + (A - 1))).toNat → J 2013 ((40 * t + (A - 1)) * 12 + j) = J' 2210 (12 * (40 * t + (A - 1)) + j)) → Q (.inl none, (J, Y)) (.inl none, (J', Y'))) :
    vW (D + 1) 176 (0, [vr 1990, vi s], [], (I, Y)) (fun r => vW (D' + 1) 414 (0, [vr 2075, vi s], [], (I', Y')) (fun r' => Q r r')) := by
  have lo := (IFs_IL h).2
  unfold loA at lo
  have h0 := h
  obtain ⟨s1, s2, s3, s4, ⟨s5, s6, s7, s8, s9, s10, s11⟩, s12, ⟨⟨r1, r2, r3, r4⟩, ⟨r5, r6⟩, r7, r8, r9⟩⟩ := h
  obtain ⟨N0, E, sr⟩ := s3.2.2.2.2.1
  have eN : N0 = N := by have := sr.1.1; omega
  subst eN
  have eE : E < 50000 := by
    have a := sr.2.1.1
    have b := s4.2.1
    have c := sa_nn (I 1995) t th
    omega
  refine s_behind (N := N0) (E := E) hL hL' sr s9 hs eE (fun K K' E' k1 k2 k3 k4 => ?_)
  have K1 : fr [2041, 2042, 2043, 2017, 2018, 2019, 2020, 2024, 2026, 2012, 2013] [(1990, 3384)] I K := fr_weak k3 (by decide) (by decide)
  have K2 : fr [2235, 2236, 2211, 2212, 2213, 2214, 2215, 2219, 2204, 2210] [(2075, 7798)] I' K' := fr_weak k4 (by decide) (by decide)
  have kE : K 1990 3384 ≤ I 1990 3384 + 1 := by
    have a := k1.2.1.1
    have b := sr.2.1.1
    omega
  refine hQ K K' (IL_take h0 (su_keep su_LZ k3 k4 rfl (LZ_8t s2)) K1 K2 k1 kE (fun b _ _ _ => k3 2012 _ rfl) (fun p _ => k3 2013 _ rfl) (fun b _ => k4 2204 _ rfl) (fun p _ => k4 2210 _ rfl)) k3 k4 ⟨by rw [k3 2012 _ rfl, lo.2.2, lo.1], by rw [k4 2204 _ rfl, lo.1], fun j hj => ?_⟩
  rw [k3 2013 _ rfl, k4 2210 _ rfl]
  exact lo.2.1 j (by rw [lo.1]; exact hj)
theorem e_join {nd w : Nat} {x6 x7 x8 y3 y4 y5 y6 : vV} (hL : vL Y) (hL' : vL Y') (h : IS Y Y' X mm Nn Lp nm pr ht I I' th t A i W N) (hi : ¬ (i : Int) < I' (X + 12) (I 2007 (40 * t + (A - 1))).toNat) (hnd : I 2007 (40 * t + (A - 1)) = nd) (hw : I 48 nd = w) (hk : I 38 nd = 14)
    (hOn : ∀ (J J' : vJ), IL Y Y' X mm Nn Lp nm pr ht J J' th t A W N → J 2007 (40 * t + (A - 1)) = nd → J 38 = I 38 → J 48 = I 48 → J 42 = I 42 → J 1994 t = J 2009 (40 * t + (A - 1)) + nm (J 2006 (40 * t + (A - 1))).toNat → J 2005 t = 0 → (J 2012 (40 * t + (A - 1)) = I 42 nd ∧ J' 2204 (40 * t + (A - 1)) = I 42 nd ∧ ∀ j : Nat, (j : Int) < I 42 nd → J 2013 ((40 * t + (A - 1)) * 12 + j) = J' 2210 (12 * (40 * t + (A - 1)) + j)) → onw (d' + 8) (d' + 11) Y Y' t (40 * t + (A - 1)) nd w y5 y6 0 J J' Q)
    (hFl : ∀ (J' : vJ) (f : Int), 1 ≤ f → f ≤ 9 → IFs Y Y' X mm Nn Lp nm pr ht I J' th t A W N → fln (d' + 8) (d' + 11) Y Y' t (40 * t + (A - 1)) nd y5 y6 f I J' Q)
    (hS : ∀ J J', AS Y Y' X mm Nn Lp nm pr ht J J' th W N → J 2005 t = 0 → Q (.inl (some (vi 9)), (J, Y)) (.inl none, (J', Y'))) :
    vW (d + 9) 177 (33, [vr 1990, vi t, vi ((40 * t + (A - 1) : Nat) : Int), vi nd, vi (2 * (i : Int)), vr 37, x6, x7, x8], [], (I, Y)) (fun r => vW (d' + 11) 422 (2, [vr 2075, vi t, vi 1, y3, y4, y5, y6], [], (I', Y')) (fun r' => Q r r')) := by
  obtain ⟨nd', B, T, w', ⟨a1, a2, a3, a4⟩, ⟨b1, b2, b3, b3'⟩, ⟨b4, b5, b6⟩, ⟨c1, c2, c3⟩, ⟨c4, c5⟩, c6, ⟨c7, c8, c9, c10, c11, c12⟩, ⟨v1, v2⟩, ⟨p1, p2, p3⟩⟩ := IS_end h hi
  have e0 : nd' = nd := by omega
  subst e0
  have e1 : w' = w := by omega
  subst e1
  obtain ⟨hX, hX2, hV⟩ := h.1.1
  have hv1 : wkV (I 38 nd') = 1 := by rw [hk]; decide
  rw [c6, hv1] at p3 c9
  have vt := v2 0 (by rw [c6, hv1]; decide)
  rw [Nat.add_zero, Nat.add_zero] at vt
  obtain ⟨p, hp⟩ : ∃ p : Nat, p = B + nm (I 2006 (40 * t + (A - 1))).toNat := ⟨_, rfl⟩
  rw [← hp] at vt
  have n300 : I 1990 3376 ≤ 300 := by
    obtain ⟨n, E, q⟩ := h.2.2.1.2.2.2.1
    have q1 := q.1.1
    have q2 := q.2.1
    clear q
    omega
  obtain ⟨i1, i2, i3⟩ := vv_inV n300 vt
  have num := vv_num vt
  have ev : I 1992 p = 0 → I' 2206 (160 * (40 * t + (A - 1))) = 4 * I 1993 p := fun z => by
    unfold vv at vt
    clear hOn hFl hS num i1 i2 i3
    rcases vt with q | q | q
    · exact q.2.1
    · omega
    · omega
  have E : I 1994 t - 1 = (p : Int) := by omega
  have hm : ∀ K : vE → Prop, vW (d' + 11) 422 (2, [vr 2075, vi t, vi 1, y3, y4, y5, y6], [], (I', Y')) K ↔ vW (d' + 10) 443 (0, [vr 2075, vi t, vi ((40 * t + (A - 1) : Nat) : Int), vi nd', vu, vu, vu], [], (I', Y')) (vWC (d' + 11) 422 114 3 [vr 2075, vi t, vi 1, vi ((40 * t + (A - 1) : Nat) : Int), vi nd', y5, y6] [] K) := fun K => t_end (X := X) hL' hX hV a1 rfl a4 p1 b2 b3 b5 b6 p2
  have F2 : fr [2199, 2200] [] I' (up I' 2200 (40 * t + (A - 1)) ((0 : Nat) : Int)) := fr_upL (fr_refl _ _ _) rfl _ _
  have hI : IFs Y Y' X mm Nn Lp nm pr ht I (up I' 2200 (40 * t + (A - 1)) ((0 : Nat) : Int)) th t A W N := IS_fail h F2 (fun b hb => ⟨up_cell _ (by decide) _ _ _, up_place _ _ hb _⟩)
  have h20 : up I' 2200 (40 * t + (A - 1)) ((0 : Nat) : Int) 2200 (40 * t + (A - 1)) = 0 := up_same _ _ _ _
  have m443 : ∀ K : vE → Prop, vW (d' + 10) 443 (0, [vr 2075, vi t, vi ((40 * t + (A - 1) : Nat) : Int), vi nd', vu, vu, vu], [], (I', Y')) K ↔ vW (d' + 9) 451 (12, [vr 2075, vi t, vi ((40 * t + (A - 1) : Nat) : Int), vi w', vl (I' 2206 (160 * (40 * t + (A - 1)))), vu, vu], [vi (if I' 2206 (160 * (40 * t + (A - 1))) % 4 = 0 then 1 else 0)], (up I' 2200 (40 * t + (A - 1)) ((0 : Nat) : Int), Y')) (vWC (d' + 10) 443 314 3 [vr 2075, vi t, vi ((40 * t + (A - 1) : Nat) : Int), vi nd', vi w', vu, vu] [] K) := by
    intro K
    rw [b443_0 hL' hV (by omega) (by omega), hX, tn0, c1, c5, hk, show w32 14 = 14 from w32_id (by decide) (by decide)]
    simp only [Int.reduceEq, if_true, if_false]
    rw [b443_309 hL', b451_0 hL', t_pop (S := 0) hL' a4 (by rw [p3]; rfl) (by decide)]
    simp only [vWC_s, Nat.reduceAdd, Nat.add_zero]
    rw [b451_5, t_isNum i1]
    simp only [vWC_s, Nat.reduceAdd]
  generalize up I' 2200 (40 * t + (A - 1)) ((0 : Nat) : Int) = J' at hI h20 m443 F2
  generalize I' 2206 (160 * (40 * t + (A - 1))) = e at vt i1 i2 num m443 ev
  have back : ∀ (so : Int) (J : vJ) (M1 : vJ) (M2 : vY) (s : Int), (s = 0 ∨ s = 1) → vW (d' + 11) 422 (2, [vr 2075, vi t, vi s, vi ((40 * t + (A - 1) : Nat) : Int), vi nd', y5, y6], [], (M1, M2)) (fun r' => Q (.inl (some (vi so)), (J, Y)) r') → vW (d' + 10) 443 (317, [vr 2075, vi t, vi ((40 * t + (A - 1) : Nat) : Int), vi nd', vi w', vu, vu], [vi s], (M1, M2)) (vWC (d' + 11) 422 114 3 [vr 2075, vi t, vi 1, vi ((40 * t + (A - 1) : Nat) : Int), vi nd', y5, y6] [] (fun r' => Q (.inl (some (vi so)), (J, Y)) r')) := by
    intro so J M1 M2 s q2 q3
    rw [b443_317 q2]
    simp only [vWC_s, Nat.reduceAdd]
    rw [b422_117, b422_118]
    exact q3
  have bad8 : vW (d' + 9) 451 (63, [vr 2075, vi t, vi ((40 * t + (A - 1) : Nat) : Int), vi w', vl e, vu, vu], [], (J', Y')) (vWC (d' + 10) 443 314 3 [vr 2075, vi t, vi ((40 * t + (A - 1) : Nat) : Int), vi nd', vi w', vu, vu] [] (vWC (d' + 11) 422 114 3 [vr 2075, vi t, vi 1, vi ((40 * t + (A - 1) : Nat) : Int), vi nd', y5, y6] [] (fun r' => Q (.inl (some (vi 3)), (flC I 8, Y)) r'))) := by
    rw [b451_63, b399_0]
    simp only [vWC_s, Nat.reduceAdd]
    rw [b451_73 hL']
    refine vWmo (Nat.le_refl _) (fun q hq => ?_) (hFl J' 8 (by decide) (by decide) hI)
    obtain ⟨s, ⟨M1, M2⟩, q1, q2, q3⟩ := hq
    rw [q1]
    simp only [vWC_s, Nat.reduceAdd]
    rw [b451_76 q2]
    simp only [vWC_s, Nat.reduceAdd]
    exact back _ _ _ _ _ q2 q3
  have thr : I 1990 3390 = th := h.2.1.1.1.1
  have thr' : J' 2075 7731 = th := hI.2.1.1.1.2.1
  have th8 : th ≤ 8 := h.2.1.1.1.2.2
  rw [c_end hL b3 b4 b6, b187_0 hL (by omega) (by omega) (by omega) (by omega)]
  simp only [hm, m443, tn0]
  rw [hk, show w32 14 = 14 from w32_id (by decide) (by decide)]
  simp only [Int.reduceEq, if_true, if_false]
  rw [E, b187_286 hL (by omega) (by omega), tn0, w32_id (by omega) (by omega)]
  by_cases z : I 1992 p = 0
  · have ze := num.1.mpr z
    have zv := num.2 z
    have ee := ev z
    simp only [ze, if_true]
    have m33 : ∀ K : vE → Prop, vW (d' + 9) 451 (12, [vr 2075, vi t, vi ((40 * t + (A - 1) : Nat) : Int), vi w', vl e, vu, vu], [vi 1], (J', Y')) K ↔ if I 1993 p < 0 ∨ ((th : Int) ≤ I 1993 p ∨ ¬ I 1993 p ≠ t) then vW (d' + 9) 451 (63, [vr 2075, vi t, vi ((40 * t + (A - 1) : Nat) : Int), vi w', vl e, vu, vu], [], (J', Y')) K else vW (d' + 9) 451 (85, [vr 2075, vi t, vi ((40 * t + (A - 1) : Nat) : Int), vi w', vl e, vu, vi (I 1993 p)], [], (J', Y')) K := by
      intro K
      rw [b451_12, if_pos (by decide), b451_28, t_val i1]
      simp only [vWC_s, Nat.reduceAdd]
      rw [zv, b451_33, w64_id (by omega) (by omega), w64_id (by decide) (by decide)]
      by_cases y : I 1993 p < 0
      · rw [if_pos y, if_pos (Or.inl y)]
      · rw [if_neg y, b451_38, t_val i1]
        simp only [vWC_s, Nat.reduceAdd]
        rw [zv, b451_43 hL', thr', w32_id (by omega) (by omega), w64_id (by omega) (by omega), w64_id (by omega) (by omega)]
        by_cases x : (th : Int) ≤ I 1993 p
        · rw [if_pos x, if_pos (Or.inr (Or.inl x))]
        · rw [if_neg x, b451_52, t_val i1]
          simp only [vWC_s, Nat.reduceAdd]
          rw [zv, b451_57, w32_id (by omega) (by omega), w64_id (by omega) (by omega), w64_id (by omega) (by omega)]
          by_cases u : I 1993 p ≠ t
          · rw [if_pos u, if_neg (by omega), b451_77, t_val i1]
            simp only [vWC_s, Nat.reduceAdd]
            rw [zv, b451_82]
          · rw [if_neg u, if_pos (Or.inr (Or.inr u))]
    simp only [m33]
    rw [if_pos z, m187_302 hL (by omega) (by omega), tn0, thr, w32_id (x := I 1993 p) (by omega) (by omega), w32_id (x := (th : Int)) (by omega) (by omega), w32_id (x := (t : Int)) (by omega) (by omega)]
    by_cases y : I 1993 p < 0 ∨ ((th : Int) ≤ I 1993 p ∨ ¬ I 1993 p ≠ t)
    · simp only [y, if_true]
      rw [b187_337 hL, c_fails hL (by decide) (by decide)]
      simp only [vWC_s, Nat.reduceAdd, b187_343, b177_370]
      exact bad8
    · simp only [y, if_false]
      obtain ⟨v, hv⟩ : ∃ v : Nat, I 1993 p = v := ⟨(I 1993 p).toNat, by omega⟩
      have vth : v < th := by omega
      rw [hv] at ee
      rw [b187_344 hL (by omega) (by omega) (by omega) (by omega), tn0, tn0, hv, E]
      have hI1 := IFs_top hI (p : Int)
      have G1 : fr [1994] [] I (up I 1994 t (p : Int)) := fr_upL (fr_refl _ _ _) rfl _ _
      have hTop : up I 1994 t (p : Int) 1994 t = up I 1994 t (p : Int) 2009 (40 * t + (A - 1)) + nm (up I 1994 t (p : Int) 2006 (40 * t + (A - 1))).toNat := by
        rw [up_same, up_cell _ (show (2009 : Nat) ≠ 1994 by decide), up_cell _ (show (2006 : Nat) ≠ 1994 by decide), c7, hp]; omega
      generalize up I 1994 t (p : Int) = I1 at hI1 G1 hTop ⊢
      have x96 := (hI1.2.1.1.2 v vth).1
      have x27 : I1 2007 (40 * t + (A - 1)) = nd' := by rw [G1 2007 _ rfl]; exact b1
      have la := (hI1.2.2.1.2.2.2.2.2.2.2.2.2.2.2.2.2.2.2.1 v (by omega)).1 (by rw [G1 1990 _ rfl, thr]; omega)
      have now1 : I1 1990 3388 = N := hI1.2.2.2.2.1.2.2.1
      rw [now1] at la
      have N20 : N ≤ 20000 := hI1.2.2.2.2.1.2.2.2.2.2.1
      rw [b194_0 hL (by omega) (by omega), tn0, w32_id (x := 3) (by decide) (by decide), w32_id (x := I1 1996 v) (by omega) (by omega)]
      have m85 : ∀ K : vE → Prop, vW (d' + 9) 451 (85, [vr 2075, vi t, vi ((40 * t + (A - 1) : Nat) : Int), vi w', vl e, vu, vi (v : Int)], [], (J', Y')) K ↔ if 3 ≤ I1 1996 v then vW (d' + 8) 414 (0, [vr 2075, vi (I1 2002 v)], [], (J', Y')) (vWC (d' + 9) 451 124 3 [vr 2075, vi t, vi ((40 * t + (A - 1) : Nat) : Int), vi w', vl e, vu, vi (v : Int)] [] K) else vW (d' + 9) 451 (134, [vr 2075, vi t, vi ((40 * t + (A - 1) : Nat) : Int), vi w', vl e, vu, vi (v : Int)], [], (J', Y')) K := by
        intro K
        rw [b451_85 hL' (by omega) (by omega), tn0, ← x96.1, w32_id (x := I1 1996 v) (by omega) (by omega), w32_id (x := 2) (by decide) (by decide)]
        by_cases q : 3 ≤ I1 1996 v
        · rw [if_neg (by omega), if_pos q, b451_96 hL' (by omega) (by omega), tn0, w32_id (by omega) (by omega), la.1]
          by_cases u : J' 2193 v ≤ 0
          · rw [if_pos u, if_neg (by omega), b451_117 hL' (by omega) (by omega), tn0, b451_124 hL']
          · rw [if_neg u, if_pos (by omega), b451_107 hL' (by omega) (by omega), tn0, b451_124 hL']
        · rw [if_pos (by omega), if_neg q]
      simp only [hv, m85]
      by_cases q : 3 ≤ I1 1996 v
      · simp only [q, if_true]
        rw [b194_18 hL (by omega) (by omega), tn0]
        have sb : 0 ≤ I1 2002 v ∧ I1 2002 v ≤ N := by
          rw [la.1]
          split <;> omega
        refine vW_out3 (IL_behind (D := d + 5) (D' := d' + 7) (Q := fun q r' => vWC (d + 7) 194 25 3 [vr 1990, vi t, vi (v : Int)] [] (vWC (d + 8) 187 363 3 [vr 1990, vi t, vi ((40 * t + (A - 1) : Nat) : Int), vi nd', vi p, vu] [] (vWC (d + 9) 177 367 3 [vr 1990, vi t, vi ((40 * t + (A - 1) : Nat) : Int), vi nd', vi (2 * (i : Int)), vr 37, x6, x7, x8] [] (fun r => vWC (d' + 9) 451 124 3 [vr 2075, vi t, vi ((40 * t + (A - 1) : Nat) : Int), vi w', vl e, vu, vi (v : Int)] [] (vWC (d' + 10) 443 314 3 [vr 2075, vi t, vi ((40 * t + (A - 1) : Nat) : Int), vi nd', vi w', vu, vu] [] (vWC (d' + 11) 422 114 3 [vr 2075, vi t, vi 1, vi ((40 * t + (A - 1) : Nat) : Int), vi nd', y5, y6] [] (fun r' => Q r r'))) r'))) q) hL hL' hI1 sb (fun JF JF' n1 n2 n4 n3 => ?_))
        simp only [vWC_n, vWC_s, Nat.reduceAdd, b194_28, b187_366, b177_370]
        rw [b451_127 hL']
        rw [x27, tn0, G1 42 _ rfl] at n3
        have o := hOn JF JF' n1 (by rw [n2 2007 _ rfl]; exact x27) (by rw [fr_row n2 38 (fun _ => rfl), fr_row G1 38 (fun _ => rfl)]) (by rw [fr_row n2 48 (fun _ => rfl), fr_row G1 48 (fun _ => rfl)]) (by rw [fr_row n2 42 (fun _ => rfl), fr_row G1 42 (fun _ => rfl)]) (by rw [n2 1994 _ rfl, n2 2009 _ rfl, n2 2006 _ rfl]; exact hTop) n1.2.2.2.2.2.2.2.1.2 n3
        refine vWmo (Nat.le_refl _) (fun q hq => ?_) o
        obtain ⟨s, ⟨M1, M2⟩, q1, q2, q3⟩ := hq
        rw [q1]
        simp only [vWC_s, Nat.reduceAdd]
        rw [b451_133 q2]
        simp only [vWC_s, Nat.reduceAdd]
        exact back _ _ _ _ _ q2 q3
      · simp only [q, if_false]
        rw [ee]
        refine vW_out2 (jn_wait (d := d) (d' := d') (nd := nd') (w := w') (v := v) (Q := fun q r' => vWC (d + 8) 187 363 3 [vr 1990, vi t, vi ((40 * t + (A - 1) : Nat) : Int), vi nd', vi p, vu] [] (vWC (d + 9) 177 367 3 [vr 1990, vi t, vi ((40 * t + (A - 1) : Nat) : Int), vi nd', vi (2 * (i : Int)), vr 37, x6, x7, x8] [] (fun r => vWC (d' + 10) 443 314 3 [vr 2075, vi t, vi ((40 * t + (A - 1) : Nat) : Int), vi nd', vi w', vu, vu] [] (vWC (d' + 11) 422 114 3 [vr 2075, vi t, vi 1, vi ((40 * t + (A - 1) : Nat) : Int), vi nd', y5, y6] [] (fun r' => Q r r')) r')) q) hL hL' hI1 x27 (by rw [G1 38 _ rfl]; exact hk) hTop h20 (by omega) vth (fun JW JW' n1 n2 => ?_))
        simp only [vWC_s, Nat.reduceAdd, b187_366, b177_370]
        refine back _ _ _ _ 0 (Or.inl rfl) ?_
        rw [b422_2, if_pos (by decide), b422_121]
        exact hS JW JW' n1 n2
  · have ze : ¬ e % 4 = 0 := fun q => z (num.1.mp q)
    rw [if_neg z, b187_296 hL, c_fails hL (by decide) (by decide)]
    simp only [vWC_s, Nat.reduceAdd, b187_301, b177_370, ze, if_false]
    rw [b451_12, if_neg (by decide), b451_15, b399_0]
    simp only [vWC_s, Nat.reduceAdd]
    rw [b451_24 hL']
    refine vWmo (Nat.le_refl _) (fun q hq => ?_) (hFl J' 4 (by decide) (by decide) hI)
    obtain ⟨s, ⟨M1, M2⟩, q1, q2, q3⟩ := hq
    rw [q1]
    simp only [vWC_s, Nat.reduceAdd]
    rw [b451_27 q2]
    simp only [vWC_s, Nat.reduceAdd]
    exact back _ _ _ _ _ q2 q3
end
