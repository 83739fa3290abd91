/-! ===== node LOCK: both houses ===== -/
set_option maxRecDepth 20000
set_option maxHeartbeats 4000000
section
variable {d d' : Nat} {Y Y' : vY} {X mm Nn Lp : Nat} {nm pr ht : Nat → Nat} {I I' : vJ} {th t A i W N : Nat} {Q QQ : vE → vE → Prop}
/-- a lock that another thread has -/
theorem lk_wait {nd w l : Nat} (hL : vL Y) (hL' : vL Y') (h : IFs Y Y' X mm Nn Lp nm pr ht I I' th t A W N) (hx : I 2007 (40 * t + (A - 1)) = nd) (k12 : I 38 nd = 12 ∧ I 42 nd ≤ 10) (hTop : I 1994 t = I 2009 (40 * t + (A - 1)) + nm (I 2006 (40 * t + (A - 1))).toNat) (h20 : I' 2200 (40 * t + (A - 1)) = 0) (hl : l < 8)
    (hQ : ∀ J J', AS Y Y' X mm Nn Lp nm pr ht J J' th W N → J 2005 t = 0 → Q (.inl (some (vi 9)), (J, Y)) (.inl (some (vi 0)), (J', Y'))) :
    vW (d + 7) 192 (20, [vr 1990, vi t, vi l], [], (I, Y)) (fun r => vW (d' + 9) 450 (128, [vr 2075, vi t, vi ((40 * t + (A - 1) : Nat) : Int), vi nd, vi w, vl (4 * (l : Int)), vu, vi l], [], (I', Y')) (fun r' => Q r r')) := by
  have h0 := h
  obtain ⟨s1, s2, s3, s4, ⟨s5, s6, s7, s8, s9, s10, s11⟩, s12, ⟨⟨r1, r2, r3, r4⟩, ⟨r5, r6⟩, r7, r8, r9⟩⟩ := h
  have th8 := s2.1.1.2.2
  have a3 : 40 * t + (A - 1) < 320 := by omega
  obtain ⟨q, q1, q2, q3, q4, q5⟩ := s2.2.1 l hl
  have q7 := lQ_few th8 s5 r5 q3 q4
  clear q5
  have e8 : (8 * (l : Int) + (q : Int)).toNat = 8 * l + q := by omega
  rw [b192_20 hL (by omega) (by omega), tn0, b193_0 hL (by omega) (by omega), tn0]
  simp only [vWC_s, Nat.reduceAdd, b192_37]
  rw [b450_128 hL' (by omega) (by omega) (by omega) (by omega) (by rw [tn0, q2]; omega) (by rw [tn0, q2]; omega)]
  simp only [tn0]
  rw [q2, e8, t_push (S := 0) hL' a3 (by rw [up_cell _ (by decide), up_cell _ (by decide), up_cell _ (by decide), up_cell _ (by decide), up_cell _ (by decide), up_cell _ (by decide)]; exact h20) (by decide)]
  simp only [vWC_n, Nat.reduceAdd, b450_201, Nat.add_zero]
  rw [up_cell _ (show (1990 : Nat) ≠ 2021 by decide), s7]
  rw [up_cell _ (show (1990 : Nat) ≠ 2021 by decide), s8]
  have j2 : ∀ u, up (up (up (up (up (up I 2021 l (I 2021 l + 1)) 1996 t 1) 1997 t l) 1998 t N) 1999 t (I 1990 3393)) 1990 3393 (I 1990 3393 + 1) 1996 u = if u = t then 1 else I 1996 u := fun u => by simp only [up_app, Nat.reduceEqDiff, false_and, and_false, true_and, and_true, if_true, if_false, Nat.add_left_cancel_iff, Nat.add_right_cancel_iff, Nat.add_eq_left, Nat.left_eq_add]
  have j3 : ∀ u, up (up (up (up (up (up I 2021 l (I 2021 l + 1)) 1996 t 1) 1997 t l) 1998 t N) 1999 t (I 1990 3393)) 1990 3393 (I 1990 3393 + 1) 1997 u = if u = t then (l : Int) else I 1997 u := fun u => by simp only [up_app, Nat.reduceEqDiff, false_and, and_false, true_and, and_true, if_true, if_false, Nat.add_left_cancel_iff, Nat.add_right_cancel_iff, Nat.add_eq_left, Nat.left_eq_add]
  have j4 : ∀ u, up (up (up (up (up (up I 2021 l (I 2021 l + 1)) 1996 t 1) 1997 t l) 1998 t N) 1999 t (I 1990 3393)) 1990 3393 (I 1990 3393 + 1) 1998 u = if u = t then (N : Int) else I 1998 u := fun u => by simp only [up_app, Nat.reduceEqDiff, false_and, and_false, true_and, and_true, if_true, if_false, Nat.add_left_cancel_iff, Nat.add_right_cancel_iff, Nat.add_eq_left, Nat.left_eq_add]
  have j5 : ∀ u, up (up (up (up (up (up I 2021 l (I 2021 l + 1)) 1996 t 1) 1997 t l) 1998 t N) 1999 t (I 1990 3393)) 1990 3393 (I 1990 3393 + 1) 1999 u = if u = t then I 1990 3393 else I 1999 u := fun u => by simp only [up_app, Nat.reduceEqDiff, false_and, and_false, true_and, and_true, if_true, if_false, Nat.add_left_cancel_iff, Nat.add_right_cancel_iff, Nat.add_eq_left, Nat.left_eq_add]
  have j7 : ∀ u, up (up (up (up (up (up I 2021 l (I 2021 l + 1)) 1996 t 1) 1997 t l) 1998 t N) 1999 t (I 1990 3393)) 1990 3393 (I 1990 3393 + 1) 2021 u = if u = l then I 2021 l + 1 else I 2021 u := fun u => by simp only [up_app, Nat.reduceEqDiff, false_and, and_false, true_and, and_true, if_true, if_false, Nat.add_left_cancel_iff, Nat.add_right_cancel_iff, Nat.add_eq_left, Nat.left_eq_add]
  have j1 : ∀ u, up (up (up (up (up (up I 2021 l (I 2021 l + 1)) 1996 t 1) 1997 t l) 1998 t N) 1999 t (I 1990 3393)) 1990 3393 (I 1990 3393 + 1) 1994 u = I 1994 u := fun u => by simp only [up_app, Nat.reduceEqDiff, false_and, and_false, true_and, and_true, if_true, if_false, Nat.add_left_cancel_iff, Nat.add_right_cancel_iff, Nat.add_eq_left, Nat.left_eq_add]
  have j6 : up (up (up (up (up (up I 2021 l (I 2021 l + 1)) 1996 t 1) 1997 t l) 1998 t N) 1999 t (I 1990 3393)) 1990 3393 (I 1990 3393 + 1) 1990 3393 = I 1990 3393 + 1 := up_same _ _ _ _
  have F1 : fr [1994, 1996, 1997, 1998, 1999, 2021] [(1990, 3393)] I (up (up (up (up (up (up I 2021 l (I 2021 l + 1)) 1996 t 1) 1997 t l) 1998 t N) 1999 t (I 1990 3393)) 1990 3393 (I 1990 3393 + 1)) := fr_upP (fr_upL (fr_upL (fr_upL (fr_upL (fr_upL (fr_refl _ _ _) rfl _ _) rfl _ _) rfl _ _) rfl _ _) rfl _ _) rfl _
  have i2 : ∀ u, up (up (up (up (up (up (up (up I' 2187 t 1) 2188 t l) 2189 t N) 2216 l (I' 2216 l + 1)) 2221 (8 * l + q) t) 2222 l ((q : Int) + 1)) 2206 (160 * (40 * t + (A - 1))) (4 * (l : Int))) 2200 (40 * t + (A - 1)) (((0 : Nat) : Int) + 1) 2187 u = if u = t then 1 else I' 2187 u := fun u => by simp only [up_app, Nat.reduceEqDiff, false_and, and_false, true_and, and_true, if_true, if_false, Nat.add_left_cancel_iff, Nat.add_right_cancel_iff, Nat.add_eq_left, Nat.left_eq_add]
  have i3 : ∀ u, up (up (up (up (up (up (up (up I' 2187 t 1) 2188 t l) 2189 t N) 2216 l (I' 2216 l + 1)) 2221 (8 * l + q) t) 2222 l ((q : Int) + 1)) 2206 (160 * (40 * t + (A - 1))) (4 * (l : Int))) 2200 (40 * t + (A - 1)) (((0 : Nat) : Int) + 1) 2188 u = if u = t then (l : Int) else I' 2188 u := fun u => by simp only [up_app, Nat.reduceEqDiff, false_and, and_false, true_and, and_true, if_true, if_false, Nat.add_left_cancel_iff, Nat.add_right_cancel_iff, Nat.add_eq_left, Nat.left_eq_add]
  have i4 : ∀ u, up (up (up (up (up (up (up (up I' 2187 t 1) 2188 t l) 2189 t N) 2216 l (I' 2216 l + 1)) 2221 (8 * l + q) t) 2222 l ((q : Int) + 1)) 2206 (160 * (40 * t + (A - 1))) (4 * (l : Int))) 2200 (40 * t + (A - 1)) (((0 : Nat) : Int) + 1) 2189 u = if u = t then (N : Int) else I' 2189 u := fun u => by simp only [up_app, Nat.reduceEqDiff, false_and, and_false, true_and, and_true, if_true, if_false, Nat.add_left_cancel_iff, Nat.add_right_cancel_iff, Nat.add_eq_left, Nat.left_eq_add]
  have i5 : ∀ u, up (up (up (up (up (up (up (up I' 2187 t 1) 2188 t l) 2189 t N) 2216 l (I' 2216 l + 1)) 2221 (8 * l + q) t) 2222 l ((q : Int) + 1)) 2206 (160 * (40 * t + (A - 1))) (4 * (l : Int))) 2200 (40 * t + (A - 1)) (((0 : Nat) : Int) + 1) 2200 u = if u = 40 * t + (A - 1) then ((0 : Nat) : Int) + 1 else I' 2200 u := fun u => by simp only [up_app, Nat.reduceEqDiff, false_and, and_false, true_and, and_true, if_true, if_false, Nat.add_left_cancel_iff, Nat.add_right_cancel_iff, Nat.add_eq_left, Nat.left_eq_add]
  have i6 : ∀ u, up (up (up (up (up (up (up (up I' 2187 t 1) 2188 t l) 2189 t N) 2216 l (I' 2216 l + 1)) 2221 (8 * l + q) t) 2222 l ((q : Int) + 1)) 2206 (160 * (40 * t + (A - 1))) (4 * (l : Int))) 2200 (40 * t + (A - 1)) (((0 : Nat) : Int) + 1) 2206 u = if u = 160 * (40 * t + (A - 1)) then 4 * (l : Int) else I' 2206 u := fun u => by simp only [up_app, Nat.reduceEqDiff, false_and, and_false, true_and, and_true, if_true, if_false, Nat.add_left_cancel_iff, Nat.add_right_cancel_iff, Nat.add_eq_left, Nat.left_eq_add]
  have i7 : ∀ u, up (up (up (up (up (up (up (up I' 2187 t 1) 2188 t l) 2189 t N) 2216 l (I' 2216 l + 1)) 2221 (8 * l + q) t) 2222 l ((q : Int) + 1)) 2206 (160 * (40 * t + (A - 1))) (4 * (l : Int))) 2200 (40 * t + (A - 1)) (((0 : Nat) : Int) + 1) 2216 u = if u = l then I' 2216 l + 1 else I' 2216 u := fun u => by simp only [up_app, Nat.reduceEqDiff, false_and, and_false, true_and, and_true, if_true, if_false, Nat.add_left_cancel_iff, Nat.add_right_cancel_iff, Nat.add_eq_left, Nat.left_eq_add]
  have i8 : ∀ u, up (up (up (up (up (up (up (up I' 2187 t 1) 2188 t l) 2189 t N) 2216 l (I' 2216 l + 1)) 2221 (8 * l + q) t) 2222 l ((q : Int) + 1)) 2206 (160 * (40 * t + (A - 1))) (4 * (l : Int))) 2200 (40 * t + (A - 1)) (((0 : Nat) : Int) + 1) 2221 u = if u = 8 * l + q then (t : Int) else I' 2221 u := fun u => by simp only [up_app, Nat.reduceEqDiff, false_and, and_false, true_and, and_true, if_true, if_false, Nat.add_left_cancel_iff, Nat.add_right_cancel_iff, Nat.add_eq_left, Nat.left_eq_add]
  have i9 : ∀ u, up (up (up (up (up (up (up (up I' 2187 t 1) 2188 t l) 2189 t N) 2216 l (I' 2216 l + 1)) 2221 (8 * l + q) t) 2222 l ((q : Int) + 1)) 2206 (160 * (40 * t + (A - 1))) (4 * (l : Int))) 2200 (40 * t + (A - 1)) (((0 : Nat) : Int) + 1) 2222 u = if u = l then (q : Int) + 1 else I' 2222 u := fun u => by simp only [up_app, Nat.reduceEqDiff, false_and, and_false, true_and, and_true, if_true, if_false, Nat.add_left_cancel_iff, Nat.add_right_cancel_iff, Nat.add_eq_left, Nat.left_eq_add]
  have F2 : fr [2187, 2188, 2189, 2200, 2206, 2216, 2221, 2222] [] I' (up (up (up (up (up (up (up (up I' 2187 t 1) 2188 t l) 2189 t N) 2216 l (I' 2216 l + 1)) 2221 (8 * l + q) t) 2222 l ((q : Int) + 1)) 2206 (160 * (40 * t + (A - 1))) (4 * (l : Int))) 2200 (40 * t + (A - 1)) (((0 : Nat) : Int) + 1)) := fr_upL (fr_upL (fr_upL (fr_upL (fr_upL (fr_upL (fr_upL (fr_upL (fr_refl _ _ _) rfl _ _) rfl _ _) rfl _ _) rfl _ _) rfl _ _) rfl _ _) rfl _ _) rfl _ _
  generalize up (up (up (up (up (up I 2021 l (I 2021 l + 1)) 1996 t 1) 1997 t l) 1998 t N) 1999 t (I 1990 3393)) 1990 3393 (I 1990 3393 + 1) = J at j1 j2 j3 j4 j5 j6 j7 F1 ⊢
  generalize up (up (up (up (up (up (up (up I' 2187 t 1) 2188 t l) 2189 t N) 2216 l (I' 2216 l + 1)) 2221 (8 * l + q) t) 2222 l ((q : Int) + 1)) 2206 (160 * (40 * t + (A - 1))) (4 * (l : Int))) 2200 (40 * t + (A - 1)) (((0 : Nat) : Int) + 1) = J' at i2 i3 i4 i5 i6 i7 i8 i9 F2 ⊢
  refine hQ J J' (AS_wait (sc := 1) (x := nd) (v := l) h0 (Or.inl rfl) hx (fun _ => k12) (fun q => absurd q (by decide)) hl (fun q => absurd q (by decide)) (lQ_push s2.2.1 s2.1 s5 hl r5 q2 j2 j3 j5 i9 i8) (fun k hk => ?_) F1 F2 (fun u => ?_) j2 j3 j4 j5 j6 i2 i3 i4 i5 i6) (by rw [F1 2005 _ rfl]; exact r6)
  · obtain ⟨⟨w1, w2, w3⟩, ⟨w4, w5, w6⟩, w7, w8, w9, w10, w11, w12, w13, w14⟩ := s2.2.2.1 k hk
    rw [F1 2017 _ rfl, F1 2018 _ rfl, F1 2019 _ rfl, F1 2020 _ rfl, j7, F1 2022 _ rfl, F1 2023 _ rfl, F1 2024 _ rfl, F1 2025 _ rfl, F1 2026 _ rfl, F1 1990 3388 rfl, F1 1990 3390 rfl, F2 2211 _ rfl, F2 2212 _ rfl, F2 2213 _ rfl, F2 2214 _ rfl, F2 2215 _ rfl, i7, F2 2217 _ rfl, F2 2218 _ rfl, F2 2219 _ rfl, F2 2220 _ rfl]
    refine ⟨⟨w1, w2, w3⟩, ⟨w4, w5, w6⟩, w7, w8, ?_, w10, w11, w12, w13, w14⟩
    by_cases z : k = l
    · subst z; rw [if_pos rfl, if_pos rfl, w9]
    · rw [if_neg z, if_neg z, w9]
  · rw [j1]
    by_cases z : u = t
    · rw [if_pos z, z]; exact hTop
    · rw [if_neg z]
theorem e_lock {nd w : Nat} {x6 x7 x8 y3 y4 y5 y6 : vV} (hL : vL Y) (hL' : vL Y') (h : IS Y Y' X mm Nn Lp nm pr ht I I' th t A i W N) (hi : ¬ (i : Int) < I' (X + 12) (I 2007 (40 * t + (A - 1))).toNat) (hnd : I 2007 (40 * t + (A - 1)) = nd) (hw : I 48 nd = w) (hk : I 38 nd = 12)
    (hOn : ∀ (J J' : vJ), IL Y Y' X mm Nn Lp nm pr ht J J' th t A W N → J 2007 (40 * t + (A - 1)) = nd → J 38 = I 38 → J 48 = I 48 → J 42 = I 42 → J 1994 t = J 2009 (40 * t + (A - 1)) + nm (J 2006 (40 * t + (A - 1))).toNat → J 2005 t = 0 → (J 2012 (40 * t + (A - 1)) = I 42 nd + 1 ∧ J' 2204 (40 * t + (A - 1)) = I 42 nd + 1 ∧ ∀ j : Nat, (j : Int) < I 42 nd + 1 → J 2013 ((40 * t + (A - 1)) * 12 + j) = J' 2210 (12 * (40 * t + (A - 1)) + j)) → onw (d' + 8) (d' + 11) Y Y' t (40 * t + (A - 1)) nd w y5 y6 0 J J' Q)
    (hFl : ∀ (J' : vJ) (f : Int), 1 ≤ f → f ≤ 9 → IFs Y Y' X mm Nn Lp nm pr ht I J' th t A W N → fln (d' + 8) (d' + 11) Y Y' t (40 * t + (A - 1)) nd y5 y6 f I J' Q)
    (hS : ∀ J J', AS Y Y' X mm Nn Lp nm pr ht J J' th W N → J 2005 t = 0 → Q (.inl (some (vi 9)), (J, Y)) (.inl none, (J', Y'))) :
    vW (d + 9) 177 (33, [vr 1990, vi t, vi ((40 * t + (A - 1) : Nat) : Int), vi nd, vi (2 * (i : Int)), vr 37, x6, x7, x8], [], (I, Y)) (fun r => vW (d' + 11) 422 (2, [vr 2075, vi t, vi 1, y3, y4, y5, y6], [], (I', Y')) (fun r' => Q r r')) := by
  obtain ⟨nd', B, T, w', ⟨a1, a2, a3, a4⟩, ⟨b1, b2, b3, b3'⟩, ⟨b4, b5, b6⟩, ⟨c1, c2, c3⟩, ⟨c4, c5⟩, c6, ⟨c7, c8, c9, c10, c11, c12⟩, ⟨v1, v2⟩, ⟨p1, p2, p3⟩⟩ := IS_end h hi
  have e0 : nd' = nd := by omega
  subst e0
  have e1 : w' = w := by omega
  subst e1
  obtain ⟨hX, hX2, hV⟩ := h.1.1
  have hv1 : wkV (I 38 nd') = 1 := by rw [hk]; decide
  rw [c6, hv1] at p3 c9
  have vt := v2 0 (by rw [c6, hv1]; decide)
  rw [Nat.add_zero, Nat.add_zero] at vt
  obtain ⟨p, hp⟩ : ∃ p : Nat, p = B + nm (I 2006 (40 * t + (A - 1))).toNat := ⟨_, rfl⟩
  rw [← hp] at vt
  have n300 : I 1990 3376 ≤ 300 := by
    obtain ⟨n, E, q⟩ := h.2.2.1.2.2.2.1
    have q1 := q.1.1
    have q2 := q.2.1
    clear q
    omega
  obtain ⟨i1, i2, i3⟩ := vv_inV n300 vt
  have num := vv_num vt
  have ev : I 1992 p = 0 → I' 2206 (160 * (40 * t + (A - 1))) = 4 * I 1993 p := fun z => by
    unfold vv at vt
    clear hOn hFl hS num i1 i2 i3
    rcases vt with q | q | q
    · exact q.2.1
    · omega
    · omega
  -- the locks around
  have k10 : 0 ≤ I 42 nd' ∧ I 42 nd' ≤ 10 := by
    have wm : I' (X + 21) nd' = wkN (I 38 nd') := (h.1.2.2.2.2.1 nd' b3').2.1.2.2
    obtain ⟨w9, y, m, o, p9, w1, w2, w3, _, _, _, _, _, w9', _⟩ := h.1.2.2.2.2.2.1 nd' 0 b3' (by rw [wm, hk]; decide)
    have q := w9' (by rw [w3, hk]; decide) hk
    have yN := w2.2.1.2.1
    have a := (h.1.2.2.2.1 y yN).1
    have b := (h.1.2.2.2.1 nd' b3').1
    omega
  obtain ⟨kk, hkk⟩ : ∃ kk : Nat, I 42 nd' = kk := ⟨(I 42 nd').toNat, by omega⟩
  have E : I 1994 t - 1 = (p : Int) := by omega
  have hm : ∀ K : vE → Prop, vW (d' + 11) 422 (2, [vr 2075, vi t, vi 1, y3, y4, y5, y6], [], (I', Y')) K ↔ vW (d' + 10) 443 (0, [vr 2075, vi t, vi ((40 * t + (A - 1) : Nat) : Int), vi nd', vu, vu, vu], [], (I', Y')) (vWC (d' + 11) 422 114 3 [vr 2075, vi t, vi 1, vi ((40 * t + (A - 1) : Nat) : Int), vi nd', y5, y6] [] K) := fun K => t_end (X := X) hL' hX hV a1 rfl a4 p1 b2 b3 b5 b6 p2
  have F2 : fr [2199, 2200] [] I' (up I' 2200 (40 * t + (A - 1)) ((0 : Nat) : Int)) := fr_upL (fr_refl _ _ _) rfl _ _
  have hI : IFs Y Y' X mm Nn Lp nm pr ht I (up I' 2200 (40 * t + (A - 1)) ((0 : Nat) : Int)) th t A W N := IS_fail h F2 (fun b hb => ⟨up_cell _ (by decide) _ _ _, up_place _ _ hb _⟩)
  have h20 : up I' 2200 (40 * t + (A - 1)) ((0 : Nat) : Int) 2200 (40 * t + (A - 1)) = 0 := up_same _ _ _ _
  have m443 : ∀ K : vE → Prop, vW (d' + 10) 443 (0, [vr 2075, vi t, vi ((40 * t + (A - 1) : Nat) : Int), vi nd', vu, vu, vu], [], (I', Y')) K ↔ vW (d' + 9) 450 (12, [vr 2075, vi t, vi ((40 * t + (A - 1) : Nat) : Int), vi nd', vi w', vl (I' 2206 (160 * (40 * t + (A - 1)))), vu, vu], [vi (if I' 2206 (160 * (40 * t + (A - 1))) % 4 = 0 then 1 else 0)], (up I' 2200 (40 * t + (A - 1)) ((0 : Nat) : Int), Y')) (vWC (d' + 10) 443 267 3 [vr 2075, vi t, vi ((40 * t + (A - 1) : Nat) : Int), vi nd', vi w', vu, vu] [] K) := by
    intro K
    rw [b443_0 hL' hV (by omega) (by omega), hX, tn0, c1, c5, hk, show w32 12 = 12 from w32_id (by decide) (by decide)]
    simp only [Int.reduceEq, if_true, if_false]
    rw [b443_261 hL', b450_0 hL', t_pop (S := 0) hL' a4 (by rw [p3]; rfl) (by decide)]
    simp only [vWC_s, Nat.reduceAdd, Nat.add_zero]
    rw [b450_5, t_isNum i1]
    simp only [vWC_s, Nat.reduceAdd]
  generalize up I' 2200 (40 * t + (A - 1)) ((0 : Nat) : Int) = J' at hI h20 m443 F2
  generalize I' 2206 (160 * (40 * t + (A - 1))) = e at vt i1 i2 num m443 ev
  have back : ∀ (so : Int) (J : vJ) (M1 : vJ) (M2 : vY) (s : Int), (s = 0 ∨ s = 1) → vW (d' + 11) 422 (2, [vr 2075, vi t, vi s, vi ((40 * t + (A - 1) : Nat) : Int), vi nd', y5, y6], [], (M1, M2)) (fun r' => Q (.inl (some (vi so)), (J, Y)) r') → vW (d' + 10) 443 (270, [vr 2075, vi t, vi ((40 * t + (A - 1) : Nat) : Int), vi nd', vi w', vu, vu], [vi s], (M1, M2)) (vWC (d' + 11) 422 114 3 [vr 2075, vi t, vi 1, vi ((40 * t + (A - 1) : Nat) : Int), vi nd', y5, y6] [] (fun r' => Q (.inl (some (vi so)), (J, Y)) r')) := by
    intro so J M1 M2 s q2 q3
    rw [b443_270 q2]
    simp only [vWC_s, Nat.reduceAdd]
    rw [b422_117, b422_118]
    exact q3
  have bad8 : vW (d' + 9) 450 (50, [vr 2075, vi t, vi ((40 * t + (A - 1) : Nat) : Int), vi nd', vi w', vl e, vu, vu], [], (J', Y')) (vWC (d' + 10) 443 267 3 [vr 2075, vi t, vi ((40 * t + (A - 1) : Nat) : Int), vi nd', vi w', vu, vu] [] (vWC (d' + 11) 422 114 3 [vr 2075, vi t, vi 1, vi ((40 * t + (A - 1) : Nat) : Int), vi nd', y5, y6] [] (fun r' => Q (.inl (some (vi 3)), (flC I 8, Y)) r'))) := by
    rw [b450_50, b399_0]
    simp only [vWC_s, Nat.reduceAdd]
    rw [b450_60 hL']
    refine vWmo (Nat.le_refl _) (fun q hq => ?_) (hFl J' 8 (by decide) (by decide) hI)
    obtain ⟨s, ⟨M1, M2⟩, q1, q2, q3⟩ := hq
    rw [q1]
    simp only [vWC_s, Nat.reduceAdd]
    rw [b450_63 q2]
    simp only [vWC_s, Nat.reduceAdd]
    exact back _ _ _ _ _ q2 q3
  rw [c_end hL b3 b4 b6, b187_0 hL (by omega) (by omega) (by omega) (by omega)]
  simp only [hm, m443, tn0]
  rw [hk, show w32 12 = 12 from w32_id (by decide) (by decide)]
  simp only [Int.reduceEq, if_true, if_false]
  rw [E, b187_218 hL (by omega) (by omega), tn0, w32_id (by omega) (by omega)]
  by_cases z : I 1992 p = 0
  · have ze := num.1.mpr z
    have zv := num.2 z
    have ee := ev z
    simp only [ze, if_true]
    have m33 : ∀ K : vE → Prop, vW (d' + 9) 450 (12, [vr 2075, vi t, vi ((40 * t + (A - 1) : Nat) : Int), vi nd', vi w', vl e, vu, vu], [vi 1], (J', Y')) K ↔ if I 1993 p < 0 ∨ ¬ I 1993 p < 8 then vW (d' + 9) 450 (50, [vr 2075, vi t, vi ((40 * t + (A - 1) : Nat) : Int), vi nd', vi w', vl e, vu, vu], [], (J', Y')) K else vW (d' + 9) 450 (72, [vr 2075, vi t, vi ((40 * t + (A - 1) : Nat) : Int), vi nd', vi w', vl e, vu, vi (I 1993 p)], [], (J', Y')) K := by
      intro K
      rw [b450_12, if_pos (by decide), b450_28, t_val i1]
      simp only [vWC_s, Nat.reduceAdd]
      rw [zv, b450_33, w64_id (by omega) (by omega), w64_id (by decide) (by decide)]
      by_cases y : I 1993 p < 0
      · rw [if_pos y, if_pos (Or.inl y)]
      · rw [if_neg y, b450_38, t_val i1]
        simp only [vWC_s, Nat.reduceAdd]
        rw [zv, b450_43, w64_id (by omega) (by omega), w64_id (by decide) (by decide)]
        by_cases x : I 1993 p ≤ 7
        · rw [if_pos x, if_neg (by omega), b450_64, t_val i1]
          simp only [vWC_s, Nat.reduceAdd]
          rw [zv, b450_69]
        · rw [if_neg x, if_pos (by omega)]
    simp only [m33]
    rw [if_pos z, m187_234 hL (by omega) (by omega), tn0, w32_id (x := I 1993 p) (by omega) (by omega), w32_id (x := 8) (by decide) (by decide)]
    by_cases y : I 1993 p < 0 ∨ ¬ I 1993 p < 8
    · simp only [y, if_true]
      rw [b187_256 hL, c_fails hL (by decide) (by decide)]
      simp only [vWC_s, Nat.reduceAdd, b187_262, b177_370]
      exact bad8
    · simp only [y, if_false]
      obtain ⟨l, hl⟩ : ∃ l : Nat, I 1993 p = l := ⟨(I 1993 p).toNat, by omega⟩
      have l8 : l < 8 := by omega
      rw [hl] at ee
      rw [b187_263 hL (by omega) (by omega) (by omega) (by omega), tn0, tn0, hl, E]
      have hI1 := IFs_top hI (p : Int)
      have G1 : fr [1994] [] I (up I 1994 t (p : Int)) := fr_upL (fr_refl _ _ _) rfl _ _
      have hTop : up I 1994 t (p : Int) 1994 t = up I 1994 t (p : Int) 2009 (40 * t + (A - 1)) + nm (up I 1994 t (p : Int) 2006 (40 * t + (A - 1))).toNat := by
        rw [up_same, up_cell _ (show (2009 : Nat) ≠ 1994 by decide), up_cell _ (show (2006 : Nat) ≠ 1994 by decide), c7, hp]; omega
      generalize up I 1994 t (p : Int) = I1 at hI1 G1 hTop ⊢
      have x17 : I1 2017 l = J' 2211 l := (hI1.2.1.2.2.1 l l8).1.1
      have x17b := (hI1.2.1.2.2.1 l l8).1.2
      have x27 : I1 2007 (40 * t + (A - 1)) = nd' := by rw [G1 2007 _ rfl]; exact b1
      have x42 : I1 42 nd' = kk := by rw [G1 42 _ rfl]; exact hkk
      rw [m192_0 hL (by omega) (by omega), tn0, w32_id (x := I1 2017 l) (by omega) (by omega), w32_id (x := -1) (by decide) (by decide), w32_id (x := (t : Int)) (by omega) (by omega)]
      have m72 : ∀ K : vE → Prop, vW (d' + 9) 450 (72, [vr 2075, vi t, vi ((40 * t + (A - 1) : Nat) : Int), vi nd', vi w', vl e, vu, vi (l : Int)], [], (J', Y')) K ↔ if I1 2017 l = t then vW (d' + 9) 450 (203, [vr 2075, vi t, vi ((40 * t + (A - 1) : Nat) : Int), vi nd', vi w', vl e, vu, vi (l : Int)], [], (up (up J' 2212 l (J' 2212 l + 1)) 2215 l (J' 2215 l + 1), Y')) K else if I1 2017 l = -1 then vW (d' + 9) 450 (203, [vr 2075, vi t, vi ((40 * t + (A - 1) : Nat) : Int), vi nd', vi w', vl e, vu, vi (l : Int)], [], (tkT J' l t, Y')) K else vW (d' + 9) 450 (128, [vr 2075, vi t, vi ((40 * t + (A - 1) : Nat) : Int), vi nd', vi w', vl e, vu, vi (l : Int)], [], (J', Y')) K := by
        intro K
        rw [b450_72 hL' (by omega) (by omega), tn0, ← x17, w32_id (x := I1 2017 l) (by omega) (by omega), w32_id (x := (t : Int)) (by omega) (by omega)]
        by_cases q : I1 2017 l = t
        · rw [if_neg (fun z => z q), if_pos q, b450_83 hL' (by omega) (by omega), tn0]
        · rw [if_pos q, if_neg q, b450_108 hL' (by omega) (by omega), tn0, ← x17, w32_id (x := I1 2017 l) (by omega) (by omega)]
          by_cases q2 : I1 2017 l = -1
          · rw [if_neg (by omega), if_pos q2, b450_118 hL', t_has hL' l8]
            simp only [vWC_n, Nat.reduceAdd, b450_125]
          · rw [if_pos (by omega), if_neg q2]
      simp only [hl, m72]
      have take : ∀ M : vJ, (I1 2017 l = -1 ∧ M = tkT J' l t ∨ I1 2017 l = t ∧ M = up (up J' 2212 l (J' 2212 l + 1)) 2215 l (J' 2215 l + 1)) → vW (d + 7) 192 (38, [vr 1990, vi t, vi l], [], (I1, Y)) (vWC (d + 8) 187 282 3 [vr 1990, vi t, vi ((40 * t + (A - 1) : Nat) : Int), vi nd', vi p, vu] [] (vWC (d + 9) 177 367 3 [vr 1990, vi t, vi ((40 * t + (A - 1) : Nat) : Int), vi nd', vi (2 * (i : Int)), vr 37, x6, x7, x8] [] (fun r => vW (d' + 9) 450 (203, [vr 2075, vi t, vi ((40 * t + (A - 1) : Nat) : Int), vi nd', vi w', vl e, vu, vi (l : Int)], [], (M, Y')) (vWC (d' + 10) 443 267 3 [vr 2075, vi t, vi ((40 * t + (A - 1) : Nat) : Int), vi nd', vi w', vu, vu] [] (vWC (d' + 11) 422 114 3 [vr 2075, vi t, vi 1, vi ((40 * t + (A - 1) : Nat) : Int), vi nd', y5, y6] [] (fun r' => Q r r')))))) := by
        intro M hM
        refine vW_out2 (lk_take (d := d) (d' := d') (nd := nd') (w := w') (l := l) (kk := kk) (e := e) (M := M) (Q := fun q r' => vWC (d + 8) 187 282 3 [vr 1990, vi t, vi ((40 * t + (A - 1) : Nat) : Int), vi nd', vi p, vu] [] (vWC (d + 9) 177 367 3 [vr 1990, vi t, vi ((40 * t + (A - 1) : Nat) : Int), vi nd', vi (2 * (i : Int)), vr 37, x6, x7, x8] [] (fun r => vWC (d' + 10) 443 267 3 [vr 2075, vi t, vi ((40 * t + (A - 1) : Nat) : Int), vi nd', vi w', vu, vu] [] (vWC (d' + 11) 422 114 3 [vr 2075, vi t, vi 1, vi ((40 * t + (A - 1) : Nat) : Int), vi nd', y5, y6] [] (fun r' => Q r r')) r')) q) hL hL' hI1 l8 (by rw [x27, tn0]; exact x42) (by omega) hM (fun JF JF' n1 n2 n3 => ?_))
        simp only [vWC_s, Nat.reduceAdd, b187_285, b177_370]
        rw [b450_222 hL']
        have o := hOn JF JF' n1 (by rw [n2 2007 _ rfl]; exact x27) (by rw [fr_row n2 38 (fun _ => rfl), fr_row G1 38 (fun _ => rfl)]) (by rw [fr_row n2 48 (fun _ => rfl), fr_row G1 48 (fun _ => rfl)]) (by rw [fr_row n2 42 (fun _ => rfl), fr_row G1 42 (fun _ => rfl)]) (by rw [n2 1994 _ rfl, n2 2009 _ rfl, n2 2006 _ rfl]; exact hTop) n1.2.2.2.2.2.2.2.1.2 (by rw [hkk]; exact n3)
        refine vWmo (Nat.le_refl _) (fun q hq => ?_) o
        obtain ⟨s, ⟨M1, M2⟩, q1, q2, q3⟩ := hq
        rw [q1]
        simp only [vWC_s, Nat.reduceAdd]
        rw [b450_229 q2]
        simp only [vWC_s, Nat.reduceAdd]
        exact back _ _ _ _ _ q2 q3
      by_cases q : I1 2017 l = t
      · rw [if_pos (Or.inr q)]
        simp only [q, if_true]
        exact take _ (Or.inr ⟨q, rfl⟩)
      · by_cases q2 : I1 2017 l = -1
        · rw [if_pos (Or.inl q2)]
          simp only [q, q2, if_true, if_false]
          have nt : ¬ (-1 : Int) = (t : Int) := by omega
          simp only [nt, if_false]
          exact take _ (Or.inl ⟨q2, rfl⟩)
        · rw [if_neg (by omega)]
          simp only [q, q2, if_false]
          rw [ee]
          refine vW_out2 (lk_wait (d := d) (d' := d') (nd := nd') (w := w') (l := l) (Q := fun q r' => vWC (d + 8) 187 282 3 [vr 1990, vi t, vi ((40 * t + (A - 1) : Nat) : Int), vi nd', vi p, vu] [] (vWC (d + 9) 177 367 3 [vr 1990, vi t, vi ((40 * t + (A - 1) : Nat) : Int), vi nd', vi (2 * (i : Int)), vr 37, x6, x7, x8] [] (fun r => vWC (d' + 10) 443 267 3 [vr 2075, vi t, vi ((40 * t + (A - 1) : Nat) : Int), vi nd', vi w', vu, vu] [] (vWC (d' + 11) 422 114 3 [vr 2075, vi t, vi 1, vi ((40 * t + (A - 1) : Nat) : Int), vi nd', y5, y6] [] (fun r' => Q r r')) r')) q) hL hL' hI1 x27 ⟨by rw [G1 38 _ rfl]; exact hk, by rw [x42]; omega⟩ hTop h20 l8 (fun JW JW' n1 n2 => ?_))
          simp only [vWC_s, Nat.reduceAdd, b187_285, b177_370]
          refine back _ _ _ _ 0 (Or.inl rfl) ?_
          rw [b422_2, if_pos (by decide), b422_121]
          exact hS JW JW' n1 n2
  · have ze : ¬ e % 4 = 0 := fun q => z (num.1.mp q)
    rw [if_neg z, b187_228 hL, c_fails hL (by decide) (by decide)]
    simp only [vWC_s, Nat.reduceAdd, b187_233, b177_370, ze, if_false]
    rw [b450_12, if_neg (by decide), b450_15, b399_0]
    simp only [vWC_s, Nat.reduceAdd]
    rw [b450_24 hL']
    refine vWmo (Nat.le_refl _) (fun q hq => ?_) (hFl J' 4 (by decide) (by decide) hI)
    obtain ⟨s, ⟨M1, M2⟩, q1, q2, q3⟩ := hq
    rw [q1]
    simp only [vWC_s, Nat.reduceAdd]
    rw [b450_27 q2]
    simp only [vWC_s, Nat.reduceAdd]
    exact back _ _ _ _ _ q2 q3
end
