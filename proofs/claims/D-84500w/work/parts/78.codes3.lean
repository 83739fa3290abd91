/-! ===== codes with one or two operands (printed by gen/codes3.py) ===== -/
set_option maxRecDepth 20000
set_option maxHeartbeats 4000000
section
variable {d d' : Nat} {Y Y' : vY} {X mm Nn Lp : Nat} {nm pr ht : Nat → Nat} {I I' : vJ} {th t A i W N : Nat} {Q : vE → vE → Prop}
theorem t_ok73 {K : vE → Prop} {t a nd i : Nat} {x6 : vV} {J : vJ} {Y : vY} : vW (d + 1) 422 (73, [vr 2075, vi t, vi 1, vi a, vi nd, vi i, x6], [vi 0], (J, Y)) K ↔ vW (d + 1) 422 (2, [vr 2075, vi t, vi 1, vi a, vi nd, vi i, vi 0], [], (J, Y)) K := t_ok (x6 := x6)
theorem t_bad73 {K : vE → Prop} {t a nd i : Nat} {x6 : vV} {J : vJ} {Y : vY} {f : Int} (hL : vL Y) (h1 : 1 ≤ f) (h2 : f ≤ 9) : vW (d + 2) 422 (73, [vr 2075, vi t, vi 1, vi a, vi nd, vi i, x6], [vi f], (J, Y)) K ↔ vW (d + 1) 437 (0, [vr 2075, vi t, vi f, vl (4 * f), vu, vu, vu, vu, vu], [], (J, Y)) (vWC (d + 2) 422 102 3 [vr 2075, vi t, vi 1, vi a, vi nd, vi i, vi f] [] K) := t_bad (x6 := x6) hL h1 h2
theorem k_two {nd : Nat} {x6 x7 x8 y3 y4 y5 y6 : vV} (hL : vL Y) (hL' : vL Y') (h : IS Y Y' X mm Nn Lp nm pr ht I I' th t A i W N) (hi : (i : Int) < I' (X + 12) (I 2007 (40 * t + (A - 1))).toNat) (hnd : I 2007 (40 * t + (A - 1)) = nd) (hk : I 37 (2 * i) = 9) (hN : nxt d d' Y Y' X mm Nn Lp nm pr ht th t A i W N nd Q) (hF : flt d' Y Y' X mm Nn Lp nm pr ht I th t A W N nd Q) :
    vW (d + 6) 177 (33, [vr 1990, vi t, vi ((40 * t + (A - 1) : Nat) : Int), vi nd, vi (2 * (i : Int)), vr 37, x6, x7, x8], [], (I, Y)) (fun r => vW (d' + 6) 422 (2, [vr 2075, vi t, vi 1, y3, y4, y5, y6], [], (I', Y')) (fun r' => Q r r')) := by
  obtain ⟨nd', ct, B, T, ⟨a1, a2, a3, a4⟩, ⟨b1, b2, b3, b3'⟩, ⟨b4, b5, b6, b7⟩, ⟨c1, c2, c3, c4, c5, c6⟩, ⟨v1, v2⟩, ⟨o1, o2, o3⟩, ⟨p1, p2, p3⟩⟩ := IS_at h hi
  have e0 : nd' = nd := by omega
  subst e0
  obtain ⟨hX, hX2, hV⟩ := h.1.1
  have hx : X + 27 ≠ 2199 := by clear o1; omega
  have h27 : up I' 2199 (40 * t + (A - 1)) ((i : Int) + 1) (X + 27) = I' (X + 27) := up_row _ hx _ _
  obtain ⟨ar, aE, hAR⟩ := h.2.2.1.2.2.2.1
  have hn : I 1990 3376 = ar := hAR.1.1
  have hn3 : ar ≤ 300 := hAR.2.1
  obtain ⟨_, _, s7, s8, s9, s10, _⟩ := h.2.2.2.2.1
  rw [hn] at v1 v2
  rw [c_head_9 (d := d + 6) hL b3 b4 b6 b7 hk]
  have q : sg (I 37 (2 * i + 1)) (I' (X + 27) i) ∧ 2 ≤ ht i ∧ ht (i + 1) = ht i - 1 := by
    rcases o1 with o | o | o | o | o | o | o | o | o | o | o
    all_goals first | exact o.2 | (exfalso; omega)
  clear o1
  obtain ⟨q1, q2, q3⟩ := q
  obtain ⟨S, hS⟩ : ∃ S, ht i = S + 2 := ⟨ht i - 2, by omega⟩
  obtain ⟨T0, hT0⟩ : ∃ T0, T0 = B + nm (I 2006 (40 * t + (A - 1))).toNat + S := ⟨_, rfl⟩
  have vx := v2 S (by omega)
  have vy := v2 (S + 1) (by omega)
  rw [← hT0] at vx
  rw [show B + nm (I 2006 (40 * t + (A - 1))).toNat + (S + 1) = T0 + 1 by omega, show 160 * (40 * t + (A - 1)) + (S + 1) = 160 * (40 * t + (A - 1)) + S + 1 by omega] at vy
  rw [b177_327 hL]
  apply vW_out
  have okk : ∀ r : Int, -2147483647 ≤ r → r ≤ 2147483647 → IS Y Y' X mm Nn Lp nm pr ht (pu I t T0 0 r) (pt I' (40 * t + (A - 1)) i S (4 * r)) th t A (i + 1) W N ∧ pu I t T0 0 r 2007 (40 * t + (A - 1)) = nd' := by
    intro r r1 r2
    refine ⟨IS_put (S := S) (T := T0) h hi (by omega) (by omega) o3 (by omega) (by omega) (Or.inl ⟨rfl, rfl, r1, r2⟩) (pu_fr _ _ _ _ _) (pt_fr _ _ _ _ _) (su_keep su_pArr (pu_fr0 _ _ _ _ _) (pt_fr0 _ _ _ _ _) rfl h.2.2.1.2.2.2.1) (pu_a _ _ _ _ _) (pu_b _ _ _ _ _) (pu_c _ _ _ _ _) (pt_a _ _ _ _ _) (pt_b _ _ _ _ _) (pt_c _ _ _ _ _), ?_⟩
    rw [pu_fr I t T0 0 r 2007 _ rfl]; exact hnd
  rcases q1 with z | z | z | z | z | z | z | z | z | z | z
  · obtain ⟨z1, z2⟩ := z
    have hm : ∀ K : vE → Prop, vW (d' + 6) 422 (2, [vr 2075, vi t, vi 1, y3, y4, y5, y6], [], (I', Y')) K ↔ vW (d' + 4) 436 (0, [vr 2075, vi ((40 * t + (A - 1) : Nat) : Int), vi 13, vu, vu, vu, vu, vu, vu, vu, vu, vu, vu], [], (up I' 2199 (40 * t + (A - 1)) ((i : Int) + 1), Y')) (vWC (d' + 5) 423 263 3 [vr 2075, vi t, vi ((40 * t + (A - 1) : Nat) : Int), vi i, vi (I' (X + 28) i), vu, vu] [] (vWC (d' + 6) 422 70 3 [vr 2075, vi t, vi 1, vi ((40 * t + (A - 1) : Nat) : Int), vi nd', vi i, y6] [] K)) := by
      intro K
      rw [t_head_13 (d := d' + 5) hL' hX hX2 hV a1 p1 (by omega) rfl b2 b3 p2 b5 b6 b7 z2, b423_252 hL' hV (by omega) (by omega), hX]
      simp only [tn0, h27, z2]
    simp only [hm]
    rw [z1]
    refine w_two_61 (d := d + 2) (d' := d' + 1) (T := T0) (S := S) (n := (ar : Int)) hL hL' (by omega) a1 (by omega) (by omega) a4 (by rw [up_cell _ (by decide)]; omega) (by omega) (by rw [up_cell _ (by decide)]; exact vx) (by rw [up_cell _ (by decide)]; exact vy) ⟨fun f hf => ?_, fun r r1 r2 => ?_⟩
    · obtain ⟨h1, h2⟩ := hf
      simp only [vWC_s, Nat.reduceAdd, b423_266]
      rw [t_bad73 (d := d' + 4) hL' h1 h2]
      simp only [vWC_s, Nat.reduceAdd, b177_334, c_bad (d := d + 5) hL h1 h2]
      exact hF _ f _ _ h1 h2 (IS_fail h (fr_upL (fr_upL (fr_refl _ _ _) rfl _ _) rfl _ _) (fun b hb => ⟨by rw [up_cell _ (by decide), up_place _ _ hb], by rw [up_place _ _ hb, up_cell _ (by decide)]⟩))
    · have k := okk r r1 r2
      simp only [vWC_s, Nat.reduceAdd, b423_266]
      rw [t_ok73 (d := d' + 5)]
      simp only [vWC_s, Nat.reduceAdd, b177_334, c_ok]
      refine vW_swap.mp ?_
      rw [show 2 * (i : Int) + 2 = 2 * ((i + 1 : Nat) : Int) by omega]
      exact hN _ _ _ _ _ _ _ _ _ k.1 k.2
  · obtain ⟨z1, z2⟩ := z
    have hm : ∀ K : vE → Prop, vW (d' + 6) 422 (2, [vr 2075, vi t, vi 1, y3, y4, y5, y6], [], (I', Y')) K ↔ vW (d' + 4) 436 (0, [vr 2075, vi ((40 * t + (A - 1) : Nat) : Int), vi 14, vu, vu, vu, vu, vu, vu, vu, vu, vu, vu], [], (up I' 2199 (40 * t + (A - 1)) ((i : Int) + 1), Y')) (vWC (d' + 5) 423 263 3 [vr 2075, vi t, vi ((40 * t + (A - 1) : Nat) : Int), vi i, vi (I' (X + 28) i), vu, vu] [] (vWC (d' + 6) 422 70 3 [vr 2075, vi t, vi 1, vi ((40 * t + (A - 1) : Nat) : Int), vi nd', vi i, y6] [] K)) := by
      intro K
      rw [t_head_14 (d := d' + 5) hL' hX hX2 hV a1 p1 (by omega) rfl b2 b3 p2 b5 b6 b7 z2, b423_252 hL' hV (by omega) (by omega), hX]
      simp only [tn0, h27, z2]
    simp only [hm]
    rw [z1]
    refine w_two_35 (d := d + 2) (d' := d' + 1) (T := T0) (S := S) (n := (ar : Int)) hL hL' (by omega) a1 (by omega) (by omega) a4 (by rw [up_cell _ (by decide)]; omega) (by omega) (by rw [up_cell _ (by decide)]; exact vx) (by rw [up_cell _ (by decide)]; exact vy) ⟨fun f hf => ?_, fun r r1 r2 => ?_⟩
    · obtain ⟨h1, h2⟩ := hf
      simp only [vWC_s, Nat.reduceAdd, b423_266]
      rw [t_bad73 (d := d' + 4) hL' h1 h2]
      simp only [vWC_s, Nat.reduceAdd, b177_334, c_bad (d := d + 5) hL h1 h2]
      exact hF _ f _ _ h1 h2 (IS_fail h (fr_upL (fr_upL (fr_refl _ _ _) rfl _ _) rfl _ _) (fun b hb => ⟨by rw [up_cell _ (by decide), up_place _ _ hb], by rw [up_place _ _ hb, up_cell _ (by decide)]⟩))
    · have k := okk r r1 r2
      simp only [vWC_s, Nat.reduceAdd, b423_266]
      rw [t_ok73 (d := d' + 5)]
      simp only [vWC_s, Nat.reduceAdd, b177_334, c_ok]
      refine vW_swap.mp ?_
      rw [show 2 * (i : Int) + 2 = 2 * ((i + 1 : Nat) : Int) by omega]
      exact hN _ _ _ _ _ _ _ _ _ k.1 k.2
  · obtain ⟨z1, z2⟩ := z
    have hm : ∀ K : vE → Prop, vW (d' + 6) 422 (2, [vr 2075, vi t, vi 1, y3, y4, y5, y6], [], (I', Y')) K ↔ vW (d' + 4) 436 (0, [vr 2075, vi ((40 * t + (A - 1) : Nat) : Int), vi 12, vu, vu, vu, vu, vu, vu, vu, vu, vu, vu], [], (up I' 2199 (40 * t + (A - 1)) ((i : Int) + 1), Y')) (vWC (d' + 5) 423 263 3 [vr 2075, vi t, vi ((40 * t + (A - 1) : Nat) : Int), vi i, vi (I' (X + 28) i), vu, vu] [] (vWC (d' + 6) 422 70 3 [vr 2075, vi t, vi 1, vi ((40 * t + (A - 1) : Nat) : Int), vi nd', vi i, y6] [] K)) := by
      intro K
      rw [t_head_12 (d := d' + 5) hL' hX hX2 hV a1 p1 (by omega) rfl b2 b3 p2 b5 b6 b7 z2, b423_252 hL' hV (by omega) (by omega), hX]
      simp only [tn0, h27, z2]
    simp only [hm]
    rw [z1]
    refine w_two_38 (d := d + 2) (d' := d' + 1) (T := T0) (S := S) (n := (ar : Int)) hL hL' (by omega) a1 (by omega) (by omega) a4 (by rw [up_cell _ (by decide)]; omega) (by omega) (by rw [up_cell _ (by decide)]; exact vx) (by rw [up_cell _ (by decide)]; exact vy) ⟨fun f hf => ?_, fun r r1 r2 => ?_⟩
    · obtain ⟨h1, h2⟩ := hf
      simp only [vWC_s, Nat.reduceAdd, b423_266]
      rw [t_bad73 (d := d' + 4) hL' h1 h2]
      simp only [vWC_s, Nat.reduceAdd, b177_334, c_bad (d := d + 5) hL h1 h2]
      exact hF _ f _ _ h1 h2 (IS_fail h (fr_upL (fr_upL (fr_refl _ _ _) rfl _ _) rfl _ _) (fun b hb => ⟨by rw [up_cell _ (by decide), up_place _ _ hb], by rw [up_place _ _ hb, up_cell _ (by decide)]⟩))
    · have k := okk r r1 r2
      simp only [vWC_s, Nat.reduceAdd, b423_266]
      rw [t_ok73 (d := d' + 5)]
      simp only [vWC_s, Nat.reduceAdd, b177_334, c_ok]
      refine vW_swap.mp ?_
      rw [show 2 * (i : Int) + 2 = 2 * ((i + 1 : Nat) : Int) by omega]
      exact hN _ _ _ _ _ _ _ _ _ k.1 k.2
  · obtain ⟨z1, z2⟩ := z
    have hm : ∀ K : vE → Prop, vW (d' + 6) 422 (2, [vr 2075, vi t, vi 1, y3, y4, y5, y6], [], (I', Y')) K ↔ vW (d' + 4) 436 (0, [vr 2075, vi ((40 * t + (A - 1) : Nat) : Int), vi 11, vu, vu, vu, vu, vu, vu, vu, vu, vu, vu], [], (up I' 2199 (40 * t + (A - 1)) ((i : Int) + 1), Y')) (vWC (d' + 5) 423 263 3 [vr 2075, vi t, vi ((40 * t + (A - 1) : Nat) : Int), vi i, vi (I' (X + 28) i), vu, vu] [] (vWC (d' + 6) 422 70 3 [vr 2075, vi t, vi 1, vi ((40 * t + (A - 1) : Nat) : Int), vi nd', vi i, y6] [] K)) := by
      intro K
      rw [t_head_11 (d := d' + 5) hL' hX hX2 hV a1 p1 (by omega) rfl b2 b3 p2 b5 b6 b7 z2, b423_252 hL' hV (by omega) (by omega), hX]
      simp only [tn0, h27, z2]
    simp only [hm]
    rw [z1]
    refine w_two_124 (d := d + 2) (d' := d' + 1) (T := T0) (S := S) (n := (ar : Int)) hL hL' (by omega) a1 (by omega) (by omega) a4 (by rw [up_cell _ (by decide)]; omega) (by omega) (by rw [up_cell _ (by decide)]; exact vx) (by rw [up_cell _ (by decide)]; exact vy) ⟨fun f hf => ?_, fun r r1 r2 => ?_⟩
    · obtain ⟨h1, h2⟩ := hf
      simp only [vWC_s, Nat.reduceAdd, b423_266]
      rw [t_bad73 (d := d' + 4) hL' h1 h2]
      simp only [vWC_s, Nat.reduceAdd, b177_334, c_bad (d := d + 5) hL h1 h2]
      exact hF _ f _ _ h1 h2 (IS_fail h (fr_upL (fr_upL (fr_refl _ _ _) rfl _ _) rfl _ _) (fun b hb => ⟨by rw [up_cell _ (by decide), up_place _ _ hb], by rw [up_place _ _ hb, up_cell _ (by decide)]⟩))
    · have k := okk r r1 r2
      simp only [vWC_s, Nat.reduceAdd, b423_266]
      rw [t_ok73 (d := d' + 5)]
      simp only [vWC_s, Nat.reduceAdd, b177_334, c_ok]
      refine vW_swap.mp ?_
      rw [show 2 * (i : Int) + 2 = 2 * ((i + 1 : Nat) : Int) by omega]
      exact hN _ _ _ _ _ _ _ _ _ k.1 k.2
  · obtain ⟨z1, z2⟩ := z
    have hm : ∀ K : vE → Prop, vW (d' + 6) 422 (2, [vr 2075, vi t, vi 1, y3, y4, y5, y6], [], (I', Y')) K ↔ vW (d' + 4) 436 (0, [vr 2075, vi ((40 * t + (A - 1) : Nat) : Int), vi 15, vu, vu, vu, vu, vu, vu, vu, vu, vu, vu], [], (up I' 2199 (40 * t + (A - 1)) ((i : Int) + 1), Y')) (vWC (d' + 5) 423 263 3 [vr 2075, vi t, vi ((40 * t + (A - 1) : Nat) : Int), vi i, vi (I' (X + 28) i), vu, vu] [] (vWC (d' + 6) 422 70 3 [vr 2075, vi t, vi 1, vi ((40 * t + (A - 1) : Nat) : Int), vi nd', vi i, y6] [] K)) := by
      intro K
      rw [t_head_15 (d := d' + 5) hL' hX hX2 hV a1 p1 (by omega) rfl b2 b3 p2 b5 b6 b7 z2, b423_252 hL' hV (by omega) (by omega), hX]
      simp only [tn0, h27, z2]
    simp only [hm]
    rw [z1]
    refine w_two_60 (d := d + 2) (d' := d' + 1) (T := T0) (S := S) (n := (ar : Int)) hL hL' (by omega) a1 (by omega) (by omega) a4 (by rw [up_cell _ (by decide)]; omega) (by omega) (by rw [up_cell _ (by decide)]; exact vx) (by rw [up_cell _ (by decide)]; exact vy) ⟨fun f hf => ?_, fun r r1 r2 => ?_⟩
    · obtain ⟨h1, h2⟩ := hf
      simp only [vWC_s, Nat.reduceAdd, b423_266]
      rw [t_bad73 (d := d' + 4) hL' h1 h2]
      simp only [vWC_s, Nat.reduceAdd, b177_334, c_bad (d := d + 5) hL h1 h2]
      exact hF _ f _ _ h1 h2 (IS_fail h (fr_upL (fr_upL (fr_refl _ _ _) rfl _ _) rfl _ _) (fun b hb => ⟨by rw [up_cell _ (by decide), up_place _ _ hb], by rw [up_place _ _ hb, up_cell _ (by decide)]⟩))
    · have k := okk r r1 r2
      simp only [vWC_s, Nat.reduceAdd, b423_266]
      rw [t_ok73 (d := d' + 5)]
      simp only [vWC_s, Nat.reduceAdd, b177_334, c_ok]
      refine vW_swap.mp ?_
      rw [show 2 * (i : Int) + 2 = 2 * ((i + 1 : Nat) : Int) by omega]
      exact hN _ _ _ _ _ _ _ _ _ k.1 k.2
  · obtain ⟨z1, z2⟩ := z
    have hm : ∀ K : vE → Prop, vW (d' + 6) 422 (2, [vr 2075, vi t, vi 1, y3, y4, y5, y6], [], (I', Y')) K ↔ vW (d' + 4) 436 (0, [vr 2075, vi ((40 * t + (A - 1) : Nat) : Int), vi 16, vu, vu, vu, vu, vu, vu, vu, vu, vu, vu], [], (up I' 2199 (40 * t + (A - 1)) ((i : Int) + 1), Y')) (vWC (d' + 5) 423 263 3 [vr 2075, vi t, vi ((40 * t + (A - 1) : Nat) : Int), vi i, vi (I' (X + 28) i), vu, vu] [] (vWC (d' + 6) 422 70 3 [vr 2075, vi t, vi 1, vi ((40 * t + (A - 1) : Nat) : Int), vi nd', vi i, y6] [] K)) := by
      intro K
      rw [t_head_16 (d := d' + 5) hL' hX hX2 hV a1 p1 (by omega) rfl b2 b3 p2 b5 b6 b7 z2, b423_252 hL' hV (by omega) (by omega), hX]
      simp only [tn0, h27, z2]
    simp only [hm]
    rw [z1]
    refine w_two_62 (d := d + 2) (d' := d' + 1) (T := T0) (S := S) (n := (ar : Int)) hL hL' (by omega) a1 (by omega) (by omega) a4 (by rw [up_cell _ (by decide)]; omega) (by omega) (by rw [up_cell _ (by decide)]; exact vx) (by rw [up_cell _ (by decide)]; exact vy) ⟨fun f hf => ?_, fun r r1 r2 => ?_⟩
    · obtain ⟨h1, h2⟩ := hf
      simp only [vWC_s, Nat.reduceAdd, b423_266]
      rw [t_bad73 (d := d' + 4) hL' h1 h2]
      simp only [vWC_s, Nat.reduceAdd, b177_334, c_bad (d := d + 5) hL h1 h2]
      exact hF _ f _ _ h1 h2 (IS_fail h (fr_upL (fr_upL (fr_refl _ _ _) rfl _ _) rfl _ _) (fun b hb => ⟨by rw [up_cell _ (by decide), up_place _ _ hb], by rw [up_place _ _ hb, up_cell _ (by decide)]⟩))
    · have k := okk r r1 r2
      simp only [vWC_s, Nat.reduceAdd, b423_266]
      rw [t_ok73 (d := d' + 5)]
      simp only [vWC_s, Nat.reduceAdd, b177_334, c_ok]
      refine vW_swap.mp ?_
      rw [show 2 * (i : Int) + 2 = 2 * ((i + 1 : Nat) : Int) by omega]
      exact hN _ _ _ _ _ _ _ _ _ k.1 k.2
  · obtain ⟨z1, z2⟩ := z
    have hm : ∀ K : vE → Prop, vW (d' + 6) 422 (2, [vr 2075, vi t, vi 1, y3, y4, y5, y6], [], (I', Y')) K ↔ vW (d' + 4) 436 (0, [vr 2075, vi ((40 * t + (A - 1) : Nat) : Int), vi 17, vu, vu, vu, vu, vu, vu, vu, vu, vu, vu], [], (up I' 2199 (40 * t + (A - 1)) ((i : Int) + 1), Y')) (vWC (d' + 5) 423 263 3 [vr 2075, vi t, vi ((40 * t + (A - 1) : Nat) : Int), vi i, vi (I' (X + 28) i), vu, vu] [] (vWC (d' + 6) 422 70 3 [vr 2075, vi t, vi 1, vi ((40 * t + (A - 1) : Nat) : Int), vi nd', vi i, y6] [] K)) := by
      intro K
      rw [t_head_17 (d := d' + 5) hL' hX hX2 hV a1 p1 (by omega) rfl b2 b3 p2 b5 b6 b7 z2, b423_252 hL' hV (by omega) (by omega), hX]
      simp only [tn0, h27, z2]
    simp only [hm]
    rw [z1]
    refine w_two_43 (d := d + 2) (d' := d' + 1) (T := T0) (S := S) (n := (ar : Int)) hL hL' (by omega) a1 (by omega) (by omega) a4 (by rw [up_cell _ (by decide)]; omega) (by omega) (by rw [up_cell _ (by decide)]; exact vx) (by rw [up_cell _ (by decide)]; exact vy) ⟨fun f hf => ?_, fun r r1 r2 => ?_⟩
    · obtain ⟨h1, h2⟩ := hf
      simp only [vWC_s, Nat.reduceAdd, b423_266]
      rw [t_bad73 (d := d' + 4) hL' h1 h2]
      simp only [vWC_s, Nat.reduceAdd, b177_334, c_bad (d := d + 5) hL h1 h2]
      exact hF _ f _ _ h1 h2 (IS_fail h (fr_upL (fr_upL (fr_refl _ _ _) rfl _ _) rfl _ _) (fun b hb => ⟨by rw [up_cell _ (by decide), up_place _ _ hb], by rw [up_place _ _ hb, up_cell _ (by decide)]⟩))
    · have k := okk r r1 r2
      simp only [vWC_s, Nat.reduceAdd, b423_266]
      rw [t_ok73 (d := d' + 5)]
      simp only [vWC_s, Nat.reduceAdd, b177_334, c_ok]
      refine vW_swap.mp ?_
      rw [show 2 * (i : Int) + 2 = 2 * ((i + 1 : Nat) : Int) by omega]
      exact hN _ _ _ _ _ _ _ _ _ k.1 k.2
  · obtain ⟨z1, z2⟩ := z
    have hm : ∀ K : vE → Prop, vW (d' + 6) 422 (2, [vr 2075, vi t, vi 1, y3, y4, y5, y6], [], (I', Y')) K ↔ vW (d' + 4) 436 (0, [vr 2075, vi ((40 * t + (A - 1) : Nat) : Int), vi 18, vu, vu, vu, vu, vu, vu, vu, vu, vu, vu], [], (up I' 2199 (40 * t + (A - 1)) ((i : Int) + 1), Y')) (vWC (d' + 5) 423 263 3 [vr 2075, vi t, vi ((40 * t + (A - 1) : Nat) : Int), vi i, vi (I' (X + 28) i), vu, vu] [] (vWC (d' + 6) 422 70 3 [vr 2075, vi t, vi 1, vi ((40 * t + (A - 1) : Nat) : Int), vi nd', vi i, y6] [] K)) := by
      intro K
      rw [t_head_18 (d := d' + 5) hL' hX hX2 hV a1 p1 (by omega) rfl b2 b3 p2 b5 b6 b7 z2, b423_252 hL' hV (by omega) (by omega), hX]
      simp only [tn0, h27, z2]
    simp only [hm]
    rw [z1]
    refine w_two_45 (d := d + 2) (d' := d' + 1) (T := T0) (S := S) (n := (ar : Int)) hL hL' (by omega) a1 (by omega) (by omega) a4 (by rw [up_cell _ (by decide)]; omega) (by omega) (by rw [up_cell _ (by decide)]; exact vx) (by rw [up_cell _ (by decide)]; exact vy) ⟨fun f hf => ?_, fun r r1 r2 => ?_⟩
    · obtain ⟨h1, h2⟩ := hf
      simp only [vWC_s, Nat.reduceAdd, b423_266]
      rw [t_bad73 (d := d' + 4) hL' h1 h2]
      simp only [vWC_s, Nat.reduceAdd, b177_334, c_bad (d := d + 5) hL h1 h2]
      exact hF _ f _ _ h1 h2 (IS_fail h (fr_upL (fr_upL (fr_refl _ _ _) rfl _ _) rfl _ _) (fun b hb => ⟨by rw [up_cell _ (by decide), up_place _ _ hb], by rw [up_place _ _ hb, up_cell _ (by decide)]⟩))
    · have k := okk r r1 r2
      simp only [vWC_s, Nat.reduceAdd, b423_266]
      rw [t_ok73 (d := d' + 5)]
      simp only [vWC_s, Nat.reduceAdd, b177_334, c_ok]
      refine vW_swap.mp ?_
      rw [show 2 * (i : Int) + 2 = 2 * ((i + 1 : Nat) : Int) by omega]
      exact hN _ _ _ _ _ _ _ _ _ k.1 k.2
  · obtain ⟨z1, z2⟩ := z
    have hm : ∀ K : vE → Prop, vW (d' + 6) 422 (2, [vr 2075, vi t, vi 1, y3, y4, y5, y6], [], (I', Y')) K ↔ vW (d' + 4) 436 (0, [vr 2075, vi ((40 * t + (A - 1) : Nat) : Int), vi 19, vu, vu, vu, vu, vu, vu, vu, vu, vu, vu], [], (up I' 2199 (40 * t + (A - 1)) ((i : Int) + 1), Y')) (vWC (d' + 5) 423 263 3 [vr 2075, vi t, vi ((40 * t + (A - 1) : Nat) : Int), vi i, vi (I' (X + 28) i), vu, vu] [] (vWC (d' + 6) 422 70 3 [vr 2075, vi t, vi 1, vi ((40 * t + (A - 1) : Nat) : Int), vi nd', vi i, y6] [] K)) := by
      intro K
      rw [t_head_19 (d := d' + 5) hL' hX hX2 hV a1 p1 (by omega) rfl b2 b3 p2 b5 b6 b7 z2, b423_252 hL' hV (by omega) (by omega), hX]
      simp only [tn0, h27, z2]
    simp only [hm]
    rw [z1]
    refine w_two_42 (d := d + 2) (d' := d' + 1) (T := T0) (S := S) (n := (ar : Int)) hL hL' (by omega) a1 (by omega) (by omega) a4 (by rw [up_cell _ (by decide)]; omega) (by omega) (by rw [up_cell _ (by decide)]; exact vx) (by rw [up_cell _ (by decide)]; exact vy) ⟨fun f hf => ?_, fun r r1 r2 => ?_⟩
    · obtain ⟨h1, h2⟩ := hf
      simp only [vWC_s, Nat.reduceAdd, b423_266]
      rw [t_bad73 (d := d' + 4) hL' h1 h2]
      simp only [vWC_s, Nat.reduceAdd, b177_334, c_bad (d := d + 5) hL h1 h2]
      exact hF _ f _ _ h1 h2 (IS_fail h (fr_upL (fr_upL (fr_refl _ _ _) rfl _ _) rfl _ _) (fun b hb => ⟨by rw [up_cell _ (by decide), up_place _ _ hb], by rw [up_place _ _ hb, up_cell _ (by decide)]⟩))
    · have k := okk r r1 r2
      simp only [vWC_s, Nat.reduceAdd, b423_266]
      rw [t_ok73 (d := d' + 5)]
      simp only [vWC_s, Nat.reduceAdd, b177_334, c_ok]
      refine vW_swap.mp ?_
      rw [show 2 * (i : Int) + 2 = 2 * ((i + 1 : Nat) : Int) by omega]
      exact hN _ _ _ _ _ _ _ _ _ k.1 k.2
  · obtain ⟨z1, z2⟩ := z
    have hm : ∀ K : vE → Prop, vW (d' + 6) 422 (2, [vr 2075, vi t, vi 1, y3, y4, y5, y6], [], (I', Y')) K ↔ vW (d' + 4) 436 (0, [vr 2075, vi ((40 * t + (A - 1) : Nat) : Int), vi 20, vu, vu, vu, vu, vu, vu, vu, vu, vu, vu], [], (up I' 2199 (40 * t + (A - 1)) ((i : Int) + 1), Y')) (vWC (d' + 5) 423 263 3 [vr 2075, vi t, vi ((40 * t + (A - 1) : Nat) : Int), vi i, vi (I' (X + 28) i), vu, vu] [] (vWC (d' + 6) 422 70 3 [vr 2075, vi t, vi 1, vi ((40 * t + (A - 1) : Nat) : Int), vi nd', vi i, y6] [] K)) := by
      intro K
      rw [t_head_20 (d := d' + 5) hL' hX hX2 hV a1 p1 (by omega) rfl b2 b3 p2 b5 b6 b7 z2, b423_252 hL' hV (by omega) (by omega), hX]
      simp only [tn0, h27, z2]
    simp only [hm]
    rw [z1]
    refine w_two_47 (d := d + 2) (d' := d' + 1) (T := T0) (S := S) (n := (ar : Int)) hL hL' (by omega) a1 (by omega) (by omega) a4 (by rw [up_cell _ (by decide)]; omega) (by omega) (by rw [up_cell _ (by decide)]; exact vx) (by rw [up_cell _ (by decide)]; exact vy) ⟨fun f hf => ?_, fun r r1 r2 => ?_⟩
    · obtain ⟨h1, h2⟩ := hf
      simp only [vWC_s, Nat.reduceAdd, b423_266]
      rw [t_bad73 (d := d' + 4) hL' h1 h2]
      simp only [vWC_s, Nat.reduceAdd, b177_334, c_bad (d := d + 5) hL h1 h2]
      exact hF _ f _ _ h1 h2 (IS_fail h (fr_upL (fr_upL (fr_refl _ _ _) rfl _ _) rfl _ _) (fun b hb => ⟨by rw [up_cell _ (by decide), up_place _ _ hb], by rw [up_place _ _ hb, up_cell _ (by decide)]⟩))
    · have k := okk r r1 r2
      simp only [vWC_s, Nat.reduceAdd, b423_266]
      rw [t_ok73 (d := d' + 5)]
      simp only [vWC_s, Nat.reduceAdd, b177_334, c_ok]
      refine vW_swap.mp ?_
      rw [show 2 * (i : Int) + 2 = 2 * ((i + 1 : Nat) : Int) by omega]
      exact hN _ _ _ _ _ _ _ _ _ k.1 k.2
  · obtain ⟨z1, z2⟩ := z
    have hm : ∀ K : vE → Prop, vW (d' + 6) 422 (2, [vr 2075, vi t, vi 1, y3, y4, y5, y6], [], (I', Y')) K ↔ vW (d' + 4) 436 (0, [vr 2075, vi ((40 * t + (A - 1) : Nat) : Int), vi 21, vu, vu, vu, vu, vu, vu, vu, vu, vu, vu], [], (up I' 2199 (40 * t + (A - 1)) ((i : Int) + 1), Y')) (vWC (d' + 5) 423 263 3 [vr 2075, vi t, vi ((40 * t + (A - 1) : Nat) : Int), vi i, vi (I' (X + 28) i), vu, vu] [] (vWC (d' + 6) 422 70 3 [vr 2075, vi t, vi 1, vi ((40 * t + (A - 1) : Nat) : Int), vi nd', vi i, y6] [] K)) := by
      intro K
      rw [t_head_21 (d := d' + 5) hL' hX hX2 hV a1 p1 (by omega) rfl b2 b3 p2 b5 b6 b7 z2, b423_252 hL' hV (by omega) (by omega), hX]
      simp only [tn0, h27, z2]
    simp only [hm]
    rw [z1]
    refine w_two_37 (d := d + 2) (d' := d' + 1) (T := T0) (S := S) (n := (ar : Int)) hL hL' (by omega) a1 (by omega) (by omega) a4 (by rw [up_cell _ (by decide)]; omega) (by omega) (by rw [up_cell _ (by decide)]; exact vx) (by rw [up_cell _ (by decide)]; exact vy) ⟨fun f hf => ?_, fun r r1 r2 => ?_⟩
    · obtain ⟨h1, h2⟩ := hf
      simp only [vWC_s, Nat.reduceAdd, b423_266]
      rw [t_bad73 (d := d' + 4) hL' h1 h2]
      simp only [vWC_s, Nat.reduceAdd, b177_334, c_bad (d := d + 5) hL h1 h2]
      exact hF _ f _ _ h1 h2 (IS_fail h (fr_upL (fr_upL (fr_refl _ _ _) rfl _ _) rfl _ _) (fun b hb => ⟨by rw [up_cell _ (by decide), up_place _ _ hb], by rw [up_place _ _ hb, up_cell _ (by decide)]⟩))
    · have k := okk r r1 r2
      simp only [vWC_s, Nat.reduceAdd, b423_266]
      rw [t_ok73 (d := d' + 5)]
      simp only [vWC_s, Nat.reduceAdd, b177_334, c_ok]
      refine vW_swap.mp ?_
      rw [show 2 * (i : Int) + 2 = 2 * ((i + 1 : Nat) : Int) by omega]
      exact hN _ _ _ _ _ _ _ _ _ k.1 k.2

theorem k_not {nd : Nat} {x6 x7 x8 y3 y4 y5 y6 : vV} (hL : vL Y) (hL' : vL Y') (h : IS Y Y' X mm Nn Lp nm pr ht I I' th t A i W N) (hi : (i : Int) < I' (X + 12) (I 2007 (40 * t + (A - 1))).toNat) (hnd : I 2007 (40 * t + (A - 1)) = nd) (hk : I 37 (2 * i) = 7) (hN : nxt d d' Y Y' X mm Nn Lp nm pr ht th t A i W N nd Q) (hF : flt d' Y Y' X mm Nn Lp nm pr ht I th t A W N nd Q) :
    vW (d + 6) 177 (33, [vr 1990, vi t, vi ((40 * t + (A - 1) : Nat) : Int), vi nd, vi (2 * (i : Int)), vr 37, x6, x7, x8], [], (I, Y)) (fun r => vW (d' + 6) 422 (2, [vr 2075, vi t, vi 1, y3, y4, y5, y6], [], (I', Y')) (fun r' => Q r r')) := by
  obtain ⟨nd', ct, B, T, ⟨a1, a2, a3, a4⟩, ⟨b1, b2, b3, b3'⟩, ⟨b4, b5, b6, b7⟩, ⟨c1, c2, c3, c4, c5, c6⟩, ⟨v1, v2⟩, ⟨o1, o2, o3⟩, ⟨p1, p2, p3⟩⟩ := IS_at h hi
  have e0 : nd' = nd := by omega
  subst e0
  obtain ⟨hX, hX2, hV⟩ := h.1.1
  have hx : X + 27 ≠ 2199 := by clear o1; omega
  have h27 : up I' 2199 (40 * t + (A - 1)) ((i : Int) + 1) (X + 27) = I' (X + 27) := up_row _ hx _ _
  obtain ⟨ar, aE, hAR⟩ := h.2.2.1.2.2.2.1
  have hn : I 1990 3376 = ar := hAR.1.1
  have hn3 : ar ≤ 300 := hAR.2.1
  obtain ⟨_, _, s7, s8, s9, s10, _⟩ := h.2.2.2.2.1
  rw [hn] at v1 v2
  rw [c_head_7 (d := d + 6) hL b3 b4 b6 b7 hk]
  have q : I' (X + 27) i = 9 ∧ 1 ≤ ht i ∧ ht (i + 1) = ht i := by
    rcases o1 with o | o | o | o | o | o | o | o | o | o | o
    all_goals first | exact o.2 | (exfalso; omega)
  clear o1
  obtain ⟨q1, q2, q3⟩ := q
  obtain ⟨S, hS⟩ : ∃ S, ht i = S + 1 := ⟨ht i - 1, by omega⟩
  obtain ⟨T0, hT0⟩ : ∃ T0, T0 = B + nm (I 2006 (40 * t + (A - 1))).toNat + S := ⟨_, rfl⟩
  have vx := v2 S (by omega)
  rw [← hT0] at vx
  rw [b177_339 hL]
  apply vW_out
  have hm : ∀ K : vE → Prop, vW (d' + 6) 422 (2, [vr 2075, vi t, vi 1, y3, y4, y5, y6], [], (I', Y')) K ↔ _ := fun K => t_head_9 (d := d' + 5) hL' hX hX2 hV a1 p1 (by omega) rfl b2 b3 p2 b5 b6 b7 q1
  simp only [hm]
  refine w_not (d := d + 2) (d' := d' + 2) (T := T0) (S := S) (n := (ar : Int)) hL hL' (by omega) a1 (by omega) (by omega) a4 (by rw [up_cell _ (by decide)]; omega) (by omega) (by rw [up_cell _ (by decide)]; exact vx) (fun b hb => ?_)
  rw [t_ok (d := d' + 5)]
  simp only [vWC_s, Nat.reduceAdd, b177_346, c_ok]
  refine vW_swap.mp ?_
  rw [show 2 * (i : Int) + 2 = 2 * ((i + 1 : Nat) : Int) by omega]
  have F1 : fr [1992, 1993, 1994, 2032] [] I (up (up I 1992 T0 0) 1993 T0 b) := fr_upL (fr_upL (fr_refl _ _ _) rfl _ _) rfl _ _
  have F0 : fr [1992, 1993, 1994] [] I (up (up I 1992 T0 0) 1993 T0 b) := fr_upL (fr_upL (fr_refl _ _ _) rfl _ _) rfl _ _
  refine hN _ (pt I' (40 * t + (A - 1)) i S (4 * b)) _ _ _ _ _ _ _ (IS_put (S := S) (T := T0) (kd := 0) (v := b) (e := 4 * b) h hi (by omega) (by omega) o3 (by omega) (by omega) (Or.inl ⟨rfl, rfl, by omega, by omega⟩) F1 (pt_fr _ _ _ _ _) (su_keep su_pArr F0 (pt_fr0 _ _ _ _ _) rfl h.2.2.1.2.2.2.1) (fun p => by rw [up_cell _ (by decide), up_at]) (fun p => by rw [up_at, up_cell _ (by decide)]) (fun u => ?_) (pt_a _ _ _ _ _) (pt_b _ _ _ _ _) (pt_c _ _ _ _ _)) ?_
  · rw [up_cell _ (by decide), up_cell _ (by decide)]
    by_cases z : u = t
    · rw [if_pos z, z]; omega
    · rw [if_neg z]
  · rw [F1 2007 _ rfl]; exact hnd

theorem k_minus {nd : Nat} {x6 x7 x8 y3 y4 y5 y6 : vV} (hL : vL Y) (hL' : vL Y') (h : IS Y Y' X mm Nn Lp nm pr ht I I' th t A i W N) (hi : (i : Int) < I' (X + 12) (I 2007 (40 * t + (A - 1))).toNat) (hnd : I 2007 (40 * t + (A - 1)) = nd) (hk : I 37 (2 * i) = 8) (hN : nxt d d' Y Y' X mm Nn Lp nm pr ht th t A i W N nd Q) (hF : flt d' Y Y' X mm Nn Lp nm pr ht I th t A W N nd Q) :
    vW (d + 6) 177 (33, [vr 1990, vi t, vi ((40 * t + (A - 1) : Nat) : Int), vi nd, vi (2 * (i : Int)), vr 37, x6, x7, x8], [], (I, Y)) (fun r => vW (d' + 6) 422 (2, [vr 2075, vi t, vi 1, y3, y4, y5, y6], [], (I', Y')) (fun r' => Q r r')) := by
  obtain ⟨nd', ct, B, T, ⟨a1, a2, a3, a4⟩, ⟨b1, b2, b3, b3'⟩, ⟨b4, b5, b6, b7⟩, ⟨c1, c2, c3, c4, c5, c6⟩, ⟨v1, v2⟩, ⟨o1, o2, o3⟩, ⟨p1, p2, p3⟩⟩ := IS_at h hi
  have e0 : nd' = nd := by omega
  subst e0
  obtain ⟨hX, hX2, hV⟩ := h.1.1
  have hx : X + 27 ≠ 2199 := by clear o1; omega
  have h27 : up I' 2199 (40 * t + (A - 1)) ((i : Int) + 1) (X + 27) = I' (X + 27) := up_row _ hx _ _
  obtain ⟨ar, aE, hAR⟩ := h.2.2.1.2.2.2.1
  have hn : I 1990 3376 = ar := hAR.1.1
  have hn3 : ar ≤ 300 := hAR.2.1
  obtain ⟨_, _, s7, s8, s9, s10, _⟩ := h.2.2.2.2.1
  rw [hn] at v1 v2
  rw [c_head_8 (d := d + 6) hL b3 b4 b6 b7 hk]
  have q : I' (X + 27) i = 10 ∧ 1 ≤ ht i ∧ ht (i + 1) = ht i := by
    rcases o1 with o | o | o | o | o | o | o | o | o | o | o
    all_goals first | exact o.2 | (exfalso; omega)
  clear o1
  obtain ⟨q1, q2, q3⟩ := q
  obtain ⟨S, hS⟩ : ∃ S, ht i = S + 1 := ⟨ht i - 1, by omega⟩
  obtain ⟨T0, hT0⟩ : ∃ T0, T0 = B + nm (I 2006 (40 * t + (A - 1))).toNat + S := ⟨_, rfl⟩
  have vx := v2 S (by omega)
  rw [← hT0] at vx
  rw [b177_339 hL]
  apply vW_out
  have hm : ∀ K : vE → Prop, vW (d' + 6) 422 (2, [vr 2075, vi t, vi 1, y3, y4, y5, y6], [], (I', Y')) K ↔ _ := fun K => t_head_10 (d := d' + 5) hL' hX hX2 hV a1 p1 (by omega) rfl b2 b3 p2 b5 b6 b7 q1
  simp only [hm]
  refine w_minus (d := d + 2) (d' := d' + 2) (T := T0) (S := S) (n := (ar : Int)) hL hL' (by omega) a1 (by omega) (by omega) a4 (by rw [up_cell _ (by decide)]; omega) (by omega) (by rw [up_cell _ (by decide)]; exact vx) ?_ (fun hk0 => ?_)
  · have h1 : (1 : Int) ≤ 4 := by decide
    have h2 : (4 : Int) ≤ 9 := by decide
    rw [t_bad (d := d' + 4) hL' h1 h2]
    simp only [vWC_s, Nat.reduceAdd, b177_346, c_bad (d := d + 5) hL h1 h2]
    exact hF _ 4 _ _ h1 h2 (IS_fail h (fr_upL (fr_upL (fr_refl _ _ _) rfl _ _) rfl _ _) (fun b hb => ⟨by rw [up_cell _ (by decide), up_place _ _ hb], by rw [up_place _ _ hb, up_cell _ (by decide)]⟩))
  · rw [t_ok (d := d' + 5)]
    simp only [vWC_s, Nat.reduceAdd, b177_346, c_ok]
    refine vW_swap.mp ?_
    rw [show 2 * (i : Int) + 2 = 2 * ((i + 1 : Nat) : Int) by omega]
    have F1 : fr [1992, 1993, 1994, 2032] [] I (up I 1993 T0 (- I 1993 T0)) := fr_upL (fr_refl _ _ _) rfl _ _
    have F0 : fr [1992, 1993, 1994] [] I (up I 1993 T0 (- I 1993 T0)) := fr_upL (fr_refl _ _ _) rfl _ _
    have vb : -2147483647 ≤ I 1993 T0 ∧ I 1993 T0 ≤ 2147483647 := by rcases vx with z | z | z <;> omega
    refine hN _ (pt I' (40 * t + (A - 1)) i S (4 * (- I 1993 T0))) _ _ _ _ _ _ _ (IS_put (S := S) (T := T0) (kd := 0) (v := - I 1993 T0) (e := 4 * (- I 1993 T0)) h hi (by omega) (by omega) o3 (by omega) (by omega) (Or.inl ⟨rfl, rfl, by omega, by omega⟩) F1 (pt_fr _ _ _ _ _) (su_keep su_pArr F0 (pt_fr0 _ _ _ _ _) rfl h.2.2.1.2.2.2.1) (fun p => ?_) (fun p => by rw [up_at]) (fun u => ?_) (pt_a _ _ _ _ _) (pt_b _ _ _ _ _) (pt_c _ _ _ _ _)) ?_
    · rw [up_cell _ (by decide)]
      by_cases z : p = T0
      · rw [if_pos z, z]; exact hk0
      · rw [if_neg z]
    · rw [up_cell _ (by decide)]
      by_cases z : u = t
      · rw [if_pos z, z]; omega
      · rw [if_neg z]
    · rw [F1 2007 _ rfl]; exact hnd

theorem k_len {nd : Nat} {x6 x7 x8 y3 y4 y5 y6 : vV} (hL : vL Y) (hL' : vL Y') (h : IS Y Y' X mm Nn Lp nm pr ht I I' th t A i W N) (hi : (i : Int) < I' (X + 12) (I 2007 (40 * t + (A - 1))).toNat) (hnd : I 2007 (40 * t + (A - 1)) = nd) (hk : I 37 (2 * i) = 6) (hN : nxt d d' Y Y' X mm Nn Lp nm pr ht th t A i W N nd Q) (hF : flt d' Y Y' X mm Nn Lp nm pr ht I th t A W N nd Q) :
    vW (d + 6) 177 (33, [vr 1990, vi t, vi ((40 * t + (A - 1) : Nat) : Int), vi nd, vi (2 * (i : Int)), vr 37, x6, x7, x8], [], (I, Y)) (fun r => vW (d' + 6) 422 (2, [vr 2075, vi t, vi 1, y3, y4, y5, y6], [], (I', Y')) (fun r' => Q r r')) := by
  obtain ⟨nd', ct, B, T, ⟨a1, a2, a3, a4⟩, ⟨b1, b2, b3, b3'⟩, ⟨b4, b5, b6, b7⟩, ⟨c1, c2, c3, c4, c5, c6⟩, ⟨v1, v2⟩, ⟨o1, o2, o3⟩, ⟨p1, p2, p3⟩⟩ := IS_at h hi
  have e0 : nd' = nd := by omega
  subst e0
  obtain ⟨hX, hX2, hV⟩ := h.1.1
  have hx : X + 27 ≠ 2199 := by clear o1; omega
  have h27 : up I' 2199 (40 * t + (A - 1)) ((i : Int) + 1) (X + 27) = I' (X + 27) := up_row _ hx _ _
  obtain ⟨ar, aE, hAR⟩ := h.2.2.1.2.2.2.1
  have hn : I 1990 3376 = ar := hAR.1.1
  have hn3 : ar ≤ 300 := hAR.2.1
  obtain ⟨_, _, s7, s8, s9, s10, _⟩ := h.2.2.2.2.1
  rw [hn] at v1 v2
  rw [c_head_6 (d := d + 6) hL b3 b4 b6 b7 hk]
  have q : I' (X + 27) i = 8 ∧ 1 ≤ ht i ∧ ht (i + 1) = ht i := by
    rcases o1 with o | o | o | o | o | o | o | o | o | o | o
    all_goals first | exact o.2 | (exfalso; omega)
  clear o1
  obtain ⟨q1, q2, q3⟩ := q
  obtain ⟨S, hS⟩ : ∃ S, ht i = S + 1 := ⟨ht i - 1, by omega⟩
  obtain ⟨T0, hT0⟩ : ∃ T0, T0 = B + nm (I 2006 (40 * t + (A - 1))).toNat + S := ⟨_, rfl⟩
  have vx := v2 S (by omega)
  rw [← hT0] at vx
  rw [b177_339 hL]
  apply vW_out
  have F9 : fr [2199] [] I' (up I' 2199 (40 * t + (A - 1)) ((i : Int) + 1)) := fr_upL (fr_refl _ _ _) rfl _ _
  have hAR2 : aR I (up I' 2199 (40 * t + (A - 1)) ((i : Int) + 1)) ar aE := by
    unfold aR at *
    rw [F9 2075 _ rfl, F9 2075 7738 rfl, fr_row F9 2223 (fun _ => rfl), fr_row F9 2224 (fun _ => rfl), fr_row F9 2225 (fun _ => rfl), fr_row F9 2226 (fun _ => rfl), fr_row F9 2227 (fun _ => rfl), fr_row F9 2228 (fun _ => rfl), fr_row F9 2229 (fun _ => rfl), fr_row F9 2230 (fun _ => rfl)]
    exact hAR
  have hm : ∀ K : vE → Prop, vW (d' + 6) 422 (2, [vr 2075, vi t, vi 1, y3, y4, y5, y6], [], (I', Y')) K ↔ vW (d' + 4) 434 (0, [vr 2075, vi ((40 * t + (A - 1) : Nat) : Int), vu, vu], [], (up I' 2199 (40 * t + (A - 1)) ((i : Int) + 1), Y')) (vWC (d' + 5) 423 185 3 [vr 2075, vi t, vi ((40 * t + (A - 1) : Nat) : Int), vi i, vi (I' (X + 28) i), vu, vu] [] (vWC (d' + 6) 422 70 3 [vr 2075, vi t, vi 1, vi ((40 * t + (A - 1) : Nat) : Int), vi nd', vi i, y6] [] K)) := by
    intro K
    rw [t_head_8 (d := d' + 5) hL' hX hX2 hV a1 p1 (by omega) rfl b2 b3 p2 b5 b6 b7 q1, b423_183 hL']
  simp only [hm]
  refine w_len (d := d + 2) (d' := d' + 1) (T := T0) (S := S) (n := ar) (E := aE) (N := N) hL hL' hAR2 s7 (by rw [up_cell _ (by decide)]; exact s8) a1 (by omega) (by omega) a4 (by rw [up_cell _ (by decide)]; omega) (by omega) (by rw [up_cell _ (by decide)]; exact vx) (fun f hf => ?_) (fun k hk9 => ?_)
  · have h1 : (1 : Int) ≤ f := by omega
    have h2 : f ≤ 9 := by omega
    simp only [vWC_s, Nat.reduceAdd, b423_188]
    rw [t_bad73 (d := d' + 4) hL' h1 h2]
    simp only [vWC_s, Nat.reduceAdd, b177_346, c_bad (d := d + 5) hL h1 h2]
    exact hF _ f _ _ h1 h2 (IS_fail h (fr_upL (fr_upL (fr_refl _ _ _) rfl _ _) rfl _ _) (fun b hb => ⟨by rw [up_cell _ (by decide), up_place _ _ hb], by rw [up_place _ _ hb, up_cell _ (by decide)]⟩))
  · simp only [vWC_s, Nat.reduceAdd, b423_188]
    rw [t_ok73 (d := d' + 5)]
    simp only [vWC_s, Nat.reduceAdd, b177_346, c_ok]
    refine vW_swap.mp ?_
    rw [show 2 * (i : Int) + 2 = 2 * ((i + 1 : Nat) : Int) by omega]
    have F1 : fr [1992, 1993, 1994, 2032] [] I (up (up (up I 2032 k N) 1992 T0 0) 1993 T0 (I 2028 k)) := fr_upL (fr_upL (fr_upL (fr_refl _ _ _) rfl _ _) rfl _ _) rfl _ _
    have F2 : fr [2199, 2200, 2206, 2228] [] I' (up (up (up (up I' 2199 (40 * t + (A - 1)) ((i : Int) + 1)) 2228 k N) 2206 (160 * (40 * t + (A - 1)) + S) (4 * I 2028 k)) 2200 (40 * t + (A - 1)) ((S : Int) + 1)) := fr_upL (fr_upL (fr_upL (fr_upL (fr_refl _ _ _) rfl _ _) rfl _ _) rfl _ _) rfl _ _
    have bk := (hAR.2.2.2.2.1 k hk9).2
    refine hN _ _ _ _ _ _ _ _ _ (IS_put (S := S) (T := T0) (kd := 0) (v := I 2028 k) (e := 4 * I 2028 k) h hi (by omega) (by omega) o3 (by omega) (by omega) (Or.inl ⟨rfl, rfl, by omega, by omega⟩) F1 F2 ⟨ar, aE, pArr_use (k := k) (N := N) hAR F1 F2 (fun j => by rw [up_cell _ (by decide), up_cell _ (by decide), up_at]) (fun j => by rw [up_cell _ (by decide), up_cell _ (by decide), up_at, up_cell _ (by decide)])⟩ (fun p => by rw [up_cell _ (by decide), up_at, up_cell _ (by decide)]) (fun p => by rw [up_at, up_cell _ (by decide), up_cell _ (by decide)]) (fun u => ?_) (fun b => by rw [up_cell _ (by decide), up_cell _ (by decide), up_cell _ (by decide), up_at]) (fun b => by rw [up_at, up_cell _ (by decide), up_cell _ (by decide), up_cell _ (by decide)]) (fun p => by rw [up_cell _ (by decide), up_at, up_cell _ (by decide), up_cell _ (by decide)])) ?_
    · rw [up_cell _ (by decide), up_cell _ (by decide), up_cell _ (by decide)]
      by_cases z : u = t
      · rw [if_pos z, z]; omega
      · rw [if_neg z]
    · rw [F1 2007 _ rfl]; exact hnd

theorem k_look {nd : Nat} {x6 x7 x8 y3 y4 y5 y6 : vV} (hL : vL Y) (hL' : vL Y') (h : IS Y Y' X mm Nn Lp nm pr ht I I' th t A i W N) (hi : (i : Int) < I' (X + 12) (I 2007 (40 * t + (A - 1))).toNat) (hnd : I 2007 (40 * t + (A - 1)) = nd) (hk : I 37 (2 * i) = 4) (hN : nxt d d' Y Y' X mm Nn Lp nm pr ht th t A i W N nd Q) (hF : flt d' Y Y' X mm Nn Lp nm pr ht I th t A W N nd Q) :
    vW (d + 6) 177 (33, [vr 1990, vi t, vi ((40 * t + (A - 1) : Nat) : Int), vi nd, vi (2 * (i : Int)), vr 37, x6, x7, x8], [], (I, Y)) (fun r => vW (d' + 6) 422 (2, [vr 2075, vi t, vi 1, y3, y4, y5, y6], [], (I', Y')) (fun r' => Q r r')) := by
  obtain ⟨nd', ct, B, T, ⟨a1, a2, a3, a4⟩, ⟨b1, b2, b3, b3'⟩, ⟨b4, b5, b6, b7⟩, ⟨c1, c2, c3, c4, c5, c6⟩, ⟨v1, v2⟩, ⟨o1, o2, o3⟩, ⟨p1, p2, p3⟩⟩ := IS_at h hi
  have e0 : nd' = nd := by omega
  subst e0
  obtain ⟨hX, hX2, hV⟩ := h.1.1
  have hx : X + 27 ≠ 2199 := by clear o1; omega
  have h27 : up I' 2199 (40 * t + (A - 1)) ((i : Int) + 1) (X + 27) = I' (X + 27) := up_row _ hx _ _
  obtain ⟨ar, aE, hAR⟩ := h.2.2.1.2.2.2.1
  have hn : I 1990 3376 = ar := hAR.1.1
  have hn3 : ar ≤ 300 := hAR.2.1
  obtain ⟨_, _, s7, s8, s9, s10, _⟩ := h.2.2.2.2.1
  rw [hn] at v1 v2
  rw [c_head_4 (d := d + 6) hL b3 b4 b6 b7 hk]
  have q : I' (X + 27) i = 4 ∧ 2 ≤ ht i ∧ ht (i + 1) = ht i - 1 := by
    rcases o1 with o | o | o | o | o | o | o | o | o | o | o
    all_goals first | exact o.2 | (exfalso; omega)
  clear o1
  obtain ⟨q1, q2, q3⟩ := q
  obtain ⟨S, hS⟩ : ∃ S, ht i = S + 2 := ⟨ht i - 2, by omega⟩
  obtain ⟨T0, hT0⟩ : ∃ T0, T0 = B + nm (I 2006 (40 * t + (A - 1))).toNat + S := ⟨_, rfl⟩
  have vx := v2 S (by omega)
  have vy := v2 (S + 1) (by omega)
  rw [← hT0] at vx
  rw [show B + nm (I 2006 (40 * t + (A - 1))).toNat + (S + 1) = T0 + 1 by omega, show 160 * (40 * t + (A - 1)) + (S + 1) = 160 * (40 * t + (A - 1)) + S + 1 by omega] at vy
  rw [b177_306 hL]
  apply vW_out
  have F9 : fr [2199] [] I' (up I' 2199 (40 * t + (A - 1)) ((i : Int) + 1)) := fr_upL (fr_refl _ _ _) rfl _ _
  have hAR2 : aR I (up I' 2199 (40 * t + (A - 1)) ((i : Int) + 1)) ar aE := by
    unfold aR at *
    rw [F9 2075 _ rfl, F9 2075 7738 rfl, fr_row F9 2223 (fun _ => rfl), fr_row F9 2224 (fun _ => rfl), fr_row F9 2225 (fun _ => rfl), fr_row F9 2226 (fun _ => rfl), fr_row F9 2227 (fun _ => rfl), fr_row F9 2228 (fun _ => rfl), fr_row F9 2229 (fun _ => rfl), fr_row F9 2230 (fun _ => rfl)]
    exact hAR
  have hm : ∀ K : vE → Prop, vW (d' + 6) 422 (2, [vr 2075, vi t, vi 1, y3, y4, y5, y6], [], (I', Y')) K ↔ vW (d' + 4) 424 (0, [vr 2075, vi ((40 * t + (A - 1) : Nat) : Int), vu, vu, vu, vu, vu, vu], [], (up I' 2199 (40 * t + (A - 1)) ((i : Int) + 1), Y')) (vWC (d' + 5) 423 138 3 [vr 2075, vi t, vi ((40 * t + (A - 1) : Nat) : Int), vi i, vi (I' (X + 28) i), vu, vu] [] (vWC (d' + 6) 422 70 3 [vr 2075, vi t, vi 1, vi ((40 * t + (A - 1) : Nat) : Int), vi nd', vi i, y6] [] K)) := by
    intro K
    rw [t_head_4 (d := d' + 5) hL' hX hX2 hV a1 p1 (by omega) rfl b2 b3 p2 b5 b6 b7 q1, b423_136 hL']
  simp only [hm]
  refine w_look (d := d + 2) (d' := d' + 1) (T := T0) (S := S) (n := ar) (E := aE) (N := N) hL hL' hAR2 s7 (by rw [up_cell _ (by decide)]; exact s8) a1 (by omega) (by omega) a4 (by rw [up_cell _ (by decide)]; omega) (by omega) (by rw [up_cell _ (by decide)]; exact vx) (by rw [up_cell _ (by decide)]; exact vy) (fun f hf => ?_) (fun k e hk9 he9 => ?_)
  · have h1 : (1 : Int) ≤ f := by omega
    have h2 : f ≤ 9 := by omega
    simp only [vWC_s, Nat.reduceAdd, b423_141]
    rw [t_bad73 (d := d' + 4) hL' h1 h2]
    simp only [vWC_s, Nat.reduceAdd, b177_311, c_bad (d := d + 5) hL h1 h2]
    exact hF _ f _ _ h1 h2 (IS_fail h (fr_upL (fr_upL (fr_refl _ _ _) rfl _ _) rfl _ _) (fun b hb => ⟨by rw [up_cell _ (by decide), up_place _ _ hb], by rw [up_place _ _ hb, up_cell _ (by decide)]⟩))
  · simp only [vWC_s, Nat.reduceAdd, b423_141]
    rw [t_ok73 (d := d' + 5)]
    simp only [vWC_s, Nat.reduceAdd, b177_311, c_ok]
    refine vW_swap.mp ?_
    rw [show 2 * (i : Int) + 2 = 2 * ((i + 1 : Nat) : Int) by omega]
    have F1 : fr [1992, 1993, 1994, 2032] [] I (up (up (up (up I 2032 k N) 1992 T0 (I 2033 e)) 1993 T0 (I 2034 e)) 1994 t ((T0 : Int) + 1)) := fr_upL (fr_upL (fr_upL (fr_upL (fr_refl _ _ _) rfl _ _) rfl _ _) rfl _ _) rfl _ _
    rw [show up I' 2199 (40 * t + (A - 1)) ((i : Int) + 1) 2230 e = I' 2230 e from up_cell _ (by decide) _ _ _]
    have F2 : fr [2199, 2200, 2206, 2228] [] I' (up (up (up (up I' 2199 (40 * t + (A - 1)) ((i : Int) + 1)) 2228 k N) 2206 (160 * (40 * t + (A - 1)) + S) (I' 2230 e)) 2200 (40 * t + (A - 1)) ((S : Int) + 1)) := fr_upL (fr_upL (fr_upL (fr_upL (fr_refl _ _ _) rfl _ _) rfl _ _) rfl _ _) rfl _ _
    have ve := hAR.2.2.2.2.2 e he9
    rw [← hn] at ve
    refine hN _ _ _ _ _ _ _ _ _ (IS_put (S := S) (T := T0) (kd := I 2033 e) (v := I 2034 e) (e := I' 2230 e) h hi (by omega) (by omega) o3 (by omega) (by omega) ve F1 F2 ⟨ar, aE, pArr_use (k := k) (N := N) hAR F1 F2 (fun j => by rw [up_cell _ (by decide), up_cell _ (by decide), up_cell _ (by decide), up_at]) (fun j => by rw [up_cell _ (by decide), up_cell _ (by decide), up_at, up_cell _ (by decide)])⟩ (fun p => by rw [up_cell _ (by decide), up_cell _ (by decide), up_at, up_cell _ (by decide)]) (fun p => by rw [up_cell _ (by decide), up_at, up_cell _ (by decide), up_cell _ (by decide)]) (fun u => by rw [up_at, up_cell _ (by decide), up_cell _ (by decide), up_cell _ (by decide)]) (fun b => by rw [up_cell _ (by decide), up_cell _ (by decide), up_cell _ (by decide), up_at]) (fun b => by rw [up_at, up_cell _ (by decide), up_cell _ (by decide), up_cell _ (by decide)]) (fun p => by rw [up_cell _ (by decide), up_at, up_cell _ (by decide), up_cell _ (by decide)])) ?_
    rw [F1 2007 _ rfl]; exact hnd

end
