/-! ===== the code of a start, in both houses ===== -/
set_option maxRecDepth 20000
set_option maxHeartbeats 8000000
theorem k_start {d d' : Nat} {Y Y' : vY} {X mm Nn Lp : Nat} {nm pr ht : Nat → Nat} {t N : Nat} (hL : vL Y) (hL' : vL Y') : stP (d + 2) (d' + 1) Y Y' X mm Nn Lp nm pr ht t N := by
  intro th A i W nd I I' Q h hi hnd hk hN hF x6 x7 x8 y3 y4 y5 y6
  obtain ⟨nd', ct, B, T, ⟨a1, a2, a3, a4⟩, ⟨b1, b2, b3, b3'⟩, ⟨b4, b5, b6, b7⟩, ⟨c1, c2, c3, c4, c5, c6⟩, ⟨v1, v2⟩, ⟨o1, o2, o3⟩, ⟨p1, p2, p3⟩⟩ := IS_at h hi
  have e0 : nd' = nd := by omega
  subst e0
  obtain ⟨hX, hX2, hV⟩ := h.1.1
  have q : I' (X + 27) i = 6 ∧ I' (X + 28) i = I 37 (2 * i + 1) ∧ 0 ≤ I 37 (2 * i + 1) ∧ I 37 (2 * i + 1) < mm ∧ I' (X + 29) i = pr (I 37 (2 * i + 1)).toNat ∧ pr (I 37 (2 * i + 1)).toNat ≤ ht i ∧ ht (i + 1) = ht i - pr (I 37 (2 * i + 1)).toNat + 1 := by
    rcases o1 with o | o | o | o | o | o | o | o | o | o | o
    any_goals (exfalso; omega)
    rcases o.1 with z | z
    · exfalso; omega
    · exact ⟨z.2, o.2⟩
  clear o1
  obtain ⟨q1, q2, q3, q4, q5, q6, q7⟩ := q
  obtain ⟨m, hm⟩ : ∃ m : Nat, I 37 (2 * i + 1) = m := ⟨(I 37 (2 * i + 1)).toNat, by omega⟩
  rw [hm] at q2 q3 q4 q5 q6 q7
  simp only [tn0] at q5 q6 q7
  have hmm : m < mm := by omega
  obtain ⟨o, p, nn, nd0, w0, y0, pp0, oo, ⟨pr1, pr2, pr3, pr4⟩, ⟨nm1, nm2, nm3⟩, _⟩ := ST_entry h.1 hmm
  rw [pr4] at q5 q6 q7
  have mm24 : mm ≤ 24 := h.1.2.1.1.1
  have hIS := h
  obtain ⟨st1, st2, st3, st4, ⟨st5, st6, st7, st8, st9, st10, st11⟩, st12, ⟨⟨r1, r2, r3, r4⟩, ⟨r5, r6⟩, r7, r8, r9, r10, r11, r12⟩⟩ := hIS
  obtain ⟨bg1, bg2⟩ := st3.2.2.2.2.2.2.2.2.2.2.1
  obtain ⟨th1, th2, th3⟩ := st2.1.1
  have hX29 : X + 29 ≠ 2199 := by clear r10; omega
  have hx29 : up I' 2199 (40 * t + (A - 1)) ((i : Int) + 1) (X + 29) = I' (X + 29) := up_row _ hX29 _ _
  have hm1 : ∀ K : vE → Prop, vW (d' + 12) 422 (2, [vr 2075, vi t, vi 1, y3, y4, y5, y6], [], (I', Y')) K ↔ vW (d' + 10) 431 (0, [vr 2075, vi ((40 * t + (A - 1) : Nat) : Int), vi m, vi p], [], (up I' 2199 (40 * t + (A - 1)) ((i : Int) + 1), Y')) (vWC (d' + 11) 423 173 3 [vr 2075, vi t, vi ((40 * t + (A - 1) : Nat) : Int), vi i, vi m, vu, vu] [] (vWC (d' + 12) 422 70 3 [vr 2075, vi t, vi 1, vi ((40 * t + (A - 1) : Nat) : Int), vi nd', vi i, y6] [] K)) := by
    intro K
    rw [t_head_6 (d := d' + 11) hL' hX hX2 hV a1 p1 (by omega) rfl b2 b3 p2 b5 b6 b7 q1, q2, b423_160 hL' hV (by omega) (by omega), hX]
    simp only [tn0, hx29, q5]
  show vW (d + 11) 177 _ (fun r => vW (d' + 12) 422 _ (fun r' => Q r r'))
  rw [c_head_11 (d := d + 11) hL b3 b4 b6 b7 hk, hm, b177_294 hL]
  have u1 : up I' 2199 (40 * t + (A - 1)) ((i : Int) + 1) 2075 7731 = th := by rw [up_cell _ (by decide)]; exact th2
  have u2 : up I' 2199 (40 * t + (A - 1)) ((i : Int) + 1) 2075 7727 = I 1990 3403 := by rw [up_cell _ (by decide)]; exact bg1.symm
  by_cases hfull : th = 8 ∨ I 1990 3403 = 30000
  · have hc : ∀ K : vE → Prop, vW (d + 10) 179 (0, [vr 1990, vi t, vi m, vu, vu, vu], [], (I, Y)) K ↔ K (.inl (some (vi 7)), (I, Y)) := by
      intro K
      rw [m179_0 hL, th1, if_pos (by rw [w32_id (by omega) (by omega), w32_id (by decide) (by decide), w32_id (by omega) (by omega), w32_id (by decide) (by decide)]; omega), b179_19]
    have ht7 : ∀ K : vE → Prop, vW (d' + 10) 431 (0, [vr 2075, vi ((40 * t + (A - 1) : Nat) : Int), vi m, vi p], [], (up I' 2199 (40 * t + (A - 1)) ((i : Int) + 1), Y')) K ↔ K (.inl (some (vi 7)), (up I' 2199 (40 * t + (A - 1)) ((i : Int) + 1), Y')) := by
      intro K
      rw [m431_0 hL', u1, u2, if_pos (by rw [w32_id (by omega) (by omega), w32_id (by decide) (by decide), w32_id (by omega) (by omega), w32_id (by decide) (by decide)]; omega), b431_19]
    simp only [hm1, ht7]
    rw [hc]
    simp only [vWC_s, Nat.reduceAdd, b423_176]
    rw [b177_301, c_bad (d := d + 10) hL (by decide) (by decide), t_bad73 (d := d' + 10) hL' (by decide) (by decide)]
    exact hF _ 7 _ _ (by decide) (by decide) (IS_fail h (fr_upL (fr_refl _ _ _) rfl _ _) (fun b hb => ⟨up_place _ _ hb _, up_cell _ (by decide) _ _ _⟩))
  · have th7 : th < 8 := by omega
    have nB : I 1990 3403 < 30000 := by omega
    clear hfull
    obtain ⟨T0, hT0⟩ : ∃ T0 : Nat, T0 + p = T := ⟨T - p, by omega⟩
    obtain ⟨S, hS⟩ : ∃ S : Nat, S + p = ht i := ⟨ht i - p, by omega⟩
    have Tb : 8 + 5760 * t ≤ B ∧ B ≤ 8 + 5760 * t + 144 * 39 := by
      obtain ⟨b, s, h1, h2, h3, h4, h5, h6, h7⟩ := r7
      have bd := thV_bd h2 h3 (fun k hk => ⟨(h1 k hk).2.2.1, (h1 k hk).2.2.2⟩) (A - 1) (by omega)
      have z2 := h1 (A - 1) (by omega)
      clear h2 h3 h4 h5 h6 h7 h1
      omega
    have vq : ∀ j, j < p → vv (I 1990 3376) (I 1992 (T0 + j)) (I 1993 (T0 + j)) (I' 2206 (160 * (40 * t + (A - 1)) + S + j)) := fun j hj => by
      have z := v2 (S + j) (by omega)
      rw [show B + nm (I 2006 (40 * t + (A - 1))).toNat + (S + j) = T0 + j by omega, show 160 * (40 * t + (A - 1)) + (S + j) = 160 * (40 * t + (A - 1)) + S + j by omega] at z
      exact z
    have hT9 : (T0 : Int) = I 2009 (40 * t + (A - 1)) + nm (I 2006 (40 * t + (A - 1))).toNat + S := by omega
    refine c_starts0 (d := d + 8) (th := th) (p := p) (T0 := T0) (N := N) (o := o) hL a1 th7 (by omega) th1 nB bg2.1 st7 (by omega) oo pr1 pr3 (by rw [c2, hT0]) (by omega) (Or.inl (by omega)) (fun j hj => by
      have z := vq j hj
      unfold vv at z
      omega) (fun H hH => ?_)
    apply vW_out2
    simp only [hm1]
    refine vW_swap.mpr ?_
    refine t_starts0 (d' := d' + 8) (th := th) (p := p) (S := S) (N := N) hL' a4 th7 u1 (by rw [u2]; exact nB) (by rw [u2]; exact bg2.1) (by rw [up_cell _ (by decide)]; exact st8) pr3 (by rw [up_cell _ (by decide), p3, hS]) (by omega) (fun M hM => ?_)
    have SP := st_pair (d := d) (d' := d') (Q := fun q q' => vWC (d' + 10) 431 47 3 [vr 2075, vi ((40 * t + (A - 1) : Nat) : Int), vi m, vi p] [] (vWC (d' + 11) 423 173 3 [vr 2075, vi t, vi ((40 * t + (A - 1) : Nat) : Int), vi i, vi m, vu, vu] [] (vWC (d' + 12) 422 70 3 [vr 2075, vi t, vi 1, vi ((40 * t + (A - 1) : Nat) : Int), vi nd', vi i, y6] [] (fun r' => vWC (d + 10) 179 108 3 [vr 1990, vi t, vi m, vi th, vi p, vi p] [] (vWC (d + 11) 177 298 3 [vr 1990, vi t, vi ((40 * t + (A - 1) : Nat) : Int), vi nd', vi (2 * (i : Int) + 2), vr 37, vi 11, vi m, vi 0] [] (fun r => Q r r')) q))) q') hL hL' h hi th7 hmm pr4 nB hH hM (by omega) (by omega) (by omega) hT9 (by omega) vq (fun G G' g1 g2 => ?_)
    · obtain ⟨qq, hq, qq', hq', hB⟩ := SP
      exact ⟨qq', hq', vWC_mono (fun _ => vWC_mono (fun _ hr => ⟨qq, hq, hr⟩)) hB⟩
    · simp only [vWC_n, vWC_s, Nat.reduceAdd, b431_50, b423_176, b179_111, b177_301, c_ok]
      rw [t_ok73 (d := d' + 11)]
      refine vW_swap.mp ?_
      rw [show 2 * (i : Int) + 2 = 2 * ((i + 1 : Nat) : Int) by omega]
      exact hN (th + 1) G G' _ _ _ _ _ _ _ g1 (by rw [g2]; exact hnd)
