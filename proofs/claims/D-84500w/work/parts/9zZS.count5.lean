/-! ===== count: the pair of calls ===== -/
set_option maxRecDepth 20000
set_option maxHeartbeats 4000000
theorem acL_of {Y Y' : vY} {X mm Nn Lp : Nat} {nm pr ht : Nat → Nat} {I I' : vJ} {th W N : Nat} (h : RQ Y Y' X mm Nn Lp nm pr ht I I' th W N) (hm : mm ≤ 24) : acL I I' X Nn th := by
  obtain ⟨_, ⟨t1, _⟩, _, _, _, hr, _⟩ := h
  refine ⟨t1.1, fun u hu => ?_⟩
  obtain ⟨A, dl, ⟨a1, a2, a3⟩, _, a4, _⟩ := hr u hu
  refine ⟨A, a1, a2, a3, fun k hk => ?_⟩
  obtain ⟨⟨c1, c2, c3⟩, ⟨c4, c5, c6, c7⟩, ⟨_, ⟨_, c8⟩, _⟩, _⟩ := a4 k hk
  obtain ⟨mb, hmb⟩ : ∃ mb : Nat, I 2006 (40 * u + k) = mb := ⟨(I 2006 (40 * u + k)).toNat, by omega⟩
  obtain ⟨nd, hnd⟩ : ∃ nd : Nat, I 2007 (40 * u + k) = nd := ⟨(I 2007 (40 * u + k)).toNat, by omega⟩
  rw [hnd, tn0] at c7 c8
  exact ⟨mb, nd, hmb, by omega, hnd, by omega, by omega, by omega, c8⟩
theorem ac_zero {I I' : vJ} {X Nn th n : Nat} (h : acL I I' X Nn th) (hk : I 38 n < 3) : acF I' n = 0 := sW_zero 320 (fun j hj => by
  have e : j = 40 * (j / 40) + j % 40 := by omega
  rw [e]
  by_cases z : j / 40 < th
  · obtain ⟨A, a1, a2, a3, a4⟩ := h.2 (j / 40) z
    by_cases y : j % 40 < A
    · obtain ⟨mb, nd, _, _, _, c4, _, _, c7⟩ := a4 (j % 40) y
      rw [lv_nd h z a2 y a3 c4, if_neg (fun q => by rw [q] at hk; omega)]
    · refine lv_z h (by omega) (by omega) (fun _ A' hA' => ?_)
      rw [a2] at hA'
      omega
  · exact lv_z h (by omega) (by omega) (fun q => absurd q z))
section
variable {d d' : Nat} {Y : vY} {I I' : vJ} {P : vE → Prop} {Q : vE → vE → Prop} {mm X m Nn Wn th k : Nat} {ns ws ls : Nat → Nat}
/-- the counts of a member are there, worked out now or earlier -/
theorem c_counts {o : Nat} (hL : vL Y) (hmm : mm ≤ 24 ∧ Nn ≤ 700 ∧ Wn ≤ 2100) (hO : (Y.1 1989 m = o ∧ 2297 ≤ o ∧ o < Y.2.2.2.1 ∧ Y.2.1 o = 15) ∧ (I o 3850 = ns m ∧ I o 3851 = (ns (m + 1) : Int) - ns m ∧ ns (m + 1) ≤ Nn) ∧ I o 3852 = ws m ∧ I o 3853 = (ws (m + 1) : Int) - ws m ∧ ws m ≤ ws (m + 1) ∧ ws (m + 1) ≤ Wn) (h61 : ∀ e, ws m ≤ e → e < ws (m + 1) → I 61 e = 0 ∨ I 61 e = 1 ∧ I 65 e = I' 2183 e) (hC : ctM I I' X m Nn Wn ns ws) (hW : wyN I = Wn) (hA : acL I I' X Nn th) (nn : ∀ w, w < wyN I → 0 ≤ I' 2183 w) (hf : ∀ n : Nat, 3 ≤ I 38 n → inW I I' n - ouW I I' n = sW (lvA I' n) 320) (hT : tot I I' ≤ 60000) (hv : cvR I I' X mm k) (k64 : k < 64) (hi : I 1990 3398 = 1) (hm : m < mm)
    (hQ : ∀ J : vJ, fr [66, 67, 68, 2060, 2066] [] I J → (∀ e, ws m ≤ e → e < ws (m + 1) → J 66 e = I' 2183 e) → cvR J I' X mm k → P (.inl none, (J, Y))) :
    vW (d + 3) 15 (0, [vr 18, vi (m : Int), vu, vu, vu], [], (I, Y)) P := by
  obtain ⟨s8, s2, s4⟩ := hmm
  obtain ⟨⟨o1, o2, o3, o4⟩, ⟨g1, g2, g5⟩, w1, w2, w4, w5⟩ := hO
  have ex : Y.1 1989 ((m : Int)).toNat = o := by rw [tn0]; exact o1
  obtain ⟨⟨v1, v2⟩, v3, v4⟩ := id hv
  have vm := v3 m (by omega)
  have hC0 := hC
  obtain ⟨⟨k0, k1, k2, k3⟩, h2, h37, h4, h5⟩ := hC
  have own : ∀ w, w < Wn → I' (X + 37) (I 50 w).toNat = m → ws m ≤ w ∧ w < ws (m + 1) := fun w hw q => by
    obtain ⟨x, y, x1, _, ⟨x3, _⟩, x2, _⟩ := h4 w hw
    rw [x1, tn0] at q
    exact x2.mp ((h37 x x3).mp q)
  have own2 : ∀ w, ws m ≤ w → w < ws (m + 1) → I' (X + 37) (I 50 w).toNat = m := fun w p1 p2 => by
    obtain ⟨x, y, x1, _, ⟨x3, _⟩, x2, _⟩ := h4 w (by omega)
    rw [x1, tn0]
    exact (h37 x x3).mpr (x2.mpr ⟨p1, p2⟩)
  rw [b15_0 hL (by omega) (by omega), tn0, w32_id (by omega) (by omega), w32_id (by omega) (by omega)]
  by_cases z : I 2060 m = I 18 271
  · rw [if_neg (fun q => q z), b15_13]
    exact hQ I (fr_refl _ _ _) (fun e e1 e2 => v4 m hm z hi e (by omega) (own2 e e1 e2)) hv
  · rw [if_pos z, b15_14 hL (by omega) (by omega) (by rw [ex]; omega) (by rw [ex]; exact o4), ex, tn0]
    generalize hI1 : up I 2060 m (I 18 271) = I1
    have F1 : fr [2060] [] I I1 := by rw [← hI1]; exact fr_upL (fr_refl _ _ _) rfl _ _
    have e60 : ∀ j, I1 2060 j = if j = m then I 18 271 else I 2060 j := fun j => by rw [← hI1, up_at]
    clear hI1
    have io : I1 o = I o := fr_ge F1 2297 (by rfl) o2
    rw [io, g1]
    have A1 : acL I1 I' X Nn th := by
      unfold acL at *
      rw [F1 1990 _ rfl, fr_row F1 1995 (fun _ => rfl), fr_row F1 2006 (fun _ => rfl), fr_row F1 2007 (fun _ => rfl), fr_row F1 38 (fun _ => rfl)]
      exact hA
    refine c_at (d := d + 2) (o := o) (a := ns m) (b := ns (m + 1)) hL A1 ⟨o2, o4, by rw [io]; exact g1, by rw [io]; exact g2⟩ ⟨by omega, g5, s2⟩ (by omega) h37 (fun J x3 x4 F2 hat => ?_)
    have FJ : fr [2060, 2066] [] I J := fr_trans (fr_sub F1 (by rfl) (by rfl)) (fr_sub F2 (by rfl) (by rfl))
    have jo : J o = I o := fr_ge FJ 2297 (by rfl) o2
    have j50 : J 50 = I 50 := fr_row FJ 50 (fun _ => rfl)
    have j51 : J 51 = I 51 := fr_row FJ 51 (fun _ => rfl)
    have j61 : J 61 = I 61 := fr_row FJ 61 (fun _ => rfl)
    have j65 : J 65 = I 65 := fr_row FJ 65 (fun _ => rfl)
    have j66 : J 66 = I 66 := fr_row FJ 66 (fun _ => rfl)
    have ef : frF J (ns m) = frF I (ns m) := by funext e; unfold frF; rw [j50]
    have et : toF J (ns m) = toF I (ns m) := by funext e; unfold toF; rw [j51]
    obtain ⟨c, hc⟩ : ∃ c : Nat → Int, c = fun e => if isE (ws m) (ws (m + 1)) e then cF I I' (ns m) e else I 66 e := ⟨_, rfl⟩
    have c1 : ∀ e, isE (ws m) (ws (m + 1)) e → c e = cF I I' (ns m) e := fun e he => by rw [hc]; exact if_pos he
    have c2 : ∀ e, ¬ isE (ws m) (ws (m + 1)) e → c e = I 66 e := fun e he => by rw [hc]; exact if_neg he
    have c3 : ∀ e, ws m ≤ e → e < ws (m + 1) → c e = I' 2183 e := fun e p1 p2 => by
      rw [c1 e (Or.inl ⟨p1, p2⟩)]
      unfold cF
      rw [if_neg (by omega), if_neg (by omega)]
    have tg := sW_ge (wyN I) nn
    have ib : ∀ n, 0 ≤ inW I I' n ∧ inW I I' n ≤ tot I I' := fun n => by
      refine ⟨(sW_ge (wyN I) (fun w hw => ?_)).1, sW_le (wyN I) (fun w hw => ?_)⟩
      · show 0 ≤ if I 51 w = (n : Int) then I' 2183 w else 0
        split
        · exact nn w hw
        · decide
      · show (if I 51 w = (n : Int) then I' 2183 w else 0) ≤ I' 2183 w
        split
        · exact Int.le_refl _
        · exact nn w hw
    have SL : slF J Y c (ns m) (ns (m + 1)) (ws m) (ws (m + 1)) o := by
      refine ⟨⟨o2, o4, by rw [jo]; exact g1, by rw [jo]; exact g2, by rw [jo]; exact w1, by rw [jo]; exact w2⟩, ⟨k3, by omega, w4, by omega⟩, fun e p1 p2 => ⟨?_, ?_⟩, fun e he => ?_⟩
      · obtain ⟨x, y, x1, y1, _, x2, y2, _⟩ := h4 e (by omega)
        rw [j50, j51]
        exact ⟨x, y, x1, y1, x2.mpr ⟨p1, p2⟩, y2.mpr ⟨p1, p2⟩⟩
      · rw [j61, j65]
        rcases h61 e p1 p2 with q | q
        · exact Or.inl q
        · exact Or.inr ⟨q.1, by rw [c3 e p1 p2]; exact q.2⟩
      · rw [c1 e he]
        unfold cF
        by_cases y1 : e = 2100
        · rw [if_pos y1]; have := ib (ns m + 1); omega
        · rw [if_neg y1]
          by_cases y2 : e = 2101
          · rw [if_pos y2]; have := ib (ns m + 2); omega
          · rw [if_neg y2]
            have e1 : e < wyN I := by unfold isE at he; omega
            have q1 := tg.2 e e1
            have q2 := nn e e1
            have q3 : sW (I' 2183) (wyN I) = tot I I' := rfl
            omega
    rw [b15_147 hL]
    refine c_solve (d := d) (c := c) (ac := acF I') hL SL (fun i i1 i2 => hat i i1 i2) (fun n n1 n2 => ?_) (by rw [ef, et, j61]; exact h5) (fun e he => by rw [j66]; exact (c2 e he).symm) (fun J2 F3 hJ2 => ?_)
    · rw [ef, et]
      have e1 : ntU (frF I (ns m)) (toF I (ns m)) c (aB (ws m) (ws (m + 1))) n = ntU (frF I (ns m)) (toF I (ns m)) (cF I I' (ns m)) (aB (ws m) (ws (m + 1))) n := sW_congr 2102 (fun e _ => by
        unfold ntE
        by_cases u : aB (ws m) (ws (m + 1)) e = true
        · rw [c1 e (of_decide_eq_true u)]
        · rw [if_neg u, if_neg u])
      rw [e1]
      exact cn_all hC0 hW w4 w5 (by omega) hf (fun j hj => by
        refine ac_zero hA ?_
        have : j = 0 ∨ j = 1 ∨ j = 2 := by omega
        rcases this with q | q | q
        · rw [q, Nat.add_zero, k0]; decide
        · rw [q, k1]; decide
        · rw [q, k2]; decide) n1 n2
    · simp only [vWC_n, Nat.reduceAdd]
      rw [b15_159]
      have FF : fr [66, 67, 68, 2060, 2066] [] I J2 := fr_trans (fr_sub FJ (by rfl) (by rfl)) (fr_sub F3 (by rfl) (by rfl))
      refine hQ J2 FF (fun e p1 p2 => by rw [hJ2, c3 e p1 p2]) ⟨?_, fun j hj => ?_, fun m' hm' q1 q2 w hw q3 => ?_⟩
      · rw [FF 18 _ rfl]; exact ⟨v1, v2⟩
      · rw [FF 18 _ rfl, F3 2060 _ rfl, F2 2060 _ rfl, e60]
        by_cases y : j = m
        · rw [if_pos y]; omega
        · rw [if_neg y]; exact v3 j hj
      · rw [FF 18 _ rfl, F3 2060 _ rfl, F2 2060 _ rfl, e60] at q1
        have eN : wyN J2 = wyN I := by unfold wyN; rw [fr_row FF 35 (fun _ => rfl)]
        rw [eN] at hw
        rw [fr_row FF 50 (fun _ => rfl)] at q3
        by_cases y : m' = m
        · rw [y] at q3
          have r := own w (by omega) q3
          rw [hJ2, c3 w r.1 r.2]
        · rw [if_neg y] at q1
          have r : ¬ isE (ws m) (ws (m + 1)) w := fun t => by
            unfold isE at t
            have := own2 w (by omega) (by omega)
            omega
          rw [hJ2, c2 w r]
          exact v4 m' hm' q1 hi w hw q3
theorem n_count {a b : Int} (hL : vL Y) (hi : I 1990 3398 = 0) (hs : I' 2075 7728 = 0) : An d 23 [vr 18, vi a, vi b] I Y (-1) ∧ An d' 459 [vr 2075, vi a, vi b] I' Y (-1) := by
  refine ⟨fun P => ?_, fun P => ?_⟩
  · rw [b23_0 hL, hi, if_pos (by decide), b23_19]
  · rw [b459_0 hL, hs, if_pos (by decide), b459_16, b459_31]
theorem o_count {a b : Int} (ha : inI a) (hb : inI b) (hL : vL Y) (hM : isM I I' Y mm) (hS : mm ≠ 0 → ∃ (Wn : Nat) (ns ws ls : Nat → Nat), SDm I I' Y mm X Nn Wn ns ws ls ∧ wyN I = Wn ∧ ∀ m, m < mm → ctM I I' X m Nn Wn ns ws) (hA : acL I I' X Nn th) (hf : fwR I I') (hT : tot I I' ≤ 60000) (hv : cvR I I' X mm k) (k64 : k < 64) (hi : I 1990 3398 = 1) (hst : w32 (I' 2075 7728) ≠ 0)
    (hQ : ∀ (J : vJ) (v : Int), fr [66, 67, 68, 2060, 2066] [] I J → cvR J I' X mm k → Q (.inl (some (vi v)), (J, Y)) (.inl (some (vi v)), (I', Y))) :
    vW (d + 4) 23 (0, [vr 18, vi a, vi b], [], (I, Y)) (fun r => vW (d' + 4) 459 (0, [vr 2075, vi a, vi b], [], (I', Y)) (fun r' => Q r r')) := by
  by_cases z : 0 ≤ a ∧ a ≤ (mm : Int) - 1
  · obtain ⟨m, hm⟩ : ∃ m : Nat, a = m := ⟨a.toNat, by omega⟩
    subst hm
    have m1 : m < mm := by omega
    obtain ⟨Wn, ns, ws, ls, S, hW, hC⟩ := hS (by omega)
    have cn := fun P => c_wy (d := d + 1) hL hM S m1 hb P
    have tn := fun P => t_wy (d := d' + 1) hL hM S m1 hb P
    obtain ⟨⟨t1, _, t3⟩, ⟨_, s2, _, s4, _, _, _, s8⟩, s9, _, s10, _⟩ := S
    obtain ⟨o, g1, g2, g3, _⟩ := s9 m m1
    by_cases y : 0 ≤ b ∧ b ≤ (ws (m + 1) : Int) - ws m - 1
    · obtain ⟨j, hj⟩ : ∃ j : Nat, b = j := ⟨b.toNat, by omega⟩
      subst hj
      have e : (ws m : Int) + (j : Int) = ((ws m + j : Nat) : Int) := by omega
      rw [if_pos y] at tn cn
      rw [e] at tn
      have ht : ∀ P : vE → Prop, vW (d' + 4) 459 (0, [vr 2075, vi (m : Int), vi (j : Int)], [], (I', Y)) P ↔ P (.inl (some (vi (I' 2183 (ws m + j)))), (I', Y)) := fun P => by
        rw [b459_0 hL, if_neg hst, b459_7 hL, tn]
        simp only [vWC_s, Nat.reduceAdd]
        rw [b459_13, if_pos (by rw [w32_id (by omega) (by omega)]; omega), b459_20 hL, tn]
        simp only [vWC_s, Nat.reduceAdd]
        rw [b459_30 hL (by omega) (by omega), tn0, b459_31]
      simp only [ht]
      rw [b23_0 hL, hi, if_neg (by decide), b23_10 hL, cn]
      simp only [vWC_s, Nat.reduceAdd]
      rw [b23_16, if_pos (by decide), b23_21 hL]
      refine c_counts (d := d) (o := o) (ns := ns) (ws := ws) hL ⟨s8, s2, s4⟩ ⟨g1, ⟨g2.1, g2.2.1, g2.2.2.2.2⟩, g3.1, g3.2.1, g3.2.2.2.1, g3.2.2.2.2⟩ (fun e e1 e2 => by
        rcases (s10 e (by have := g3.2.2.2.2; omega)).2.2.2 with q | q
        · exact Or.inl q
        · exact Or.inr ⟨q, (hf.1 e (by have := g3.2.2.2.2; omega)).2 q⟩) (hC m m1) hW hA (fun w hw => (hf.1 w hw).1) hf.2 hT hv k64 hi m1 (fun J F hJ cJ => ?_)
      simp only [vWC_n, Nat.reduceAdd]
      have ex : Y.1 1989 ((m : Int)).toNat = o := by rw [tn0]; exact g1.1
      have jo : J o = I o := fr_ge F 2297 (by rfl) g1.2.1
      rw [b23_26 hL (by omega) (by omega) (by rw [ex]; have := g1.2.1; omega) (by rw [ex]; exact g1.2.2.2) (by rw [ex, jo, g3.1]; omega) (by rw [ex, jo, g3.1]; have := g3.2.2.2.2; omega), ex, jo, g3.1, e, tn0, hJ (ws m + j) (by omega) (by omega)]
      exact hQ J _ F cJ
    · rw [if_neg y] at tn cn
      have ht : ∀ P : vE → Prop, vW (d' + 4) 459 (0, [vr 2075, vi (m : Int), vi b], [], (I', Y)) P ↔ P (.inl (some (vi (-1))), (I', Y)) := fun P => by
        rw [b459_0 hL, if_neg hst, b459_7 hL, tn]
        simp only [vWC_s, Nat.reduceAdd]
        rw [b459_13, if_neg (by decide), b459_16, b459_31]
      simp only [ht]
      rw [b23_0 hL, hi, if_neg (by decide), b23_10 hL, cn]
      simp only [vWC_s, Nat.reduceAdd]
      rw [b23_16, if_neg (by decide), b23_19]
      exact hQ I _ (fr_refl _ _ _) hv
  · obtain ⟨cn, tn⟩ := n_wy (d := d + 1) (d' := d' + 1) (b := b) hL ha hM z
    have ht : ∀ P : vE → Prop, vW (d' + 4) 459 (0, [vr 2075, vi a, vi b], [], (I', Y)) P ↔ P (.inl (some (vi (-1))), (I', Y)) := fun P => by
      rw [b459_0 hL, if_neg hst, b459_7 hL, tn]
      simp only [vWC_s, Nat.reduceAdd]
      rw [b459_13, if_neg (by decide), b459_16, b459_31]
    simp only [ht]
    rw [b23_0 hL, hi, if_neg (by decide), b23_10 hL, cn]
    simp only [vWC_s, Nat.reduceAdd]
    rw [b23_16, if_neg (by decide), b23_19]
    exact hQ I _ (fr_refl _ _ _) hv
end
section
variable {L : Nat} {x : Nat → Int} {SX : vJ → vJ → vY → Nat → Nat → Nat → Prop} {k : Nat} {I I' J : vJ} {Y : vY}
/-- the relation of calls, when the house alone has worked out counts -/
theorem LW_cnt {mm X Nn Lp C th W N : Nat} {nm pr ht : Nat → Nat} (hX : sxK SX) (h : LW L x SX k I I' Y) (m1 : isM I I' Y mm) (m2 : SX I I' Y mm X Nn) (m3 : mm ≠ 0 → (X = 2081 ∨ X = 2119) ∧ LD I I' X Nn nm) (hC : C ≤ 50000 * k) (r1 : I 1990 3398 = 1) (r2 : mm ≠ 0) (r3 : RS Y Y X mm Nn Lp nm pr ht I I' th W N) (r4 : ht 5000 + 50000 ≤ C) (cv : cvR J I' X mm k) (F : fr [66, 67, 68, 2060, 2066] [] I J) : LW L x SX (k + 1) J I' Y := by
  obtain ⟨⟨v1, v2, v3, v4, v5, v6⟩, ⟨p1, p2, p3⟩, ⟨n, t1⟩, q1, _⟩ := h
  have a1 : ∀ c, c < 66 → J c = I c := fun c a => fr_out F 0 66 (by rfl) (Nat.zero_le _) a
  have a2 : ∀ c, 69 ≤ c → c < 2060 → J c = I c := fun c a b => fr_out F 69 2060 (by rfl) a b
  have a3 : ∀ c, 2061 ≤ c → c < 2066 → J c = I c := fun c a b => fr_out F 2061 2066 (by rfl) a b
  have a4 : ∀ c, 2067 ≤ c → J c = I c := fun c a => fr_ge F 2067 (by rfl) a
  have sA : sxA Y I I' J I' := by
    refine ⟨fun c q => ?_, fun f _ _ => by rw [a1 18 (by decide)], fun _ _ => rfl, fun _ _ => rfl⟩
    unfold stC at q
    by_cases z : c < 66
    · exact a1 c z
    · by_cases y : c < 2060
      · exact a2 c (by omega) y
      · by_cases w : c < 2066
        · exact a3 c (by omega) w
        · exact a4 c (by omega)
  have sp : spD Y I I' J I' := by
    refine ⟨fun c q => ?_, by rw [a1 18 (by decide)], fun c a _ => a4 c (by omega), fun _ _ _ => rfl⟩
    unfold spC at q
    by_cases z : c < 66
    · exact a1 c z
    · exact a2 c (by omega) (by omega)
  obtain ⟨ht2, h1, h2, h3⟩ := RS_cong r3 sp
  refine ⟨⟨v1, v2, v3, v4, by omega, by omega⟩, ⟨fun j => by rw [a1 1 (by decide)]; exact p1 j, p2, p3⟩, ⟨n, ?_⟩, ⟨?_, kp_of q1.2 (fun c a b => a4 c (by omega)) (fun _ _ _ => rfl)⟩, mm, X, Nn, Lp, C, nm, pr, ht2, ?_, hX I I' J I' Y mm X Nn m2 sA, fun z => ?_, ⟨by omega, cv_up cv⟩, Or.inr ⟨by rw [a2 1990 (by decide) (by decide)]; exact r1, r2, th, W, N, h3, by rw [h2]; exact r4⟩⟩
  · unfold tp at *
    rw [a1 18 (by decide), a1 19 (by decide)]; exact t1
  · have q1 := q1.1
    unfold pa at *
    rw [a3 2062 (by decide) (by decide), a3 2063 (by decide) (by decide)]
    exact q1
  · unfold isM at *
    rw [a1 18 (by decide)]; exact m1
  · obtain ⟨w1, w2⟩ := m3 z
    refine ⟨w1, ?_⟩
    unfold LD at *
    rw [a2 1960 (by decide) (by decide), a1 18 (by decide), a1 35 (by decide)]
    exact w2
/-- SX tells what counts need -/
def sxC (SX : vJ → vJ → vY → Nat → Nat → Nat → Prop) : Prop := ∀ I I' Y mm X Nn, SX I I' Y mm X Nn → mm ≠ 0 → ∃ (Wn : Nat) (ns ws ls : Nat → Nat), SDm I I' Y mm X Nn Wn ns ws ls ∧ wyN I = Wn ∧ ∀ m, m < mm → ctM I I' X m Nn Wn ns ws
theorem d_count (hX : sxK SX) (hC : sxC SX) : oD14 (fun k I Y => LW L x SX k I I Y) := fun k hk a1 a2 ha1 ha2 => o_pair hX (sL_c sG_18 (sL_c (sG_i _) (sL_c (sG_i _) (sL_nil _)))) (fun Y _ => (sL_c sG_m (sL_c (sG_i _) (sL_c (sG_i _) (sL_nil _))))) (fun I I' Y h => by
  have h0 := h
  obtain ⟨⟨v1, _⟩, _, _, _, mm, X, Nn, Lp, C, nm, pr, ht, m1, m2, m3, m4, m5⟩ := h
  rcases m5 with ⟨r1, r2, _⟩ | ⟨r1, r2, th, W, N, r3, r4⟩
  · obtain ⟨b1, b2⟩ := n_count (d := 2000) (d' := 2000) (a := a1) (b := a2) v1 r1 r2
    exact (b1 _).mpr ((b2 _).mpr ⟨_, _, I, I', rfl, rfl, rfl, LW_up h0⟩)
  · have q := RS_open r3
    have sb := (RQ_status (d := 0) (P := fun _ => True) v1 q).2
    have aL := acL_of q m1.2.1
    obtain ⟨_, _, ⟨_, _, _, _, _, _, _, _, ⟨_, fw⟩, _, ⟨_, bg1, bg2⟩, _⟩, ⟨_, _, _, hT⟩, ⟨_, _, N2, W2, _⟩, _⟩ := q
    exact o_count (d := 1996) (d' := 1996) ha1 ha2 v1 m1 (fun z => hC _ _ _ _ _ _ m2 z) aL fw (by omega) m4.2 hk r1 (by rw [w32_id (by omega) (by omega)]; omega) (fun J v F cJ => ⟨v, v, J, I', rfl, rfl, rfl, LW_cnt hX h0 m1 m2 m3 m4.1 r1 r2 r3 r4 cJ F⟩))
end
