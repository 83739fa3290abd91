/-! ===== node UNLOCK: both houses ===== -/
set_option maxRecDepth 20000
set_option maxHeartbeats 4000000
section
variable {d d' : Nat} {Y Y' : vY} {X mm Nn Lp : Nat} {nm pr ht : Nat → Nat} {I I' : vJ} {th t A i W N : Nat} {Q QQ : vE → vE → Prop}
/-- the step's loop behind a node's part: from moves beside any run of the model -/
theorem go_gen {D' D1 y1 a9 x9 ww : Nat} {F1 : vF} {a0 k0 so : Int} {y5 y6 : vV} (hL : vL Y) (r6 : I 2005 t = 0) (hso : 0 ≤ so ∧ so < 9) (hQ : bk d Y t a0 k0 QQ Q)
    (hStay : ∀ F F', AS Y Y' X mm Nn Lp nm pr ht F F' th (W + 1) N → vW (d + 10) 174 (170, [vr 1990, vi t, vi a0, vi k0, vi 9], [], (F, Y)) (fun z => QQ z (.inl none, (F', Y'))))
    (hBack : ∀ (B : Nat) (F F' : vJ) (pc nd : Nat) (Q2 : vE → vE → Prop), bk d Y t a0 k0 QQ Q2 → A = B + 1 → 0 < B → IS Y Y' X mm Nn Lp nm pr ht F F' th t B pc (W + 1) N → F 2007 (40 * t + (B - 1)) = nd → vW (d + 8) 177 (33, [vr 1990, vi t, vi ((40 * t + (B - 1) : Nat) : Int), vi nd, vi (2 * (pc : Int)), vr 37, vu, vu, vu], [], (F, Y)) (fun r => vW D' 422 (2, [vr 2075, vi t, vi 1, vi a9, vi x9, y5, y6], [], (F', Y')) (fun r' => Q2 r r')))
    (main : ∀ Q0 : vE → vE → Prop, (∀ J J', AS Y Y' X mm Nn Lp nm pr ht J J' th (W + 1) N → Q0 (.inl (some (vi 9)), (J, Y)) (.inl (some (vi 0)), (J', Y'))) → (∀ (B : Nat) (F F' : vJ) (pc nd y : Nat), A = B + 1 → 0 < B → IS Y Y' X mm Nn Lp nm pr ht F F' th t B pc (W + 1) N → F 2007 (40 * t + (B - 1)) = nd → vW (d + 8) 177 (33, [vr 1990, vi t, vi ((40 * t + (B - 1) : Nat) : Int), vi nd, vi (2 * (pc : Int)), vr 37, vu, vu, vu], [], (F, Y)) (vWC (d + 9) 195 367 3 [vr 1990, vi t, vi so, vi ((40 * t + B : Nat) : Int), vi ww, vi y, vi 0] [] (fun r => Q0 r (.inl (some (vi 1)), (F', Y'))))) → vW (d + 9) 195 (0, [vr 1990, vi t, vi so, vu, vu, vu, vu], [], (I, Y)) (fun r => vW D1 y1 F1 (fun r' => Q0 r r'))) :
    vW D1 y1 F1 (fun q => ∃ (s : Int) (M : vJ × vY), q = (.inl (some (vi s)), M) ∧ (s = 0 ∨ s = 1) ∧ vW D' 422 (2, [vr 2075, vi t, vi s, vi a9, vi x9, y5, y6], [], M) (fun r' => Q (.inl (some (vi so)), (I, Y)) r')) := by
  have m := main (fun r q => ∃ (s : Int) (M : vJ × vY), q = (.inl (some (vi s)), M) ∧ (s = 0 ∨ s = 1) ∧ vW D' 422 (2, [vr 2075, vi t, vi s, vi a9, vi x9, y5, y6], [], M) (fun r' => vWC (d + 10) 174 162 3 [vr 1990, vi t, vi a0, vi k0, vi so] [] (fun z => QQ z r') r)) (fun F F' hA => ?_) (fun B F F' pc nd y e1 e2 e3 e4 => ?_)
  · refine vWmo (Nat.le_refl _) (fun q hq => ?_) (vW_swap.mp m)
    obtain ⟨r, hr, s, M, q1, q2, q3⟩ := hq
    refine ⟨s, M, q1, q2, vWmo (Nat.le_refl _) (fun r' hc => hQ _ _ _ r6 ?_) q3⟩
    rw [b174_151, if_neg (by rw [w32_id (by omega) (by omega), w32_id (by decide) (by decide)]; omega), b174_158 hL]
    exact ⟨r, hr, hc⟩
  · refine ⟨0, (F', Y'), rfl, Or.inl rfl, ?_⟩
    rw [b422_2, if_pos (by decide), b422_121]
    simp only [vWC_s, Nat.reduceAdd]
    rw [b174_165, b174_151, if_pos rfl]
    exact hStay F F' hA
  · have g := hBack B F F' pc nd (fun r r' => vWC (d + 9) 195 367 3 [vr 1990, vi t, vi so, vi ((40 * t + B : Nat) : Int), vi ww, vi y, vi 0] [] (fun r2 => vWC (d + 10) 174 162 3 [vr 1990, vi t, vi a0, vi k0, vi so] [] (fun z => QQ z r') r2) r) (fun s J r' _ hz => ?_) e1 e2 e3 e4
    · refine vWmo (Nat.le_refl _) (fun r hr => ?_) g
      exact vWC_mo (fun r2 hr2 => ⟨1, (F', Y'), rfl, Or.inr rfl, hr2⟩) (vWC_out hr)
    · simp only [vWC_s, Nat.reduceAdd, b195_370]
      rw [b174_165]
      exact hz
/-- the innermost lock is left on a way: both houses -/
theorem lv_one {x y w kk : Nat} (hL : vL Y) (hL' : vL Y') (h : IFs Y Y' X mm Nn Lp nm pr ht I I' th t A W N) (hx : I 2007 (40 * t + (A - 1)) = x) (yN : y < Nn) (hkk : I 42 y = kk) (hlk : I 42 y + 1 = I 42 x)
    (hQ : ∀ J J', IL Y Y' X mm Nn Lp nm pr ht J J' th t A W N → fr [2017, 2018, 2019, 2022, 2023, 2024, 2025, 2026, 1996, 2005, 2004, 2000, 2012, 2013] [] I J → fr [2211, 2212, 2213, 2214, 2217, 2218, 2219, 2220, 2221, 2222, 2187, 2196, 2195, 2190, 2204] [] I' J' → (J 2012 (40 * t + (A - 1)) = J 42 y ∧ J' 2204 (40 * t + (A - 1)) = J 42 y ∧ ∀ j : Nat, (j : Int) < J 42 y → J 2013 ((40 * t + (A - 1)) * 12 + j) = J' 2210 (12 * (40 * t + (A - 1)) + j)) → vW (d + 5) 164 (80, [vr 1990, vi t, vi w, vi ((40 * t + (A - 1) : Nat) : Int), vi x, vi y, vu], [], (J, Y)) (fun r => Q r (.inl none, (J', Y')))) :
    vW (d + 5) 164 (28, [vr 1990, vi t, vi w, vi ((40 * t + (A - 1) : Nat) : Int), vi x, vi y, vu], [], (I, Y)) (fun r => vW (d' + 4) 440 (0, [vr 2075, vi (I' 2210 (12 * (40 * t + (A - 1)) + kk)), vu, vu], [], (up I' 2204 (40 * t + (A - 1)) kk, Y')) (fun r' => Q r r')) := by
  have hIL := IFs_IL h
  have h0 := h
  obtain ⟨s1, s2, s3, s4, ⟨s5, s6, s7, s8, s9, s10, s11⟩, s12, ⟨⟨r1, r2, r3, r4⟩, ⟨r5, r6⟩, r7, r8, r9⟩⟩ := h
  obtain ⟨hX, hX2, hV⟩ := s1.1
  have Nn7 := s1.2.1.2
  have xN : x < Nn := by have := (r8 (A - 1) (by omega)).2.1; omega
  have l42 := (s1.2.2.2.1 x xN).1
  have hlo := hIL.2
  unfold loA at hlo
  rw [hx, tn0] at hlo
  obtain ⟨a, ha⟩ : ∃ a : Nat, a = 40 * t + (A - 1) := ⟨_, rfl⟩
  rw [← ha] at hQ hlo ⊢
  have th8 := s2.1.1.2.2
  have ha2 : a < 320 := by omega
  have kk1 : I 2012 a = (kk : Int) + 1 := by omega
  have kk2 : I' 2204 a = (kk : Int) + 1 := by omega
  have kb : kk ≤ 10 := by omega
  have hZ := hIL.1.2.1.1
  have pp := LZ_pop (J := up I 2012 a kk) (J' := up I' 2204 a kk) hZ s5 r1 r3 (kk := kk) (by rw [← ha]; exact kk1) (fun x => by rw [← ha]; exact up_at _ _ _ _ _) (fr_upL (fr_refl _ _ _) rfl _ _) (fr_upL (fr_refl _ _ _) rfl _ _) (fun x hx => up_place _ _ (by omega) _)
  rw [← ha] at pp
  obtain ⟨pp1, pp2, pp3⟩ := pp
  obtain ⟨l, hl⟩ : ∃ l : Nat, I 2013 (a * 12 + kk) = l := ⟨(I 2013 (a * 12 + kk)).toNat, by omega⟩
  rw [hl] at pp1 pp2 pp3
  have hl2 : I' 2210 (12 * a + kk) = l := by
    rw [← hlo.2.1 kk (by omega)]; exact hl
  have z1 : (kk : Int) + 1 - 1 = kk := by omega
  rw [hl2]
  have hs : ∀ K : vE → Prop, vW (d + 5) 164 (28, [vr 1990, vi t, vi w, vi a, vi x, vi y, vu], [], (I, Y)) K ↔ vW (d + 4) 165 (0, [vr 1990, vi l, vu, vu], [], (up I 2012 a kk, Y)) (vWC (d + 5) 164 74 3 [vr 1990, vi t, vi w, vi a, vi x, vi y, vu] [] K) := by
    intro K
    have ix : (a : Int) * 12 + (kk : Int) = ((a * 12 + kk : Nat) : Int) := by omega
    rw [b164_28 hL (by omega) (by omega) (by omega) (by omega)]
    simp only [tn0, kk1, hkk]
    rw [if_neg (by rw [w32_id (by omega) (by omega), w32_id (by omega) (by omega)]; omega)]
    rw [b164_47 hL (by omega) (by omega) (by simp only [tn0, up_same, kk1]; omega) (by simp only [tn0, up_same, kk1]; omega)]
    simp only [tn0, up_same, kk1, z1, ix, hl]
  rw [hs]
  apply vW_out
  have hact : ∀ u, u < th → up I 2012 a (kk : Int) 1996 u = 1 → 1 ≤ up I 2012 a (kk : Int) 1995 u ∧ up I 2012 a (kk : Int) 1995 u ≤ 40 ∧ 0 ≤ up I 2012 a (kk : Int) 2012 (40 * u + up I 2012 a (kk : Int) 1995 u - 1).toNat ∧ up I 2012 a (kk : Int) 2012 (40 * u + up I 2012 a (kk : Int) 1995 u - 1).toNat < 12 := by
    intro u hu h1
    rw [up_cell _ (by decide)] at h1
    have ut : u ≠ t := by intro e; subst e; omega
    obtain ⟨Au, au1, au2, au3, au4⟩ := pp1.2.2.2 u hu
    have b1 := au3 (by rw [up_cell _ (by decide)]; exact h1)
    have b2 := (au2.1 (Au - 1) (by omega)).1
    have b3 := au1.1
    rw [up_cell _ (by decide)] at b3
    rw [up_cell _ (show 1995 ≠ 2012 by decide), b3]
    have e : (40 * (u : Int) + (Au : Int) - 1).toNat = 40 * u + (Au - 1) := by omega
    rw [e]
    omega
  have po := (pp1.2.2.2 t s5)
  obtain ⟨A2, b1, b2, b3, b4⟩ := po
  rw [if_pos rfl] at b2
  have own : up I 2012 a (kk : Int) 2017 l = t := by
    apply Classical.byContradiction
    intro z
    exact ((b2.2 l (by omega)).2 z).2 rfl
  have pos := (b2.2 l (by omega)).1 own
  rw [if_pos rfl] at pos
  have cnn := ca_nn (up I 2012 a (kk : Int) 2013) (up I 2012 a (kk : Int) 2012) l t A2
  refine l_lets (d := d) (d' := d') (I := up I 2012 a kk) (I' := up I' 2204 a kk) (l := l) (th := th) (N := N) hL hL' (by omega) pp1.1 pp1.2.1 pp1.2.2.1 ?_ ?_ (by omega) (by omega) hact (fun J J' j1 j2 j3 j4 => ?_)
  · rw [up_cell _ (by decide)]; exact s7
  · rw [up_cell _ (by decide)]; exact s8
  · have hZ2 := LZ_lets pp1 (by omega) s5 (by rw [up_cell _ (by decide)]; exact r5) j1 j2 j3 j4
    simp only [vWC_n, Nat.reduceAdd]
    obtain ⟨o1, o2, o3, o4⟩ := j4
    have F1 : fr [2017, 2018, 2019, 2022, 2023, 2024, 2025, 2026, 1996, 2005, 2004, 2000, 2012, 2013] [] I J := fr_trans (fr_upL (fr_refl _ _ _) rfl _ _) o1
    have F2 : fr [2211, 2212, 2213, 2214, 2217, 2218, 2219, 2220, 2221, 2222, 2187, 2196, 2195, 2190, 2204] [] I' J' := fr_trans (fr_upL (fr_refl _ _ _) rfl _ _) (fr_weak o2 (by decide) (by decide))
    have s2204 : J' 2204 = up I' 2204 a kk 2204 := fr_row o2 2204 (fun _ => rfl)
    have jt : J 1996 t = 0 ∧ J 2005 t = I 2005 t ∧ (∀ b, 40 * t ≤ b → b < 40 * t + 40 → J 2012 b = up I 2012 a kk 2012 b) ∧ ∀ p, 480 * t ≤ p → p < 480 * t + 480 → J 2013 p = I 2013 p := by
      rcases o3 with ⟨b1, b2, b3, b4, b5, b6, _, _, _, _, b7⟩ | ⟨v, av, k, v1, v2, v3, v4, v5, v6, v7, v8, v9, v10⟩
      · rw [b1, b2, b5, b6, up_cell _ (show 1996 ≠ 2012 by decide), up_cell _ (show 2005 ≠ 2012 by decide)]
        exact ⟨r5, rfl, fun b _ _ => rfl, fun p _ _ => up_cell _ (by decide) _ _ _⟩
      · have vt : v ≠ t := by
          intro e; subst e
          have := v2.1
          rw [up_cell _ (by decide)] at this
          omega
        obtain ⟨Au, au1, au2, au3, au4⟩ := pp1.2.2.2 v v1
        have c1 := au3 v2.1
        have c2 := au1.1
        have c3 : av = 40 * v + (Au - 1) := by omega
        have c4 := (au2.1 (Au - 1) (by omega)).1
        rw [← c3] at c4
        refine ⟨?_, ?_, fun b b1 b2 => ?_, fun p p1 p2 => ?_⟩
        · rw [v5.1, if_neg (fun e => vt e.symm), up_cell _ (by decide)]; exact r5
        · rw [v5.2.1, if_neg (fun e => vt e.symm), up_cell _ (by decide)]
        · rw [v6, if_neg (by omega)]
        · rw [v7, if_neg (by omega), up_cell _ (by decide)]
    have kw : wkd I J th t := by
      intro u hu ut
      rcases o3 with ⟨b1, b2, _⟩ | ⟨v, av, k, v1, v2, v3, v4, v5, _⟩
      · rw [b1, b2, up_cell _ (show 1996 ≠ 2012 by decide), up_cell _ (show 2005 ≠ 2012 by decide)]
        exact Or.inl ⟨rfl, rfl⟩
      · have v21 := v2.1
        rw [up_cell _ (show 1996 ≠ 2012 by decide)] at v21
        rw [v5.1, v5.2.1, up_cell _ (show 1996 ≠ 2012 by decide), up_cell _ (show 2005 ≠ 2012 by decide)]
        by_cases e : u = v
        · subst e
          rw [if_pos rfl, if_pos rfl]
          exact Or.inr ⟨Or.inl v21, rfl, rfl⟩
        · rw [if_neg e, if_neg e]; exact Or.inl ⟨rfl, rfl⟩
    have e := fr_row F1 42 (fun _ => rfl)
    have ja : J 2012 a = kk := by rw [jt.2.2.1 a (by omega) (by omega), up_same]
    have jb : J' 2204 a = kk := by rw [s2204, up_same]
    rw [b164_77, b164_28 hL (by omega) (by omega) (by omega) (by omega), tn0, tn0, ja, e, hkk, if_pos (Int.le_refl _)]
    refine hQ J J' (IL_leave h0 hZ2 F1 F2 jt.1 jt.2.1 (fun b b1 b2 b3 => by rw [← ha] at b3; rw [jt.2.2.1 b b1 b2, up_place _ _ b3]) jt.2.2.2 (fun b b1 => by rw [← ha] at b1; rw [s2204, up_place _ _ b1]) kw) F1 F2 ⟨by rw [e, hkk]; exact ja, by rw [e, hkk]; exact jb, fun j hj => ?_⟩
    rw [e, hkk] at hj
    rw [jt.2.2.2 _ (by omega) (by omega), fr_row F2 2210 (fun _ => rfl)]
    exact hlo.2.1 j (by omega)
theorem mv_unl {x w : Nat} (hL : vL Y) (hL' : vL Y') (h : IFs Y Y' X mm Nn Lp nm pr ht I I' th t A W N) (hx : I 2007 (40 * t + (A - 1)) = x) (hTop : I 1994 t = I 2009 (40 * t + (A - 1)) + nm (I 2006 (40 * t + (A - 1))).toNat) (kk : I 38 x = 13) (hw : (w : Int) = I 48 x)
    (hStay : ∀ J J', AS Y Y' X mm Nn Lp nm pr ht J J' th (W + 1) N → Q (.inl (some (vi 9)), (J, Y)) (.inl (some (vi 0)), (J', Y')))
    (hBack : ∀ (B : Nat) (F F' : vJ) (pc nd y : Nat), A = B + 1 → 0 < B → IS Y Y' X mm Nn Lp nm pr ht F F' th t B pc (W + 1) N → F 2007 (40 * t + (B - 1)) = nd → vW (d + 8) 177 (33, [vr 1990, vi t, vi ((40 * t + (B - 1) : Nat) : Int), vi nd, vi (2 * (pc : Int)), vr 37, vu, vu, vu], [], (F, Y)) (vWC (d + 9) 195 367 3 [vr 1990, vi t, vi 0, vi ((40 * t + B : Nat) : Int), vi w, vi y, vi 0] [] (fun r => Q r (.inl (some (vi 1)), (F', Y'))))) :
    vW (d + 9) 195 (0, [vr 1990, vi t, vi 0, vu, vu, vu, vu], [], (I, Y)) (fun r => vW (d' + 10) 443 (271, [vr 2075, vi t, vi ((40 * t + (A - 1) : Nat) : Int), vi x, vi w, vu, vu], [], (I', Y')) (fun r' => Q r r')) := by
  have h0 := h
  have hlo := (IFs_IL h).2
  unfold loA at hlo
  rw [hx, tn0] at hlo
  obtain ⟨s1, s2, s3, s4, ⟨s5, s6, s7, s8, s9, s10, s11⟩, s12, ⟨⟨r1, r2, r3, r4⟩, ⟨r5, r6⟩, r7, r8, r9⟩⟩ := h
  have th8 := s2.1.1.2.2
  have h8 : t < 8 := by omega
  obtain ⟨hX, hX2, hV⟩ := s1.1
  have Nn7 := s1.2.1.2
  have xN : x < Nn := by have := (r8 (A - 1) (by omega)).2.1; omega
  have nf := s1.2.2.2.2.1 x xN
  have wm : I' (X + 21) x = wkN (I 38 x) := nf.2.1.2.2
  obtain ⟨w', y, m, o, p, w1, w2, w3, w4, w5, w6, w7, w8, w9, w10, w11, w12, w13⟩ := s1.2.2.2.2.2.1 x 0 xN (by rw [wm, kk]; decide)
  have ew : w' = w := by clear w4 w5 w6 w7 w8 w9 w10 w11 w12 w13 hlo; omega
  subst ew
  have w52 : I 52 w' = 0 := by rw [w3, kk]; decide
  have ky := w5 (by rw [w52]; decide)
  have y42 : I 38 y = 1 → I 42 y = 0 := fun q => w6.2 (Or.inl q)
  have k0y : I 38 y ≠ 0 := w6.1
  have hlk : I 42 y + 1 = I 42 x := w10 kk
  clear w4 w5 w6 w7 w8 w9 w10 w11 w12 w13
  have wb := w2.1.1.1
  have we := w2.1.2.1.1
  have wf := w2.1.2.1.2.1
  have wy := w2.1.2.2.2.2.2.1
  have yN := w2.2.1.2.1
  have l42 := (s1.2.2.2.1 y yN).1
  obtain ⟨q, hq⟩ : ∃ q : Nat, I 42 y = q := ⟨(I 42 y).toNat, by omega⟩
  have a3 : 40 * t + (A - 1) < 320 := by omega
  rw [show w' = w' + 0 from rfl] at we wf w52
  have cw := fun K => c_way (d := d) (K := K) (x := x) (y := y) (w0 := w') (j := 0) (B := A - 1) hL h8 (by rw [r1]; omega) (by omega) hx (by omega) hw.symm (by omega) (fun _ q => absurd q (by omega)) w52 wf we (by omega) ky.1 wy.2
  rw [Nat.add_zero] at cw we wf w52
  rw [cw]
  have e04 : I' 2204 (40 * t + (A - 1)) - 1 = (q : Int) := by rw [hlo.1]; omega
  have l42x := (s1.2.2.2.1 x xN).1
  have m440 : ∀ K : vE → Prop, vW (d' + 10) 443 (271, [vr 2075, vi t, vi ((40 * t + (A - 1) : Nat) : Int), vi x, vi w', vu, vu], [], (I', Y')) K ↔ vW (d' + 9) 440 (0, [vr 2075, vi (I' 2210 (12 * (40 * t + (A - 1)) + q)), vu, vu], [], (up I' 2204 (40 * t + (A - 1)) q, Y')) (vWC (d' + 10) 443 298 3 [vr 2075, vi t, vi ((40 * t + (A - 1) : Nat) : Int), vi x, vi w', vu, vu] [] K) := fun K => by
    have ix : 12 * ((40 * t + (A - 1) : Nat) : Int) + (q : Int) = ((12 * (40 * t + (A - 1)) + q : Nat) : Int) := by omega
    rw [b443_271 hL' (by omega) (by omega) (by simp only [tn0, up_same, e04]; omega) (by simp only [tn0, up_same, e04]; omega)]
    simp only [tn0, up_same, e04, ix]
  simp only [m440]
  apply vW_out
  refine lv_one (d := d + 3) (d' := d' + 5) (x := x) (y := y) (w := w') (kk := q) (Q := fun q r' => vWC (d + 9) 195 144 3 [vr 1990, vi t, vi 0, vi ((40 * t + (A - 1) : Nat) : Int), vi w', vi y, vu] [] (fun r => vWC (d' + 10) 443 298 3 [vr 2075, vi t, vi ((40 * t + (A - 1) : Nat) : Int), vi x, vi w', vu, vu] [] (fun r' => Q r r') r') q) hL hL' h0 hx yN hq hlk (fun J J' hJ f1 f2 hl => ?_)
  clear cw hlk hlo
  simp only [vWC_n, Nat.reduceAdd]
  have aT := agT_fr f1 f2 rfl
  have hwF := wF_ag w2 hX2 aT
  have m417 : ∀ K : vE → Prop, vW (d' + 10) 443 (301, [vr 2075, vi t, vi ((40 * t + (A - 1) : Nat) : Int), vi x, vi w', vu, vu], [], (J', Y')) K ↔ vW (d' + 9) 417 (0, [vr 2075, vi ((40 * t + (A - 1) : Nat) : Int), vi w'], [], (J', Y')) (vWC (d' + 10) 443 305 3 [vr 2075, vi t, vi ((40 * t + (A - 1) : Nat) : Int), vi x, vi w', vu, vu] [] K) := fun K => b443_301 hL'
  simp only [m417]
  have e38 := fr_row f1 38 (fun _ => rfl)
  have e42 := fr_row f1 42 (fun _ => rfl)
  refine mv_wgo (m := m) (o := o) (p := p) (Q := fun r q => vWC (d' + 10) 443 305 3 [vr 2075, vi t, vi ((40 * t + (A - 1) : Nat) : Int), vi x, vi w', vu, vu] [] (fun r' => Q r r') q) hL hL' hJ (by rw [f1 2007 _ rfl]; exact hx) (by rw [f1 1994 _ rfl, f1 2009 _ rfl, f1 2006 _ rfl]; exact hTop) hwF (by rw [e38, kk]; decide) (by rw [e38]; exact ⟨ky.2, k0y⟩) hl (by rw [e38, e42]; exact y42) (fun F F' hA => ?_) (fun B F F' pc nd y2 e1 e2 e3 e4 => ?_)
  · simp only [vWC_s, Nat.reduceAdd]
    rw [b443_308 (Or.inl rfl)]
    exact hStay F F' hA
  · refine vWmo (Nat.le_refl _) (fun q hq => vWC_mo (fun r hr => ?_) hq) (hBack B F F' pc nd y2 e1 e2 e3 e4)
    simp only [vWC_s, Nat.reduceAdd]
    rw [b443_308 (Or.inr rfl)]
    exact hr
theorem unl_go {x w D' : Nat} {a0 k0 : Int} {y5 y6 : vV} (hL : vL Y) (hL' : vL Y') (h : IFs Y Y' X mm Nn Lp nm pr ht I I' th t A W N) (hx : I 2007 (40 * t + (A - 1)) = x) (hTop : I 1994 t = I 2009 (40 * t + (A - 1)) + nm (I 2006 (40 * t + (A - 1))).toNat) (kk : I 38 x = 13) (hw : (w : Int) = I 48 x) (hQ : bk d Y t a0 k0 QQ Q)
    (hStay : ∀ F F', AS Y Y' X mm Nn Lp nm pr ht F F' th (W + 1) N → vW (d + 10) 174 (170, [vr 1990, vi t, vi a0, vi k0, vi 9], [], (F, Y)) (fun z => QQ z (.inl none, (F', Y'))))
    (hBack : ∀ (B : Nat) (F F' : vJ) (pc nd : Nat) (Q2 : vE → vE → Prop), bk d Y t a0 k0 QQ Q2 → A = B + 1 → 0 < B → IS Y Y' X mm Nn Lp nm pr ht F F' th t B pc (W + 1) N → F 2007 (40 * t + (B - 1)) = nd → vW (d + 8) 177 (33, [vr 1990, vi t, vi ((40 * t + (B - 1) : Nat) : Int), vi nd, vi (2 * (pc : Int)), vr 37, vu, vu, vu], [], (F, Y)) (fun r => vW D' 422 (2, [vr 2075, vi t, vi 1, vi ((40 * t + (A - 1) : Nat) : Int), vi x, y5, y6], [], (F', Y')) (fun r' => Q2 r r'))) :
    onp (d' + 10) D' Y Y' t (40 * t + (A - 1)) x w 271 y5 y6 0 I I' Q :=
  go_gen (ww := w) hL h.2.2.2.2.2.2.2.1.2 (by decide) hQ hStay hBack (fun Q0 a b => mv_unl (d := d) (d' := d') hL hL' h hx hTop kk hw a b)
theorem e_unlock {nd w : Nat} {x6 x7 x8 y3 y4 y5 y6 : vV} (hL : vL Y) (hL' : vL Y') (h : IS Y Y' X mm Nn Lp nm pr ht I I' th t A i W N) (hi : ¬ (i : Int) < I' (X + 12) (I 2007 (40 * t + (A - 1))).toNat) (hnd : I 2007 (40 * t + (A - 1)) = nd) (hw : I 48 nd = w) (hk : I 38 nd = 13)
    (hOn : ∀ (J J' : vJ), IFs Y Y' X mm Nn Lp nm pr ht J J' th t A W N → J 2007 (40 * t + (A - 1)) = nd → J 38 = I 38 → J 48 = I 48 → J 1994 t = J 2009 (40 * t + (A - 1)) + nm (J 2006 (40 * t + (A - 1))).toNat → onp (d' + 10) (d' + 11) Y Y' t (40 * t + (A - 1)) nd w 271 y5 y6 0 J J' Q) :
    vW (d + 9) 177 (33, [vr 1990, vi t, vi ((40 * t + (A - 1) : Nat) : Int), vi nd, vi (2 * (i : Int)), vr 37, x6, x7, x8], [], (I, Y)) (fun r => vW (d' + 11) 422 (2, [vr 2075, vi t, vi 1, y3, y4, y5, y6], [], (I', Y')) (fun r' => Q r r')) := by
  obtain ⟨nd', B, T, w', ⟨a1, a2, a3, a4⟩, ⟨b1, b2, b3, b3'⟩, ⟨b4, b5, b6⟩, ⟨c1, c2, c3⟩, ⟨c4, c5⟩, c6, ⟨c7, c8, c9, c10, c11, c12⟩, ⟨v1, v2⟩, ⟨p1, p2, p3⟩⟩ := IS_end h hi
  have e0 : nd' = nd := by omega
  subst e0
  have e1 : w' = w := by omega
  subst e1
  obtain ⟨hX, hX2, hV⟩ := h.1.1
  have hv1 : wkV (I 38 nd') = 0 := by rw [hk]; decide
  rw [c6, hv1] at p3 c9
  have hI : IFs Y Y' X mm Nn Lp nm pr ht I I' th t A W N := IS_fail h (fr_refl _ _ _) (fun b _ => ⟨rfl, rfl⟩)
  have hm : ∀ K : vE → Prop, vW (d' + 11) 422 (2, [vr 2075, vi t, vi 1, y3, y4, y5, y6], [], (I', Y')) K ↔ vW (d' + 10) 443 (0, [vr 2075, vi t, vi ((40 * t + (A - 1) : Nat) : Int), vi nd', vu, vu, vu], [], (I', Y')) (vWC (d' + 11) 422 114 3 [vr 2075, vi t, vi 1, vi ((40 * t + (A - 1) : Nat) : Int), vi nd', y5, y6] [] K) := fun K => t_end (X := X) hL' hX hV a1 rfl a4 p1 b2 b3 b5 b6 p2
  have m443 : ∀ K : vE → Prop, vW (d' + 10) 443 (0, [vr 2075, vi t, vi ((40 * t + (A - 1) : Nat) : Int), vi nd', vu, vu, vu], [], (I', Y')) K ↔ vW (d' + 10) 443 (271, [vr 2075, vi t, vi ((40 * t + (A - 1) : Nat) : Int), vi nd', vi w', vu, vu], [], (I', Y')) K := by
    intro K
    rw [b443_0 hL' hV (by omega) (by omega), hX, tn0, c1, c5, hk, show w32 13 = 13 from w32_id (by decide) (by decide)]
    simp only [Int.reduceEq, if_true, if_false]
  rw [c_end hL b3 b4 b6, b187_0 hL (by omega) (by omega) (by omega) (by omega)]
  simp only [hm, m443, tn0]
  rw [hk, show w32 13 = 13 from w32_id (by decide) (by decide)]
  simp only [Int.reduceEq, if_true, if_false]
  rw [b187_438]
  simp only [vWC_s, Nat.reduceAdd, b177_370]
  refine vWmo (Nat.le_refl _) (fun q hq => ?_) (hOn I I' hI b1 rfl rfl (by omega))
  obtain ⟨s, ⟨M1, M2⟩, q1, q2, q3⟩ := hq
  rw [q1]
  simp only [vWC_s, Nat.reduceAdd]
  rw [b422_117, b422_118]
  exact q3
end
