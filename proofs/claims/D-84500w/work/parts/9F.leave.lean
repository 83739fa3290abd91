/-! ===== locks are left, then a way is gone ===== -/
set_option maxRecDepth 20000
set_option maxHeartbeats 4000000
theorem IL_leave {Y Y' : vY} {X mm Nn Lp : Nat} {nm pr ht : Nat → Nat} {I I' J J' : vJ} {th t A W N : Nat} (h : IFs Y Y' X mm Nn Lp nm pr ht I I' th t A W N) (hZ : LZ J J' th t (-1)) (F1 : fr [2017, 2018, 2019, 2022, 2023, 2024, 2025, 2026, 1996, 2005, 2004, 2000, 2012, 2013] [] I J) (F2 : fr [2211, 2212, 2213, 2214, 2217, 2218, 2219, 2220, 2221, 2222, 2187, 2196, 2195, 2190, 2204] [] I' J') (j0 : J 1996 t = 0) (j5 : J 2005 t = I 2005 t) (k1 : ∀ b, 40 * t ≤ b → b < 40 * t + 40 → b ≠ 40 * t + (A - 1) → J 2012 b = I 2012 b) (k2 : ∀ p, 480 * t ≤ p → p < 480 * t + 480 → J 2013 p = I 2013 p) (k3 : ∀ b, b ≠ 40 * t + (A - 1) → J' 2204 b = I' 2204 b) (wk : wkd I J th t) : IL Y Y' X mm Nn Lp nm pr ht J J' th t A W N := by
  have lo := (IFs_IL h).1.2.1.2
  obtain ⟨s1, s2, s3, s4, ⟨s5, s6, s7, s8, s9, s10, s11⟩, s12, ⟨⟨r1, r2, r3, r4⟩, ⟨r5, r6⟩, r7, r8, r9⟩⟩ := h
  have g := agT_fr F1 F2 rfl
  have hX := s1.1.2.1
  have th8 := s2.1.1.2.2
  have gS : agS I I' J J' X := ⟨g.1 38 (by decide) (by decide), g.1 43 (by decide) (by decide), g.1 62 (by decide) (by decide), g.2.2.1 (X + 11) (by omega) (by omega), g.2.2.1 (X + 12) (by omega) (by omega), g.2.2.1 (X + 37) (by omega) (by omega), g.2.2.1 2178 (by decide) (by decide), g.2.2.1 2179 (by decide) (by decide), by rw [F1 1960 _ rfl]; exact Int.le_refl _⟩
  have arr : J 1990 3376 = I 1990 3376 := F1 1990 _ rfl
  have hPT : PT Lp J J' := by
    obtain ⟨q1, q2, q3, q4, q5, q6, q7, q8, q9, q10, q11, q12, q13, q14, q15, q16, q17, q18, q19, q20⟩ := s3
    have hD : pDone J J' := fun u hu => by
      have a := q15 u hu
      rw [F1 2001 _ rfl, F1 2003 _ rfl, F2 2191 _ rfl, F2 2192 _ rfl, F1 1990 _ rfl]
      refine ⟨a.1, a.2.1, fun b c => a.2.2 b ?_⟩
      have ut : (u : Int) < th := by
        have e : I 1990 3390 = th := s2.1.1.1
        omega
      by_cases z : u = t
      · rw [z, r5]; decide
      · rcases wk u (by omega) z with w | w
        · rw [← w.1]; exact c
        · rcases w.1 with w | w <;> rw [w] <;> decide
    exact ⟨su_keep su_tR F1 F2 rfl q1, su_keep su_pPath F1 F2 rfl q2, su_keep su_loR F1 F2 rfl q3, su_keep su_pArr F1 F2 rfl q4, su_keep su_pStep F1 F2 rfl q5, su_keep su_pKeep F1 F2 rfl q6, su_keep su_pCost F1 F2 rfl q7, su_keep su_pCalls F1 F2 rfl q8, su_keep su_pMet F1 F2 rfl q9, su_keep su_pPrint F1 F2 rfl q10, su_keep su_pBegun F1 F2 rfl q11, su_keep su_pLooks F1 F2 rfl q12, su_keep su_pPar F1 F2 rfl q13, su_keep su_pThr F1 F2 rfl q14, hD, su_keep su_pLast F1 F2 rfl q16, su_keep su_pFor F1 F2 rfl q17, su_keep su_pTurns F1 F2 rfl q18, su_keep su_pSeed F1 F2 rfl q19, su_keep su_pVars F1 F2 rfl q20⟩
  refine ⟨ST_ag s1 g, ⟨hZ, fun k hk => ?_⟩, hPT, ?_, ⟨s5, by rw [fr_row F1 1995 (fun _ => rfl), F1 1990 3393 rfl, F1 1960 3100 rfl]; exact s6, by rw [F1 1990 _ rfl]; exact s7, by rw [F2 2075 _ rfl]; exact s8, s9, s10, by rw [F2 2075 _ rfl]; exact s11⟩, fun u hu ut => ?_, ⟨⟨by rw [F1 1995 _ rfl]; exact r1, by rw [F2 2186 _ rfl]; exact r2, r3, r4⟩, ⟨j0, by rw [j5]; exact r6⟩, ?_, fun k hk => ?_, fun k hk => ?_⟩⟩
  · obtain ⟨l1, l2, l3⟩ := lo k hk
    have nb := (r8 k (by omega)).2.1
    have l42 := (s1.2.2.2.1 (I 2007 (40 * t + k)).toNat (by omega)).1
    unfold loA
    rw [k3 _ (by omega), fr_row F1 42 (fun _ => rfl), F1 2007 _ rfl, fr_row F2 2210 (fun _ => rfl), k1 _ (by omega) (by omega) (by omega)]
    exact ⟨l1, fun j hj => by rw [k2 _ (by omega) (by omega)]; exact l2 j hj, l3⟩
  · obtain ⟨⟨n, b1, b2⟩, b3, b4⟩ := s4
    have x1 := fr_row F2 2255 (fun _ => rfl)
    have x2 := fr_row F2 2256 (fun _ => rfl)
    refine ⟨⟨n, hR_same b1 (F1 1960 _ rfl) (fr_row F1 1979 (fun _ => rfl)) (fr_row F1 1980 (fun _ => rfl)) (fr_row F1 1981 (fun _ => rfl)) (F2 2075 _ rfl) x1 x2 (fr_row F2 2257 (fun _ => rfl)) (fr_row F2 2258 (fun _ => rfl)), by rw [x1, x2]; exact b2⟩, by rw [F1 1990 _ rfl]; omega, ⟨fun j hj => ?_, tot_le b4.2 (fr_row F1 35 (fun _ => rfl)) (fr_row F2 2183 (fun _ => rfl)) (F1 1990 _ rfl)⟩⟩
    rw [F1 2014 j rfl, F1 1990 _ rfl]; exact b4.1 j hj
  · rw [arr]
    have va : agV I I' J J' u := agV_of ut (fun _ _ => ⟨F1 1992 _ rfl, F1 1993 _ rfl⟩) (fun v hv => F1 1994 _ rfl) (fun b hb => ⟨F1 2009 _ rfl, F1 2006 _ rfl, F2 2200 _ rfl⟩) (fun q _ => F2 2205 _ rfl) (fun q _ => F2 2206 _ rfl)
    have aa : agA I I' J J' u := ⟨⟨F1 1995 _ rfl, F2 2186 _ rfl⟩, fun k hk => ⟨F1 2006 _ rfl, F1 2007 _ rfl, F1 2008 _ rfl, F1 2010 _ rfl, F1 2011 _ rfl, F2 2197 _ rfl, F2 2198 _ rfl, F2 2199 _ rfl, F2 2201 _ rfl, F2 2202 _ rfl, F2 2203 _ rfl⟩⟩
    rcases wk u hu ut with w | w
    · exact reR_ag (s12 u hu ut) (Int.le_refl _) gS va aa w.1 (F1 1997 _ rfl) w.2
    · exact reR_wake (s12 u hu ut) gS va aa w.1 w.2.1 (F1 1997 _ rfl) w.2.2
  · rw [arr, F1 2009 _ rfl, F1 2006 _ rfl]
    refine thV_ag r7 r4 ⟨fun p _ _ => ?_, ?_, fun k _ => ?_, fun k j _ _ => ?_, fun k j _ _ => ?_⟩
    · rw [up_cell _ (by decide), up_cell _ (by decide), up_cell _ (by decide), up_cell _ (by decide), F1 1992 _ rfl, F1 1993 _ rfl]; exact ⟨rfl, rfl⟩
    · rw [up_same, up_same]
    · rw [up_cell _ (by decide), up_cell _ (by decide), up_cell _ (by decide), up_cell _ (by decide), F1 2009 _ rfl, F1 2006 _ rfl, up_at, up_at, F2 2200 _ rfl]; exact ⟨rfl, rfl, rfl⟩
    · rw [up_cell _ (by decide), up_cell _ (by decide)]; exact F2 2205 _ rfl
    · rw [up_cell _ (by decide), up_cell _ (by decide)]; exact F2 2206 _ rfl
  · have q := r8 k hk
    unfold acR at *
    rw [F1 2006 _ rfl, F1 2007 _ rfl, F1 2010 _ rfl, F1 2011 _ rfl, F1 1960 _ rfl, gS.1, gS.2.2.1, F2 2197 _ rfl, F2 2198 _ rfl, F2 2201 _ rfl, F2 2202 _ rfl, F2 2203 _ rfl, gS.2.2.2.2.2.1, gS.2.2.2.2.2.2.1, gS.2.2.2.2.2.2.2.1]
    exact q
  · have q := r9 k hk
    unfold coR at *
    rw [F1 2007 _ rfl, F1 2008 _ rfl, F2 2199 _ rfl, F2 2200 _ rfl, gS.2.2.2.1, gS.2.2.2.2.1]
    exact q
section
variable {d d' : Nat} {Y Y' : vY} {X mm Nn Lp : Nat} {nm pr ht : Nat → Nat} {I I' : vJ} {th t A W N : Nat} {Q : vE → vE → Prop}
/-- the house finds the way that its works asked for, up to the locks -/
theorem c_way {K : vE → Prop} {x y w0 j B : Nat} {so : Int} (hL : vL Y) (h8 : t < 8) (hA : I 1995 t = (B : Int) + 1) (hA2 : B < 40) (hx : I 2007 (40 * t + B) = x) (xb : x < 700) (hw0 : I 48 x = w0) (wb : w0 + j < 2100) (hs : ∀ j', j' < j → w32 (I 52 (w0 + j')) ≠ w32 (I 52 (w0 + j))) (h52 : I 52 (w0 + j) = so) (h51 : I 51 (w0 + j) = y) (h50 : I 50 (w0 + j) = x) (yb : y < 700) (k11 : I 38 y ≠ 11) (kr : 0 ≤ I 38 y ∧ I 38 y ≤ 16) : vW (d + 9) 195 (0, [vr 1990, vi t, vi so, vu, vu, vu, vu], [], (I, Y)) K ↔ vW (d + 8) 164 (28, [vr 1990, vi t, vi ((w0 + j : Nat) : Int), vi ((40 * t + B : Nat) : Int), vi x, vi y, vu], [], (I, Y)) (vWC (d + 9) 195 144 3 [vr 1990, vi t, vi so, vi ((40 * t + B : Nat) : Int), vi ((w0 + j : Nat) : Int), vi y, vu] [] K) := by
  rw [b195_0 hL, c_act (A := B) hL h8 hA]
  simp only [vWC_s, Nat.reduceAdd]
  rw [b195_5 hL (by omega) (by omega) (by rw [tn0, hx]; omega) (by rw [tn0, hx]; omega), tn0, hx, tn0, hw0]
  have cf := c_find (d := d + 9) (I := I) (t := t) (K := K) (a := 40 * t + B) (s := j) (w := w0) (x := x) hL hw0 (by omega) hs j 0 (by omega)
  rw [h52] at cf
  rw [show ((w0 + 0 : Nat) : Int) = (w0 : Int) from rfl] at cf
  rw [cf, h51, b195_54 hL (by omega) (by omega), tn0, if_pos (by rw [w32_id (by omega) (by omega), w32_id (by omega) (by omega)]; exact k11), b195_140 hL, b164_0 hL, c_act (A := B) hL h8 hA]
  simp only [vWC_s, Nat.reduceAdd]
  rw [b164_5 hL (by omega) (by omega)]
  simp only [tn0, h50, h51]
/-- locks are left on a way: both houses -/
theorem lv_go {x y w : Nat} (hL : vL Y) (hL' : vL Y') (h : IFs Y Y' X mm Nn Lp nm pr ht I I' th t A W N) (hx : I 2007 (40 * t + (A - 1)) = x) (yN : y < Nn) (hlk : I 42 y ≤ I 42 x ∧ lkA (I' (X + 16)) (I 42 x - I 42 y).toNat x y)
    (hQ : ∀ J J', IL Y Y' X mm Nn Lp nm pr ht J J' th t A W N → fr [2017, 2018, 2019, 2022, 2023, 2024, 2025, 2026, 1996, 2005, 2004, 2000, 2012, 2013] [] I J → fr [2211, 2212, 2213, 2214, 2217, 2218, 2219, 2220, 2221, 2222, 2187, 2196, 2195, 2190, 2204] [] I' J' → (J 2012 (40 * t + (A - 1)) = J 42 y ∧ J' 2204 (40 * t + (A - 1)) = J 42 y ∧ ∀ j : Nat, (j : Int) < J 42 y → J 2013 ((40 * t + (A - 1)) * 12 + j) = J' 2210 (12 * (40 * t + (A - 1)) + j)) → vW (d + 5) 164 (80, [vr 1990, vi t, vi w, vi ((40 * t + (A - 1) : Nat) : Int), vi x, vi y, vu], [], (J, Y)) (fun r => Q r (.inl none, (J', Y')))) :
    vW (d + 5) 164 (28, [vr 1990, vi t, vi w, vi ((40 * t + (A - 1) : Nat) : Int), vi x, vi y, vu], [], (I, Y)) (fun r => vW (d' + 5) 438 (0, [vr 2075, vi ((40 * t + (A - 1) : Nat) : Int), vi x, vi y, vu], [], (I', Y')) (fun r' => Q r r')) := by
  have hIL := IFs_IL h
  have h0 := h
  obtain ⟨s1, s2, s3, s4, ⟨s5, s6, s7, s8, s9, s10, s11⟩, s12, ⟨⟨r1, r2, r3, r4⟩, ⟨r5, r6⟩, r7, r8, r9⟩⟩ := h
  obtain ⟨hX, hX2, hV⟩ := s1.1
  have Nn7 := s1.2.1.2
  have xN : x < Nn := by have := (r8 (A - 1) (by omega)).2.1; omega
  have l42 := (s1.2.2.2.1 x xN).1
  have y42 := (s1.2.2.2.1 y yN).1
  have hlo := hIL.2
  unfold loA at hlo
  rw [hx, tn0] at hlo
  have hm : ∀ K : vE → Prop, vW (d' + 5) 438 (0, [vr 2075, vi ((40 * t + (A - 1) : Nat) : Int), vi x, vi y, vu], [], (I', Y')) K ↔ vW (d' + 5) 438 (11, [vr 2075, vi ((40 * t + (A - 1) : Nat) : Int), vi x, vi y, vi (I' (X + 16) x)], [], (I', Y')) K := fun K => by
    rw [b438_0 hL' hV (by omega) (by omega), hX, tn0]
  simp only [hm]
  have e42 : ((I 42 x - I 42 y).toNat : Int) + I 42 y = I 42 x := by have := hlk.1; omega
  refine l_leave (Nn := Nn) (th := th) (t := t) (a := 40 * t + (A - 1)) (w := w) (x := x) (y := y) (A := A) (N := N) (I0 := I) (I0' := I') hL hL' hX hX2 hV Nn7 s1.2.2.2.1 yN s5 r1 r3 r4 rfl s7 s8 (fun J J' z1 f1 f2 z2 z3 z4 z5 z6 z7 z8 z9 => ?_) (I 42 x - I 42 y).toNat x I I' xN e42.symm hlk.2 hIL.1.2.1.1 (fr_refl _ _ _) (fr_refl _ _ _) r5 (fun _ _ _ _ => rfl) (fun _ _ _ => rfl) (fun _ _ => rfl) (by rw [e42, hlo.2.2, hlo.1]) (by rw [e42, hlo.1]) (fun j hj => hlo.2.1 j (by rw [hlo.1]; omega)) rfl (fun u _ _ => Or.inl ⟨rfl, rfl⟩)
  have e := fr_row f1 42 (fun _ => rfl)
  refine hQ J J' (IL_leave h0 z1 f1 f2 z2 z8 z3 z4 z5 z9) f1 f2 ⟨by rw [e]; exact z6, by rw [e]; exact z7, fun j hj => ?_⟩
  rw [e] at hj
  rw [z4 _ (by omega) (by omega), fr_row f2 2210 (fun _ => rfl)]
  exact hlo.2.1 j (by rw [hlo.1]; have := hlk.1; omega)
/-- a way whose locks are left or taken, with what comes behind it -/
theorem mv_wgo {x w y m o : Nat} {p so : Int} (hL : vL Y) (hL' : vL Y') (h : IL Y Y' X mm Nn Lp nm pr ht I I' th t A W N) (hx : I 2007 (40 * t + (A - 1)) = x) (hTop : I 1994 t = I 2009 (40 * t + (A - 1)) + nm (I 2006 (40 * t + (A - 1))).toNat) (hwF : wF I I' Y Y' X mm Nn w x y m o p) (kx : I 38 x ≠ 9) (k2y : I 38 y ≠ 2 ∧ I 38 y ≠ 0) (hl : I 2012 (40 * t + (A - 1)) = I 42 y ∧ I' 2204 (40 * t + (A - 1)) = I 42 y ∧ ∀ j : Nat, (j : Int) < I 42 y → I 2013 ((40 * t + (A - 1)) * 12 + j) = I' 2210 (12 * (40 * t + (A - 1)) + j)) (y42 : I 38 y = 1 → I 42 y = 0)
    (hStay : ∀ J J', AS Y Y' X mm Nn Lp nm pr ht J J' th (W + 1) N → Q (.inl (some (vi 9)), (J, Y)) (.inl (some (vi 0)), (J', Y')))
    (hBack : ∀ (B : Nat) (F F' : vJ) (pc nd y : Nat), A = B + 1 → 0 < B → IS Y Y' X mm Nn Lp nm pr ht F F' th t B pc (W + 1) N → F 2007 (40 * t + (B - 1)) = nd → vW (d + 8) 177 (33, [vr 1990, vi t, vi ((40 * t + (B - 1) : Nat) : Int), vi nd, vi (2 * (pc : Int)), vr 37, vu, vu, vu], [], (F, Y)) (vWC (d + 9) 195 367 3 [vr 1990, vi t, vi so, vi ((40 * t + B : Nat) : Int), vi w, vi y, vi 0] [] (fun r => Q r (.inl (some (vi 1)), (F', Y'))))) :
    vW (d + 8) 164 (80, [vr 1990, vi t, vi w, vi ((40 * t + (A - 1) : Nat) : Int), vi x, vi y, vu], [], (I, Y)) (vWC (d + 9) 195 144 3 [vr 1990, vi t, vi so, vi ((40 * t + (A - 1) : Nat) : Int), vi w, vi y, vu] [] (fun r => vW (d' + 9) 417 (0, [vr 2075, vi ((40 * t + (A - 1) : Nat) : Int), vi w], [], (I', Y')) (fun r' => Q r r'))) := by
  have xN := hwF.2.1.1
  refine mv_w (x := x) (m := m) (o := o) (p := p) hL hL' h hx hTop hwF k2y hl y42 hStay (fun J J' k1 k2 k3 k4 k5 k6 k7 k8 k9 => ?_)
  have r3 := h.2.2.2.2.2.2.1.2.2.1
  cases A with
  | zero => omega
  | succ B =>
    rw [Nat.add_sub_cancel] at *
    cases B with
    | zero => exact mv_end0 (x := x) hL hL' h k1 k2 k3 k4 k5 k6 k7 k8 xN kx k9 hStay
    | succ B => exact mv_end1 (x := x) hL hL' h (by omega) k1 k2 k3 k4 k5 k6 k7 k8 xN kx k9 (fun F F' pc nd a b => hBack (B + 1) F F' pc nd y rfl (by omega) a b)
end
