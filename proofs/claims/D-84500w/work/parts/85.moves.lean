/-! ===== a way on, in both houses: moves beside onward ===== -/
set_option maxRecDepth 20000
set_option maxHeartbeats 4000000
section
variable {d d' : Nat} {Y Y' : vY} {X mm Nn Lp : Nat} {nm pr ht : Nat → Nat} {I I' : vJ} {th t A W N : Nat} {Q : vE → vE → Prop}
/-- the house finds a way by its sort -/
theorem c_find {K : vE → Prop} {a s w : Nat} {x : Nat} (hL : vL Y) (hx : I 48 x = w) (h2 : w + s < 2100) (hs : ∀ j, j < s → w32 (I 52 (w + j)) ≠ w32 (I 52 (w + s))) : ∀ (r j : Nat), j + r = s → (vW d 195 (22, [vr 1990, vi t, vi (I 52 (w + s)), vi a, vi ((w + j : Nat) : Int), vu, vu], [], (I, Y)) K ↔ vW d 195 (54, [vr 1990, vi t, vi (I 52 (w + s)), vi a, vi ((w + s : Nat) : Int), vi (I 51 (w + s)), vu], [], (I, Y)) K) := by
  intro r
  induction r with
  | zero =>
    intro j hj
    have : j = s := by omega
    subst this
    rw [b195_22 hL (by omega) (by omega), tn0, if_pos rfl, b195_42 hL (by omega) (by omega), tn0]
  | succ r ih =>
    intro j hj
    rw [b195_22 hL (by omega) (by omega), tn0, if_neg (hs j (by omega)), b195_36, show ((w + j : Nat) : Int) + 1 = ((w + (j + 1) : Nat) : Int) by omega]
    exact ih (j + 1) (by omega)
/-- a way on, its locks left or taken already: what comes behind it is the next node, or END -/
theorem mv_w {x w' y m o : Nat} {p so : Int} (hL : vL Y) (hL' : vL Y') (h : IL Y Y' X mm Nn Lp nm pr ht I I' th t A W N) (hx : I 2007 (40 * t + (A - 1)) = x) (hTop : I 1994 t = I 2009 (40 * t + (A - 1)) + nm (I 2006 (40 * t + (A - 1))).toNat) (hwF : wF I I' Y Y' X mm Nn w' x y m o p) (k2y : I 38 y ≠ 2 ∧ I 38 y ≠ 0) (hl : I 2012 (40 * t + (A - 1)) = I 42 y ∧ I' 2204 (40 * t + (A - 1)) = I 42 y ∧ ∀ j : Nat, (j : Int) < I 42 y → I 2013 ((40 * t + (A - 1)) * 12 + j) = I' 2210 (12 * (40 * t + (A - 1)) + j)) (y42 : I 38 y = 1 → I 42 y = 0)
    (hStay : ∀ J J', AS Y Y' X mm Nn Lp nm pr ht J J' th (W + 1) N → Q (.inl (some (vi 9)), (J, Y)) (.inl (some (vi 0)), (J', Y')))
    (hEnd : ∀ (J J' : vJ), PT Lp J J' → bud J J' (W + 1) (ht 5000) → goC I J → goE I I' J' (40 * t + (A - 1)) → y < Nn → I 38 y = 1 → I 2012 (40 * t + (A - 1)) = 0 → (I 50 w' = x ∧ w' < 2100) → (∀ b, b ≠ 40 * t + (A - 1) → J' 2198 b = I' 2198 b ∧ J' 2199 b = I' 2199 b ∧ J' 2200 b = I' 2200 b ∧ J 2011 b = I 2011 b ∧ J' 2202 b = I' 2202 b ∧ J' 2203 b = I' 2203 b) → vW (d + 9) 195 (185, [vr 1990, vi t, vi so, vi ((40 * t + (A - 1) : Nat) : Int), vi w', vi y, vu], [], (J, Y)) (fun r => vW (d' + 9) 417 (27, [vr 2075, vi ((40 * t + (A - 1) : Nat) : Int), vi w'], [], (J', Y')) (fun r' => Q r r'))) :
    vW (d + 8) 164 (80, [vr 1990, vi t, vi w', vi ((40 * t + (A - 1) : Nat) : Int), vi x, vi y, vu], [], (I, Y)) (vWC (d + 9) 195 144 3 [vr 1990, vi t, vi so, vi ((40 * t + (A - 1) : Nat) : Int), vi w', vi y, vu] [] (fun r => vW (d' + 9) 417 (0, [vr 2075, vi ((40 * t + (A - 1) : Nat) : Int), vi w'], [], (I', Y')) (fun r' => Q r r'))) := by
  obtain ⟨s1, ⟨s2, s2l⟩, s3, s4, ⟨s5, s6, s7, s8, s9, s10, s11⟩, s12, ⟨⟨r1, r2, r3, r4⟩, ⟨r5, r6⟩, r7, r8, r9⟩⟩ := h
  have th8 := s2.1.1.2.2
  have h8 : t < 8 := by omega
  obtain ⟨hX, hX2, hV⟩ := s1.1
  have Nn7 := s1.2.1.2
  obtain ⟨c1, c2, c3, c4⟩ := r8 (A - 1) (by omega)
  have wa := hwF.1.1.1
  have wb := hwF.1.1.2.1
  have wc := hwF.1.1.2.2
  have we := hwF.1.2.1.1
  have wf := hwF.1.2.1.2.1
  have wh := hwF.1.2.1.2.2.2
  have wy := hwF.1.2.2.2.2.2.1
  have yN := hwF.2.1.2.1
  have wk1 := hwF.2.2.2.1.1
  have wk2 := hwF.2.2.2.1.2.1
  have wn := hwF.2.2.2.2.2.1.2.1
  have a3 : 40 * t + (A - 1) < 320 := by omega
  have hm : I 2006 (40 * t + (A - 1)) = (m : Int) := by
    have := c2.2.2.2
    rw [hx, tn0] at this
    omega
  have lk := hl.1
  apply vW_out
  have hm1 : ∀ K : vE → Prop, vW (d' + 9) 417 (0, [vr 2075, vi ((40 * t + (A - 1) : Nat) : Int), vi w'], [], (I', Y')) K ↔ vW (d' + 8) 403 (0, [vr 2075, vi ((40 * t + (A - 1) : Nat) : Int), vi w', vu, vu, vu], [], (I', Y')) (vWC (d' + 9) 417 3 3 [vr 2075, vi ((40 * t + (A - 1) : Nat) : Int), vi w'] [] K) := fun K => b417_0 hL'
  simp only [hm1]
  have hWW : W ≤ 20000 := by have := sa_nn (I 1995) t th; omega
  refine g_goB0 (d := d + 4) (d' := d' + 4) (x := x) (y := y) (m := m) (o := o) (mm := mm) (Nn := Nn) (Lp := Lp) (W := W) (p := p) (l := (W : Int) + 1) hL hL' hX hX2 hV s1.2.2.1 s1.2.1.1.1 hwF a3 (PT_0 s3) s4 hWW ⟨hm, by omega⟩ ⟨by rw [← c2.1]; exact hx, lvb_at s2.1.1.2.1 s5 r2 (by omega) r4⟩ (fun hp => ?_) (fun J J' k1z k2z k3 k4 k5 k6 k7 k8 k9 k10 k11' => ?_)
  · have z := c4
    rw [hm, tn0, wn, hx, tn0] at z
    exact z hp
  · clear k3
    have H1 : fr [65, 2011, 1979, 1980, 1981, 1970, 1971, 1972, 1973, 1975, 1976, 1977, 1978, 2014] [(1990, 3392), (1960, 3090)] I J := k4
    have H2 : fr [2183, 2202, 2203, 2255, 2256, 2257, 2258, 2241, 2242, 2243, 2244, 2245, 2246, 2247, 2248, 2209, 2198, 2199, 2200] [(2075, 7736), (2075, 7818)] I' J' := k5
    have k1 : PT Lp J J' := PT_1 k1z (su_keep su_pThr H1 H2 rfl (PT_14 s3))
    have k2 : bud J J' (W + 1) (ht 5000) := ⟨k2z.1, by have := k2z.2.1; omega, k2z.2.2⟩
    clear k1z k2z
    simp only [vWC_n, Nat.reduceAdd]
    have x38 : J 38 y = I 38 y := H1 38 _ rfl
    have x43 : J 43 y = I 43 y := H1 43 _ rfl
    have x23 : J' (X + 23) w' = y := by rw [fr_out H2 2081 2182 (by rfl) (by omega) (by omega)]; exact wh
    have x9 : J' (X + 9) y = I 38 y := by rw [fr_out H2 2081 2182 (by rfl) (by omega) (by omega)]; exact wy.1.symm
    have yk := wy.2
    have hne : ∀ K : vE → Prop, vW (d' + 9) 417 (6, [vr 2075, vi ((40 * t + (A - 1) : Nat) : Int), vi w'], [], (J', Y')) K ↔ if I 38 y = 1 then vW (d' + 9) 417 (27, [vr 2075, vi ((40 * t + (A - 1) : Nat) : Int), vi w'], [], (J', Y')) K else K (.inl (some (vi 0)), (J', Y')) := by
      intro K
      rw [b417_6 hL' hV (by omega) (by omega) (by rw [hX, tn0, x23]; omega) (by rw [hX, tn0, x23]; omega), hX, tn0, x23, tn0, x9]
      rw [w32_id (by omega) (by omega), w32_id (by decide) (by decide)]
      by_cases z : I 38 y = 1
      · rw [if_pos z, if_neg (fun q => q z)]
      · rw [if_neg z, if_pos z, b417_46, b417_47 (Or.inl rfl)]
    have hhe : ∀ K : vE → Prop, vW (d + 9) 195 (147, [vr 1990, vi t, vi so, vi ((40 * t + (A - 1) : Nat) : Int), vi w', vi y, vu], [], (J, Y)) K ↔ if I 38 y = 1 then vW (d + 9) 195 (185, [vr 1990, vi t, vi so, vi ((40 * t + (A - 1) : Nat) : Int), vi w', vi y, vu], [], (J, Y)) K else K (.inl (some (vi 9)), (up (up J 2007 (40 * t + (A - 1)) (y : Int)) 2008 (40 * t + (A - 1)) (I 43 y), Y)) := by
      intro K
      rw [b195_147 hL (by omega) (by omega), tn0, x38, w32_id (by omega) (by omega), w32_id (by decide) (by decide)]
      by_cases z : I 38 y = 1
      · rw [if_pos z, if_pos z]
      · rw [if_neg z, if_neg z, b195_161 hL (by omega) (by omega), tn0, x38, w32_id (by omega) (by omega), w32_id (by decide) (by decide), if_neg k2y.1, b195_175 hL, b169_0 hL (by omega) (by omega) (by omega) (by omega)]
        simp only [tn0, vWC_n, Nat.reduceAdd, b195_182, x43]
    simp only [hne, hhe]
    by_cases zy : I 38 y = 1
    · simp only [zy, if_true]
      refine vW_swap.mp ?_
      exact hEnd J J' k1 k2 k4 ⟨k5, by rw [(k9 _).1, if_pos rfl, tn0, zy]; decide⟩ yN zy (by rw [lk]; exact y42 zy) ⟨we, by omega⟩ (fun b hb => ⟨by rw [(k9 b).1, if_neg hb], by rw [(k9 b).2.1, if_neg hb], by rw [(k9 b).2.2, if_neg hb], (k6 b hb).1, (k6 b hb).2.1, (k6 b hb).2.2⟩)
    · simp only [zy, if_false]
      have E1 : fr [65, 1970, 1971, 1972, 1973, 1975, 1976, 1977, 1978, 1979, 1980, 1981, 2007, 2008, 2011, 2014] [(1990, 3392), (1960, 3090)] I (up (up J 2007 (40 * t + (A - 1)) (y : Int)) 2008 (40 * t + (A - 1)) (I 43 y)) := fr_upL (fr_upL (fr_weak H1 (by decide) (by decide)) rfl _ _) rfl _ _
      have E0 : fr [2007, 2008] [] J (up (up J 2007 (40 * t + (A - 1)) (y : Int)) 2008 (40 * t + (A - 1)) (I 43 y)) := fr_upL (fr_upL (fr_refl _ _ _) rfl _ _) rfl _ _
      have n1v : ∀ b, up (up J 2007 (40 * t + (A - 1)) (y : Int)) 2008 (40 * t + (A - 1)) (I 43 y) 2007 b = if b = 40 * t + (A - 1) then (y : Int) else I 2007 b := fun b => by
        rw [up_cell _ (by decide), up_at, H1 2007 _ rfl]
      have n2v : ∀ b, up (up J 2007 (40 * t + (A - 1)) (y : Int)) 2008 (40 * t + (A - 1)) (I 43 y) 2008 b = if b = 40 * t + (A - 1) then I 43 y else I 2008 b := fun b => by
        rw [up_at, up_cell _ (by decide), H1 2008 _ rfl]
      refine hStay _ J' ?_
      generalize up (up J 2007 (40 * t + (A - 1)) (y : Int)) 2008 (40 * t + (A - 1)) (I 43 y) = JF at E1 E0 n1v n2v
      have aT := agT_fr E1 H2 rfl
      have arr : JF 1990 3376 = I 1990 3376 := E1 1990 _ rfl
      have gS : agS I I' JF J' X := ⟨aT.1 38 (by decide) (by decide), aT.1 43 (by decide) (by decide), aT.1 62 (by decide) (by decide), aT.2.2.1 (X + 11) (by omega) (by omega), aT.2.2.1 (X + 12) (by omega) (by omega), aT.2.2.1 (X + 37) (by omega) (by omega), aT.2.2.1 2178 (by decide) (by decide), aT.2.2.1 2179 (by decide) (by decide), by rw [E1 1960 _ rfl]; exact Int.le_refl _⟩
      have E2 : fr [] [] J' J' := fr_refl _ _ _
      have hPT : PT Lp JF J' := by
        obtain ⟨q1, q2, q3, q4, q5, q6, q7, q8, q9, q10, q11, q12, q13, q14, q15, q16, q17, q18, q19, q20⟩ := k1
        exact ⟨su_keep su_tR E0 E2 rfl q1, su_keep su_pPath E0 E2 rfl q2, su_keep su_loR E0 E2 rfl q3, su_keep su_pArr E0 E2 rfl q4, su_keep su_pStep E0 E2 rfl q5, su_keep su_pKeep E0 E2 rfl q6, su_keep su_pCost E0 E2 rfl q7, su_keep su_pCalls E0 E2 rfl q8, su_keep su_pMet E0 E2 rfl q9, su_keep su_pPrint E0 E2 rfl q10, su_keep su_pBegun E0 E2 rfl q11, su_keep su_pLooks E0 E2 rfl q12, su_keep su_pPar E0 E2 rfl q13, su_keep su_pThr E0 E2 rfl q14, su_keep su_pDone E0 E2 rfl q15, su_keep su_pLast E0 E2 rfl q16, su_keep su_pFor E0 E2 rfl q17, su_keep su_pTurns E0 E2 rfl q18, su_keep su_pSeed E0 E2 rfl q19, su_keep su_pVars E0 E2 rfl q20⟩
      have hBU : bud JF J' (W + 1) (ht 5000) := by
        obtain ⟨⟨n, b1, b2⟩, b3, b4⟩ := k2
        refine ⟨⟨n, hR_same b1 (E0 1960 _ rfl) (fr_row E0 1979 (fun _ => rfl)) (fr_row E0 1980 (fun _ => rfl)) (fr_row E0 1981 (fun _ => rfl)) rfl rfl rfl rfl rfl, b2⟩, by rw [E0 1990 _ rfl]; exact b3, ⟨fun jj hjj => ?_, tot_le b4.2 (fr_row E0 35 (fun _ => rfl)) rfl (E0 1990 _ rfl)⟩⟩
        rw [E0 2014 jj rfl, E0 1990 _ rfl]; exact b4.1 jj hjj
      have agv : ∀ u, agV (up I 1994 t (I 2009 (40 * t + (A - 1)) + nm (I 2006 (40 * t + (A - 1))).toNat)) (up I' 2200 (40 * t + (A - 1)) 0) JF J' u := fun u => by
        refine ⟨fun q _ _ => ?_, ?_, fun k _ => ?_, fun k i _ _ => ?_, fun k i _ _ => ?_⟩
        · rw [up_cell _ (by decide), up_cell _ (by decide), E1 1992 _ rfl, E1 1993 _ rfl]; exact ⟨rfl, rfl⟩
        · rw [up_at, E1 1994 _ rfl]
          by_cases z : u = t
          · rw [if_pos z, z]; exact hTop
          · rw [if_neg z]
        · rw [up_cell _ (by decide), up_cell _ (by decide), E1 2009 _ rfl, E1 2006 _ rfl, (k9 _).2.2, up_at]; exact ⟨rfl, rfl, rfl⟩
        · rw [up_cell _ (by decide), H2 2205 _ rfl]
        · rw [up_cell _ (by decide), H2 2206 _ rfl]
      refine ⟨ST_ag s1 aT, LZ_moveL s2 s2l s5 r1 r3 r5 r6 E1 H2 (fun b hb => by rw [n1v, if_neg hb]) ⟨by rw [n1v, if_pos rfl, tn0]; exact hl.2.1, fun jj hjj => hl.2.2 jj (by rw [← hl.2.1]; exact hjj), by rw [hl.1, hl.2.1]⟩, hPT, hBU, ⟨?_, by rw [E1 1990 _ rfl]; exact s7, by rw [H2 2075 _ rfl]; exact s8, s10⟩, fun u hu => ?_⟩
      · rw [sa_all s5 th8, sa_congr (fun u _ _ => E1 1995 u rfl), E1 1995 _ rfl, r1, if_pos (by omega), E1 1990 3393 rfl, E1 1960 3100 rfl]
        omega
      · rw [arr]
        by_cases z : u = t
        · subst z
          refine ⟨A, 0, ⟨by rw [E1 1995 _ rfl]; exact r1, by rw [H2 2186 _ rfl]; exact r2, r4⟩, thV_ag r7 r4 (agv u), fun k hk => ?_, fun k hk => ?_, ?_⟩
          · by_cases y9 : k = A - 1
            · subst y9
              refine ⟨?_, ?_, ?_, ?_⟩
              · rw [E1 2006 _ rfl, H2 2197 _ rfl]; exact c1
              · rw [n1v, if_pos rfl, (k9 _).1, if_pos rfl, tn0, E1 2006 _ rfl, gS.2.2.2.2.2.1, wk2]
                exact ⟨rfl, by omega, by omega, hm.symm⟩
              · rw [E1 2010 _ rfl, H2 2201 _ rfl, E1 1960 _ rfl, n1v, if_pos rfl, tn0, gS.1]; exact ⟨c3.1, ⟨c3.2.1.1, by omega⟩, c3.2.2⟩
              · rw [E1 2006 _ rfl, hm, tn0, gS.2.2.2.2.2.2.2.1, wn, n1v, if_pos rfl, tn0, gS.2.2.1, E0 2011 _ rfl]
                intro hp
                exact k7 hp (Or.inr (fun q => by rcases q with q | q; exact zy q; exact k2y.1 q))
            · have q := r8 k (by omega)
              have nb : 40 * u + k ≠ 40 * u + (A - 1) := by omega
              unfold acR at *
              rw [E1 2006 _ rfl, H2 2197 _ rfl, n1v, if_neg nb, (k9 _).1, if_neg nb, E1 2010 _ rfl, H2 2201 _ rfl, E1 1960 _ rfl, E0 2011 _ rfl, (k6 _ nb).1, (k6 _ nb).2.1, (k6 _ nb).2.2, gS.1, gS.2.2.1, gS.2.2.2.2.2.1, gS.2.2.2.2.2.2.1, gS.2.2.2.2.2.2.2.1]
              exact q
          · have q := r9 k (by omega)
            have nb : 40 * u + k ≠ 40 * u + (A - 1) := by omega
            unfold coR at *
            rw [n1v, if_neg nb, n2v, if_neg nb, (k9 _).2.1, if_neg nb, (k9 _).2.2, if_neg nb, gS.2.2.2.1, gS.2.2.2.2.1]
            exact q
          · unfold stR
            rw [E1 1996 _ rfl, E1 2005 _ rfl, r5, r6, n1v, if_pos rfl, tn0, n2v, if_pos rfl, (k9 _).2.1, if_pos rfl, (k9 _).2.2, if_pos rfl, gS.2.1, gS.2.2.2.1]
            refine ⟨fun z => by omega, fun _ => r3, fun _ _ => ⟨rfl, rfl, rfl, rfl⟩, fun z => by omega, fun z => by omega, fun z => by omega, fun _ z => by omega⟩
        · have ag0 : agV I I' JF J' u := by
            refine ⟨fun q _ _ => ⟨E1 1992 _ rfl, E1 1993 _ rfl⟩, E1 1994 _ rfl, fun k hk => ⟨E1 2009 _ rfl, E1 2006 _ rfl, ?_⟩, fun k i _ _ => H2 2205 _ rfl, fun k i _ _ => H2 2206 _ rfl⟩
            rw [(k9 _).2.2, if_neg (by omega)]
          refine reR_ag (s12 u hu z) (Int.le_refl _) gS ag0 ⟨⟨E1 1995 _ rfl, H2 2186 _ rfl⟩, fun k hk => ?_⟩ (E1 1996 _ rfl) (E1 1997 _ rfl) (E1 2005 _ rfl)
          have nb : 40 * u + k ≠ 40 * t + (A - 1) := by omega
          refine ⟨E1 2006 _ rfl, by rw [n1v, if_neg nb], by rw [n2v, if_neg nb], E1 2010 _ rfl, by rw [E0 2011 _ rfl, (k6 _ nb).1], H2 2197 _ rfl, by rw [(k9 _).1, if_neg nb], by rw [(k9 _).2.1, if_neg nb], H2 2201 _ rfl, (k6 _ nb).2.1, (k6 _ nb).2.2⟩
/-- a way on that takes no locks along: what comes behind it is the next node, or END -/
theorem mv_on {x j w : Nat} (hL : vL Y) (hL' : vL Y') (h : IFs Y Y' X mm Nn Lp nm pr ht I I' th t A W N) (hx : I 2007 (40 * t + (A - 1)) = x) (hTop : I 1994 t = I 2009 (40 * t + (A - 1)) + nm (I 2006 (40 * t + (A - 1))).toNat) (hk : I 38 x ≠ 9 ∧ I 38 x ≠ 16 ∧ I 38 x ≠ 12 ∧ I 38 x ≠ 13) (hj : (j : Int) < wkN (I 38 x)) (hs : wkS (I 38 x) j ≠ 3) (hw : (w : Int) = I 48 x + j)
    (hStay : ∀ J J', AS Y Y' X mm Nn Lp nm pr ht J J' th (W + 1) N → Q (.inl (some (vi 9)), (J, Y)) (.inl (some (vi 0)), (J', Y')))
    (hEnd : ∀ (J J' : vJ) (y : Nat), PT Lp J J' → bud J J' (W + 1) (ht 5000) → goC I J → goE I I' J' (40 * t + (A - 1)) → y < Nn → I 38 y = 1 → I 2012 (40 * t + (A - 1)) = 0 → (I 50 w = x ∧ w < 2100) → (∀ b, b ≠ 40 * t + (A - 1) → J' 2198 b = I' 2198 b ∧ J' 2199 b = I' 2199 b ∧ J' 2200 b = I' 2200 b ∧ J 2011 b = I 2011 b ∧ J' 2202 b = I' 2202 b ∧ J' 2203 b = I' 2203 b) → vW (d + 9) 195 (185, [vr 1990, vi t, vi (wkS (I 38 x) j), vi ((40 * t + (A - 1) : Nat) : Int), vi w, vi y, vu], [], (J, Y)) (fun r => vW (d' + 9) 417 (27, [vr 2075, vi ((40 * t + (A - 1) : Nat) : Int), vi w], [], (J', Y')) (fun r' => Q r r'))) :
    vW (d + 9) 195 (0, [vr 1990, vi t, vi (wkS (I 38 x) j), vu, vu, vu, vu], [], (I, Y)) (fun r => vW (d' + 9) 417 (0, [vr 2075, vi ((40 * t + (A - 1) : Nat) : Int), vi w], [], (I', Y')) (fun r' => Q r r')) := by
  have h0 := h
  obtain ⟨s1, s2, s3, s4, ⟨s5, s6, s7, s8, s9, s10, s11⟩, s12, ⟨⟨r1, r2, r3, r4⟩, ⟨r5, r6⟩, r7, r8, r9⟩⟩ := h
  have th8 := s2.1.1.2.2
  have h8 : t < 8 := by omega
  obtain ⟨hX, hX2, hV⟩ := s1.1
  have Nn7 := s1.2.1.2
  obtain ⟨c1, c2, c3, c4⟩ := r8 (A - 1) (by omega)
  have xN : x < Nn := by omega
  have nf := s1.2.2.2.2.1 x xN
  have nk := nf.1.2
  have wm : I' (X + 21) x = wkN (I 38 x) := nf.2.1.2.2
  have WA := s1.2.2.2.2.2.1
  obtain ⟨w', y, m, o, p, w1, w2, w3, w4, w5, w6, w7, w8, w9, w10, w11, w12, w13⟩ := WA x j xN (by rw [wm]; exact hj)
  have ew : w' = w := by clear w4 w5 w6 w7 w8 w9 w10 w11 w12 w13 c4; omega
  subst ew
  have k11 := (w5 (by rw [w3]; exact hs))
  have n42 : I 42 y = I 42 x := w11 (by rw [w3]; exact hs) hk.1 hk.2.1 hk.2.2.1 hk.2.2.2
  have y42 : I 38 y = 1 → I 42 y = 0 := fun q => w6.2 (Or.inl q)
  have k0y : I 38 y ≠ 0 := w6.1
  clear w4 w5 w6 w7 w8 w9 w10 w11 w12 w13
  have hwF := w2
  clear w2
  have wa := hwF.1.1.1
  have wb := hwF.1.1.2.1
  have wc := hwF.1.1.2.2
  have we := hwF.1.2.1.1
  have wf := hwF.1.2.1.2.1
  have wh := hwF.1.2.1.2.2.2
  have wy := hwF.1.2.2.2.2.2.1
  have yN := hwF.2.1.2.1
  have wk1 := hwF.2.2.2.1.1
  have wk2 := hwF.2.2.2.1.2.1
  have wn := hwF.2.2.2.2.2.1.2.1
  obtain ⟨w0, hw0⟩ : ∃ w0 : Nat, I 48 x = w0 := ⟨(I 48 x).toNat, by have := nf.2.1.2.1; omega⟩
  have eww : w' = w0 + j := by omega
  have a3 : 40 * t + (A - 1) < 320 := by omega
  have hA1 : I 1995 t = ((A - 1 : Nat) : Int) + 1 := by omega
  have hm : I 2006 (40 * t + (A - 1)) = (m : Int) := by
    have := c2.2.2.2
    rw [hx, tn0] at this
    omega
  -- the house up to the way
  have sorts : ∀ j', j' < j → w32 (I 52 (w0 + j')) ≠ w32 (I 52 (w0 + j)) := by
    intro j' hj'
    obtain ⟨wz, _, _, _, _, z1, _, z3, _⟩ := WA x j' xN (by rw [wm]; omega)
    have ez : wz = w0 + j' := by omega
    rw [← eww, w3, ← ez, z3]
    have kk : I 38 x = 6 ∨ I 38 x = 8 := by
      apply Classical.byContradiction
      intro q
      apply hs
      unfold wkS
      rw [if_neg q]
      by_cases q2 : I 38 x = 10
      · rw [if_pos q2]
      · rw [if_neg q2, if_neg (by omega)]
    have jb : j < 3 := by
      have : wkN (I 38 x) ≤ 3 := by unfold wkN; split; omega; split; omega; split <;> omega
      omega
    unfold wkS
    rw [if_pos kk, if_pos kk, w32_id (by omega) (by omega), w32_id (by omega) (by omega)]
    omega
  have thl : thL I I' t A := by
    obtain ⟨B, ⟨b1, _, _⟩, _, _, b6⟩ := s2.2.2.2 t s5
    have eB : B = A := by omega
    subst eB
    exact b6 (by omega)
  have lk : I 2012 (40 * t + (A - 1)) = I 42 y := by
    have z0 := thl (A - 1) (by omega)
    have z := z0.2.2.1 (fun q => by have := q.2.1; omega)
    rw [z, z0.1, hx, tn0, n42]
  have hs1 : ∀ K : vE → Prop, vW (d + 9) 195 (0, [vr 1990, vi t, vi (wkS (I 38 x) j), vu, vu, vu, vu], [], (I, Y)) K ↔ vW (d + 8) 164 (80, [vr 1990, vi t, vi w', vi ((40 * t + (A - 1) : Nat) : Int), vi x, vi y, vu], [], (I, Y)) (vWC (d + 9) 195 144 3 [vr 1990, vi t, vi (wkS (I 38 x) j), vi ((40 * t + (A - 1) : Nat) : Int), vi w', vi y, vu] [] K) := by
    intro K
    rw [b195_0 hL, c_act (A := A - 1) hL h8 hA1]
    simp only [vWC_s, Nat.reduceAdd]
    rw [b195_5 hL (by omega) (by omega) (by rw [tn0, hx]; omega) (by rw [tn0, hx]; omega), tn0, hx, tn0, hw0]
    have cf := c_find (d := d + 9) (I := I) (t := t) (K := K) (a := 40 * t + (A - 1)) (s := j) (w := w0) (x := x) hL hw0 (by omega) sorts j 0 (by omega)
    rw [← eww, w3] at cf
    rw [show ((w0 + 0 : Nat) : Int) = (w0 : Int) from rfl] at cf
    rw [cf, wf, b195_54 hL (by omega) (by omega), tn0, if_pos (by rw [w32_id (by omega) (by omega), w32_id (by omega) (by omega)]; exact k11.1), b195_140 hL, b164_0 hL, c_act (A := A - 1) hL h8 hA1]
    simp only [vWC_s, Nat.reduceAdd]
    rw [b164_5 hL (by omega) (by omega)]
    simp only [tn0, we, wf]
    rw [b164_28 hL (by omega) (by omega) (by omega) (by omega)]
    simp only [tn0, lk, Int.le_refl, if_true]
  rw [hs1]
  have hIL := IFs_IL h0
  refine mv_w (x := x) (m := m) (o := o) (p := p) hL hL' hIL.1 hx hTop hwF ⟨k11.2, k0y⟩ ?_ y42 hStay (fun J J' q1 q2 q3 q4 q5 q6 q7 q8 q9 => hEnd J J' y q1 q2 q3 q4 q5 q6 q7 q8 q9)
  have z := hIL.2
  have z1 : I' 2204 (40 * t + (A - 1)) = I 42 y := by rw [z.1, hx, tn0, n42]
  exact ⟨lk, z1, fun jj hjj => z.2.1 jj (by rw [z1]; exact hjj)⟩
end
