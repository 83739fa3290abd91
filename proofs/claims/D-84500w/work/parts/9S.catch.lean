/-! ===== a failure is caught: both houses ===== -/
set_option maxRecDepth 20000
set_option maxHeartbeats 4000000
section
variable {d d' : Nat} {Y Y' : vY} {X mm Nn Lp : Nat} {nm pr ht : Nat → Nat} {I I' : vJ} {th t A W N : Nat} {Q : vE → vE → Prop}
/-- locks are left on a way, for memories whose values need not be alike -/
theorem lv_goC {x y w : Nat} (hL : vL Y) (hL' : vL Y') (s1 : ST I I' Y Y' X mm Nn Lp nm pr ht) (s2 : LZ I I' th 8 (-1)) (s3 : PT0 Lp I I') (s4 : bud I I' W (ht 5000)) (s5 : t < th) (s7 : I 1990 3388 = N) (s8 : I' 2075 7729 = N) (r1 : I 1995 t = A) (r3 : 0 < A) (r4 : A ≤ 40) (r5 : I 1996 t = 0) (r6 : I 2005 t = 0) (nds : ∀ k, k < A → 0 ≤ I 2007 (40 * t + k) ∧ I 2007 (40 * t + k) < Nn) (hx : I 2007 (40 * t + (A - 1)) = x) (yN : y < Nn) (hlk : I 42 y ≤ I 42 x ∧ lkA (I' (X + 16)) (I 42 x - I 42 y).toNat x y)
    (hQ : ∀ J J', (LZ J J' th t (-1) ∧ ∀ k, k + 1 < A → loA J J' (40 * t + k)) → PT0 Lp J J' → buL J J' W (W + 1) (ht 5000) → fr [2017, 2018, 2019, 2022, 2023, 2024, 2025, 2026, 1996, 2005, 2004, 2000, 2012, 2013] [] I J → fr [2211, 2212, 2213, 2214, 2217, 2218, 2219, 2220, 2221, 2222, 2187, 2196, 2195, 2190, 2204] [] I' J' → wkd I J th t → J 1996 t = 0 → J 2005 t = 0 → (J 2012 (40 * t + (A - 1)) = J 42 y ∧ J' 2204 (40 * t + (A - 1)) = J 42 y ∧ ∀ j : Nat, (j : Int) < J 42 y → J 2013 ((40 * t + (A - 1)) * 12 + j) = J' 2210 (12 * (40 * t + (A - 1)) + j)) → vW (d + 5) 164 (80, [vr 1990, vi t, vi w, vi ((40 * t + (A - 1) : Nat) : Int), vi x, vi y, vu], [], (J, Y)) (fun r => Q r (.inl none, (J', Y')))) :
    vW (d + 5) 164 (28, [vr 1990, vi t, vi w, vi ((40 * t + (A - 1) : Nat) : Int), vi x, vi y, vu], [], (I, Y)) (fun r => vW (d' + 5) 438 (0, [vr 2075, vi ((40 * t + (A - 1) : Nat) : Int), vi x, vi y, vu], [], (I', Y')) (fun r' => Q r r')) := by
  obtain ⟨hX, hX2, hV⟩ := s1.1
  have Nn7 := s1.2.1.2
  have xN : x < Nn := by have := nds (A - 1) (by omega); clear hlk; omega
  have l42 := (s1.2.2.2.1 x xN).1
  have y42 := (s1.2.2.2.1 y yN).1
  have lo := LZ_lo s2 s5 r1 r6
  have hlo := lo (A - 1) (by omega)
  unfold loA at hlo
  rw [hx, tn0] at hlo
  have hm : ∀ K : vE → Prop, vW (d' + 5) 438 (0, [vr 2075, vi ((40 * t + (A - 1) : Nat) : Int), vi x, vi y, vu], [], (I', Y')) K ↔ vW (d' + 5) 438 (11, [vr 2075, vi ((40 * t + (A - 1) : Nat) : Int), vi x, vi y, vi (I' (X + 16) x)], [], (I', Y')) K := fun K => by
    rw [b438_0 hL' hV (by omega) (by omega), hX, tn0]
  simp only [hm]
  have e42 : ((I 42 x - I 42 y).toNat : Int) + I 42 y = I 42 x := by have := hlk.1; omega
  refine l_leave (Nn := Nn) (th := th) (t := t) (a := 40 * t + (A - 1)) (w := w) (x := x) (y := y) (A := A) (N := N) (I0 := I) (I0' := I') hL hL' hX hX2 hV Nn7 s1.2.2.2.1 yN s5 r1 r3 r4 rfl s7 s8 (fun J J' z1 f1 f2 z2 z3 z4 z5 z6 z7 z8 z9 => ?_) (I 42 x - I 42 y).toNat x I I' xN e42.symm hlk.2 (LZ_8t s2) (fr_refl _ _ _) (fr_refl _ _ _) r5 (fun _ _ _ _ => rfl) (fun _ _ _ => rfl) (fun _ _ => rfl) (by rw [e42, hlo.2.2, hlo.1]) (by rw [e42, hlo.1]) (fun j hj => hlo.2.1 j (by rw [hlo.1]; omega)) rfl (fun u _ _ => Or.inl ⟨rfl, rfl⟩)
  have e := fr_row f1 42 (fun _ => rfl)
  have th8 := s2.1.1.2.2
  refine hQ J J' ⟨z1, fun k hk => ?_⟩ ?_ ?_ f1 f2 z9 z2 (by rw [z8]; exact r6) ⟨by rw [e]; exact z6, by rw [e]; exact z7, fun j hj => ?_⟩
  · obtain ⟨l1, l2, l3⟩ := lo k (by omega)
    have nb := nds k (by omega)
    have l42 := (s1.2.2.2.1 (I 2007 (40 * t + k)).toNat (by clear hlk; omega)).1
    unfold loA
    rw [z5 _ (by omega), e, f1 2007 _ rfl, fr_row f2 2210 (fun _ => rfl), z3 _ (by omega) (by omega) (by omega)]
    exact ⟨l1, fun j hj => by rw [z4 _ (by omega) (by omega)]; exact l2 j hj, l3⟩
  · obtain ⟨q1, q2, q3, q4, q5, q6, q7, q8, q9, q10, q11, q12, q13, q15, q16, q17, q18, q19, q20⟩ := s3
    have hD : pDone J J' := fun u hu => by
      have a := q15 u hu
      rw [f1 2001 _ rfl, f1 2003 _ rfl, f2 2191 _ rfl, f2 2192 _ rfl, f1 1990 _ rfl]
      refine ⟨a.1, a.2.1, fun b c => a.2.2 b ?_⟩
      have ut : (u : Int) < th := by
        have e : I 1990 3390 = th := s2.1.1.1
        omega
      by_cases z : u = t
      · rw [z, r5]; decide
      · rcases z9 u (by omega) z with w | w
        · rw [← w.1]; exact c
        · rcases w.1 with w | w <;> rw [w] <;> decide
    exact ⟨su_keep su_tR f1 f2 rfl q1, su_keep su_pPath f1 f2 rfl q2, su_keep su_loR f1 f2 rfl q3, su_keep su_pArr f1 f2 rfl q4, su_keep su_pStep f1 f2 rfl q5, su_keep su_pKeep f1 f2 rfl q6, su_keep su_pCost f1 f2 rfl q7, su_keep su_pCalls f1 f2 rfl q8, su_keep su_pMet f1 f2 rfl q9, su_keep su_pPrint f1 f2 rfl q10, su_keep su_pBegun f1 f2 rfl q11, su_keep su_pLooks f1 f2 rfl q12, su_keep su_pPar f1 f2 rfl q13, hD, su_keep su_pLast f1 f2 rfl q16, su_keep su_pFor f1 f2 rfl q17, su_keep su_pTurns f1 f2 rfl q18, su_keep su_pSeed f1 f2 rfl q19, su_keep su_pVars f1 f2 rfl q20⟩
  · obtain ⟨⟨n, b1, b2⟩, b3, b4⟩ := s4
    have x1 := fr_row f2 2255 (fun _ => rfl)
    have x2 := fr_row f2 2256 (fun _ => rfl)
    refine ⟨⟨n, hR_same b1 (f1 1960 _ rfl) (fr_row f1 1979 (fun _ => rfl)) (fr_row f1 1980 (fun _ => rfl)) (fr_row f1 1981 (fun _ => rfl)) (f2 2075 _ rfl) x1 x2 (fr_row f2 2257 (fun _ => rfl)) (fr_row f2 2258 (fun _ => rfl)), by rw [x1, x2]; exact b2⟩, by rw [f1 1990 _ rfl]; omega, ⟨fun j hj => ?_, tot_le b4.2 (fr_row f1 35 (fun _ => rfl)) (fr_row f2 2183 (fun _ => rfl)) (f1 1990 _ rfl)⟩⟩
    rw [f1 2014 j rfl, f1 1990 _ rfl]; exact b4.1 j hj
  · rw [e] at hj
    rw [z4 _ (by omega) (by omega), fr_row f2 2210 (fun _ => rfl)]
    exact hlo.2.1 j (by rw [hlo.1]; have := hlk.1; omega)
/-- all rest: a thread has come to a node, others may have been woken on the way -/
theorem AS_at {JF JF' : vJ} {y m : Nat} (h : IFs Y Y' X mm Nn Lp nm pr ht I I' th t A W N) (hZ : LZ JF JF' th 8 (-1)) (hP : PT Lp JF JF') (hB : bud JF JF' (W + 1) (ht 5000))
    (F1 : fr [2017, 2018, 2019, 2022, 2023, 2024, 2025, 2026, 1996, 2005, 2004, 2000, 2012, 2013, 65, 2011, 1979, 1980, 1981, 1970, 1971, 1972, 1973, 1975, 1976, 1977, 1978, 2014, 1992, 1993, 1994, 2007, 2008, 2038] [(1990, 3392), (1960, 3090)] I JF)
    (F2 : fr [2211, 2212, 2213, 2214, 2217, 2218, 2219, 2220, 2221, 2222, 2187, 2196, 2195, 2190, 2204, 2183, 2202, 2203, 2255, 2256, 2257, 2258, 2241, 2242, 2243, 2244, 2245, 2246, 2247, 2248, 2209, 2198, 2199, 2200, 2205, 2250] [(2075, 7736), (2075, 7818)] I' JF')
    (wk : wkd I JF th t) (z1 : JF 1996 t = 0) (z2 : JF 2005 t = 0) (hv : thV (I 1990 3376) nm JF JF' t A 0) (hvo : ∀ u, u ≠ t → agV I I' JF JF' u)
    (n1 : ∀ b, JF 2007 b = if b = 40 * t + (A - 1) then (y : Int) else I 2007 b) (n2 : ∀ b, JF 2008 b = if b = 40 * t + (A - 1) then I 43 y else I 2008 b) (m1 : ∀ b, JF' 2198 b = if b = 40 * t + (A - 1) then (y : Int) else I' 2198 b) (m2 : ∀ b, JF' 2199 b = if b = 40 * t + (A - 1) then I' (X + 11) y else I' 2199 b) (m3 : ∀ b, JF' 2200 b = if b = 40 * t + (A - 1) then 0 else I' 2200 b)
    (rr : ∀ b, b ≠ 40 * t + (A - 1) → JF 2011 b = I 2011 b ∧ JF' 2202 b = I' 2202 b ∧ JF' 2203 b = I' 2203 b) (yN : y < Nn) (k3y : 3 ≤ I 38 y) (hm : I 2006 (40 * t + (A - 1)) = m) (wk2 : I' (X + 37) y = m) (pth : I' 2179 m ≠ -1 → JF 2011 (40 * t + (A - 1)) = JF' 2178 (JF' 2202 (40 * t + (A - 1))).toNat + JF' 2203 (40 * t + (A - 1)) ∧ (0 ≤ JF' 2202 (40 * t + (A - 1)) ∧ JF' 2202 (40 * t + (A - 1)) < 700) ∧ 0 ≤ JF 2011 (40 * t + (A - 1)) ∧ JF 2011 (40 * t + (A - 1)) + I 62 y ≤ I' 2179 m) : AS Y Y' X mm Nn Lp nm pr ht JF JF' th (W + 1) N := by
  obtain ⟨s1, s2, s3, s4, ⟨s5, s6, s7, s8, s9, s10, s11⟩, s12, ⟨⟨r1, r2, r3, r4⟩, ⟨r5, r6⟩, r7, r8, r9⟩⟩ := h
  have th8 := s2.1.1.2.2
  have hX := s1.1.2.1
  have aT := agT_fr F1 F2 rfl
  have arr : JF 1990 3376 = I 1990 3376 := F1 1990 _ rfl
  have gS : agS I I' JF JF' X := ⟨aT.1 38 (by decide) (by decide), aT.1 43 (by decide) (by decide), aT.1 62 (by decide) (by decide), aT.2.2.1 (X + 11) (by omega) (by omega), aT.2.2.1 (X + 12) (by omega) (by omega), aT.2.2.1 (X + 37) (by omega) (by omega), aT.2.2.1 2178 (by decide) (by decide), aT.2.2.1 2179 (by decide) (by decide), by rw [F1 1960 _ rfl]; exact Int.le_refl _⟩
  obtain ⟨c1, c2, c3, c4⟩ := r8 (A - 1) (by omega)
  refine ⟨ST_ag s1 aT, hZ, hP, hB, ⟨?_, by rw [F1 1990 _ rfl]; exact s7, by rw [F2 2075 _ rfl]; exact s8, s10⟩, fun u hu => ?_⟩
  · rw [sa_all s5 th8, sa_congr (fun u _ _ => F1 1995 u rfl), F1 1995 _ rfl, r1, if_pos (by omega), F1 1990 3393 rfl, F1 1960 3100 rfl]
    omega
  · rw [arr]
    by_cases z : u = t
    · subst z
      refine ⟨A, 0, ⟨by rw [F1 1995 _ rfl]; exact r1, by rw [F2 2186 _ rfl]; exact r2, r4⟩, hv, fun k hk => ?_, fun k hk => ?_, ?_⟩
      · by_cases y9 : k = A - 1
        · subst y9
          refine ⟨?_, ?_, ?_, ?_⟩
          · rw [F1 2006 _ rfl, F2 2197 _ rfl]; exact c1
          · rw [n1, if_pos rfl, m1, if_pos rfl, tn0, F1 2006 _ rfl, gS.2.2.2.2.2.1, wk2]
            exact ⟨rfl, by omega, by omega, hm.symm⟩
          · rw [F1 2010 _ rfl, F2 2201 _ rfl, F1 1960 _ rfl, n1, if_pos rfl, tn0, gS.1]; exact ⟨c3.1, ⟨c3.2.1.1, k3y⟩, c3.2.2⟩
          · rw [F1 2006 _ rfl, hm, tn0, gS.2.2.2.2.2.2.2.1, n1, if_pos rfl, tn0, gS.2.2.1]
            exact pth
        · have q := r8 k (by omega)
          have nb : 40 * u + k ≠ 40 * u + (A - 1) := by omega
          unfold acR at *
          rw [F1 2006 _ rfl, F2 2197 _ rfl, n1, if_neg nb, m1, if_neg nb, F1 2010 _ rfl, F2 2201 _ rfl, F1 1960 _ rfl, (rr _ nb).1, (rr _ nb).2.1, (rr _ nb).2.2, gS.1, gS.2.2.1, gS.2.2.2.2.2.1, gS.2.2.2.2.2.2.1, gS.2.2.2.2.2.2.2.1]
          exact q
      · have q := r9 k (by omega)
        have nb : 40 * u + k ≠ 40 * u + (A - 1) := by omega
        unfold coR at *
        rw [n1, if_neg nb, n2, if_neg nb, m2, if_neg nb, m3, if_neg nb, gS.2.2.2.1, gS.2.2.2.2.1]
        exact q
      · unfold stR
        rw [z1, z2, m3, if_pos rfl, m2, if_pos rfl, n1, if_pos rfl, tn0, n2, if_pos rfl, gS.2.1, gS.2.2.2.1]
        exact ⟨fun q => by omega, fun _ => r3, fun _ _ => ⟨rfl, rfl, rfl, rfl⟩, fun q => by omega, fun q => by omega, fun q => by omega, fun _ q => by omega⟩
    · have aa : agA I I' JF JF' u := by
        refine ⟨⟨F1 1995 _ rfl, F2 2186 _ rfl⟩, fun k hk => ?_⟩
        have nb : 40 * u + k ≠ 40 * t + (A - 1) := by omega
        have q := rr _ nb
        exact ⟨F1 2006 _ rfl, by rw [n1, if_neg nb], by rw [n2, if_neg nb], F1 2010 _ rfl, q.1, F2 2197 _ rfl, by rw [m1, if_neg nb], by rw [m2, if_neg nb], F2 2201 _ rfl, q.2.1, q.2.2⟩
      rcases wk u hu z with w | w
      · exact reR_ag (s12 u hu z) (Int.le_refl _) gS (hvo u z) aa w.1 (F1 1997 _ rfl) w.2
      · exact reR_wake (s12 u hu z) gS (hvo u z) aa w.1 w.2.1 (F1 1997 _ rfl) w.2.2
end
