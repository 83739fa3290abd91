/-! ===== a look keeps the relation; a whole step ===== -/
set_option maxRecDepth 20000
set_option maxHeartbeats 4000000
theorem fr_sym {L : List Nat} {P : List (Nat × Nat)} {I J : vJ} (h : fr L P I J) : fr L P J I := fun c f e => (h c f e).symm
section
variable {Y Y' : vY} {X mm Nn Lp : Nat} {nm pr ht : Nat → Nat} {I I' J J' : vJ} {th W N n E : Nat}
theorem AS_lkB (h : AS Y Y' X mm Nn Lp nm pr ht I I' th W N) : ∃ n E : Nat, lkB Y' X mm nm I I' th n E := by
  obtain ⟨s1, s2, s3, s4, ⟨⟨s5, s6, s7⟩, s8, s9, s10⟩, s11⟩ := h
  obtain ⟨n, E, hA⟩ := s3.2.2.2.1
  have arr : I 1990 3376 = n := hA.1.1
  refine ⟨n, E, s1.1, s1.2.1.1.1, ⟨s7, s1.2.1.1.2.1, s1.2.1.1.2.2.1⟩, s2.1.1, s3.2.2.2.2.2.2.2.2.2.2.2.2.2.2.2.2.2.2.2, hA, fun u hu => ?_⟩
  obtain ⟨A, dl, ⟨a1, a2, a3⟩, a4, a5, a6, a7⟩ := s11 u hu
  rw [arr] at a4
  refine ⟨A, dl, ⟨a2, a3⟩, a4, fun k hk => ?_, fun pA => ?_⟩
  · obtain ⟨c1, _⟩ := a5 k hk
    obtain ⟨mb, hmb⟩ : ∃ mb : Nat, I 2006 (40 * u + k) = mb := ⟨(I 2006 (40 * u + k)).toNat, by omega⟩
    have mlt : mb < mm := by omega
    obtain ⟨o, p, nn, nd, m1, m2, m3, _⟩ := s1.2.2.2.2.2.2.1 mb mlt
    exact ⟨mb, hmb, by rw [← c1.1]; exact hmb, mlt, by rw [m3.2.1, m3.2.2.2]⟩
  · unfold stR at a7
    obtain ⟨k1, k2, k3, k4, _⟩ := a7
    have q6 := (s2.1.2 u hu).1.2
    have q5 := (s2.1.2 u hu).2.2.2.2.2.1.2
    have l3 : I 1996 u < 3 := by
      apply Classical.byContradiction
      intro z
      have := k1 (by omega)
      omega
    clear k1 k2
    by_cases z : I 1996 u = 0 ∧ I 2005 u = 0
    · exact Or.inl (k3 z.1 z.2).1
    · have w := k4 (by
        rcases q5 with q | q
        · have : I 1996 u ≠ 0 := fun e => z ⟨e, q⟩
          have : I 1996 u = 1 ∨ I 1996 u = 2 := by omega
          rcases this with y | y
          · exact Or.inl y
          · exact Or.inr (Or.inl y)
        · have : I 1996 u = 0 ∨ I 1996 u = 1 ∨ I 1996 u = 2 := by omega
          rcases this with y | y | y
          · exact Or.inr (Or.inr ⟨y, q⟩)
          · exact Or.inl y
          · exact Or.inr (Or.inl y))
      exact Or.inr w
theorem lkB_keep (h : lkB Y' X mm nm I I' th n E) (F1 : fr [] [(1990, 3394), (1990, 3389)] I J) (F2 : fr [] [(2075, 7728)] I' J') : lkB Y' X mm nm J J' th n E := by
  obtain ⟨⟨x1, x2, x3⟩, m24, ⟨v1, v2, v8⟩, ⟨t1, t2, t8⟩, hV, hA, hT⟩ := h
  have gX : ∀ j, j < 38 → J' (X + j) = I' (X + j) := fun j hj => fr_out F2 2081 2182 (by rfl) (by omega) (by omega)
  refine ⟨⟨x1, x2, x3⟩, m24, ⟨by rw [F1 1960 _ rfl]; exact v1, by rw [show J' X = I' X from gX 0 (by decide)]; exact v2, v8⟩, ⟨by rw [F1 1990 _ rfl]; exact t1, by rw [F2 2075 _ rfl]; exact t2, t8⟩, su_keep su_pVars F1 F2 rfl hV, ?_, fun u hu => ?_⟩
  · unfold aR at *
    rw [F1 18 266 rfl, F1 1990 3376 rfl, F1 1990 3377 rfl, F2 2075 7737 rfl, F2 2075 7738 rfl, fr_row F1 2027 (fun _ => rfl), fr_row F1 2028 (fun _ => rfl), fr_row F1 2029 (fun _ => rfl), fr_row F1 2030 (fun _ => rfl), fr_row F1 2031 (fun _ => rfl), fr_row F1 2032 (fun _ => rfl), fr_row F1 1985 (fun _ => rfl), fr_row F1 2033 (fun _ => rfl), fr_row F1 2034 (fun _ => rfl), fr_row F2 2223 (fun _ => rfl), fr_row F2 2224 (fun _ => rfl), fr_row F2 2225 (fun _ => rfl), fr_row F2 2226 (fun _ => rfl), fr_row F2 2227 (fun _ => rfl), fr_row F2 2228 (fun _ => rfl), fr_row F2 2229 (fun _ => rfl), fr_row F2 2230 (fun _ => rfl)]
    exact hA
  · obtain ⟨A, dl, ⟨a1, a2⟩, tv, hm, hd⟩ := hT u hu
    refine ⟨A, dl, ⟨by rw [F2 2186 _ rfl]; exact a1, a2⟩, thV_ag tv a2 ⟨fun p _ _ => ⟨F1 1992 _ rfl, F1 1993 _ rfl⟩, F1 1994 _ rfl, fun k _ => ⟨F1 2009 _ rfl, F1 2006 _ rfl, F2 2200 _ rfl⟩, fun k i _ _ => F2 2205 _ rfl, fun k i _ _ => F2 2206 _ rfl⟩, fun k hk => ?_, fun pA => ?_⟩
    · rw [F1 2006 _ rfl, F2 2197 _ rfl, gX 3 (by decide)]
      exact hm k hk
    · rw [F2 2200 _ rfl, F2 2206 _ rfl]
      exact hd pA
theorem AS_lk (h : AS Y Y' X mm Nn Lp nm pr ht I I' th W N) (hP : pLooks J J') (hA : pArr J J') (F1 : fr [1982, 1983, 1984, 1985, 1986, 1987, 1988] [(1960, 3099), (1960, 3094)] I J) (F2 : fr [2229, 2260, 2261, 2262, 2264, 2265, 2266] [(2075, 7830), (2075, 7734)] I' J') : AS Y Y' X mm Nn Lp nm pr ht J J' th W N := by
  obtain ⟨s1, s2, s3, s4, ⟨⟨s5, s6, s7⟩, s8, s9, s10⟩, s11⟩ := h
  have g := agT_fr F1 F2 rfl
  have hX := s1.1.2.1
  have gS : agS I I' J J' X := ⟨g.1 38 (by decide) (by decide), g.1 43 (by decide) (by decide), g.1 62 (by decide) (by decide), g.2.2.1 (X + 11) (by omega) (by omega), g.2.2.1 (X + 12) (by omega) (by omega), g.2.2.1 (X + 37) (by omega) (by omega), g.2.2.1 2178 (by decide) (by decide), g.2.2.1 2179 (by decide) (by decide), by rw [F1 1960 _ rfl]; exact Int.le_refl _⟩
  refine ⟨ST_ag s1 g, su_keep su_LZ F1 F2 rfl s2, ?_, ?_, ⟨⟨by rw [fr_row F1 1995 (fun _ => rfl)]; exact s5, by rw [F1 1990 3393 rfl]; exact s6, by rw [F1 1960 _ rfl]; exact s7⟩, by rw [F1 1990 _ rfl]; exact s8, by rw [F2 2075 _ rfl]; exact s9, s10⟩, fun u hu => ?_⟩
  · obtain ⟨q1, q2, q3, q4, q5, q6, q7, q8, q9, q10, q11, q12, q13, q14, q15, q16, q17, q18, q19, q20⟩ := s3
    exact ⟨su_keep su_tR F1 F2 rfl q1, su_keep su_pPath F1 F2 rfl q2, su_keep su_loR F1 F2 rfl q3, hA, su_keep su_pStep F1 F2 rfl q5, su_keep su_pKeep F1 F2 rfl q6, su_keep su_pCost F1 F2 rfl q7, su_keep su_pCalls F1 F2 rfl q8, su_keep su_pMet F1 F2 rfl q9, su_keep su_pPrint F1 F2 rfl q10, su_keep su_pBegun F1 F2 rfl q11, hP, su_keep su_pPar F1 F2 rfl q13, su_keep su_pThr F1 F2 rfl q14, su_keep su_pDone F1 F2 rfl q15, su_keep su_pLast F1 F2 rfl q16, su_keep su_pFor F1 F2 rfl q17, su_keep su_pTurns F1 F2 rfl q18, su_keep su_pSeed F1 F2 rfl q19, su_keep su_pVars F1 F2 rfl q20⟩
  · obtain ⟨⟨n, b1, b2⟩, b3, b4⟩ := s4
    have x1 := fr_row F2 2255 (fun _ => rfl)
    have x2 := fr_row F2 2256 (fun _ => rfl)
    refine ⟨⟨n, hR_same b1 (F1 1960 _ rfl) (fr_row F1 1979 (fun _ => rfl)) (fr_row F1 1980 (fun _ => rfl)) (fr_row F1 1981 (fun _ => rfl)) (F2 2075 _ rfl) x1 x2 (fr_row F2 2257 (fun _ => rfl)) (fr_row F2 2258 (fun _ => rfl)), by rw [x1, x2]; exact b2⟩, by rw [F1 1990 _ rfl]; exact b3, ⟨fun j hj => ?_, tot_le b4.2 (fr_row F1 35 (fun _ => rfl)) (fr_row F2 2183 (fun _ => rfl)) (F1 1990 _ rfl)⟩⟩
    rw [F1 2014 j rfl, F1 1990 3403 rfl]; exact b4.1 j hj
  · rw [F1 1990 3376 rfl]
    exact reR_ag (s11 u hu) (Int.le_refl _) gS ⟨fun p _ _ => ⟨F1 1992 _ rfl, F1 1993 _ rfl⟩, F1 1994 _ rfl, fun k _ => ⟨F1 2009 _ rfl, F1 2006 _ rfl, F2 2200 _ rfl⟩, fun k i _ _ => F2 2205 _ rfl, fun k i _ _ => F2 2206 _ rfl⟩ ⟨⟨F1 1995 _ rfl, F2 2186 _ rfl⟩, fun k _ => ⟨F1 2006 _ rfl, F1 2007 _ rfl, F1 2008 _ rfl, F1 2010 _ rfl, F1 2011 _ rfl, F2 2197 _ rfl, F2 2198 _ rfl, F2 2199 _ rfl, F2 2201 _ rfl, F2 2202 _ rfl, F2 2203 _ rfl⟩⟩ (F1 1996 _ rfl) (F1 1997 _ rfl) (F1 2005 _ rfl)
/-- frames of what RS and RM put over the memories -/
theorem fr_seed (I : vJ) (s tau : Int) : fr [] [(1990, 3394), (1990, 3389)] I (up (up I 1990 3394 s) 1990 3389 tau) := fr_upP (fr_upP (fr_refl _ _ _) rfl _) rfl _
theorem fr_stat (I' : vJ) (s : Int) : fr [] [(2075, 7728)] I' (up I' 2075 7728 s) := fr_upP (fr_refl _ _ _) rfl _
theorem AS_lk2 {s tau : Int} (h : AS Y Y' X mm Nn Lp nm pr ht (up (up I 1990 3394 s) 1990 3389 tau) (up I' 2075 7728 1) th W N) (hE : lkE I I' n E J J') : AS Y Y' X mm Nn Lp nm pr ht (up (up J 1990 3394 s) 1990 3389 tau) (up J' 2075 7728 1) th W N := by
  obtain ⟨e1, e2, e3, e4⟩ := hE
  exact AS_lk h (su_keep su_pLooks (fr_seed J s tau) (fr_stat J' 1) rfl e1) (su_keep su_pArr (fr_seed J s tau) (fr_stat J' 1) rfl ⟨n, E, e2⟩) (fr_both (fr_both e3 _ _ _) _ _ _) (fr_both e4 _ _ _)
theorem RM_lk (h : RM Y Y' X mm Nn Lp nm pr ht I I' th W N) (hE : lkE I I' n E J J') : RM Y Y' X mm Nn Lp nm pr ht J J' th W N := by
  obtain ⟨s, tau, t, A1, sv, ⟨tth, ht⟩, hs, nx⟩ := h
  obtain ⟨e1, e2, e3, e4⟩ := hE
  refine ⟨s, tau, t, AS_lk2 A1 ⟨e1, e2, e3, e4⟩, ?_, ⟨tth, ?_⟩, ?_, ?_⟩
  · rw [e4 2075 _ rfl, fr_row e3 1996 (fun _ => rfl)]; exact sv
  · rw [e3 1990 _ rfl]; exact ht
  · rw [e3 1990 3394 rfl, e3 1990 3395 rfl]; exact hs
  · rw [e4 2075 _ rfl, fr_row e3 1996 (fun _ => rfl), e3 1990 3394 rfl, e3 1990 3395 rfl]; exact nx
theorem stv_bd (st : Nat → Int) (th : Nat) (N : Int) : 1 ≤ stv st th N ∧ stv st th N ≤ 4 := by
  unfold stv
  split
  · omega
  · split
    · split <;> omega
    · omega
end
section
variable {d d' : Nat} {Y Y' : vY} {X mm Nn Lp : Nat} {nm pr ht : Nat → Nat} {I I' : vJ} {th W N : Nat} {Q : vE → vE → Prop}
/-- the end of a step with a look -/
theorem lk_end {x1 x2 x3 x4 y1 y2 y3 y4 : Int} (hL : vL Y) (hL' : vL Y') (h : RM Y Y' X mm Nn Lp nm pr ht I I' th W N)
    (hQ : ∀ J J' : vJ, RS Y Y' X mm Nn Lp nm pr ht J J' th W N → Q (.inl none, (J, Y)) (.inl none, (J', Y'))) :
    vW (d + 3) 174 (189, [vr 1990, vi x1, vi x2, vi x3, vi x4], [], (I, Y)) (fun z => vW (d' + 4) 412 (252, [vr 2075, vi y1, vi y2, vi y3, vi y4, vu], [], (I', Y')) (fun z' => Q z z')) := by
  have h0 := h
  obtain ⟨s, tau, t, A1, sv, _⟩ := h
  obtain ⟨n, E, hB⟩ := AS_lkB A1
  have hB := lkB_keep hB (fr_sym (fr_seed I s tau)) (fr_sym (fr_stat I' 1))
  have hP := su_keep su_pLooks (fr_sym (fr_seed I s tau)) (fr_sym (fr_stat I' 1)) rfl A1.2.2.1.2.2.2.2.2.2.2.2.2.2.2.1
  have nw : I 1990 3388 = N := by
    have q := A1.2.2.2.2.1.2.1
    rw [up_place _ _ (by decide), up_place _ _ (by decide)] at q
    exact q
  have nw' : I' 2075 7729 = N := by
    have q := A1.2.2.2.2.1.2.2.1
    rw [up_place _ _ (by decide)] at q
    exact q
  have hst : 1 ≤ I' 2075 7728 ∧ I' 2075 7728 ≤ 4 := by rw [sv]; exact stv_bd _ _ _
  rw [b174_189 hL]
  apply vW_out
  simp only [b412_252 hL']
  refine lk_look hL hL' hB hP nw nw' hst (fun J J' x hE _ => ?_)
  simp only [vWC_s, Nat.reduceAdd]
  refine vW_swap.mp ?_
  rw [b174_197]
  simp only [b412_256, b412_258]
  exact h_turn hL (RM_lk h0 hE) (fun K hK => hQ K J' hK)
/-- a whole step in both houses -/
theorem st_all (hL : vL Y) (hL' : vL Y') (h : RS Y Y' X mm Nn Lp nm pr ht I I' th W N) (h1 : I' 2075 7728 = 1)
    (hQ : ∀ (J J' : vJ) (th' W' : Nat), RS Y Y' X mm Nn Lp nm pr ht J J' th' W' (N + 1) → Q (.inl none, (J, Y)) (.inl none, (J', Y'))) :
    N < 20000 ∧ vW (d + 15) 174 (0, [vr 1990, vu, vu, vu, vu], [], (I, Y)) (fun r => vW (d' + 15) 412 (0, [vr 2075, vu, vu, vu, vu, vu], [], (I', Y')) (fun r' => Q r r')) := by
  obtain ⟨s, tau, A1, sv, hs⟩ := h
  obtain ⟨e1, e2, e3⟩ := hs h1
  have u1 : up I 1990 3394 s = I := by rw [e1]; exact up_self _ _ _
  have u2 : up I 1990 3389 (tau : Int) = I := by rw [e2]; exact up_self _ _ _
  have u3 : up I' 2075 7728 1 = I' := by rw [← h1]; exact up_self _ _ _
  rw [u1, u2, u3] at A1
  have hN : N < 20000 := by
    have q := A1.2.2.2.2.1.2.2.2
    have w : N ≠ 20000 := fun e => by
      rw [h1, e] at sv
      unfold stv at sv
      split at sv
      · exact absurd sv (by decide)
      · split at sv
        · rw [if_pos (show ((20000 : Nat) : Int) = 20000 from rfl)] at sv
          exact absurd sv (by decide)
        · exact absurd sv (by decide)
    omega
  refine ⟨hN, ?_⟩
  refine st_step (d := d + 2) (d' := d' + 2) (t := tau) hL hL' A1 hN e2.symm e3 (fun a k nd th' W' F F' hF => ?_)
  exact st_end (d := d + 14) (d' := d' + 13) hL hL' hF (fun M' hM => lk_end (d := d + 12) (d' := d' + 11) hL hL' hM (fun J J' hJ => hQ J J' th' W' hJ)) (fun J J' hJ => hQ J J' th' W' hJ)
end
