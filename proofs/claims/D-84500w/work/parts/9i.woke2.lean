/-! ===== a step of a woken thread ===== -/
set_option maxRecDepth 20000
set_option maxHeartbeats 8000000
section
variable {d d' : Nat} {Y Y' : vY} {X mm Nn Lp : Nat} {nm pr ht : Nat → Nat} {I I' : vJ} {th t W N : Nat} {Q : vE → vE → Prop}
/-- the model: the lock that was waited for is kept -/
theorem t_woke {M : vJ} {K : vE → Prop} {a nd l g : Nat} {k : Int} (hL : vL Y) (t8 : t < 8) (ha : a < 320) (hk : 0 ≤ k ∧ k ≤ 16) (hl : k = 12 → M 2206 (160 * a) = 4 * (l : Int)) (l8 : l < 8) (hg : M 2204 a = g) (g11 : g ≤ 11)
    (hQ : ∀ M2 : vJ, fr [2188, 2204, 2210] [] M M2 → (∀ u, M2 2188 u = if u = t then -1 else M 2188 u) → (k = 12 → (∀ b, M2 2204 b = if b = a then (g : Int) + 1 else M 2204 b) ∧ ∀ q, M2 2210 q = if q = 12 * a + g then (l : Int) else M 2210 q) → (k ≠ 12 → M2 2204 = M 2204 ∧ M2 2210 = M 2210) → vW (d + 1) 412 (198, [vr 2075, vi t, vi a, vi nd, vi k, vu], [], (M2, Y)) K) :
    vW (d + 1) 412 (164, [vr 2075, vi t, vi a, vi nd, vi k, vu], [], (M, Y)) K := by
  rw [b412_164 hL (by omega) (by omega), tn0, b412_171]
  by_cases z : k = 12
  · have e1 : (160 * (a : Int)).toNat = 160 * a := by omega
    have e2 : 4 * (l : Int) / 4 = l := by omega
    rw [if_neg (by rw [z]; decide), b412_178 hL (by omega) (by omega), e1, up_cell _ (by decide), hl z, t_val (by unfold inV; omega), e2]
    simp only [vWC_s, Nat.reduceAdd]
    have g1 : up M 2188 t (-1) 2204 a = g := by rw [up_cell _ (by decide)]; exact hg
    have e3 : (12 * (a : Int) + (g : Int)).toNat = 12 * a + g := by omega
    rw [b412_194 hL, b416_0 hL (by omega) (by omega) (by rw [tn0, g1]; omega) (by rw [tn0, g1]; omega), tn0, g1, e3]
    simp only [vWC_n, Nat.reduceAdd]
    refine hQ _ (fr_upL (fr_upL (fr_upL (fr_refl _ _ _) rfl _ _) rfl _ _) rfl _ _) (fun u => ?_) (fun _ => ⟨fun b => ?_, fun q => ?_⟩) (fun q => absurd z q)
    · rw [up_cell _ (by decide), up_cell _ (by decide), up_at]
    · rw [up_at, up_cell _ (by decide), up_cell _ (by decide)]
    · rw [up_cell _ (by decide), up_at, up_cell _ (by decide)]
  · rw [if_pos (by rw [w32_id (by omega) (by omega), w32_id (by decide) (by decide)]; exact z)]
    exact hQ _ (fr_weak (fr_upL (L := [2188]) (P := []) (fr_refl _ _ _) rfl _ _) (by decide) (by decide)) (fun u => up_at _ _ _ _ _) (fun q => absurd q z) (fun _ => ⟨up_row _ (by decide) _ _, up_row _ (by decide) _ _⟩)
theorem s_woke {A nd : Nat} {k : Int} (hL : vL Y) (hL' : vL Y') (h : AS Y Y' X mm Nn Lp nm pr ht I I' th W N) (hN : 1 ≤ N) (tth : t < th) (hco : I 1990 3393 < N) (hW : (W : Int) + sa (I 1995) 8 th < N) (hno : I' 2075 7829 = t) (h6 : I 1996 t = 0) (h5 : I 2005 t = 1) (hA : I 1995 t = A) (hnd : I 2007 (40 * t + (A - 1)) = nd) (hk : I 38 nd = k)
    (hStay : ∀ (th' W' : Nat) (F F' : vJ), AS Y Y' X mm Nn Lp nm pr ht F F' th' W' N → vW (d + 13) 174 (170, [vr 1990, vi t, vi ((40 * t + (A - 1) : Nat) : Int), vi k, vi 9], [], (F, Y)) (fun z => vW (d' + 13) 412 (228, [vr 2075, vi t, vi ((40 * t + (A - 1) : Nat) : Int), vi nd, vi k, vu], [], (F', Y')) (fun z' => Q z z'))) :
    vW (d + 13) 174 (124, [vr 1990, vi t, vi ((40 * t + (A - 1) : Nat) : Int), vi k, vi 0], [], (I, Y)) (fun r => vW (d' + 13) 412 (147, [vr 2075, vi t, vi ((40 * t + (A - 1) : Nat) : Int), vi nd, vi k, vu], [], (I', Y')) (fun r' => Q r r')) := by
  have h0 := h
  obtain ⟨s1, s2, s3, s4, ⟨⟨s5, s6, s7⟩, s8, s9, s10⟩, s11⟩ := h
  obtain ⟨hX, hX2, hV⟩ := s1.1
  have Nn7 : Nn ≤ 700 := s1.2.1.2
  have th8 := s2.1.1.2.2
  have t8 : t < 8 := by omega
  obtain ⟨A9, dl, ⟨a1, a2, a3⟩, a4, a5, a6, a7⟩ := s11 t tth
  have eA : A9 = A := by omega
  subst eA
  unfold stR at a7
  have pA := a7.2.1 (by omega)
  have k7 := a7.2.2.2.2.2.2 h6 h5
  rw [hnd, tn0, hk] at k7
  clear a7 a4 a6
  have ac := (a5 (A9 - 1) (by omega)).2.1
  have ndN : nd < Nn := by rw [hnd] at ac; omega
  clear ac a5
  have nf := s1.2.2.2.2.1 nd ndN
  have k16 : 0 ≤ k ∧ k ≤ 16 := by rw [← hk]; exact nf.1.2
  have tw := (s2.1.2 t tth).2.2.2.2.2.2.1 h5
  have w20 : I 48 nd = I' (X + 20) nd ∧ 0 ≤ I 48 nd := ⟨nf.2.1.1, nf.2.1.2.1⟩
  clear nf
  obtain ⟨B, ⟨b1, b2, b3⟩, b4, b5, b6⟩ := s2.2.2.2 t tth
  have eB : B = A9 := by omega
  subst eB
  obtain ⟨l1, l2, l3, l4⟩ := b6 (by omega) (B - 1) (by omega)
  have lk := (b4.1 (B - 1) (by omega)).1
  rw [hnd, tn0] at l1
  rw [hnd, tn0, hk] at l3 l4
  clear b4 b5 b6
  have hm1 : ∀ K : vE → Prop, vW (d' + 13) 412 (147, [vr 2075, vi t, vi ((40 * t + (B - 1) : Nat) : Int), vi nd, vi k, vu], [], (I', Y')) K ↔ vW (d' + 12) 414 (0, [vr 2075, vi (I 2004 t)], [], (up I' 2196 t 0, Y')) (vWC (d' + 13) 412 161 3 [vr 2075, vi t, vi ((40 * t + (B - 1) : Nat) : Int), vi nd, vi k, vu] [] K) := fun K => by
    rw [b412_147 hL' (by omega) (by omega), tn0, ← tw.1]
  rw [b174_124 hL (by omega) (by omega), tn0]
  apply vW_out
  simp only [hm1]
  have f96 : fr [2196] [] I' (up I' 2196 t 0) := fr_upL (fr_refl _ _ _) rfl _ _
  have hst := su_keep su_pStep (fr_refl [] [] I) f96 rfl s3.2.2.2.2.1
  obtain ⟨N0, E, sr⟩ := hst
  have eN : N0 = N := by have := sr.1.1; omega
  subst eN
  have eE : E < 50000 := by
    have a := sr.2.1.1
    have b := s4.2.1
    have c := sa_nn (I 1995) 8 th
    omega
  refine s_behind (N := N0) (E := E) hL hL' sr hN ⟨tw.2.1, by have := tw.2.2; omega⟩ eE (fun K K' E' k1 k2 k3 k4 => ?_)
  simp only [vWC_n, Nat.reduceAdd]
  have ls := (s1.2.2.2.1 nd ndN).1
  obtain ⟨g, hg⟩ : ∃ g : Nat, I 42 nd = g := ⟨(I 42 nd).toNat, by omega⟩
  rw [hg] at l1
  obtain ⟨l, l8, hl9⟩ : ∃ l : Nat, l < 8 ∧ (k = 12 → I 1997 t = l ∧ I' 2206 (160 * (40 * t + (B - 1))) = 4 * (l : Int)) := by
    by_cases z : k = 12
    · have q := k7.resolve_left (by omega)
      exact ⟨(I 1997 t).toNat, by omega, fun _ => ⟨by omega, by omega⟩⟩
    · exact ⟨0, by decide, fun q => absurd q z⟩
  refine t_woke (d := d' + 12) (l := l) (g := g) hL' t8 (by omega) k16 (fun z => by rw [k4 2206 _ rfl, up_cell _ (by decide)]; exact (hl9 z).2) l8 (by rw [k4 2204 _ rfl, up_cell _ (by decide)]; exact l1) (by omega) (fun M2 m1 m2 m3 m4 => ?_)
  have hc : ∀ P : vE → Prop, vW (d + 13) 174 (134, [vr 1990, vi t, vi ((40 * t + (B - 1) : Nat) : Int), vi k, vi 0], [], (K, Y)) P ↔ vW (d + 12) 195 (0, [vr 1990, vi t, vi 0, vu, vu, vu, vu], [], (up K 2005 t 0, Y)) (vWC (d + 13) 174 162 3 [vr 1990, vi t, vi ((40 * t + (B - 1) : Nat) : Int), vi k, vi 0] [] P) := fun P => by
    rw [b174_134, b174_144 hL (by omega) (by omega), tn0, b174_151, if_neg (by decide), b174_158 hL]
  simp only [hc]
  have F1 : fr [2005, 2041, 2042, 2043] [(1990, 3384)] I (up K 2005 t 0) := fr_upL (fr_weak k3 (by decide) (by decide)) rfl _ _
  have F2 : fr [2188, 2196, 2204, 2210, 2235, 2236] [(2075, 7798)] I' M2 := fr_trans (fr_weak f96 (by decide) (by decide)) (fr_trans (fr_weak k4 (by decide) (by decide)) (fr_weak m1 (by decide) (by decide)))
  have G1 : fr [2005] [] K (up K 2005 t 0) := fr_upL (fr_refl _ _ _) rfl _ _
  obtain ⟨N1, E1, sr1⟩ := su_keep su_pStep G1 m1 rfl (⟨N0, E', k1⟩ : pStep K K')
  have eN1 : N1 = N0 := by
    have a := sr1.1.1
    have b := k1.1.1
    rw [G1 1990 _ rfl] at a
    omega
  subst eN1
  have hE : up K 2005 t 0 1990 3384 ≤ I 1990 3384 + 1 := by
    rw [G1 1990 _ rfl]
    have a := k1.2.1.1
    have b := sr.2.1.1
    omega
  have g04 : ∀ b, K' 2204 b = I' 2204 b := fun b => by rw [k4 2204 _ rfl, up_cell _ (by decide)]
  have g10 : ∀ q, K' 2210 q = I' 2210 q := fun q => by rw [k4 2210 _ rfl, up_cell _ (by decide)]
  have k05 : ∀ u, up K 2005 t 0 2005 u = if u = t then 0 else I 2005 u := fun u => by rw [up_at, k3 2005 _ rfl]
  have hx38 : up K 2005 t 0 38 = I 38 := fr_row F1 38 (fun _ => rfl)
  have hx42 : up K 2005 t 0 42 = I 42 := fr_row F1 42 (fun _ => rfl)
  have hx48 : up K 2005 t 0 48 = I 48 := fr_row F1 48 (fun _ => rfl)
  have hx12 : up K 2005 t 0 2012 = I 2012 := fr_row F1 2012 (fun _ => rfl)
  have hx13 : up K 2005 t 0 2013 = I 2013 := fr_row F1 2013 (fun _ => rfl)
  have hx07 : up K 2005 t 0 2007 = I 2007 := fr_row F1 2007 (fun _ => rfl)
  generalize up K 2005 t 0 = K2 at F1 sr1 hE k05 hx38 hx42 hx48 hx12 hx13 hx07 ⊢
  have IW := IL_woke (E' := E1) h0 hN tth hco hW hno h6 h5 b1 F1 F2 k05 (fun u => by rw [m1 2196 _ rfl, k4 2196 _ rfl, up_at]) (fun u => by rw [m2, k4 2188 _ rfl, up_cell _ (by decide)]) sr1 hE (fun b hb => by
    by_cases z : k = 12
    · rw [(m3 z).1, if_neg hb, g04]
    · rw [(m4 z).1, g04]) (fun q hq => by
    by_cases z : k = 12
    · rw [(m3 z).2, if_neg (by omega), g10]
    · rw [(m4 z).2, g10])
  obtain ⟨L, kx, hl⟩ : ∃ L : Int, (K2 38 nd = 12 ∧ L = K2 42 nd + 1 ∨ K2 38 nd = 14 ∧ L = K2 42 nd) ∧ (K2 2012 (40 * t + (B - 1)) = L ∧ M2 2204 (40 * t + (B - 1)) = L ∧ ∀ j : Nat, (j : Int) < L → K2 2013 ((40 * t + (B - 1)) * 12 + j) = M2 2210 (12 * (40 * t + (B - 1)) + j)) := by
    rw [hx38, hx42, hx12, hx13, hk, hg]
    by_cases z : k = 12
    · have w := l4 ⟨by omega, h5, z⟩
      refine ⟨(g : Int) + 1, Or.inl ⟨z, rfl⟩, by rw [w.1, l1], by rw [(m3 z).1, if_pos rfl], fun j hj => ?_⟩
      rw [(m3 z).2]
      by_cases y : j = g
      · rw [y, if_pos rfl, ← (hl9 z).1, ← w.2, l1, tn0]
      · rw [if_neg (by omega), g10]
        exact l2 j (by rw [l1]; omega)
    · have q14 : k = 14 := by
        rcases k7 with q | q
        · exact q
        · exact absurd q.1 z
      have w := l3 (fun q => z q.2.2)
      refine ⟨(g : Int), Or.inr ⟨q14, rfl⟩, by rw [w, l1], by rw [(m4 z).1, g04, l1], fun j hj => ?_⟩
      rw [(m4 z).2, g10]
      exact l2 j (by rw [l1]; exact hj)
  obtain ⟨w, hw⟩ : ∃ w : Nat, I 48 nd = w := ⟨(I 48 nd).toNat, by omega⟩
  have mw : M2 (X + 20) nd = w := by rw [fr_out F2 2081 2182 (by rfl) (by omega) (by omega), ← w20.1]; exact hw
  rw [b412_198 hL' hV (by omega) (by omega), hX, tn0, mw]
  have key := mv_il (d := d + 3) (d' := d' + 3) (x := nd) (w := w) (L := L) (Q := fun r r' => vWC (d' + 13) 412 209 3 [vr 2075, vi t, vi ((40 * t + (B - 1) : Nat) : Int), vi nd, vi k, vu] [] (fun r'' => vWC (d + 13) 174 162 3 [vr 1990, vi t, vi ((40 * t + (B - 1) : Nat) : Int), vi k, vi 0] [] (fun r0 => Q r0 r'') r) r') hL hL' IW.1 (by rw [hx07]; exact hnd) IW.2 kx (by rw [hx48]; exact hw.symm) hl (fun J J' hJ => ?_) (fun C F F' pc nd2 y e1 e2 e3 e4 => ?_)
  · obtain ⟨r, hr, r', hr', hq⟩ := key
    exact ⟨r', hr', vWC_mono (fun r'' hh => ⟨r, hr, hh⟩) hq⟩
  · simp only [vWC_s, Nat.reduceAdd]
    rw [b412_212, if_pos (by decide)]
    simp only [b174_165]
    have sw := vW_swap.mp (hStay th (W + 1) J J' hJ)
    refine vWmo (Nat.le_refl _) (fun r'' hh => ?_) sw
    rw [b174_151, if_pos rfl]
    exact hh
  · simp only [vWC_s, Nat.reduceAdd]
    have hcm : ∀ P : vE → Prop, vW (d' + 13) 412 (212, [vr 2075, vi t, vi ((40 * t + (B - 1) : Nat) : Int), vi nd, vi k, vu], [vi 1], (F', Y')) P ↔ vW (d' + 12) 422 (2, [vr 2075, vi t, vi 1, vu, vu, vu, vu], [], (F', Y')) (vWC (d' + 13) 412 217 3 [vr 2075, vi t, vi ((40 * t + (B - 1) : Nat) : Int), vi nd, vi k, vu] [] P) := fun P => by
      rw [b412_212, if_neg (by decide), b412_215 hL', b422_0]
    simp only [hcm]
    apply vW_out
    have wk := works (d := d + 2) (d' := d') (a0 := ((40 * t + (B - 1) : Nat) : Int)) (k0 := k) (t := t) (QQ := fun z r' => vWC (d' + 13) 412 217 3 [vr 2075, vi t, vi ((40 * t + (B - 1) : Nat) : Int), vi nd, vi k, vu] [] (fun r'' => Q z r'') r') hL hL' (k_start (d := d) (d' := d') hL hL') (fun th' W' F F' hA9 => ?_) C C th (W + 1) F F' pc nd2 (fun q r' => vWC (d + 3 + 9) 195 367 3 [vr 1990, vi t, vi 0, vi ((40 * t + C : Nat) : Int), vi w, vi y, vi 0] [] (fun r => vWC (d' + 13) 412 217 3 [vr 2075, vi t, vi ((40 * t + (B - 1) : Nat) : Int), vi nd, vi k, vu] [] (fun r'' => vWC (d + 13) 174 162 3 [vr 1990, vi t, vi ((40 * t + (B - 1) : Nat) : Int), vi k, vi 0] [] (fun r0 => Q r0 r'') r) r') q) (Nat.le_refl _) (fun s J r' hJ hz => ?_) e3 e4
    · exact wk vu vu vu vu vu vu vu
    · simp only [vWC_n, Nat.reduceAdd, b412_220]
      exact hStay th' W' F F' hA9
    · obtain ⟨z, hz1, hz2⟩ := hz
      simp only [vWC_s, Nat.reduceAdd, b195_370]
      refine vWC_mono (fun r'' hr => ?_) hz2
      rw [b174_165]
      exact ⟨z, hz1, hr⟩
end
