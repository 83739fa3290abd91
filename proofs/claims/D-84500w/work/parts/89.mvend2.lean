/-! ===== the way to END: the caller goes on ===== -/
set_option maxRecDepth 20000
set_option maxHeartbeats 4000000
section
variable {d d' : Nat} {Y Y' : vY} {X mm Nn Lp : Nat} {nm pr ht : Nat → Nat} {I I' J J' : vJ} {th t B W N : Nat} {Q : vE → vE → Prop}
/-- an activation that has a caller is over, with the value that was got -/
theorem mv_end1g {y w T : Nat} {so kd v e : Int} {G : vJ} (hL : vL Y) (hL' : vL Y') (h : IL Y Y' X mm Nn Lp nm pr ht I I' th t (B + 1) W N) (hB0 : 0 < B) (hP : PT Lp J J') (hB : bud J J' (W + 1) (ht 5000)) (g1 : goC I J) (g2 : goE I I' J' (40 * t + B)) (hG : fr [] [(1990, 3401), (1990, 3402)] J G) (hG1 : G 1990 3401 = kd) (hG2 : G 1990 3402 = v) (hvv : vv (I 1990 3376) kd v e) (hT0 : I 2009 (40 * t + B) = T) (hd : I 2012 (40 * t + B) = 0) (g3 : ∀ b, b ≠ 40 * t + B → J' 2198 b = I' 2198 b ∧ J' 2199 b = I' 2199 b ∧ J' 2200 b = I' 2200 b ∧ J 2011 b = I 2011 b ∧ J' 2202 b = I' 2202 b ∧ J' 2203 b = I' 2203 b)
    (hQ : ∀ (F F' : vJ) (pc nd : Nat), IS Y Y' X mm Nn Lp nm pr ht F F' th t B pc (W + 1) N → F 2007 (40 * t + (B - 1)) = nd → vW (d + 8) 177 (33, [vr 1990, vi t, vi ((40 * t + (B - 1) : Nat) : Int), vi nd, vi (2 * (pc : Int)), vr 37, vu, vu, vu], [], (F, Y)) (vWC (d + 9) 195 367 3 [vr 1990, vi t, vi so, vi ((40 * t + B : Nat) : Int), vi w, vi y, vi 0] [] (fun r => Q r (.inl (some (vi 1)), (F', Y'))))) :
    vW (d + 9) 195 (282, [vr 1990, vi t, vi so, vi ((40 * t + B : Nat) : Int), vi w, vi y, vi 0], [], (up (up G 1994 t (T : Int)) 1995 t (B : Int), Y)) (fun r => vW (d' + 8) 418 (10, [vr 2075, vi t, vl e, vu], [], (up J' 2186 t (B : Int), Y')) (fun r' => Q r r')) := by
  have h0 := h
  obtain ⟨s1, ⟨s2, s2l⟩, s3, s4, ⟨s5, s6, s7, s8, s9, s10, s11⟩, s12, ⟨⟨r1, r2, r3, r4⟩, ⟨r5, r6⟩, r7, r8, r9⟩⟩ := h
  have th8 := s2.1.1.2.2
  have h8 : t < 8 := by omega
  have Nn7 := s1.2.1.2
  have H1 : fr [65, 2011, 1979, 1980, 1981, 1970, 1971, 1972, 1973, 1975, 1976, 1977, 1978, 2014] [(1990, 3392), (1960, 3090)] I J := g1
  have H2 : fr [2183, 2202, 2203, 2255, 2256, 2257, 2258, 2241, 2242, 2243, 2244, 2245, 2246, 2247, 2248, 2209, 2198, 2199, 2200] [(2075, 7736), (2075, 7818)] I' J' := g2.1
  have tb : ∃ T S : Nat, I 2009 (40 * t + B) = T ∧ T < 46088 ∧ I' 2200 (40 * t + (B - 1)) = S ∧ S < 160 := by
    rw [Nat.add_sub_cancel] at r7
    obtain ⟨b, s, h1, h2, h3, h4, h5, h6, h7⟩ := r7
    have z1 := h1 B (by omega)
    have z2 := h1 (B - 1) (by omega)
    have bd := thV_bd h2 h3 (fun k hk => ⟨(h1 k hk).2.2.1, (h1 k hk).2.2.2⟩) B (by omega)
    rw [up_cell _ (show 2009 ≠ 1994 by decide)] at z1
    rw [up_place _ _ (show 40 * t + (B - 1) ≠ 40 * t + B by omega)] at z2
    exact ⟨b B, s (B - 1), z1.1, by omega, z2.2.1, by omega⟩
  obtain ⟨T9, S, hT9, hTb, hS0, hSb⟩ := tb
  have eT : T = T9 := by omega
  subst eT
  have hJS : J' 2200 (40 * t + (B - 1)) = S := by rw [(g3 _ (by omega)).2.2.1]; exact hS0
  have z1 : (up (up G 1994 t (T : Int)) 1995 t (B : Int)) 1995 t = B := up_same _ _ _ _
  have z2 : (up (up G 1994 t (T : Int)) 1995 t (B : Int)) 1994 t = T := by rw [up_cell _ (by decide), up_same]
  have k3v := vv_kind hvv
  have z3 : (up (up G 1994 t (T : Int)) 1995 t (B : Int)) 1990 3402 = v := by rw [up_cell _ (by decide), up_cell _ (by decide)]; exact hG2
  have z4 : (up (up G 1994 t (T : Int)) 1995 t (B : Int)) 1990 3401 = kd := by rw [up_cell _ (by decide), up_cell _ (by decide)]; exact hG1
  rw [b195_282 hL (by omega) (by omega), tn0, z1, w32_id (by omega) (by omega), if_pos (by omega), b195_345, if_pos (by decide), b195_352 hL, z3, z4, c_push (T := T) hL h8 z2 hTb k3v]
  simp only [vWC_n, Nat.reduceAdd]
  have y1 : ∀ q, up (up (up (up (up G 1994 t (T : Int)) 1995 t (B : Int)) 1992 T kd) 1993 T v) 1994 t ((T : Int) + 1) 1992 q = if q = T then kd else J 1992 q := fun q => by
    rw [up_cell _ (by decide), up_cell _ (by decide), up_at, up_cell _ (by decide), up_cell _ (by decide), hG 1992 _ rfl]
  have y2 : ∀ q, up (up (up (up (up G 1994 t (T : Int)) 1995 t (B : Int)) 1992 T kd) 1993 T v) 1994 t ((T : Int) + 1) 1993 q = if q = T then v else J 1993 q := fun q => by
    rw [up_cell _ (by decide), up_at, up_cell _ (by decide), up_cell _ (by decide), up_cell _ (by decide), hG 1993 _ rfl]
  have y3 : ∀ u, up (up (up (up (up G 1994 t (T : Int)) 1995 t (B : Int)) 1992 T kd) 1993 T v) 1994 t ((T : Int) + 1) 1994 u = if u = t then (T : Int) + 1 else J 1994 u := fun u => by
    rw [up_at, up_cell _ (by decide), up_cell _ (by decide), up_cell _ (by decide), up_at, hG 1994 _ rfl]
    by_cases z : u = t
    · rw [if_pos z, if_pos z]
    · rw [if_neg z, if_neg z, if_neg z]
  have y4 : ∀ u, up (up (up (up (up G 1994 t (T : Int)) 1995 t (B : Int)) 1992 T kd) 1993 T v) 1994 t ((T : Int) + 1) 1995 u = if u = t then (B : Int) else J 1995 u := fun u => by
    rw [up_cell _ (by decide), up_cell _ (by decide), up_cell _ (by decide), up_at, up_cell _ (by decide), hG 1995 _ rfl]
  have E0 : fr [1992, 1993, 1994, 1995] [(1990, 3401), (1990, 3402)] J (up (up (up (up (up G 1994 t (T : Int)) 1995 t (B : Int)) 1992 T kd) 1993 T v) 1994 t ((T : Int) + 1)) := fr_upL (fr_upL (fr_upL (fr_upL (fr_upL (fr_weak hG (by decide) (by decide)) rfl _ _) rfl _ _) rfl _ _) rfl _ _) rfl _ _
  generalize up (up (up (up (up G 1994 t (T : Int)) 1995 t (B : Int)) 1992 T kd) 1993 T v) 1994 t ((T : Int) + 1) = H at y1 y2 y3 y4 E0 ⊢
  have x2 : ∀ u, up (up (up J' 2186 t (B : Int)) 2206 (160 * (40 * t + (B - 1)) + S) e) 2200 (40 * t + (B - 1)) ((S : Int) + 1) 2186 u = if u = t then (B : Int) else J' 2186 u := fun u => by
    rw [up_cell _ (by decide), up_cell _ (by decide), up_at]
  have x3 : ∀ b, up (up (up J' 2186 t (B : Int)) 2206 (160 * (40 * t + (B - 1)) + S) e) 2200 (40 * t + (B - 1)) ((S : Int) + 1) 2200 b = if b = 40 * t + (B - 1) then J' 2200 (40 * t + (B - 1)) + 1 else J' 2200 b := fun b => by
    rw [up_at, up_cell _ (by decide), up_cell _ (by decide), hJS]
  have x4 : ∀ q, up (up (up J' 2186 t (B : Int)) 2206 (160 * (40 * t + (B - 1)) + S) e) 2200 (40 * t + (B - 1)) ((S : Int) + 1) 2206 q = if q = 160 * (40 * t + (B - 1)) + (J' 2200 (40 * t + (B - 1))).toNat then e else J' 2206 q := fun q => by
    rw [up_cell _ (by decide), up_at, up_cell _ (by decide), hJS, tn0]
  have E2 : fr [2186, 2200, 2206] [] J' (up (up (up J' 2186 t (B : Int)) 2206 (160 * (40 * t + (B - 1)) + S) e) 2200 (40 * t + (B - 1)) ((S : Int) + 1)) := fr_upL (fr_upL (fr_upL (fr_refl _ _ _) rfl _ _) rfl _ _) rfl _ _
  have hm1 : ∀ K : vE → Prop, vW (d' + 8) 418 (10, [vr 2075, vi t, vl e, vu], [], (up J' 2186 t (B : Int), Y')) K ↔ K (.inl (some (vi 1)), (up (up (up J' 2186 t (B : Int)) 2206 (160 * (40 * t + (B - 1)) + S) e) 2200 (40 * t + (B - 1)) ((S : Int) + 1), Y')) := by
    intro K
    have e9 : 40 * (t : Int) + (B : Int) - 1 = ((40 * t + (B - 1) : Nat) : Int) := by omega
    rw [b418_10 hL' (by omega) (by omega), tn0, up_same, w32_id (by omega) (by omega), if_pos (by omega), b418_27 hL' (by omega) (by omega), tn0, up_same, e9, t_push (S := S) hL' (by omega) (by rw [up_cell _ (by decide)]; exact hJS) hSb]
    simp only [vWC_n, vWC_s, Nat.reduceAdd, b418_45]
  simp only [hm1]
  generalize up (up (up J' 2186 t (B : Int)) 2206 (160 * (40 * t + (B - 1)) + S) e) 2200 (40 * t + (B - 1)) ((S : Int) + 1) = H' at x2 x3 x4 E2 ⊢
  obtain ⟨pc, nd, hIS, n1, n2⟩ := mv_ret (kd := kd) (v := v) (e := e) (T0 := T) h0 hB0 hP hB g1 g2 g3 hd hT0 hvv E0 y1 y2 y3 y4 E2 x2 x3 x4
  have hA9 : H 1995 t = ((B - 1 : Nat) : Int) + 1 := by rw [y4, if_pos rfl]; omega
  rw [b195_365 hL, b177_0 hL, c_act (A := B - 1) hL h8 hA9]
  simp only [vWC_s, Nat.reduceAdd]
  rw [b177_5 hL (by omega) (by omega), tn0, n1, n2]
  exact hQ H H' pc nd hIS n1
/-- an activation that has a caller is over, with no value -/
theorem mv_end1 {x y w : Nat} {so : Int} (hL : vL Y) (hL' : vL Y') (h : IL Y Y' X mm Nn Lp nm pr ht I I' th t (B + 1) W N) (hB0 : 0 < B) (hP : PT Lp J J') (hB : bud J J' (W + 1) (ht 5000)) (g1 : goC I J) (g2 : goE I I' J' (40 * t + B)) (yN : y < Nn) (k1 : I 38 y = 1) (hd : I 2012 (40 * t + B) = 0) (hw : I 50 w = x ∧ w < 2100) (xN : x < Nn) (kx : I 38 x ≠ 9) (g3 : ∀ b, b ≠ 40 * t + B → J' 2198 b = I' 2198 b ∧ J' 2199 b = I' 2199 b ∧ J' 2200 b = I' 2200 b ∧ J 2011 b = I 2011 b ∧ J' 2202 b = I' 2202 b ∧ J' 2203 b = I' 2203 b)
    (hQ : ∀ (F F' : vJ) (pc nd : Nat), IS Y Y' X mm Nn Lp nm pr ht F F' th t B pc (W + 1) N → F 2007 (40 * t + (B - 1)) = nd → vW (d + 8) 177 (33, [vr 1990, vi t, vi ((40 * t + (B - 1) : Nat) : Int), vi nd, vi (2 * (pc : Int)), vr 37, vu, vu, vu], [], (F, Y)) (vWC (d + 9) 195 367 3 [vr 1990, vi t, vi so, vi ((40 * t + B : Nat) : Int), vi w, vi y, vi 0] [] (fun r => Q r (.inl (some (vi 1)), (F', Y'))))) :
    vW (d + 9) 195 (185, [vr 1990, vi t, vi so, vi ((40 * t + B : Nat) : Int), vi w, vi y, vu], [], (J, Y)) (fun r => vW (d' + 9) 417 (27, [vr 2075, vi ((40 * t + B : Nat) : Int), vi w], [], (J', Y')) (fun r' => Q r r')) := by
  have h0 := h
  obtain ⟨s1, ⟨s2, s2l⟩, s3, s4, ⟨s5, s6, s7, s8, s9, s10, s11⟩, s12, ⟨⟨r1, r2, r3, r4⟩, ⟨r5, r6⟩, r7, r8, r9⟩⟩ := h
  have th8 := s2.1.1.2.2
  have h8 : t < 8 := by omega
  have Nn7 := s1.2.1.2
  have nk := (s1.2.2.2.2.1 x xN).1.2
  have H1 : fr [65, 2011, 1979, 1980, 1981, 1970, 1971, 1972, 1973, 1975, 1976, 1977, 1978, 2014] [(1990, 3392), (1960, 3090)] I J := g1
  have H2 : fr [2183, 2202, 2203, 2255, 2256, 2257, 2258, 2241, 2242, 2243, 2244, 2245, 2246, 2247, 2248, 2209, 2198, 2199, 2200] [(2075, 7736), (2075, 7818)] I' J' := g2.1
  obtain ⟨T, hT0⟩ : ∃ T : Nat, I 2009 (40 * t + B) = T := by
    rw [Nat.add_sub_cancel] at r7
    obtain ⟨b, s, h1, _⟩ := r7
    have z1 := h1 B (by omega)
    rw [up_cell _ (show 2009 ≠ 1994 by decide)] at z1
    exact ⟨b B, z1.1⟩
  rw [c_lend (A := B) (T := T) (x := x) hL h8 (by rw [H1 1995 _ rfl, r1]; omega) (by omega) (by rw [H1 2009 _ rfl]; exact hT0) (by omega) (by rw [H1 38 _ rfl]; exact k1) hw.2 (by rw [H1 50 _ rfl]; exact hw.1) (by omega) (by rw [H1 38 _ rfl]; exact kx) (by rw [H1 38 _ rfl]; exact nk)]
  have hm1 : ∀ K : vE → Prop, vW (d' + 9) 417 (27, [vr 2075, vi ((40 * t + B : Nat) : Int), vi w], [], (J', Y')) K ↔ vW (d' + 8) 418 (10, [vr 2075, vi t, vl 0, vu], [], (up J' 2186 t (B : Int), Y')) (vWC (d' + 9) 417 36 3 [vr 2075, vi ((40 * t + B : Nat) : Int), vi w] [] K) := fun K => t_lend (A := B) hL' h8 (by rw [H2 2075 _ rfl]; exact s11) (by rw [H2 2186 _ rfl, r2]; omega)
  simp only [hm1]
  refine mv_end1g (kd := 0) (v := 0) (T := T) (Q := fun r q => vWC (d' + 9) 417 36 3 [vr 2075, vi ((40 * t + B : Nat) : Int), vi w] [] (fun r' => Q r r') q) hL hL' h0 hB0 hP hB g1 g2 (fr_upP (fr_upP (fr_refl _ _ _) rfl _) rfl _) (by rw [up_place _ _ (by decide), up_same]) (up_same _ _ _ _) (Or.inl ⟨rfl, rfl, by decide, by decide⟩) hT0 hd g3 (fun F F' pc nd e1 e2 => ?_)
  refine vWmo (Nat.le_refl _) (fun q hq => vWC_mo (fun r hr => ?_) hq) (hQ F F' pc nd e1 e2)
  simp only [vWC_s, Nat.reduceAdd]
  rw [b417_39, if_neg (by decide), b417_42, b417_47 (Or.inr rfl)]
  exact hr
end
