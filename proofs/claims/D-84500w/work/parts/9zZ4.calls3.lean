/-! ===== the law's pairs of calls: keep, gone ===== -/
set_option maxRecDepth 20000
set_option maxHeartbeats 4000000
section
variable {d d' : Nat} {Y Y' : vY} {X mm Nn Lp : Nat} {nm pr ht : Nat → Nat} {I I' : vJ} {th W N : Nat} {Q : vE → vE → Prop}
theorem t_keepl {P : vE → Prop} {q : Nat} (hL' : vL Y') (q2 : q < 2) (hQ : ∀ K : vJ, fr [2278, 2279] [] I' K → (∀ p, K 2278 p = if 24 * q ≤ p ∧ p < 24 * q + 24 then I' 2253 (p - 24 * q) else I' 2278 p) → (∀ p, K 2279 p = if 24 * q ≤ p ∧ p < 24 * q + 24 then I' 2254 (p - 24 * q) else I' 2279 p) → P (.inl (some (vi 1)), (K, Y'))) : vW d' 476 (27, [vr 2075, vi (q : Int), vi 0], [], (I', Y')) P := by
  have key : ∀ (m i : Nat) (K : vJ), i + m = 24 → fr [2278, 2279] [] I' K → (∀ p, K 2278 p = if 24 * q ≤ p ∧ p < 24 * q + i then I' 2253 (p - 24 * q) else I' 2278 p) → (∀ p, K 2279 p = if 24 * q ≤ p ∧ p < 24 * q + i then I' 2254 (p - 24 * q) else I' 2279 p) → vW d' 476 (27, [vr 2075, vi (q : Int), vi (i : Int)], [], (K, Y')) P := by
    intro m
    induction m with
    | zero =>
      intro i K hi hf h1 h2
      have hi : i = 24 := by omega
      subst hi
      rw [b476_27, if_pos (by decide), b476_73]
      exact hQ K hf h1 h2
    | succ m ih =>
      intro i K hi hf h1 h2
      have e : (24 * (q : Int) + (i : Int)).toNat = 24 * q + i := by omega
      rw [b476_27, if_neg (by rw [w32_id (by omega) (by omega), w32_id (by omega) (by omega)]; omega), b476_33 hL' (by omega) (by omega) (by omega) (by omega), tn0, e, hf 2253 _ rfl, hf 2254 _ rfl]
      refine ih (i + 1) _ (by omega) (fr_upL (fr_upL hf rfl _ _) rfl _ _) (fun p => ?_) (fun p => ?_)
      · rw [up_cell _ (by decide), up_at, h1]
        by_cases z : p = 24 * q + i
        · rw [if_pos z, if_pos (by omega), show p - 24 * q = i by omega]
        · rw [if_neg z]
          by_cases y : 24 * q ≤ p ∧ p < 24 * q + i
          · rw [if_pos y, if_pos (by omega)]
          · rw [if_neg y, if_neg (by omega)]
      · rw [up_at, up_cell _ (by decide), h2]
        by_cases z : p = 24 * q + i
        · rw [if_pos z, if_pos (by omega), show p - 24 * q = i by omega]
        · rw [if_neg z]
          by_cases y : 24 * q ≤ p ∧ p < 24 * q + i
          · rw [if_pos y, if_pos (by omega)]
          · rw [if_neg y, if_neg (by omega)]
  exact key 24 0 I' (by omega) (fr_refl _ _ _) (fun p => by rw [if_neg (by omega)]) (fun p => by rw [if_neg (by omega)])
theorem in1 : inI 1 := by unfold inI; omega
theorem n_keep {a : Int} (ha : inI a) (hL : vL Y) (hL' : vL Y') (hi : I 1990 3398 = 0) (hs : I' 2075 7728 = 0) : An d 41 [vr 18, vi a] I Y (-1) ∧ An (d' + 1) 476 [vr 2075, vi a, vu] I' Y' (-1) := by
  refine ⟨fun P => by rw [b41_0 hL, hi, if_pos (by decide), b41_19], fun P => ?_⟩
  rw [b476_0, t_in ha in0 in1]
  simp only [vWC_s, Nat.reduceAdd]
  rw [b476_6]
  by_cases z : 0 ≤ a ∧ a ≤ 1
  · rw [if_pos z, if_neg (by decide), b476_9 hL', hs, if_neg (by decide), b476_16]
  · rw [if_neg z, if_pos (by decide), b476_16]
theorem o_keep {a : Int} (hL : vL Y) (hL' : vL Y') (ha : inI a) (h : RQ Y Y' X mm Nn Lp nm pr ht I I' th W N) (hi : I 1990 3398 = 1) (hk : kp I I')
    (hN : Q (.inl (some (vi (-1))), (I, Y)) (.inl (some (vi (-1))), (I', Y')))
    (hQ : ∀ J J' : vJ, fr [2069, 2070, 2072, 2073, 2074] [] I J → fr [2277, 2278, 2279] [] I' J' → kp J J' → Q (.inl (some (vi 1)), (J, Y)) (.inl (some (vi 1)), (J', Y'))) :
    vW (d + 1) 41 (0, [vr 18, vi a], [], (I, Y)) (fun r => vW (d' + 1) 476 (0, [vr 2075, vi a, vu], [], (I', Y')) (fun r' => Q r r')) := by
  have sb := (RQ_status (d := 0) (P := fun _ => True) hL h).2
  have pc := h.2.2.1.2.2.2.2.2.2.1.2
  have pl := h.2.2.1.2.2.2.2.2.2.2.1
  unfold pCalls at pl
  have t0 : ∀ P : vE → Prop, vW (d' + 1) 476 (0, [vr 2075, vi a, vu], [], (I', Y')) P ↔ if 0 ≤ a ∧ a ≤ 1 then vW (d' + 1) 476 (18, [vr 2075, vi a, vu], [], (I', Y')) P else P (.inl (some (vi (-1))), (I', Y')) := fun P => by
    rw [b476_0, t_in ha in0 in1]
    simp only [vWC_s, Nat.reduceAdd]
    rw [b476_6]
    by_cases z : 0 ≤ a ∧ a ≤ 1
    · rw [if_pos z, if_pos z, if_neg (by decide), b476_9 hL', if_pos (by rw [w32_id (by omega) (by omega)]; omega)]
    · rw [if_neg z, if_neg z, if_pos (by decide), b476_16]
  rw [b41_0 hL, hi, if_neg (by decide), b41_10, c_in ha in0 in1]
  simp only [vWC_s, Nat.reduceAdd]
  rw [b41_16]
  by_cases z : 0 ≤ a ∧ a ≤ 1
  · obtain ⟨q, hq⟩ : ∃ q : Nat, a = q := ⟨a.toNat, by omega⟩
    subst hq
    have q2 : q < 2 := by omega
    have q01 : q = 0 ∨ q = 1 := by omega
    have e1 : Y.1 2068 ((q : Int)).toNat = 2069 + q := by
      rw [tn0]
      rcases q01 with rfl | rfl
      · exact lP hL 2068 0 2069 rfl
      · exact lP hL 2068 1 2070 rfl
    have e2 : Y.1 2071 ((q : Int)).toNat = 2072 + q := by
      rw [tn0]
      rcases q01 with rfl | rfl
      · exact lP hL 2071 0 2072 rfl
      · exact lP hL 2071 1 2073 rfl
    have k1 : Y.2.1 (2069 + q) = 100 ∧ Y.2.2.1 (2069 + q) = 24 := by
      rcases q01 with rfl | rfl
      · exact ⟨lK hL 2069 100 rfl, lLn hL 2069 24 rfl⟩
      · exact ⟨lK hL 2070 100 rfl, lLn hL 2070 24 rfl⟩
    have k2 : Y.2.1 (2072 + q) = 100 ∧ Y.2.2.1 (2072 + q) = 24 := by
      rcases q01 with rfl | rfl
      · exact ⟨lK hL 2072 100 rfl, lLn hL 2072 24 rfl⟩
      · exact ⟨lK hL 2073 100 rfl, lLn hL 2073 24 rfl⟩
    have hb1 : List.any [2069, 2070, 2072, 2073, 2074] (fun r => Nat.beq r (2069 + q)) = true := by rcases q01 with rfl | rfl <;> rfl
    have hb2 : List.any [2069, 2070, 2072, 2073, 2074] (fun r => Nat.beq r (2072 + q)) = true := by rcases q01 with rfl | rfl <;> rfl
    rw [if_pos z, if_pos (by decide), b41_21 hL (by omega) (by omega) (Or.inl (lK hL 1968 100 rfl)) (by rw [e1, k1.1]; exact lK hL 1968 100 rfl) (by rw [e1]; omega) (by rw [lLn hL 1968 24 rfl]; decide) (by rw [e1, k1.2]; decide) (by decide) (by rw [e1]; omega) (Or.inl (lK hL 1969 100 rfl)) (by rw [e2, k2.1]; exact lK hL 1969 100 rfl) (by rw [e2]; omega) (by rw [lLn hL 1969 24 rfl]; decide) (by rw [e2, k2.2]; decide) (by rw [e2]; omega), e1, e2, tn0, t0, if_pos z, b476_18 hL' (by omega) (by omega), tn0]
    refine t_keepl hL' q2 (fun K F k3 k4 => hQ _ K (fr_upL (fr_ucp (fr_ucp (fr_refl _ _ _) hb1) hb2) rfl _ _) (fr_trans (fr_upL (fr_refl _ _ _) rfl _ _) (fr_weak F (by decide) (by decide))) (fun q' hq' => ⟨?_, fun m hm => ⟨?_, ?_⟩⟩))
    · rw [F 2277 q' rfl, up_at, up_at]
      by_cases y : q' = q
      · rw [if_pos y, if_pos y]; exact ⟨rfl, Or.inr rfl⟩
      · rw [if_neg y, if_neg y, ucp_cell (by omega), ucp_cell (by omega)]
        exact (hk q' hq').1
    · rw [k3, up_cell _ (by omega), ucp_cell (by omega)]
      by_cases y : q' = q
      · subst y
        rw [ucp_in (by omega) (by omega), if_pos (by omega), up_cell _ (by decide), show 0 + (m - 0) = m by omega, show 24 * q' + m - 24 * q' = m by omega]
        exact pl m hm
      · rw [ucp_cell (by omega), if_neg (by omega), up_cell _ (by decide)]
        exact ((hk q' hq').2 m hm).1
    · rw [k4, up_cell _ (by omega)]
      by_cases y : q' = q
      · subst y
        rw [ucp_in (by omega) (by omega), ucp_cell (by omega), if_pos (by omega), up_cell _ (by decide), show 0 + (m - 0) = m by omega, show 24 * q' + m - 24 * q' = m by omega]
        exact pc m hm
      · rw [ucp_cell (by omega), ucp_cell (by omega), if_neg (by omega), up_cell _ (by decide)]
        exact ((hk q' hq').2 m hm).2
  · rw [if_neg z, if_neg (by decide), b41_19, t0, if_neg z]
    exact hN
end
section
variable {L : Nat} {x : Nat → Int} {SX : vJ → vJ → vY → Nat → Nat → Nat → Prop}
theorem d_keep (hX : sxK SX) : oD30 (fun k I Y => LW L x SX k I I Y) := fun k hk a1 ha1 => o_pair hX (sL_c sG_18 (sL_c (sG_i _) (sL_nil _))) (fun Y _ => (sL_c sG_m (sL_c (sG_i _) (sL_c sG_u (sL_nil _))))) (fun I I' Y h => by
  have h0 := h
  obtain ⟨⟨v1, _⟩, _, ⟨n, t1⟩, q1, mm, X, Nn, Lp, C, nm, pr, ht, _, _, _, _, m5⟩ := h
  rcases m5 with ⟨r1, r2, _⟩ | ⟨r1, _, th, W, N, r3, _⟩
  · obtain ⟨b1, b2⟩ := n_keep (d := 2000) (d' := 1999) ha1 v1 v1 r1 r2
    exact (b1 _).mpr ((b2 _).mpr ⟨_, _, I, I', rfl, rfl, rfl, LW_up h0⟩)
  · refine o_keep (d := 1999) (d' := 1999) v1 v1 ha1 (RS_open r3) r1 q1.2 ⟨_, _, I, I', rfl, rfl, rfl, LW_up h0⟩ (fun J J' F1 F2 kq => ⟨1, 1, J, J', rfl, rfl, rfl, LW_move hX h0 (fr_sub F1 (by rfl) (by rfl)) (fr_sub F2 (by rfl) (by rfl)) ⟨n, ?_⟩ ⟨?_, kq⟩⟩)
    · unfold tp at *
      rw [F1 18 _ rfl, fr_row F1 19 (fun _ => rfl), F2 2075 _ rfl, fr_row F2 2076 (fun _ => rfl)]
      exact t1
    · have q1 := q1.1
      unfold pa at *
      rw [fr_row F1 2062 (fun _ => rfl), fr_row F1 2063 (fun _ => rfl), fr_row F2 2180 (fun _ => rfl), fr_row F2 2182 (fun _ => rfl)]
      exact q1)
theorem d_gone (hX : sxK SX) : oD15 (fun k I Y => LW L x SX k I I Y) := fun k hk a1 a2 ha1 ha2 => o_pair hX (sL_c sG_18 (sL_c (sG_i _) (sL_c (sG_i _) (sL_nil _)))) (fun Y _ => (sL_c sG_m (sL_c (sG_i _) (sL_c (sG_i _) (sL_c sG_u (sL_nil _)))))) (fun I I' Y h => by
  have h0 := h
  obtain ⟨⟨v1, _⟩, _, _, _, mm, X, Nn, Lp, C, nm, pr, ht, m1, _, _, _, m5⟩ := h
  rcases m5 with ⟨r1, r2, _⟩ | ⟨r1, _, th, W, N, r3, _⟩
  · obtain ⟨b1, b2⟩ := n_gone (d := 2000) (d' := 2000) (a := a1) (b := a2) v1 v1 r1 r2
    exact (b1 _).mpr ((b2 _).mpr ⟨_, _, I, I', rfl, rfl, rfl, LW_up h0⟩)
  · refine q_gone (d := 1997) (d' := 1998) v1 v1 ha1 ha2 (RS_open r3) r1 m1 (fun m hm => ?_) (fun v => ⟨v, v, I, I', rfl, rfl, rfl, LW_up h0⟩)
    obtain ⟨o, p, nn, nd, w, y, pp, c1, _, _, _, _, c6, _⟩ := ST_entry (RS_open r3).1 hm
    exact ⟨o, pp, c1, c6.2.2.2.2.2.1⟩)
end
