/-! ===== most: the pair of calls ===== -/
set_option maxRecDepth 20000
set_option maxHeartbeats 4000000
section
variable {d d' : Nat} {Y Y' : vY} {X mm Nn Lp : Nat} {nm pr ht : Nat → Nat} {I I' : vJ} {th W N : Nat} {Q : vE → vE → Prop}
theorem n_most {a b : Int} (hL : vL Y) (hL' : vL Y') (hi : I 1990 3398 = 0) (hs : I' 2075 7728 = 0) : An d 27 [vr 18, vi a, vi b, vu, vu] I Y (-1) ∧ An d' 461 [vr 2075, vi a, vi b, vu, vu, vu, vu, vu] I' Y' (-1) := by
  refine ⟨fun P => ?_, fun P => ?_⟩
  · rw [b27_0 hL, hi, if_pos (by decide), b27_22]
  · rw [b461_0 hL', hs, if_pos (by decide), b461_19]
theorem o_most {a b : Int} (hL : vL Y) (hL' : vL Y') (ha : inI a) (hb : inI b) (h : RQ Y Y' X mm Nn Lp nm pr ht I I' th W N) (hi : I 1990 3398 = 1) (hM : isM I I' Y' mm)
    (hQ : ∀ (J J' : vJ) (v v' : Int), w32 v = w32 v' → fr [2067] [] I J → fr [2259] [] I' J' → Q (.inl (some (vi v)), (J, Y)) (.inl (some (vi v')), (J', Y'))) :
    vW (d + 3) 27 (0, [vr 18, vi a, vi b, vu, vu], [], (I, Y)) (fun r => vW (d' + 3) 461 (0, [vr 2075, vi a, vi b, vu, vu, vu, vu, vu], [], (I', Y')) (fun r' => Q r r')) := by
  have sb := (RQ_status (d := 0) (P := fun _ => True) hL h).2
  obtain ⟨_, _, ⟨_, ⟨n, hR, tB⟩, _, _, _, _, _, _, _, _, ⟨_, bg1, bg2⟩, _⟩, ⟨_, _, _, hT⟩, ⟨_, _, N2, W2, _⟩, _⟩ := h
  obtain ⟨⟨r1, r2⟩, r3, r4, r5, r6, r7⟩ := hR
  have mm24 := hM.2.1
  have cm := fun P => c_mem (d := d + 1) hL ha hM P
  have tm := fun P => t_mem (d' := d' + 1) hL' ha hM P
  have hb2 := hb
  unfold inI at hb2
  have ts : w32 (I' 2075 7728) ≠ 0 := by rw [w32_id (by omega) (by omega)]; omega
  by_cases z : (0 ≤ a ∧ a ≤ (mm : Int) - 1) ∧ 0 ≤ b
  · obtain ⟨z1, z2⟩ := z
    obtain ⟨m, hm⟩ : ∃ m : Nat, a = m := ⟨a.toNat, by omega⟩
    subst hm
    have tx : ∀ j, j < n → 1 ≤ I' 2257 j ∧ I' 2257 j < 2147483647 := fun j hj => by
      have := tB j hj
      omega
    have eC : entC I n (I' 2255) (I' 2257) (I' 2256) := by
      refine ⟨r1, r3, fun j hj => ?_⟩
      obtain ⟨p, p1, p2, p3⟩ := r5.1 j hj
      have q := r7 j hj
      rw [p2, tn0] at q
      exact ⟨p, p1, p2, p3, q, (r4.1 j hj).1, (r4.1 j hj).2, tx j hj⟩
    have eT : entT I' n := ⟨r2, r3, fun j hj => ⟨(r4.1 j hj).1, (r4.1 j hj).2, tx j hj⟩⟩
    have hd : ∀ i i', i < n → i' < n → I' 2255 i = (m : Int) → I' 2255 i' = (m : Int) → I' 2256 i = I' 2256 i' → i = i' := fun i i' h1 h2 h3 h4 h5 => r4.2 i i' h1 h2 (by omega) h5
    have h2 : 0 ≤ b ∧ b < 2147483648 := by omega
    have t0 : ∀ P : vE → Prop, vW (d' + 3) 461 (0, [vr 2075, vi (m : Int), vi b, vu, vu, vu, vu, vu], [], (I', Y')) P ↔ vW (d' + 3) 461 (21, [vr 2075, vi (m : Int), vi b, vu, vu, vu, vu, vu], [], (I', Y')) P := fun P => by
      rw [b461_0 hL', if_neg ts, b461_7 hL', tm, if_pos z1]
      simp only [vWC_s, Nat.reduceAdd]
      rw [m461_12, if_neg (fun q => by
        rcases q with q | q
        · exact absurd q (by decide)
        · exact q (by rw [w32_id hb2.1 hb2.2]; exact z2))]
    simp only [t0]
    rw [b27_0 hL, hi, if_neg (by decide), b27_10 hL, cm, if_pos z1]
    simp only [vWC_s, Nat.reduceAdd]
    rw [m27_15, if_neg (fun q => by
      rcases q with q | q
      · exact absurd q (by decide)
      · exact q (by rw [w32_id hb2.1 hb2.2]; exact z2))]
    refine c_most (d := d + 2) (m := m) (n := n) hL eC hd (by omega) h2 (fun J v F v1 v2 => ?_)
    refine t_most (d := d' + 2) (m := m) (n := n) hL' eT hd (by omega) h2 (fun J' v' F' t1 t2 => ?_)
    refine hQ J J' v v' ?_ F F'
    by_cases y : b < cnN (I' 2255) m n
    · obtain ⟨j, j1, j2, j3, j4⟩ := v1 y
      obtain ⟨k, k1, k2, k3, k4⟩ := t1 y
      have e : j = k := rk_inj j1 k1 j2 k2 hd (by rw [j3, k3])
      subst e
      rw [j4, k4, w32_id (by have := (r4.1 j j1).2; omega) (by have := (r4.1 j j1).2; omega)]
    · rw [v2 y, t2 y]
  · have t0 : ∀ P : vE → Prop, vW (d' + 3) 461 (0, [vr 2075, vi a, vi b, vu, vu, vu, vu, vu], [], (I', Y')) P ↔ P (.inl (some (vi (-1))), (I', Y')) := fun P => by
      rw [b461_0 hL', if_neg ts, b461_7 hL', tm]
      simp only [vWC_s, Nat.reduceAdd]
      rw [m461_12]
      by_cases z1 : 0 ≤ a ∧ a ≤ (mm : Int) - 1
      · rw [if_pos z1, if_pos (Or.inr (by rw [w32_id hb2.1 hb2.2]; exact fun q => z ⟨z1, q⟩)), b461_19]
      · rw [if_neg z1, if_pos (Or.inl (by decide)), b461_19]
    simp only [t0]
    rw [b27_0 hL, hi, if_neg (by decide), b27_10 hL, cm]
    simp only [vWC_s, Nat.reduceAdd]
    rw [m27_15]
    by_cases z1 : 0 ≤ a ∧ a ≤ (mm : Int) - 1
    · rw [if_pos z1, if_pos (Or.inr (by rw [w32_id hb2.1 hb2.2]; exact fun q => z ⟨z1, q⟩)), b27_22]
      exact hQ I I' _ _ rfl (fr_refl _ _ _) (fr_refl _ _ _)
    · rw [if_neg z1, if_pos (Or.inl (by decide)), b27_22]
      exact hQ I I' _ _ rfl (fr_refl _ _ _) (fr_refl _ _ _)
end
section
variable {L : Nat} {x : Nat → Int} {SX : vJ → vJ → vY → Nat → Nat → Nat → Prop}
theorem d_most (hX : sxK SX) : oD17 (fun k I Y => LW L x SX k I I Y) := fun k hk a1 a2 ha1 ha2 => o_pair hX (sL_c sG_18 (sL_c (sG_i _) (sL_c (sG_i _) (sL_c sG_u (sL_c sG_u (sL_nil _)))))) (fun Y _ => (sL_c sG_m (sL_c (sG_i _) (sL_c (sG_i _) (sL_c sG_u (sL_c sG_u (sL_c sG_u (sL_c sG_u (sL_c sG_u (sL_nil _)))))))))) (fun I I' Y h => by
  have h0 := h
  obtain ⟨⟨v1, _⟩, _, ⟨n, t1⟩, q1, mm, X, Nn, Lp, C, nm, pr, ht, m1, _, _, _, m5⟩ := h
  rcases m5 with ⟨r1, r2, _⟩ | ⟨r1, _, th, W, N, r3, _⟩
  · obtain ⟨b1, b2⟩ := n_most (d := 2000) (d' := 2000) (a := a1) (b := a2) v1 v1 r1 r2
    exact (b1 _).mpr ((b2 _).mpr ⟨_, _, I, I', rfl, rfl, rfl, LW_up h0⟩)
  · refine o_most (d := 1997) (d' := 1997) v1 v1 ha1 ha2 (RS_open r3) r1 m1 (fun J J' v v' hv F1 F2 => ⟨v, v', J, J', rfl, rfl, hv, LW_move hX h0 (fr_sub F1 (by rfl) (by rfl)) (fr_sub F2 (by rfl) (by rfl)) ⟨n, ?_⟩ ⟨?_, kp_of q1.2 (fun c a b => fr_out F1 2069 2075 (by rfl) a b) (fun c a b => fr_out F2 2277 2280 (by rfl) a b)⟩⟩)
    · unfold tp at *
      rw [F1 18 _ rfl, fr_row F1 19 (fun _ => rfl), F2 2075 _ rfl, fr_row F2 2076 (fun _ => rfl)]
      exact t1
    · have q1 := q1.1
      unfold pa at *
      rw [fr_row F1 2062 (fun _ => rfl), fr_row F1 2063 (fun _ => rfl), fr_row F2 2180 (fun _ => rfl), fr_row F2 2182 (fun _ => rfl)]
      exact q1)
end
