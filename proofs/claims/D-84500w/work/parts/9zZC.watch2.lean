/-! ===== watch as a pair of the law ===== -/
set_option maxRecDepth 20000
set_option maxHeartbeats 4000000
theorem bgR_kp {I I' J J' : vJ} {C : Nat} (h : bgR I I' C) (hK : pKeep J J') (h1 : ∀ c, ¬ (2048 ≤ c ∧ c < 2060) → J c = I c) (h2 : ∀ c, ¬ (2267 ≤ c ∧ c < 2277) → J' c = I' c) : bgR J J' C := by
  have B : bgR (fun c => if 2048 ≤ c ∧ c < 2060 then I c else J c) (fun c => if 2267 ≤ c ∧ c < 2277 then I' c else J' c) C := by
    have e1 : (fun c => if 2048 ≤ c ∧ c < 2060 then I c else J c) = I := funext fun c => by
      by_cases z : 2048 ≤ c ∧ c < 2060
      · rw [if_pos z]
      · rw [if_neg z]; exact h1 c z
    have e2 : (fun c => if 2267 ≤ c ∧ c < 2277 then I' c else J' c) = I' := funext fun c => by
      by_cases z : 2267 ≤ c ∧ c < 2277
      · rw [if_pos z]
      · rw [if_neg z]; exact h2 c z
    rw [e1, e2]
    exact h
  obtain ⟨b1, b2, b3, b4, b5, b6, b7⟩ := B
  exact ⟨b1, b2, b3, b4, b5, hK, b7⟩
section
variable {L : Nat} {x : Nat → Int} {SX : vJ → vJ → vY → Nat → Nat → Nat → Prop}
theorem d_watch (hX : sxK SX) (hD : sxD SX) : oD28 (fun k I Y => LW L x SX k I I Y) := fun k hk a1 a2 a3 ha1 ha2 ha3 => o_pair hX (sL_c sG_18 (sL_c (sG_i _) (sL_c (sG_i _) (sL_c (sG_i _) (sL_nil _))))) (fun Y _ => (sL_c sG_m (sL_c (sG_i _) (sL_c (sG_i _) (sL_c (sG_i _) (sL_c sG_u (sL_nil _))))))) (fun I I' Y h => by
  have h0 := h
  obtain ⟨⟨v1, _⟩, _, _, _, mm, X, Nn, Lp, C, nm, pr, ht, m1, m2, m3, m4, m5⟩ := h
  refine o_watch (d := 1997) (d' := 1997) ha1 ha2 ha3 v1 m1 (hD _ _ _ _ _ _ m2).2 ⟨_, _, I, I', rfl, rfl, rfl, LW_up h0⟩ (fun q m n q4 m24 n7 z0 => ⟨1, 1, _, _, rfl, rfl, rfl, LW_run (Lp := Lp) (C' := C) (pr := pr) (ht' := ht) hX h0 m1 m2 m3 m4.2 (agB_of (fr_sub (wt_fr1 q4 (n : Int)) (by rfl) (by rfl)) (fr_sub (wt_fr2 q m n) (by rfl) (by rfl))) (by omega) (Or.inr ⟨wt_fr1 q4 (n : Int) 18 _ rfl, fr_row (wt_fr2 q m n) 2183 (fun _ => rfl), wt_fr1 q4 (n : Int) 1990 _ rfl⟩) ?_⟩)
  have F1 := wt_fr1 (I := I) q4 (n : Int)
  have F2 := wt_fr2 (I' := I') q (m : Int) (n : Int)
  rcases m5 with ⟨r1, r2, r3, r4⟩ | ⟨r1, r2, th, W, N, r3, r4⟩
  · refine Or.inl ⟨by rw [F1 1990 _ rfl]; exact r1, by rw [F2 2075 _ rfl]; exact r2, bgR_kp r3 (wt_keep q4 m24 n7 r3.2.2.2.2.2.1) (fun c hc => funext fun f => ?_) (fun c hc => funext fun f => ?_), fun z => ST_ag (r4 z) (agT_fr F1 F2 rfl)⟩
    · have hq : c ≠ 2048 + 3 * q := by omega
      unfold wtC
      rw [up_cell _ hq, up_cell _ hq, up_cell _ hq, up_cell _ hq, up_cell _ hq, up_cell _ hq, up_cell _ hq]
    · unfold wtT
      rw [up_cell _ (by omega), up_cell _ (by omega), up_cell _ (by omega), up_cell _ (by omega), up_cell _ (by omega), up_cell _ (by omega), up_cell _ (by omega), up_cell _ (by omega)]
  · exact Or.inr ⟨by rw [F1 1990 _ rfl]; exact r1, r2, th, W, N, RS_kp r3 (wt_keep q4 m24 n7 (RS_open r3).2.2.1.2.2.2.2.2.1) F1 F2, r4⟩)
end
