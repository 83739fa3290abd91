/-! ===== many steps, in both houses ===== -/
set_option maxRecDepth 20000
set_option maxHeartbeats 4000000
section
variable {d d' : Nat} {Y Y' : vY} {X mm Nn Lp : Nat} {nm pr ht : Nat → Nat} {Q : vE → vE → Prop}
theorem RS_status {I I' : vJ} {th W N : Nat} {P : vE → Prop} (hL : vL Y) (h : RS Y Y' X mm Nn Lp nm pr ht I I' th W N) : (vW d 173 (0, [vr 1990, vu, vu, vu], [], (I, Y)) P ↔ P (.inl (some (vi (I' 2075 7728))), (I, Y))) ∧ 1 ≤ I' 2075 7728 ∧ I' 2075 7728 ≤ 4 := by
  obtain ⟨s, tau, A1, sv, _⟩ := h
  have r96 : up (up I 1990 3394 s) 1990 3389 (tau : Int) 1996 = I 1996 := by rw [up_row _ (by decide), up_row _ (by decide)]
  have th1 : I 1990 3390 = th := by
    have q := A1.2.1.1.1.1
    rw [up_place _ _ (by decide), up_place _ _ (by decide)] at q
    exact q
  have nw : I 1990 3388 = N := by
    have q := A1.2.2.2.2.1.2.1
    rw [up_place _ _ (by decide), up_place _ _ (by decide)] at q
    exact q
  have hN := A1.2.2.2.2.1.2.2.2
  have th8 := A1.2.1.1.1.2.2
  have hst : ∀ u, u < th → 0 ≤ I 1996 u ∧ I 1996 u ≤ 4 := fun u hu => by
    have q := (A1.2.1.1.2 u hu).1.2
    rw [r96] at q
    exact q
  rw [c_status hL th1 th8 nw hN hst, sv]
  exact ⟨Iff.rfl, stv_bd _ _ _⟩
theorem rn_go {x : Nat} (hL : vL Y) (hL' : vL Y') (x2 : x ≤ 20000)
    (hQ : ∀ (J J' : vJ) (th W N j : Nat), RS Y Y' X mm Nn Lp nm pr ht J J' th W N → j ≤ x → Q (.inl (some (vi (j : Int))), (J, Y)) (.inl (some (vi (j : Int))), (J', Y'))) :
    ∀ (m i : Nat) (I I' : vJ) (th W N : Nat), i + m = x → RS Y Y' X mm Nn Lp nm pr ht I I' th W N → vW (d + 16) 172 (2, [vr 1990, vi (x : Int), vi (i : Int)], [], (I, Y)) (fun r => vW (d' + 16) 411 (22, [vr 2075, vi (x : Int), vi (i : Int)], [], (I', Y')) (fun r' => Q r r')) := by
  intro m
  induction m with
  | zero =>
    intro i I I' th W N hi h
    have hi : i = x := by omega
    have hm : ∀ P : vE → Prop, vW (d' + 16) 411 (22, [vr 2075, vi (x : Int), vi (i : Int)], [], (I', Y')) P ↔ P (.inl (some (vi (x : Int))), (I', Y')) := fun P => by
      rw [b411_22, hi, if_pos (Int.le_refl _), b411_45]
    simp only [hm]
    rw [hi, b172_2, if_pos (Int.le_refl _), b172_25]
    exact hQ I I' th W N x h (Nat.le_refl _)
  | succ m ih =>
    intro i I I' th W N hi h
    have st := fun P => (RS_status (d := d + 15) (P := P) hL h).1
    have sb := (RS_status (d := 0) (P := fun _ => True) hL h).2
    rw [b172_2, if_neg (by rw [w32_id (by omega) (by omega), w32_id (by omega) (by omega)]; omega), b172_7 hL, st]
    simp only [vWC_s, Nat.reduceAdd]
    rw [b172_11]
    by_cases z : I' 2075 7728 = 1
    · have hm : ∀ P : vE → Prop, vW (d' + 16) 411 (22, [vr 2075, vi (x : Int), vi (i : Int)], [], (I', Y')) P ↔ vW (d' + 15) 412 (0, [vr 2075, vu, vu, vu, vu, vu], [], (I', Y')) (vWC (d' + 16) 411 36 3 [vr 2075, vi (x : Int), vi (i : Int)] [] P) := fun P => by
        rw [b411_22, if_neg (by rw [w32_id (by omega) (by omega), w32_id (by omega) (by omega)]; omega), b411_27 hL', z, if_neg (fun q => q rfl), b411_35 hL']
      rw [z, if_neg (fun q => q rfl), b172_15 hL]
      apply vW_out
      simp only [hm]
      refine (st_all hL hL' h z (fun J J' th' W' hJ => ?_)).2
      simp only [vWC_n, Nat.reduceAdd]
      refine vW_swap.mp ?_
      rw [b172_19]
      simp only [b411_39]
      exact ih (i + 1) J J' th' W' (N + 1) (by omega) hJ
    · have hm : ∀ P : vE → Prop, vW (d' + 16) 411 (22, [vr 2075, vi (x : Int), vi (i : Int)], [], (I', Y')) P ↔ P (.inl (some (vi (i : Int))), (I', Y')) := fun P => by
        rw [b411_22, if_neg (by rw [w32_id (by omega) (by omega), w32_id (by omega) (by omega)]; omega), b411_27 hL', if_pos (by rw [w32_id (by omega) (by omega), w32_id (by decide) (by decide)]; exact z), b411_45]
      simp only [hm]
      rw [if_pos (by rw [w32_id (by omega) (by omega), w32_id (by decide) (by decide)]; exact z), b172_25]
      exact hQ I I' th W N i h (by omega)
/-- what a run leaves alone -/
theorem RS_keep {I I' J J' : vJ} {th W N th' W' N' : Nat} (h : RS Y Y' X mm Nn Lp nm pr ht I I' th W N) (g : RS Y Y' X mm Nn Lp nm pr ht J J' th' W' N') : agE I I' J J' := by
  obtain ⟨s, tau, A1, _⟩ := h
  obtain ⟨s2, tau2, A2, _⟩ := g
  have q := agH_two A1.1.2.1.1.2.2.2.1 A2.1.2.1.1.2.2.2.1
  have a1 : fr LC PC I _ := fr_sub (fr_seed I s tau) (by rfl) (by rfl)
  have a2 : fr LC PC J _ := fr_sub (fr_seed J s2 tau2) (by rfl) (by rfl)
  have b1 : fr LT PM I' _ := fr_sub (fr_stat I' 1) (by rfl) (by rfl)
  have b2 : fr LT PM J' _ := fr_sub (fr_stat J' 1) (by rfl) (by rfl)
  exact ⟨fun c f k e => (a2 c f e).symm.trans ((q.1 c f k e).trans (a1 c f e)), fun c f k e => (b2 c f e).symm.trans ((q.2 c f k e).trans (b1 c f e))⟩
end
