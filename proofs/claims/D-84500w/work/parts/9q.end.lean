/-! ===== the end of a step in both houses, but for the looks ===== -/
set_option maxRecDepth 20000
set_option maxHeartbeats 4000000
theorem st_end {d d' : Nat} {Y Y' : vY} {X mm Nn Lp : Nat} {nm pr ht : Nat → Nat} {I I' : vJ} {th W N : Nat} {x1 x2 x3 y1 y2 y3 y4 : Int} {Q : vE → vE → Prop} (hL : vL Y) (hL' : vL Y') (h : AS Y Y' X mm Nn Lp nm pr ht I I' th W N)
    (hLook : ∀ M' : vJ, RM Y Y' X mm Nn Lp nm pr ht I M' th W N → vW (d + 1) 174 (189, [vr 1990, vi x1, vi x2, vi x3, vi 9], [], (I, Y)) (fun z => vW (d' + 2) 412 (252, [vr 2075, vi y1, vi y2, vi y3, vi y4, vu], [], (M', Y')) (fun z' => Q z z')))
    (hQ : ∀ J J' : vJ, RS Y Y' X mm Nn Lp nm pr ht J J' th W N → Q (.inl none, (J, Y)) (.inl none, (J', Y'))) :
    vW (d + 1) 174 (170, [vr 1990, vi x1, vi x2, vi x3, vi 9], [], (I, Y)) (fun z => vW (d' + 2) 412 (228, [vr 2075, vi y1, vi y2, vi y3, vi y4, vu], [], (I', Y')) (fun z' => Q z z')) := by
  refine vW_swap.mpr ?_
  rw [b412_228 hL']
  refine m_turn hL' h (fun M' hM => ?_)
  simp only [vWC_n, Nat.reduceAdd]
  have hM0 := hM
  obtain ⟨s, tau, t, A1, _⟩ := hM
  have ev : I 1990 3397 = M' 2075 7733 := by
    have q := A1.2.2.1.2.2.2.2.2.2.2.2.2.2.2.2.1.2.1.1
    rw [up_place _ _ (by decide), up_place _ _ (by decide), up_place _ _ (by decide)] at q
    exact q
  have nw : I 1990 3388 = N := by
    have q := A1.2.2.2.2.1.2.1
    rw [up_place _ _ (by decide), up_place _ _ (by decide)] at q
    exact q
  have nw' : M' 2075 7729 = N := by
    have q := A1.2.2.2.2.1.2.2.1
    rw [up_place _ _ (by decide)] at q
    exact q
  have hc : ∀ P : vE → Prop, vW (d + 1) 174 (170, [vr 1990, vi x1, vi x2, vi x3, vi 9], [], (I, Y)) P ↔ if ((w32 (M' 2075 7733) ≤ 0) ∨ (w32 ((w32 (N : Int)).tmod (w32 (M' 2075 7733))) ≠ 0)) then vW (d + 1) 174 (198, [vr 1990, vi x1, vi x2, vi x3, vi 9], [], (I, Y)) P else vW (d + 1) 174 (189, [vr 1990, vi x1, vi x2, vi x3, vi 9], [], (I, Y)) P := fun P => by
    rw [m174_170 hL (fun q e => q (by rw [e]; exact Int.le_refl _)), ev, nw]
  rw [m412_233 hL' (fun q e => q (by rw [e]; exact Int.le_refl _)), nw']
  simp only [hc]
  rcases Classical.em ((w32 (M' 2075 7733) ≤ 0) ∨ (w32 ((w32 (N : Int)).tmod (w32 (M' 2075 7733))) ≠ 0)) with C | C
  · rw [if_pos C, b412_258]
    simp only [if_pos C]
    exact h_turn hL hM0 (fun J hJ => hQ J M' hJ)
  · rw [if_neg C]
    simp only [if_neg C]
    exact vW_swap.mp (hLook M' hM0)
