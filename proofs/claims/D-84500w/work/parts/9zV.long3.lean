/-! ===== longest, gain: calls ===== -/
set_option maxRecDepth 20000
set_option maxHeartbeats 4000000
section
variable {d d' : Nat} {Y Y' : vY} {X mm Nn Lp : Nat} {nm pr ht : Nat → Nat} {I I' : vJ} {th W N : Nat} {Q : vE → vE → Prop}
theorem o_long {a : Int} (hL : vL Y) (hL' : vL Y') (ha : inI a) (h : RQ Y Y' X mm Nn Lp nm pr ht I I' th W N) (hi : I 1990 3398 = 1)
    (hQ : ∀ (J J' : vJ) (x x' : Int), w32 x = w32 x' → fr [2065] [] I J → fr [2234] [] I' J' → Q (.inl (some (vi x)), (J, Y)) (.inl (some (vi x')), (J', Y'))) :
    vW (d + 2) 36 (0, [vr 18, vi a, vu], [], (I, Y)) (fun r => vW (d' + 2) 470 (0, [vr 2075, vi a, vu], [], (I', Y')) (fun r' => Q r r')) := by
  have sb := (RQ_status (d := 0) (P := fun _ => True) hL h).2
  obtain ⟨_, _, ⟨_, _, _, _, ⟨N5, E5, q5⟩, _, q7, _, _, _, _, _, q13, _⟩, _⟩ := h
  have i10 : inI 1000 := by unfold inI; omega
  have im1 : inI (-1) := by unfold inI; omega
  by_cases z : 0 ≤ a ∧ a ≤ 1000
  · have hm : ∀ P : vE → Prop, vW (d' + 2) 470 (0, [vr 2075, vi a, vu], [], (I', Y')) P ↔ vW (d' + 1) 471 (0, [vr 2075, vi (-1), vi 0, vu, vu, vu, vu, vu, vu], [], (I', Y')) (vWC (d' + 2) 470 23 3 [vr 2075, vi a, vu] [] P) := fun P => by
      rw [b470_0 hL', if_neg (by rw [w32_id (by omega) (by omega)]; omega), b470_7, t_in ha in0 i10, if_pos z]
      simp only [vWC_s, Nat.reduceAdd]
      rw [b470_15, if_pos (by decide), b470_20 hL']
    rw [b36_0 hL, hi, if_neg (by decide), b36_10, c_in ha in0 i10, if_pos z]
    simp only [vWC_s, Nat.reduceAdd]
    rw [b36_18, if_pos (by decide), b36_23 hL]
    apply vW_out
    simp only [hm]
    refine lg_all (d := d) (d' := d') (pc := 2047) hL hL' ⟨⟨lK hL 2047 100 rfl, lLn hL 2047 18 rfl⟩, by decide⟩ q5 im1 (fun j hj => by rw [if_neg (by omega)]; exact (q13.2.2 j hj).1) (fun J J' x x' hx F1 F2 => ?_)
    simp only [vWC_s, Nat.reduceAdd]
    refine vW_swap.mp ?_
    rw [b36_41, b36_42]
    simp only [b470_26, b470_27]
    by_cases y : a = 0
    · rw [if_neg (by rw [y]; decide), b36_46, b36_67]
      have hm2 : ∀ P : vE → Prop, (if w32 a ≠ 0 then vW (d' + 2) 470 (35, [vr 2075, vi a, vi x'], [], (J', Y')) P else vW (d' + 2) 470 (31, [vr 2075, vi a, vi x'], [], (J', Y')) P) ↔ P (.inl (some (vi x')), (J', Y')) := fun P => by
        rw [if_neg (by rw [y]; decide), b470_31, b470_49]
      simp only [hm2]
      exact hQ J J' x x' hx F1 F2
    · have y1 : w32 a ≠ 0 := by rw [w32_id (by omega) (by omega)]; exact y
      have ec : J 1990 3391 = J' 2075 7735 := by rw [F1 1990 _ rfl, F2 2075 _ rfl]; exact q7.1
      have hm2 : ∀ P : vE → Prop, (if w32 a ≠ 0 then vW (d' + 2) 470 (35, [vr 2075, vi a, vi x'], [], (J', Y')) P else vW (d' + 2) 470 (31, [vr 2075, vi a, vi x'], [], (J', Y')) P) ↔ P (.inl (some (vi (if w32 x' < w32 ((w32 (J' 2075 7735 + a - 1)).tdiv (w32 a)) then (w32 (J' 2075 7735 + a - 1)).tdiv (w32 a) else x'))), (J', Y')) := fun P => by
        rw [if_pos y1, b470_35 hL' y1, c_max]
        simp only [vWC_s, Nat.reduceAdd]
        rw [b470_49]
      simp only [hm2]
      rw [if_pos y1, b36_50 hL y1, c_max]
      simp only [vWC_s, Nat.reduceAdd]
      rw [b36_67, ec]
      refine hQ J J' _ _ ?_ F1 F2
      rw [w32_max, w32_max, hx]
  · have hm : ∀ P : vE → Prop, vW (d' + 2) 470 (0, [vr 2075, vi a, vu], [], (I', Y')) P ↔ P (.inl (some (vi (-1))), (I', Y')) := fun P => by
      rw [b470_0 hL', if_neg (by rw [w32_id (by omega) (by omega)]; omega), b470_7, t_in ha in0 i10, if_neg z]
      simp only [vWC_s, Nat.reduceAdd]
      rw [b470_15, if_neg (by decide), b470_18]
    simp only [hm]
    rw [b36_0 hL, hi, if_neg (by decide), b36_10, c_in ha in0 i10, if_neg z]
    simp only [vWC_s, Nat.reduceAdd]
    rw [b36_18, if_neg (by decide), b36_21]
    exact hQ I I' _ _ rfl (fr_refl _ _ _) (fr_refl _ _ _)
theorem o_gain {a b : Int} (hL : vL Y) (hL' : vL Y') (ha : inI a) (hb : inI b) (h : RQ Y Y' X mm Nn Lp nm pr ht I I' th W N) (hi : I 1990 3398 = 1)
    (hQ : ∀ (J J' : vJ) (x x' : Int), w32 x = w32 x' → fr [2064, 2065] [] I J → fr [2234] [] I' J' → Q (.inl (some (vi x)), (J, Y)) (.inl (some (vi x')), (J', Y'))) :
    vW (d + 2) 37 (0, [vr 18, vi a, vi b], [], (I, Y)) (fun r => vW (d' + 2) 472 (0, [vr 2075, vi a, vi b], [], (I', Y')) (fun r' => Q r r')) := by
  have sb := (RQ_status (d := 0) (P := fun _ => True) hL h).2
  obtain ⟨_, _, ⟨_, _, _, _, q5, _, q7, _, _, _, _, _, q13, _⟩, _⟩ := h
  have i3 : inI 3 := by unfold inI; omega
  have i17 : inI 17 := by unfold inI; omega
  have i10 : inI 1000 := by unfold inI; omega
  have no : (¬ ((3 ≤ a ∧ a ≤ 17) ∧ 0 ≤ b ∧ b ≤ 1000)) → vW (d + 2) 37 (0, [vr 18, vi a, vi b], [], (I, Y)) (fun r => vW (d' + 2) 472 (0, [vr 2075, vi a, vi b], [], (I', Y')) (fun r' => Q r r')) := fun z => by
    have hm : ∀ P : vE → Prop, vW (d' + 2) 472 (0, [vr 2075, vi a, vi b], [], (I', Y')) P ↔ P (.inl (some (vi (-1))), (I', Y')) := fun P => by
      rw [b472_0 hL', if_neg (by rw [w32_id (by omega) (by omega)]; omega), b472_7, t_in ha i3 i17]
      simp only [vWC_s, Nat.reduceAdd]
      rw [b472_14]
      by_cases y : 3 ≤ a ∧ a ≤ 17
      · rw [if_pos y, if_neg (by decide), b472_17, t_in hb in0 i10, if_neg (fun q => z ⟨y, q⟩)]
        simp only [vWC_s, Nat.reduceAdd]
        rw [b472_25, if_neg (by decide), b472_28, b472_38]
      · rw [if_neg y, if_pos (by decide), b472_28, b472_38]
    simp only [hm]
    rw [b37_0 hL, hi, if_neg (by decide), b37_10, c_in ha i3 i17]
    simp only [vWC_s, Nat.reduceAdd]
    rw [b37_17]
    by_cases y : 3 ≤ a ∧ a ≤ 17
    · rw [if_pos y, if_neg (by decide), b37_20, c_in hb in0 i10, if_neg (fun q => z ⟨y, q⟩)]
      simp only [vWC_s, Nat.reduceAdd]
      rw [b37_28, if_neg (by decide), b37_31]
      exact hQ I I' _ _ rfl (fr_refl _ _ _) (fr_refl _ _ _)
    · rw [if_neg y, if_pos (by decide), b37_31]
      exact hQ I I' _ _ rfl (fr_refl _ _ _) (fr_refl _ _ _)
  by_cases z : (3 ≤ a ∧ a ≤ 17) ∧ 0 ≤ b ∧ b ≤ 1000
  · obtain ⟨k, hk⟩ : ∃ k : Nat, a = k := ⟨a.toNat, by omega⟩
    subst hk
    have hm : ∀ P : vE → Prop, vW (d' + 2) 472 (0, [vr 2075, vi (k : Int), vi b], [], (I', Y')) P ↔ vW (d' + 1) 471 (0, [vr 2075, vi (k : Int), vi b, vu, vu, vu, vu, vu, vu], [], (I', Y')) (vWC (d' + 2) 472 35 3 [vr 2075, vi (k : Int), vi b] [] P) := fun P => by
      rw [b472_0 hL', if_neg (by rw [w32_id (by omega) (by omega)]; omega), b472_7, t_in ha i3 i17, if_pos z.1]
      simp only [vWC_s, Nat.reduceAdd]
      rw [b472_14, if_neg (by decide), b472_17, t_in hb in0 i10, if_pos z.2]
      simp only [vWC_s, Nat.reduceAdd]
      rw [b472_25, if_pos (by decide), b472_32 hL']
    rw [b37_0 hL, hi, if_neg (by decide), b37_10, c_in ha i3 i17, if_pos z.1]
    simp only [vWC_s, Nat.reduceAdd]
    rw [b37_17, if_neg (by decide), b37_20, c_in hb in0 i10, if_pos z.2]
    simp only [vWC_s, Nat.reduceAdd]
    rw [b37_28, if_pos (by decide), b37_33 hL (by rw [lLn hL 2047 18 rfl]; decide) (by rw [lLn hL 2064 18 rfl]; decide) (by decide) (by omega) (by omega), tn0]
    apply vW_out
    simp only [hm]
    have F0 : fr [2064] [] I (up (ucp I 2047 0 2064 0 18) 2064 k b) := fr_upL (fr_ucp (fr_refl _ _ _) rfl) rfl _ _
    have e64 : ∀ j : Nat, j < 18 → up (ucp I 2047 0 2064 0 18) 2064 k b 2064 j = if (j : Int) = (k : Int) then b else I' 2181 j := fun j hj => by
      rw [up_at]
      by_cases y : j = k
      · rw [if_pos y, if_pos (by omega)]
      · rw [if_neg y, if_neg (by omega), ucp_in (by omega) (by omega), show 0 + (j - 0) = j by omega]
        exact (q13.2.2 j hj).1
    generalize up (ucp I 2047 0 2064 0 18) 2064 k b = K at F0 e64 ⊢
    obtain ⟨N5, E5, q5⟩ := su_keep su_pStep F0 (fr_refl [] [] I') rfl q5
    refine lg_all (d := d) (d' := d') (pc := 2064) hL hL' ⟨⟨lK hL 2064 100 rfl, lLn hL 2064 18 rfl⟩, by decide⟩ q5 (by unfold inI; omega) e64 (fun J J' x x' hx F1 F2 => ?_)
    simp only [vWC_s, Nat.reduceAdd]
    refine vW_swap.mp ?_
    rw [b37_73]
    simp only [b472_38]
    exact hQ J J' x x' hx (fr_trans (fr_weak F0 (by decide) (by decide)) (fr_weak F1 (by decide) (by decide))) F2
  · exact no z
end
