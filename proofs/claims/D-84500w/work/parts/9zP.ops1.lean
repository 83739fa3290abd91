/-! ===== calls: run, look, begin, gone ===== -/
set_option maxRecDepth 20000
set_option maxHeartbeats 4000000
/-- how many members both houses have -/
def isM (I I' : vJ) (Y' : vY) (mm : Nat) : Prop := vreg Y' 2081 38 (Y'.1 2075 7689) ∧ mm ≤ 24 ∧ I 18 266 = mm ∧ (I' 2075 7691 = 1 ∧ I' (Y'.1 2075 7689) 7936 = mm ∨ I' 2075 7691 = 0 ∧ mm = 0)
section
variable {d d' : Nat} {Y Y' : vY} {I I' : vJ} {Q : vE → vE → Prop}
theorem c_mem {a : Int} {mm : Nat} (hL : vL Y) (ha : inI a) (h : isM I I' Y' mm) : An (d + 1) 9 [vr 18, vi a] I Y (if 0 ≤ a ∧ a ≤ (mm : Int) - 1 then 1 else 0) := fun P => by
  have hp : inI ((mm : Int) - 1) := by have := h.2.1; unfold inI; omega
  rw [b9_0 hL, h.2.2.1, c_in ha in0 hp]
  simp only [vWC_s, Nat.reduceAdd]
  rw [b9_11 (by split; exact Or.inr rfl; exact Or.inl rfl)]
theorem t_mem {a : Int} {mm : Nat} (hL' : vL Y') (ha : inI a) (h : isM I I' Y' mm) : An (d' + 1) 388 [vr 2075, vi a] I' Y' (if 0 ≤ a ∧ a ≤ (mm : Int) - 1 then 1 else 0) := fun P => by
  have hp : inI ((mm : Int) - 1) := by have := h.2.1; unfold inI; omega
  rw [b388_0 hL']
  rcases h.2.2.2 with w | w
  · rw [w.1, if_neg (by decide), b388_7 hL' h.1, w.2, t_in ha in0 hp]
    simp only [vWC_s, Nat.reduceAdd]
    rw [b388_21]
    by_cases z : 0 ≤ a ∧ a ≤ (mm : Int) - 1
    · rw [if_pos z, if_neg (by decide), b388_24, b388_29 (Or.inr rfl)]
    · rw [if_neg z, if_pos (by decide), b388_28, b388_29 (Or.inl rfl)]
  · rw [w.1, if_pos (by decide), b388_28, b388_29 (Or.inl rfl), if_neg (by rw [w.2]; omega)]
end
section
variable {d d' : Nat} {Y Y' : vY} {X mm Nn Lp : Nat} {nm pr ht : Nat → Nat} {I I' : vJ} {th W N : Nat} {Q : vE → vE → Prop}
/-- run -/
theorem o_run {a : Int} (hL : vL Y) (hL' : vL Y') (ha : inI a) (h : RS Y Y' X mm Nn Lp nm pr ht I I' th W N) (hi : I 1990 3398 = 1)
    (hN : Q (.inl (some (vi (-1))), (I, Y)) (.inl (some (vi (-1))), (I', Y')))
    (hQ : ∀ (ht' : Nat → Nat) (J J' : vJ) (th' W' N' : Nat) (x : Int), (∀ k, k < 5000 → ht' k = ht k) → ht' 5000 = ht 5000 → RS Y Y' X mm Nn Lp nm pr ht' J J' th' W' N' → agE (up I 18 271 (I 18 271 + 1)) I' J J' → Q (.inl (some (vi x)), (J, Y)) (.inl (some (vi x)), (J', Y'))) :
    vW (d + 17) 19 (0, [vr 18, vi a], [], (I, Y)) (fun r => vW (d' + 16) 411 (0, [vr 2075, vi a, vu], [], (I', Y')) (fun r' => Q r r')) := by
  have sb := (RS_status (d := 0) (P := fun _ => True) hL h).2
  have i2 : inI 20000 := by unfold inI; omega
  by_cases z : 0 ≤ a ∧ a ≤ 20000
  · obtain ⟨x, hx⟩ : ∃ x : Nat, a = x := ⟨a.toNat, by omega⟩
    subst hx
    have hm : ∀ P : vE → Prop, vW (d' + 16) 411 (0, [vr 2075, vi (x : Int), vu], [], (I', Y')) P ↔ vW (d' + 16) 411 (22, [vr 2075, vi (x : Int), vi ((0 : Nat) : Int)], [], (I', Y')) P := fun P => by
      rw [b411_0, t_in ha in0 i2, if_pos z]
      simp only [vWC_s, Nat.reduceAdd]
      rw [b411_8, if_neg (by decide), b411_11 hL', if_pos (by rw [w32_id (by omega) (by omega)]; omega), b411_20]
      exact Iff.rfl
    simp only [hm]
    rw [b19_0, c_in ha in0 i2, if_pos z]
    simp only [vWC_s, Nat.reduceAdd]
    rw [b19_8, if_neg (by decide), b19_11 hL, hi, if_pos (by decide), b19_23 hL]
    obtain ⟨ht', h1, h2, h3⟩ := RS_cong (J := up I 18 271 (I 18 271 + 1)) (J' := I') h ⟨fun c hc => up_row _ (show c ≠ 18 by unfold spC at hc; omega) _ _, up_place _ _ (by decide) _, fun c hc _ => up_row _ (show c ≠ 18 by omega) _ _, fun _ _ _ => rfl⟩
    apply vW_out
    rw [b172_0]
    refine rn_go (d := d) (d' := d') (x := x) hL hL' (by omega) (fun J J' th' W' N' j hJ hj => ?_) x 0 _ _ th W N (by omega) h3
    simp only [vWC_s, Nat.reduceAdd]
    rw [b19_41]
    exact hQ ht' J J' th' W' N' _ h1 h2 hJ (RS_keep h3 hJ)
  · have hm : ∀ P : vE → Prop, vW (d' + 16) 411 (0, [vr 2075, vi a, vu], [], (I', Y')) P ↔ P (.inl (some (vi (-1))), (I', Y')) := fun P => by
      rw [b411_0, t_in ha in0 i2, if_neg z]
      simp only [vWC_s, Nat.reduceAdd]
      rw [b411_8, if_pos (by decide), b411_18]
    simp only [hm]
    rw [b19_0, c_in ha in0 i2, if_neg z]
    simp only [vWC_s, Nat.reduceAdd]
    rw [b19_8, if_pos (by decide), b19_21]
    exact hN
theorem RS_lk {n E : Nat} {J J' : vJ} (h : RS Y Y' X mm Nn Lp nm pr ht I I' th W N) (hE : lkE I I' n E J J') : RS Y Y' X mm Nn Lp nm pr ht J J' th W N := by
  obtain ⟨s, tau, A1, sv, hs⟩ := h
  obtain ⟨e1, e2, e3, e4⟩ := hE
  refine ⟨s, tau, AS_lk2 A1 ⟨e1, e2, e3, e4⟩, ?_, ?_⟩
  · rw [e4 2075 _ rfl, fr_row e3 1996 (fun _ => rfl)]; exact sv
  · rw [e4 2075 _ rfl, fr_row e3 1996 (fun _ => rfl), e3 1990 3394 rfl, e3 1990 3389 rfl]; exact hs
/-- look -/
theorem o_look (hL : vL Y) (hL' : vL Y') (h : RS Y Y' X mm Nn Lp nm pr ht I I' th W N) (hi : I 1990 3398 = 1)
    (hQ : ∀ (J J' : vJ) (n E : Nat) (x : Int), RS Y Y' X mm Nn Lp nm pr ht J J' th W N → lkE I I' n E J J' → Q (.inl (some (vi x)), (J, Y)) (.inl (some (vi x)), (J', Y'))) :
    vW (d + 3) 31 (0, [vr 18], [], (I, Y)) (fun r => vW (d' + 3) 453 (0, [vr 2075, vu, vu], [], (I', Y')) (fun r' => Q r r')) := by
  have h0 := h
  obtain ⟨s, tau, A1, sv, _⟩ := h
  obtain ⟨n, E, hB⟩ := AS_lkB A1
  have hB := lkB_keep hB (fr_sym (fr_seed I s tau)) (fr_sym (fr_stat I' 1))
  have hP := su_keep su_pLooks (fr_sym (fr_seed I s tau)) (fr_sym (fr_stat I' 1)) rfl A1.2.2.1.2.2.2.2.2.2.2.2.2.2.2.1
  have nw : I 1990 3388 = N := by
    have q := A1.2.2.2.2.1.2.1
    rw [up_place _ _ (by decide), up_place _ _ (by decide)] at q
    exact q
  have nw' : I' 2075 7729 = N := by
    have q := A1.2.2.2.2.1.2.2.1
    rw [up_place _ _ (by decide)] at q
    exact q
  have hst : 1 ≤ I' 2075 7728 ∧ I' 2075 7728 ≤ 4 := by rw [sv]; exact stv_bd _ _ _
  rw [b31_0 hL, hi, if_neg (by decide), b31_10 hL]
  apply vW_out
  refine lk_look hL hL' hB hP nw nw' hst (fun J J' x hE _ => ?_)
  simp only [vWC_s, Nat.reduceAdd]
  rw [b31_21, b31_25]
  exact hQ J J' n E x (RS_lk h0 hE) hE
/-- gone -/
theorem q_gone {a b : Int} (hL : vL Y) (hL' : vL Y') (ha : inI a) (hb : inI b) (h : RQ Y Y' X mm Nn Lp nm pr ht I I' th W N) (hi : I 1990 3398 = 1) (hM : isM I I' Y' mm) (hp9 : ∀ m, m < mm → ∃ o : Nat, ∃ p : Int, (Y.1 1989 m = o ∧ 2297 ≤ o ∧ Y.2.1 o = 15) ∧ I o 3856 = p ∧ I' 2179 m = p ∧ -1 ≤ p ∧ p ≤ 1000000)
    (hQ : ∀ x : Int, Q (.inl (some (vi x)), (I, Y)) (.inl (some (vi x)), (I', Y'))) :
    vW (d + 3) 24 (0, [vr 18, vi a, vi b], [], (I, Y)) (fun r => vW (d' + 2) 460 (0, [vr 2075, vi a, vi b, vu], [], (I', Y')) (fun r' => Q r r')) := by
  have sb := (RQ_status (d := 0) (P := fun _ => True) hL h).2
  obtain ⟨_, _, ⟨_, ⟨n, hR, _⟩, _⟩, _⟩ := h
  have mm24 := hM.2.1
  have cm := fun P => c_mem (d := d) hL ha hM P
  have tm := fun P => t_mem (d' := d') hL' ha hM P
  have b2 := hb
  unfold inI at b2
  have t0 : ∀ P : vE → Prop, vW (d' + 2) 460 (0, [vr 2075, vi a, vi b, vu], [], (I', Y')) P ↔ vW (d' + 1) 388 (0, [vr 2075, vi a], [], (I', Y')) (vWC (d' + 2) 460 9 3 [vr 2075, vi a, vi b, vu] [] P) := fun P => by
    rw [b460_0 hL', if_neg (by rw [w32_id (by omega) (by omega)]; omega), b460_7 hL']
  by_cases z : 0 ≤ a ∧ a ≤ (mm : Int) - 1
  · obtain ⟨m, hm⟩ : ∃ m : Nat, a = m := ⟨a.toNat, by omega⟩
    subst hm
    obtain ⟨o, p, ⟨o1, o2, o3⟩, p1, p2, p3, p4⟩ := hp9 m (by omega)
    have hp : inI (p - 1) := by unfold inI; omega
    have c1 : ∀ P : vE → Prop, vW (d + 3) 24 (0, [vr 18, vi (m : Int), vi b], [], (I, Y)) P ↔ vW (d + 3) 24 (if 0 ≤ b ∧ b ≤ p - 1 then 19 else 31, [vr 18, vi (m : Int), vi b], [], (I, Y)) P := fun P => by
      rw [b24_0 hL, hi, if_neg (by decide), b24_10 hL, b25_0 hL, cm, if_pos z]
      simp only [vWC_s, Nat.reduceAdd]
      rw [b25_5, if_neg (by decide), b25_8 hL (by omega) (by omega) (by rw [tn0, o1]; omega) (by rw [tn0, o1]; exact o3), tn0, o1, p1, c_in hb in0 hp]
      simp only [vWC_s, Nat.reduceAdd]
      rw [b25_24]
      by_cases y : 0 ≤ b ∧ b ≤ p - 1
      · rw [if_pos y, if_neg (by decide), if_pos y, b25_27, b25_32 (Or.inr rfl)]
        simp only [vWC_s, Nat.reduceAdd]
        rw [b24_16, if_neg (by decide)]
      · rw [if_neg y, if_pos (by decide), if_neg y, b25_31, b25_32 (Or.inl rfl)]
        simp only [vWC_s, Nat.reduceAdd]
        rw [b24_16, if_pos (by decide)]
    by_cases y : 0 ≤ b ∧ b ≤ p - 1
    · have t1 : ∀ P : vE → Prop, vW (d' + 2) 460 (0, [vr 2075, vi (m : Int), vi b, vu], [], (I', Y')) P ↔ vW (d' + 2) 460 (42, [vr 2075, vi (m : Int), vi b, vu], [], (I', Y')) P := fun P => by
        rw [t0, tm, if_pos z]
        simp only [vWC_s, Nat.reduceAdd]
        rw [b460_12, if_neg (by decide), b460_15 hL' (by omega) (by omega), tn0, p2, if_neg (by rw [w32_id (by omega) (by omega)]; omega), b460_24 hL' (by omega) (by omega), tn0, p2, t_in hb in0 hp, if_pos y]
        simp only [vWC_s, Nat.reduceAdd]
        rw [b460_37, if_pos (by decide)]
      simp only [t1]
      rw [c1, if_pos y, b24_19 hL]
      apply vW_out
      refine h_times (d := d + 1) (d' := d' + 1) hL hL' hR (by omega) (by omega) (fun c => ?_)
      simp only [vWC_s, Nat.reduceAdd]
      rw [b24_28, b24_32]
      exact hQ c
    · have t1 : ∀ P : vE → Prop, vW (d' + 2) 460 (0, [vr 2075, vi (m : Int), vi b, vu], [], (I', Y')) P ↔ P (.inl (some (vi (-1))), (I', Y')) := fun P => by
        rw [t0, tm, if_pos z]
        simp only [vWC_s, Nat.reduceAdd]
        rw [b460_12, if_neg (by decide), b460_15 hL' (by omega) (by omega), tn0, p2, w32_id (by omega) (by omega)]
        by_cases p0 : p < 0
        · rw [if_pos p0, b460_40]
        · rw [if_neg p0, b460_24 hL' (by omega) (by omega), tn0, p2, t_in hb in0 hp, if_neg y]
          simp only [vWC_s, Nat.reduceAdd]
          rw [b460_37, if_neg (by decide), b460_40]
      simp only [t1]
      rw [c1, if_neg y, b24_31, b24_32]
      exact hQ (-1)
  · have t1 : ∀ P : vE → Prop, vW (d' + 2) 460 (0, [vr 2075, vi a, vi b, vu], [], (I', Y')) P ↔ P (.inl (some (vi (-1))), (I', Y')) := fun P => by
      rw [t0, tm, if_neg z]
      simp only [vWC_s, Nat.reduceAdd]
      rw [b460_12, if_pos (by decide), b460_40]
    simp only [t1]
    rw [b24_0 hL, hi, if_neg (by decide), b24_10 hL, b25_0 hL, cm, if_neg z]
    simp only [vWC_s, Nat.reduceAdd]
    rw [b25_5, if_pos (by decide), b25_31, b25_32 (Or.inl rfl)]
    simp only [vWC_s, Nat.reduceAdd]
    rw [b24_16, if_pos (by decide), b24_31, b24_32]
    exact hQ (-1)
end
