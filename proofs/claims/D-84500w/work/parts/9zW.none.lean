/-! ===== calls while no run is there; begin (partly printed) ===== -/
set_option maxRecDepth 20000
set_option maxHeartbeats 4000000
section
variable {d d' : Nat} {Y Y' : vY} {I I' : vJ}
theorem n_printed {a : Int} (hL : vL Y) (hL' : vL Y') (hi : I 1990 3398 = 0) (hs : I' 2075 7728 = 0) : An d 21 [vr 18, vi a] I Y (0) ∧ An d' 457 [vr 2075, vi a] I' Y' (0) :=
  ⟨fun P => by rw [b21_0 hL, hi, if_pos (by decide), b21_39, b21_40], fun P => by rw [b457_0 hL', hs, if_pos (by decide), b457_30, b457_31]⟩
theorem n_thread {a b : Int} (hL : vL Y) (hL' : vL Y') (hi : I 1990 3398 = 0) (hs : I' 2075 7728 = 0) : An d 22 [vr 18, vi a, vi b, vu, vu, vu, vu] I Y (-1) ∧ An d' 458 [vr 2075, vi a, vi b, vu, vu] I' Y' (-1) :=
  ⟨fun P => by rw [b22_0 hL, hi, if_pos (by decide), b22_27], fun P => by rw [b458_0 hL', hs, if_pos (by decide), b458_21]⟩
theorem n_seen {a b : Int} (hL : vL Y) (hL' : vL Y') (hi : I 1990 3398 = 0) (hs : I' 2075 7728 = 0) : An d 32 [vr 18, vi a, vi b, vu, vu] I Y (-1) ∧ An d' 466 [vr 2075, vi a, vi b, vu, vu] I' Y' (-1) :=
  ⟨fun P => by rw [b32_0 hL, hi, if_pos (by decide), b32_20], fun P => by rw [b466_0 hL', hs, if_neg (by decide), b466_7]⟩
theorem n_made {a b : Int} (hL : vL Y) (hL' : vL Y') (hi : I 1990 3398 = 0) (hs : I' 2075 7728 = 0) : An d 33 [vr 18, vi a, vi b] I Y (-1) ∧ An d' 467 [vr 2075, vi a, vi b] I' Y' (-1) :=
  ⟨fun P => by rw [b33_0 hL, hi, if_pos (by decide), b33_27], fun P => by rw [b467_0 hL', hs, if_pos (by decide), b467_21]⟩
theorem n_held {a : Int} (hL : vL Y) (hL' : vL Y') (hi : I 1990 3398 = 0) (hs : I' 2075 7728 = 0) : An d 34 [vr 18, vi a] I Y (-1) ∧ An d' 468 [vr 2075, vi a] I' Y' (-1) :=
  ⟨fun P => by rw [b34_0 hL, hi, if_pos (by decide), b34_27], fun P => by rw [b468_0 hL', hs, if_pos (by decide), b468_21]⟩
theorem n_lock {a b : Int} (hL : vL Y) (hL' : vL Y') (hi : I 1990 3398 = 0) (hs : I' 2075 7728 = 0) : An d 35 [vr 18, vi a, vi b, vu, vu] I Y (-1) ∧ An d' 469 [vr 2075, vi a, vi b, vu, vu] I' Y' (-1) :=
  ⟨fun P => by rw [b35_0 hL, hi, if_pos (by decide), b35_20], fun P => by rw [b469_0 hL', hs, if_pos (by decide), b469_17]⟩
theorem n_long {a : Int} (hL : vL Y) (hL' : vL Y') (hi : I 1990 3398 = 0) (hs : I' 2075 7728 = 0) : An d 36 [vr 18, vi a, vu] I Y (-1) ∧ An d' 470 [vr 2075, vi a, vu] I' Y' (-1) :=
  ⟨fun P => by rw [b36_0 hL, hi, if_pos (by decide), b36_21], fun P => by rw [b470_0 hL', hs, if_pos (by decide), b470_18]⟩
theorem n_gain {a b : Int} (hL : vL Y) (hL' : vL Y') (hi : I 1990 3398 = 0) (hs : I' 2075 7728 = 0) : An d 37 [vr 18, vi a, vi b] I Y (-1) ∧ An d' 472 [vr 2075, vi a, vi b] I' Y' (-1) :=
  ⟨fun P => by rw [b37_0 hL, hi, if_pos (by decide), b37_31], fun P => by rw [b472_0 hL', hs, if_pos (by decide), b472_28, b472_38]⟩
theorem n_thrown {a b : Int} (hL : vL Y) (hL' : vL Y') (hi : I 1990 3398 = 0) (hs : I' 2075 7728 = 0) : An d 38 [vr 18, vi a, vi b] I Y (-1) ∧ An d' 473 [vr 2075, vi a, vi b] I' Y' (-1) :=
  ⟨fun P => by rw [b38_0 hL, hi, if_pos (by decide), b38_43, b38_44], fun P => by rw [b473_0 hL', hs, if_pos (by decide), b473_17]⟩
theorem n_tree {a b : Int} (hL : vL Y) (hL' : vL Y') (hi : I 1990 3398 = 0) (hs : I' 2075 7728 = 0) : An d 29 [vr 18, vi a, vi b] I Y (-1) ∧ An d' 464 [vr 2075, vi a, vi b, vu] I' Y' (-1) :=
  ⟨fun P => by rw [b29_0 hL, hi, if_pos (by decide), b29_27], fun P => by rw [b464_0 hL', hs, if_pos (by decide), b464_21]⟩
theorem n_look (hL : vL Y) (hL' : vL Y') (hi : I 1990 3398 = 0) (hs : I' 2075 7728 = 0) : An d 31 [vr 18] I Y (-1) ∧ An d' 453 [vr 2075, vu, vu] I' Y' (-1) :=
  ⟨fun P => by rw [b31_0 hL, hi, if_pos (by decide), b31_24, b31_25], fun P => by rw [b453_0 hL', hs, if_pos (by decide), b453_17]⟩
theorem n_gone {a b : Int} (hL : vL Y) (hL' : vL Y') (hi : I 1990 3398 = 0) (hs : I' 2075 7728 = 0) : An d 24 [vr 18, vi a, vi b] I Y (-1) ∧ An d' 460 [vr 2075, vi a, vi b, vu] I' Y' (-1) :=
  ⟨fun P => by rw [b24_0 hL, hi, if_pos (by decide), b24_31, b24_32], fun P => by rw [b460_0 hL', hs, if_pos (by decide), b460_40]⟩
theorem n_loop {a b c : Int} (hL : vL Y) (hL' : vL Y') (hi : I 1990 3398 = 0) (hs : I' 2075 7728 = 0) : An d 28 [vr 18, vi a, vi b, vi c, vu] I Y (-1) ∧ An d' 463 [vr 2075, vi a, vi b, vi c, vu, vu, vu] I' Y' (-1) :=
  ⟨fun P => by rw [b28_0 hL, hi, if_pos (by decide), b28_37], fun P => by rw [b463_0 hL', hs, if_pos (by decide), b463_19]⟩
theorem n_state {a : Int} (ha : inI a) (hL : vL Y) (hL' : vL Y') (hi : I 1990 3398 = 0) (hs : I' 2075 7728 = 0) : An d 20 [vr 18, vi a] I Y (if a = 0 then 0 else -1) ∧ An d' 456 [vr 2075, vi a] I' Y' (if a = 0 then 0 else -1) := by
  unfold inI at ha
  by_cases z : a = 0
  · rw [if_pos z]
    exact ⟨fun P => by rw [b20_0 hL, hi, if_neg (by decide), b20_10, z, if_neg (by decide), b20_14, b20_19], fun P => by rw [b456_0, z, if_neg (by decide), b456_4 hL', hs]⟩
  · have z1 : w32 a ≠ 0 := by rw [w32_id ha.1 ha.2]; exact z
    rw [if_neg z]
    exact ⟨fun P => by rw [b20_0 hL, hi, if_neg (by decide), b20_10, if_pos z1, b20_18, b20_19], fun P => by rw [b456_0, if_pos z1, b456_9 hL', hs, if_neg (by decide), b456_16]⟩
theorem n_run {a : Int} (ha : inI a) (hL : vL Y) (hL' : vL Y') (hi : I 1990 3398 = 0) (hs : I' 2075 7728 = 0) : An (d + 1) 19 [vr 18, vi a] I Y (-1) ∧ An (d' + 1) 411 [vr 2075, vi a, vu] I' Y' (-1) := by
  have i2 : inI 20000 := by unfold inI; omega
  refine ⟨fun P => ?_, fun P => ?_⟩
  · rw [b19_0, c_in ha in0 i2]
    simp only [vWC_s, Nat.reduceAdd]
    rw [b19_8]
    by_cases z : 0 ≤ a ∧ a ≤ 20000
    · rw [if_pos z, if_neg (by decide), b19_11 hL, hi, if_neg (by decide), b19_21]
    · rw [if_neg z, if_pos (by decide), b19_21]
  · rw [b411_0, t_in ha in0 i2]
    simp only [vWC_s, Nat.reduceAdd]
    rw [b411_8]
    by_cases z : 0 ≤ a ∧ a ≤ 20000
    · rw [if_pos z, if_neg (by decide), b411_11 hL', hs, if_neg (by decide), b411_18]
    · rw [if_neg z, if_pos (by decide), b411_18]
end
section
variable {d d' : Nat} {Y Y' : vY} {X mm Nn Lp : Nat} {nm pr ht : Nat → Nat} {I I' : vJ} {Q : vE → vE → Prop}
/-- begin -/
theorem o_begin {a b c e : Int} {C nw nw' : Nat} (hL : vL Y) (hL' : vL Y') (ha : inI a) (hb : inI b) (hc : inI c) (he : inI e) (hM : isM I I' Y' mm) (hS : mm ≠ 0 → ST I I' Y Y' X mm Nn Lp nm pr ht) (hbg : bgR I I' C) (C4 : C ≤ 4000000) (hpa : pa I I') (hV : mm ≠ 0 → I 1960 3100 = nm 5000 ∧ I 18 267 = nm 5000) (hw : mm ≠ 0 → (I 35 1554 = nw ∧ nw ≤ 2100) ∧ (I' X 7939 = nw' ∧ nw' ≤ 3200 ∧ nw ≤ nw') ∧ I' X 7938 = Nn)
    (hN : Q (.inl (some (vi (-1))), (I, Y)) (.inl (some (vi (-1))), (I', Y')))
    (hQ : ∀ (ht' : Nat → Nat) (J J' : vJ), mm ≠ 0 → (∀ k, k < 5000 → ht' k = ht k) → ht' 5000 = C → RS Y Y' X mm Nn Lp nm pr ht' (up J 18 271 (J 18 271 + 1)) J' 1 0 0 → bnD I I' J J' → J 1990 3398 = 1 → Q (.inl (some (vi 1)), (up J 18 271 (J 18 271 + 1), Y)) (.inl (some (vi 1)), (J', Y'))) :
    vW (d + 11) 18 (0, [vr 18, vi a, vi b, vi c, vi e], [], (I, Y)) (fun r => vW (d' + 10) 397 (0, [vr 2075, vi a, vi b, vi c, vi e, vu], [], (I', Y')) (fun r' => Q r r')) := by
  have i1 : inI 1 := by unfold inI; omega
  have mm24 := hM.2.1
  have cm := fun P => c_mem (d := d + 9) hL ha hM P
  have tm := fun P => t_mem (d' := d' + 8) hL' ha hM P
  have hb2 := hb
  have he2 := he
  unfold inI at hb2 he2
  by_cases z : ((0 ≤ a ∧ a ≤ (mm : Int) - 1) ∧ 0 ≤ b) ∧ (0 ≤ c ∧ c ≤ 1) ∧ 0 ≤ e
  · obtain ⟨⟨z1, z2⟩, z3, z4⟩ := z
    obtain ⟨m, hm⟩ : ∃ m : Nat, a = m := ⟨a.toNat, by omega⟩
    subst hm
    have m0 : mm ≠ 0 := by omega
    have hmm : ∀ P : vE → Prop, vW (d' + 10) 397 (0, [vr 2075, vi (m : Int), vi b, vi c, vi e, vu], [], (I', Y')) P ↔ vW (d' + 10) 397 (28, [vr 2075, vi (m : Int), vi b, vi c, vi e, vu], [], (I', Y')) P := fun P => by
      rw [b397_0 hL', tm, if_pos z1]
      simp only [vWC_s, Nat.reduceAdd]
      rw [b397_5, if_neg (by decide), b397_8, if_neg (by rw [w32_id hb2.1 hb2.2]; omega), b397_12, t_in hc in0 i1, if_pos z3]
      simp only [vWC_s, Nat.reduceAdd]
      rw [b397_18, if_neg (by decide), b397_21, if_pos (by rw [w32_id he2.1 he2.2]; exact z4)]
    simp only [hmm]
    rw [b18_0 hL, cm, if_pos z1]
    simp only [vWC_s, Nat.reduceAdd]
    rw [b18_5, if_neg (by decide), b18_8, if_neg (by rw [w32_id hb2.1 hb2.2]; omega), b18_12, c_in hc in0 i1, if_pos z3]
    simp only [vWC_s, Nat.reduceAdd]
    rw [b18_18, if_neg (by decide), b18_21, if_pos (by rw [w32_id he2.1 he2.2]; exact z4), b18_28 hL, (hV m0).2]
    apply vW_out
    refine bn_all (d := d) (d' := d') hL hL' (hS m0) hbg C4 hpa.1 hpa.2 (hV m0).1 (hw m0).1.1 (hw m0).1.2 (hw m0).2.1.1 (hw m0).2.1.2.1 (hw m0).2.1.2.2 (hw m0).2.2 (by omega) (by omega) (by omega) (by omega) (fun ht' J J' h1 h2 h3 h4 h5 => ?_)
    simp only [vWC_n, Nat.reduceAdd]
    rw [b18_52 hL]
    obtain ⟨ht2, g1, g2, g3⟩ := RS_cong (J := up J 18 271 (J 18 271 + 1)) (J' := J') h3 ⟨fun c hc => up_row _ (show c ≠ 18 by unfold spC at hc; omega) _ _, up_place _ _ (by decide) _, fun c hc _ => up_row _ (show c ≠ 18 by omega) _ _, fun _ _ _ => rfl⟩
    exact hQ ht2 J J' m0 (fun k hk => (g1 k hk).trans (h1 k hk)) (g2.trans h2) g3 h4 h5
  · have hmm : ∀ P : vE → Prop, vW (d' + 10) 397 (0, [vr 2075, vi a, vi b, vi c, vi e, vu], [], (I', Y')) P ↔ P (.inl (some (vi (-1))), (I', Y')) := fun P => by
      rw [b397_0 hL', tm]
      simp only [vWC_s, Nat.reduceAdd]
      rw [b397_5]
      by_cases z1 : 0 ≤ a ∧ a ≤ (mm : Int) - 1
      · rw [if_pos z1, if_neg (by decide), b397_8, w32_id hb2.1 hb2.2]
        by_cases z2 : b < 0
        · rw [if_pos z2, b397_26]
        · rw [if_neg z2, b397_12, t_in hc in0 i1]
          simp only [vWC_s, Nat.reduceAdd]
          rw [b397_18]
          by_cases z3 : 0 ≤ c ∧ c ≤ 1
          · rw [if_pos z3, if_neg (by decide), b397_21, w32_id he2.1 he2.2, if_neg (fun q => z ⟨⟨z1, by omega⟩, z3, q⟩), b397_26]
          · rw [if_neg z3, if_pos (by decide), b397_26]
      · rw [if_neg z1, if_pos (by decide), b397_26]
    simp only [hmm]
    rw [b18_0 hL, cm]
    simp only [vWC_s, Nat.reduceAdd]
    rw [b18_5]
    by_cases z1 : 0 ≤ a ∧ a ≤ (mm : Int) - 1
    · rw [if_pos z1, if_neg (by decide), b18_8, w32_id hb2.1 hb2.2]
      by_cases z2 : b < 0
      · rw [if_pos z2, b18_26]; exact hN
      · rw [if_neg z2, b18_12, c_in hc in0 i1]
        simp only [vWC_s, Nat.reduceAdd]
        rw [b18_18]
        by_cases z3 : 0 ≤ c ∧ c ≤ 1
        · rw [if_pos z3, if_neg (by decide), b18_21, w32_id he2.1 he2.2, if_neg (fun q => z ⟨⟨z1, by omega⟩, z3, q⟩), b18_26]; exact hN
        · rw [if_neg z3, if_pos (by decide), b18_26]; exact hN
    · rw [if_neg z1, if_pos (by decide), b18_26]; exact hN
end
