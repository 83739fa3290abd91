/-! ===== feed, price, argument: pairs ===== -/
set_option maxRecDepth 20000
set_option maxHeartbeats 4000000
/-- the tape in both houses -/
def tp (I I' : vJ) (n : Nat) : Prop := (I 18 257 = n ∧ I' 2075 7681 = n ∧ n ≤ 2000) ∧ ∀ j, j < 2000 → I 19 j = I' 2076 j
section
variable {d d' : Nat} {Y Y' : vY} {I I' : vJ} {Q : vE → vE → Prop}
theorem f_byte {w : Int} {nf : Nat} {I0 I0' : vJ} (hL : vL Y) (hL' : vL Y') (nf2 : nf ≤ 2000) (hQ : ∀ (J J' : vJ), tp J J' nf → fr [19] [(18, 257)] I0 J → fr [2076] [(2075, 7681)] I0' J' → Q (.inl none, (J, Y)) (.inl none, (J', Y'))) : ∀ (m n : Nat) (I I' : vJ), m ≤ 4 → n + m = nf → tp I I' n → fr [19] [(18, 257)] I0 I → fr [2076] [(2075, 7681)] I0' I' → vW d 2 (3, [vr 18, vi w, vi (8 * (m : Int) - 8)], [], (I, Y)) (fun r => vW d' 288 (3, [vr 2075, vi w, vi (8 * (m : Int) - 8)], [], (I', Y')) (fun r' => Q r r')) := by
  intro m
  induction m with
  | zero =>
    intro n I I' _ hn h F1 F2
    have hn : n = nf := by omega
    subst hn
    have hm : ∀ P : vE → Prop, vW d' 288 (3, [vr 2075, vi w, vi (8 * ((0 : Nat) : Int) - 8)], [], (I', Y')) P ↔ P (.inl none, (I', Y')) := fun P => by
      rw [b288_3, if_pos (by decide), b288_36]
    simp only [hm]
    rw [b2_3, if_pos (by decide), b2_36]
    exact hQ I I' h F1 F2
  | succ m ih =>
    intro n I I' m4 n2 h F1 F2
    obtain ⟨⟨h1, h2, h3⟩, h4⟩ := h
    have e : (8 * ((m + 1 : Nat) : Int) - 8) = 8 * (m : Int) := by omega
    have e2 : 8 * (m : Int) + (-8) = 8 * (m : Int) - 8 := by omega
    have hm : ∀ P : vE → Prop, vW d' 288 (3, [vr 2075, vi w, vi (8 * (m : Int))], [], (I', Y')) P ↔ vW d' 288 (3, [vr 2075, vi w, vi (8 * (m : Int) - 8)], [], (up (up I' 2076 n (w8 (w8 (b32 (fun x y => x >>> (y &&& 31)) w (8 * (m : Int)))))) 2075 7681 ((n : Int) + 1), Y')) P := fun P => by
      rw [b288_3, if_neg (by rw [w32_id (by omega) (by omega)]; omega), b288_7 hL' (by omega) (by omega), h2, tn0, e2]
    rw [e]
    simp only [hm]
    rw [b2_3, if_neg (by rw [w32_id (by omega) (by omega)]; omega), b2_7 hL (by omega) (by omega), h1, tn0, e2]
    refine ih (n + 1) _ _ (by omega) (by omega) ⟨⟨up_same _ _ _ _, up_same _ _ _ _, by omega⟩, fun j hj => ?_⟩ (fr_upP (fr_upL F1 rfl _ _) rfl _) (fr_upP (fr_upL F2 rfl _ _) rfl _)
    rw [up_cell _ (by decide), up_at, up_cell _ (by decide), up_at]
    by_cases z : j = n
    · rw [if_pos z, if_pos z]
    · rw [if_neg z, if_neg z]; exact h4 j hj
theorem f_word {w : Int} {n : Nat} {I0 I0' : vJ} (hL : vL Y) (hL' : vL Y') (h : tp I I' n) (n4 : n + 4 ≤ 2000) (F1 : fr [19] [(18, 257)] I0 I) (F2 : fr [2076] [(2075, 7681)] I0' I') (hQ : ∀ J J' : vJ, tp J J' (n + 4) → fr [19] [(18, 257)] I0 J → fr [2076] [(2075, 7681)] I0' J' → Q (.inl none, (J, Y)) (.inl none, (J', Y'))) : vW d 2 (0, [vr 18, vi w, vu], [], (I, Y)) (fun r => vW d' 288 (0, [vr 2075, vi w, vu], [], (I', Y')) (fun r' => Q r r')) := by
  have k := f_byte (w := w) (d := d) (d' := d') (Q := Q) (I0 := I0) (I0' := I0') hL hL' n4 hQ 4 n I I' (Nat.le_refl _) rfl h F1 F2
  rw [show 8 * ((4 : Nat) : Int) - 8 = 24 from rfl] at k
  simp only [b288_0]
  rw [b2_0]
  exact k
theorem f_feed {a b c e g : Int} {n : Nat} (hL : vL Y) (hL' : vL Y') (h : tp I I' n) (hQ : ∀ (J J' : vJ) (x : Int) (k : Nat), tp J J' k → n ≤ k → k ≤ n + 20 → fr [19] [(18, 257)] I J → fr [2076] [(2075, 7681)] I' J' → Q (.inl (some (vi x)), (J, Y)) (.inl (some (vi x)), (J', Y'))) : vW (d + 1) 1 (0, [vr 18, vi a, vi b, vi c, vi e, vi g], [], (I, Y)) (fun r => vW (d' + 1) 287 (0, [vr 2075, vi a, vi b, vi c, vi e, vi g], [], (I', Y')) (fun r' => Q r r')) := by
  have h0 := h
  obtain ⟨⟨h1, h2, h3⟩, h4⟩ := h
  by_cases z : n + 20 ≤ 2000
  · have hm : ∀ P : vE → Prop, vW (d' + 1) 287 (0, [vr 2075, vi a, vi b, vi c, vi e, vi g], [], (I', Y')) P ↔ vW (d' + 1) 287 (15, [vr 2075, vi a, vi b, vi c, vi e, vi g], [], (I', Y')) P := fun P => by
      rw [b287_0 hL', h2, if_pos (by rw [w32_id (by omega) (by omega), w32_id (by omega) (by omega)]; omega)]
    simp only [hm]
    rw [b1_0 hL, h1, if_pos (by rw [w32_id (by omega) (by omega), w32_id (by omega) (by omega)]; omega), b1_15 hL]
    apply vW_out
    simp only [b287_15 hL']
    refine f_word hL hL' h0 (by omega) (fr_refl _ _ _) (fr_refl _ _ _) (fun J J' h F1 F2 => ?_)
    simp only [vWC_n, Nat.reduceAdd]
    refine vW_swap.mp ?_
    rw [b1_20 hL]
    apply vW_out
    simp only [b287_20 hL']
    refine f_word hL hL' h (by omega) F1 F2 (fun J J' h F1 F2 => ?_)
    simp only [vWC_n, Nat.reduceAdd]
    refine vW_swap.mp ?_
    rw [b1_25 hL]
    apply vW_out
    simp only [b287_25 hL']
    refine f_word hL hL' h (by omega) F1 F2 (fun J J' h F1 F2 => ?_)
    simp only [vWC_n, Nat.reduceAdd]
    refine vW_swap.mp ?_
    rw [b1_30 hL]
    apply vW_out
    simp only [b287_30 hL']
    refine f_word hL hL' h (by omega) F1 F2 (fun J J' h F1 F2 => ?_)
    simp only [vWC_n, Nat.reduceAdd]
    refine vW_swap.mp ?_
    rw [b1_36 hL]
    apply vW_out
    simp only [b287_36 hL']
    refine f_word hL hL' h (by omega) F1 F2 (fun J J' h F1 F2 => ?_)
    simp only [vWC_n, Nat.reduceAdd]
    refine vW_swap.mp ?_
    rw [b1_42 hL, h.1.1]
    simp only [b287_42 hL', h.1.2.1]
    exact hQ J J' _ (n + 20) h (by omega) (Nat.le_refl _) F1 F2
  · have hm : ∀ P : vE → Prop, vW (d' + 1) 287 (0, [vr 2075, vi a, vi b, vi c, vi e, vi g], [], (I', Y')) P ↔ P (.inl (some (vi (-1))), (I', Y')) := fun P => by
      rw [b287_0 hL', h2, if_neg (by rw [w32_id (by omega) (by omega), w32_id (by omega) (by omega)]; omega), b287_13]
    simp only [hm]
    rw [b1_0 hL, h1, if_neg (by rw [w32_id (by omega) (by omega), w32_id (by omega) (by omega)]; omega), b1_13]
    exact hQ I I' _ n h0 (Nat.le_refl _) (by omega) (fr_refl _ _ _) (fr_refl _ _ _)
/-- prices and arguments in both houses -/
def pa (I I' : vJ) : Prop := (∀ j : Nat, j < 18 → I 2062 j = I' 2180 j ∧ 0 ≤ I 2062 j ∧ I 2062 j ≤ 1000) ∧ ∀ j : Nat, j < 4 → I 2063 j = I' 2182 j ∧ -2147483647 ≤ I 2063 j ∧ I 2063 j ≤ 2147483647
theorem f_price {a b : Int} (hL : vL Y) (hL' : vL Y') (ha : inI a) (hb : inI b) (h : pa I I') (hQ : ∀ (J J' : vJ) (x : Int), pa J J' → fr [2062] [] I J → fr [2180] [] I' J' → Q (.inl (some (vi x)), (J, Y)) (.inl (some (vi x)), (J', Y'))) : vW (d + 1) 16 (0, [vr 18, vi a, vi b, vu], [], (I, Y)) (fun r => vW (d' + 1) 395 (0, [vr 2075, vi a, vi b, vu], [], (I', Y')) (fun r' => Q r r')) := by
  have i3 : inI 3 := by unfold inI; omega
  have i17 : inI 17 := by unfold inI; omega
  have i10 : inI 1000 := by unfold inI; omega
  by_cases z : 3 ≤ a ∧ a ≤ 17
  · by_cases y : 0 ≤ b ∧ b ≤ 1000
    · obtain ⟨k, hk⟩ : ∃ k : Nat, a = k := ⟨a.toNat, by omega⟩
      subst hk
      have hm : ∀ P : vE → Prop, vW (d' + 1) 395 (0, [vr 2075, vi (k : Int), vi b, vu], [], (I', Y')) P ↔ P (.inl (some (vi (I' 2180 k))), (up I' 2180 k b, Y')) := fun P => by
        rw [b395_0, t_in ha i3 i17, if_pos z]
        simp only [vWC_s, Nat.reduceAdd]
        rw [b395_7, if_neg (by decide), b395_10, t_in hb in0 i10, if_pos y]
        simp only [vWC_s, Nat.reduceAdd]
        rw [b395_18, if_pos (by decide), b395_23 hL' (by omega) (by omega), tn0]
      simp only [hm]
      rw [b16_0, c_in ha i3 i17, if_pos z]
      simp only [vWC_s, Nat.reduceAdd]
      rw [b16_7, if_neg (by decide), b16_10, c_in hb in0 i10, if_pos y]
      simp only [vWC_s, Nat.reduceAdd]
      rw [b16_18, if_pos (by decide), b16_23 hL (by omega) (by omega), tn0, (h.1 k (by omega)).1]
      refine hQ _ _ _ ⟨fun j hj => ?_, fun j hj => ?_⟩ (fr_upL (fr_refl _ _ _) rfl _ _) (fr_upL (fr_refl _ _ _) rfl _ _)
      · rw [up_at, up_at]
        by_cases w : j = k
        · rw [if_pos w, if_pos w]; exact ⟨rfl, y.1, y.2⟩
        · rw [if_neg w, if_neg w]; exact h.1 j hj
      · rw [up_cell _ (by decide), up_cell _ (by decide)]; exact h.2 j hj
    · have hm : ∀ P : vE → Prop, vW (d' + 1) 395 (0, [vr 2075, vi a, vi b, vu], [], (I', Y')) P ↔ P (.inl (some (vi (-1))), (I', Y')) := fun P => by
        rw [b395_0, t_in ha i3 i17, if_pos z]
        simp only [vWC_s, Nat.reduceAdd]
        rw [b395_7, if_neg (by decide), b395_10, t_in hb in0 i10, if_neg y]
        simp only [vWC_s, Nat.reduceAdd]
        rw [b395_18, if_neg (by decide), b395_21]
      simp only [hm]
      rw [b16_0, c_in ha i3 i17, if_pos z]
      simp only [vWC_s, Nat.reduceAdd]
      rw [b16_7, if_neg (by decide), b16_10, c_in hb in0 i10, if_neg y]
      simp only [vWC_s, Nat.reduceAdd]
      rw [b16_18, if_neg (by decide), b16_21]
      exact hQ I I' _ h (fr_refl _ _ _) (fr_refl _ _ _)
  · have hm : ∀ P : vE → Prop, vW (d' + 1) 395 (0, [vr 2075, vi a, vi b, vu], [], (I', Y')) P ↔ P (.inl (some (vi (-1))), (I', Y')) := fun P => by
      rw [b395_0, t_in ha i3 i17, if_neg z]
      simp only [vWC_s, Nat.reduceAdd]
      rw [b395_7, if_pos (by decide), b395_21]
    simp only [hm]
    rw [b16_0, c_in ha i3 i17, if_neg z]
    simp only [vWC_s, Nat.reduceAdd]
    rw [b16_7, if_pos (by decide), b16_21]
    exact hQ I I' _ h (fr_refl _ _ _) (fr_refl _ _ _)
theorem f_arg {a b : Int} (hL : vL Y) (hL' : vL Y') (ha : inI a) (hb : inI b) (h : pa I I') (hQ : ∀ (J J' : vJ) (x : Int), pa J J' → fr [2063] [] I J → fr [2182] [] I' J' → Q (.inl (some (vi x)), (J, Y)) (.inl (some (vi x)), (J', Y'))) : vW (d + 1) 17 (0, [vr 18, vi a, vi b, vu], [], (I, Y)) (fun r => vW (d' + 1) 396 (0, [vr 2075, vi a, vi b, vu], [], (I', Y')) (fun r' => Q r r')) := by
  have i3 : inI 3 := by unfold inI; omega
  have hb2 := hb
  unfold inI at hb2
  by_cases z : 0 ≤ a ∧ a ≤ 3
  · by_cases y : b = -2147483648
    · have hm : ∀ P : vE → Prop, vW (d' + 1) 396 (0, [vr 2075, vi a, vi b, vu], [], (I', Y')) P ↔ P (.inl (some (vi (-1))), (I', Y')) := fun P => by
        rw [b396_0, t_in ha in0 i3, if_pos z]
        simp only [vWC_s, Nat.reduceAdd]
        rw [b396_6, if_neg (by decide), b396_9, y, if_neg (fun q => q rfl), b396_16]
      simp only [hm]
      rw [b17_0, c_in ha in0 i3, if_pos z]
      simp only [vWC_s, Nat.reduceAdd]
      rw [b17_6, if_neg (by decide), b17_9, y, if_neg (fun q => q rfl), b17_16]
      exact hQ I I' _ h (fr_refl _ _ _) (fr_refl _ _ _)
    · obtain ⟨k, hk⟩ : ∃ k : Nat, a = k := ⟨a.toNat, by omega⟩
      subst hk
      have hm : ∀ P : vE → Prop, vW (d' + 1) 396 (0, [vr 2075, vi (k : Int), vi b, vu], [], (I', Y')) P ↔ P (.inl (some (vi (I' 2182 k))), (up I' 2182 k b, Y')) := fun P => by
        rw [b396_0, t_in ha in0 i3, if_pos z]
        simp only [vWC_s, Nat.reduceAdd]
        rw [b396_6, if_neg (by decide), b396_9, if_pos (by rw [w32_id hb2.1 hb2.2, w32_id (x := -2147483648) (by decide) (by decide)]; exact y), b396_18 hL' (by omega) (by omega), tn0]
      simp only [hm]
      rw [b17_0, c_in ha in0 i3, if_pos z]
      simp only [vWC_s, Nat.reduceAdd]
      rw [b17_6, if_neg (by decide), b17_9, if_pos (by rw [w32_id hb2.1 hb2.2, w32_id (x := -2147483648) (by decide) (by decide)]; exact y), b17_18 hL (by omega) (by omega), tn0, (h.2 k (by omega)).1]
      refine hQ _ _ _ ⟨fun j hj => ?_, fun j hj => ?_⟩ (fr_upL (fr_refl _ _ _) rfl _ _) (fr_upL (fr_refl _ _ _) rfl _ _)
      · rw [up_cell _ (by decide), up_cell _ (by decide)]; exact h.1 j hj
      · rw [up_at, up_at]
        by_cases w : j = k
        · rw [if_pos w, if_pos w]; exact ⟨rfl, by omega, by omega⟩
        · rw [if_neg w, if_neg w]; exact h.2 j hj
  · have hm : ∀ P : vE → Prop, vW (d' + 1) 396 (0, [vr 2075, vi a, vi b, vu], [], (I', Y')) P ↔ P (.inl (some (vi (-1))), (I', Y')) := fun P => by
      rw [b396_0, t_in ha in0 i3, if_neg z]
      simp only [vWC_s, Nat.reduceAdd]
      rw [b396_6, if_pos (by decide), b396_16]
    simp only [hm]
    rw [b17_0, c_in ha in0 i3, if_neg z]
    simp only [vWC_s, Nat.reduceAdd]
    rw [b17_6, if_pos (by decide), b17_16]
    exact hQ I I' _ h (fr_refl _ _ _) (fr_refl _ _ _)
end
