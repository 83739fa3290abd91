/-! ===== looks: an array is reached, in both houses ===== -/
set_option maxRecDepth 20000
set_option maxHeartbeats 4000000
/-- rows of what is reached, with n arrays in all -/
def mkR (I I' : vJ) (n : Nat) : Prop := ∃ k : Nat, (I 1960 3099 = k ∧ I' 2075 7830 = k) ∧ (∀ j, j < k → ∃ x : Nat, x < n ∧ I 1986 j = x ∧ I' 2264 j = x ∧ I 1988 x = 1) ∧ (∀ i j, i < j → j < k → I 1986 i ≠ I 1986 j) ∧ ∀ x, x < n → (I 1988 x = I' 2266 x ∧ (I 1988 x = 0 ∨ I 1988 x = 1)) ∧ (I 1988 x = 1 → I 1987 x = I' 2265 x ∧ ∃ j, j < k ∧ I 1986 j = (x : Int)) ∧ (I 1988 x = 0 → I 1987 x = -1)
theorem mkR_few {I I' : vJ} {n k : Nat} (h1 : ∀ j, j < k → ∃ x : Nat, x < n ∧ I 1986 j = x ∧ I' 2264 j = x ∧ I 1988 x = 1) (h2 : ∀ i j, i < j → j < k → I 1986 i ≠ I 1986 j) {x : Nat} (hx : x < n) (h0 : I 1988 x = 0) : k < n := by
  refine pig n (k + 1) (fun j => if j = k then x else (I 1986 j).toNat) (fun j hj => ?_) (fun i j hij hj => ?_)
  · show (if j = k then x else (I 1986 j).toNat) < n
    by_cases z : j = k
    · rw [if_pos z]; exact hx
    · rw [if_neg z]
      obtain ⟨y, y1, y2, _⟩ := h1 j (by omega)
      rw [y2, tn0]; exact y1
  · show (if i = k then x else (I 1986 i).toNat) ≠ (if j = k then x else (I 1986 j).toNat)
    rw [if_neg (by omega)]
    obtain ⟨y, y1, y2, y3, y4⟩ := h1 i (by omega)
    by_cases z : j = k
    · rw [if_pos z, y2, tn0]
      intro e
      rw [e, h0] at y4
      exact absurd y4 (by decide)
    · rw [if_neg z]
      obtain ⟨w, w1, w2, _⟩ := h1 j (by omega)
      have q := h2 i j hij (by omega)
      rw [y2, w2] at q
      rw [y2, w2, tn0, tn0]
      omega
/-- a row of what is reached grows -/
def lkG (J J' K K' : vJ) : Prop := (∀ j : Nat, (j : Int) < J 1960 3099 → K 1986 j = J 1986 j ∧ K' 2264 j = J' 2264 j) ∧ J 1960 3099 ≤ K 1960 3099
theorem lkG_refl (J J' : vJ) : lkG J J' J J' := ⟨fun _ _ => ⟨rfl, rfl⟩, Int.le_refl _⟩
theorem lkG_trans {J J' K K' H H' : vJ} (h : lkG J J' K K') (g : lkG K K' H H') : lkG J J' H H' := ⟨fun j hj => by
  have a := h.1 j hj
  have b := g.1 j (by have := h.2; omega)
  exact ⟨b.1.trans a.1, b.2.trans a.2⟩, Int.le_trans h.2 g.2⟩
section
variable {d d' : Nat} {Y Y' : vY} {I I' : vJ} {Q : vE → vE → Prop}
theorem m_mark {n : Nat} {kd v e fr' : Int} (hL : vL Y) (hL' : vL Y') (hn : n ≤ 300) (h : mkR I I' n) (hv : vv n kd v e)
    (hQ : ∀ J J' : vJ, mkR J J' n → lkG I I' J J' → fr [1986, 1987, 1988] [(1960, 3099)] I J → fr [2264, 2265, 2266] [(2075, 7830)] I' J' → Q (.inl none, (J, Y)) (.inl none, (J', Y'))) :
    vW d 152 (0, [vr 1960, vr 1990, vi kd, vi v, vi fr'], [], (I, Y)) (fun r => vW (d' + 1) 455 (0, [vr 2075, vl e, vu, vi fr', vu], [], (I', Y')) (fun r' => Q r r')) := by
  have hi := vv_inV (by omega) hv
  by_cases z : kd = 1
  · have q : e = 4 * v + 1 ∧ 0 ≤ v ∧ v < n := by unfold vv at hv; omega
    obtain ⟨q1, q2, q3⟩ := q
    clear hv
    obtain ⟨x, hx⟩ : ∃ x : Nat, v = x := ⟨v.toNat, by omega⟩
    subst hx
    have xn : x < n := by omega
    have h0 := h
    obtain ⟨k, ⟨k1, k2⟩, k3, k4, k5⟩ := h
    have kx := k5 x xn
    have e4 : e % 4 = 1 := by omega
    have e5 : e / 4 = x := by omega
    have hm : ∀ K : vE → Prop, vW (d' + 1) 455 (0, [vr 2075, vl e, vu, vi fr', vu], [], (I', Y')) K ↔ vW (d' + 1) 455 (15, [vr 2075, vl e, vu, vi fr', vi x], [], (I', Y')) K := fun K => by
      rw [b455_0, t_isArr hi.1, if_pos e4]
      simp only [vWC_s, Nat.reduceAdd]
      rw [b455_4, if_pos (by decide), b455_8, t_val hi.1, e5]
      simp only [vWC_s, Nat.reduceAdd]
      rw [b455_12]
    simp only [hm]
    rw [b152_0, if_neg (by rw [z]; exact fun q => q rfl), b152_5 hL (by omega) (by omega), tn0]
    have hm2 : ∀ K : vE → Prop, vW (d' + 1) 455 (15, [vr 2075, vl e, vu, vi fr', vi x], [], (I', Y')) K ↔ if I 1988 x = 0 then vW (d' + 1) 455 (26, [vr 2075, vl e, vu, vi fr', vi x], [], (I', Y')) K else vW (d' + 1) 455 (25, [vr 2075, vl e, vu, vi fr', vi x], [], (I', Y')) K := fun K => by
      rw [b455_15 hL' (by omega) (by omega), tn0, ← kx.1.1]
      rcases kx.1.2 with y | y
      · rw [y, if_pos (by decide), if_pos rfl]
      · rw [y, if_neg (by decide), if_neg (by decide)]
    simp only [hm2]
    rcases kx.1.2 with y | y
    · have kn := mkR_few k3 k4 xn y
      rw [if_pos (by rw [y]; decide)]
      simp only [if_pos y]
      have hm3 : ∀ K : vE → Prop, vW (d' + 1) 455 (26, [vr 2075, vl e, vu, vi fr', vi x], [], (I', Y')) K ↔ K (.inl none, (up (up (up (up I' 2266 x 1) 2265 x fr') 2264 k x) 2075 7830 ((k : Int) + 1), Y')) := fun K => by
        rw [b455_26 hL' (by omega) (by omega) (by omega) (by omega), k2, tn0, tn0]
      simp only [hm3]
      rw [b152_15 hL (by omega) (by omega) (by omega) (by omega), k1, tn0, tn0]
      have gg : lkG I I' (up (up (up (up I 1988 x 1) 1987 x fr') 1986 k x) 1960 3099 ((k : Int) + 1)) (up (up (up (up I' 2266 x 1) 2265 x fr') 2264 k x) 2075 7830 ((k : Int) + 1)) := by
        refine ⟨fun j hj => ?_, by rw [up_same, k1]; omega⟩
        rw [k1] at hj
        exact ⟨by rw [up_cell _ (by decide), up_place _ _ (show j ≠ k by omega), up_cell _ (by decide), up_cell _ (by decide)], by rw [up_cell _ (by decide), up_place _ _ (show j ≠ k by omega), up_cell _ (by decide), up_cell _ (by decide)]⟩
      refine hQ _ _ ⟨k + 1, ⟨by rw [up_same]; rfl, by rw [up_same]; rfl⟩, fun j hj => ?_, fun i j hij hj => ?_, fun w hw => ⟨⟨?_, ?_⟩, fun q => ?_, fun q => ?_⟩⟩ gg (fr_upP (fr_upL (fr_upL (fr_upL (fr_refl _ _ _) rfl _ _) rfl _ _) rfl _ _) rfl _) (fr_upP (fr_upL (fr_upL (fr_upL (fr_refl _ _ _) rfl _ _) rfl _ _) rfl _ _) rfl _)
      · by_cases zz : j = k
        · refine ⟨x, xn, ?_, ?_, ?_⟩
          · rw [zz, up_cell _ (by decide), up_same]
          · rw [zz, up_cell _ (by decide), up_same]
          · rw [up_cell _ (by decide), up_cell _ (by decide), up_cell _ (by decide), up_same]
        · obtain ⟨w, w1, w2, w3, w4⟩ := k3 j (by omega)
          refine ⟨w, w1, ?_, ?_, ?_⟩
          · rw [up_cell _ (by decide), up_place _ _ zz, up_cell _ (by decide), up_cell _ (by decide)]; exact w2
          · rw [up_cell _ (by decide), up_place _ _ zz, up_cell _ (by decide), up_cell _ (by decide)]; exact w3
          · rw [up_cell _ (by decide), up_cell _ (by decide), up_cell _ (by decide), up_at]
            by_cases q : w = x
            · rw [if_pos q]
            · rw [if_neg q]; exact w4
      · rw [up_cell _ (by decide), up_place _ _ (show i ≠ k by omega), up_cell _ (by decide), up_cell _ (by decide), up_cell _ (by decide), up_at, up_cell _ (by decide), up_cell _ (by decide)]
        by_cases zz : j = k
        · rw [if_pos zz]
          obtain ⟨w, w1, w2, w3, w4⟩ := k3 i (by omega)
          rw [w2]
          intro q
          have : w = x := by omega
          rw [this, y] at w4
          exact absurd w4 (by decide)
        · rw [if_neg zz]; exact k4 i j hij (by omega)
      · rw [up_cell _ (by decide), up_cell _ (by decide), up_cell _ (by decide), up_at, up_cell _ (by decide), up_cell _ (by decide), up_cell _ (by decide), up_at, (k5 w hw).1.1]
      · rw [up_cell _ (by decide), up_cell _ (by decide), up_cell _ (by decide), up_at]
        by_cases q : w = x
        · rw [if_pos q]; exact Or.inr rfl
        · rw [if_neg q]; exact (k5 w hw).1.2
      · rw [up_cell _ (by decide), up_cell _ (by decide), up_cell _ (by decide), up_at] at q
        refine ⟨?_, ?_⟩
        · rw [up_cell _ (by decide), up_cell _ (by decide), up_at, up_cell _ (by decide), up_cell _ (by decide), up_cell _ (by decide), up_at, up_cell _ (by decide)]
          by_cases zz : w = x
          · rw [if_pos zz, if_pos zz]
          · rw [if_neg zz] at q ⊢
            rw [if_neg zz]
            exact ((k5 w hw).2.1 q).1
        · by_cases zz : w = x
          · exact ⟨k, by omega, by rw [up_cell _ (by decide), up_same, zz]⟩
          · rw [if_neg zz] at q
            obtain ⟨j, j1, j2⟩ := ((k5 w hw).2.1 q).2
            exact ⟨j, by omega, by rw [up_cell _ (by decide), up_place _ _ (show j ≠ k by omega), up_cell _ (by decide), up_cell _ (by decide)]; exact j2⟩
      · rw [up_cell _ (by decide), up_cell _ (by decide), up_cell _ (by decide), up_at] at q
        by_cases zz : w = x
        · rw [if_pos zz] at q; exact absurd q (by decide)
        · rw [if_neg zz] at q
          rw [up_cell _ (by decide), up_cell _ (by decide), up_place _ _ zz, up_cell _ (by decide)]
          exact (k5 w hw).2.2 q
    · rw [if_neg (by rw [y]; decide), b152_14]
      simp only [y, b455_25]
      exact hQ I I' h0 (lkG_refl _ _) (fr_refl _ _ _) (fr_refl _ _ _)
  · have e4 : e % 4 ≠ 1 := by unfold vv at hv; omega
    have hm : ∀ K : vE → Prop, vW (d' + 1) 455 (0, [vr 2075, vl e, vu, vi fr', vu], [], (I', Y')) K ↔ K (.inl none, (I', Y')) := fun K => by
      rw [b455_0, t_isArr hi.1, if_neg e4]
      simp only [vWC_s, Nat.reduceAdd]
      rw [b455_4, if_neg (by decide), b455_7]
    simp only [hm]
    rw [b152_0, if_pos (by rw [w32_id (by omega) (by omega), w32_id (by decide) (by decide)]; exact z), b152_14]
    exact hQ I I' h (lkG_refl _ _) (fr_refl _ _ _) (fr_refl _ _ _)
end
