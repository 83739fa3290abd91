/-! ===== looks: the loops over variables, names, piles, elements ===== -/
set_option maxRecDepth 20000
set_option maxHeartbeats 4000000
section
variable {d d' : Nat} {Y Y' : vY} {I I' : vJ} {Q : vE → vE → Prop} {n : Nat}
theorem r_vars {X V : Nat} (hL : vL Y) (hL' : vL Y') (hn : n ≤ 300) (hX : Y'.1 2075 7689 = X) (hX2 : X = 2081 ∨ X = 2119) (hV : vreg Y' 2081 38 (Y'.1 2075 7689)) (hV1 : I' X 7937 = V) (V8 : V ≤ 8) (hv : ∀ v : Nat, v < V → vv n (I 1992 v) (I 1993 v) (I' 2185 v))
    (hQ : ∀ J J' : vJ, lkQ I I' n J J' → vW (d + 1) 151 (67, [vr 1960, vr 1990, vi (V : Int), vi (V : Int), vu, vu], [], (J, Y)) (fun r => vW (d' + 2) 454 (59, [vr 2075, vi (V : Int), vu, vu, vu], [], (J', Y')) (fun r' => Q r r'))) :
    ∀ (m i : Nat) (J J' : vJ), i + m = V → lkQ I I' n J J' → vW (d + 1) 151 (37, [vr 1960, vr 1990, vi (V : Int), vi (i : Int), vu, vu], [], (J, Y)) (fun r => vW (d' + 2) 454 (30, [vr 2075, vi (i : Int), vu, vu, vu], [], (J', Y')) (fun r' => Q r r')) := by
  intro m
  induction m with
  | zero =>
    intro i J J' hi h
    have hi : i = V := by omega
    have gX : J' X = I' X := fr_out h.2.2 2081 2182 (by rfl) (by omega) (by omega)
    have hm : ∀ P : vE → Prop, vW (d' + 2) 454 (30, [vr 2075, vi (i : Int), vu, vu, vu], [], (J', Y')) P ↔ vW (d' + 2) 454 (59, [vr 2075, vi (V : Int), vu, vu, vu], [], (J', Y')) P := fun P => by
      rw [b454_30 hL' hV, hX, gX, hV1, hi, if_pos (Int.le_refl _)]
    simp only [hm]
    rw [hi, b151_37, if_pos (Int.le_refl _)]
    exact hQ J J' h
  | succ m ih =>
    intro i J J' hi h
    have gX : J' X = I' X := fr_out h.2.2 2081 2182 (by rfl) (by omega) (by omega)
    have hm : ∀ P : vE → Prop, vW (d' + 2) 454 (30, [vr 2075, vi (i : Int), vu, vu, vu], [], (J', Y')) P ↔ vW (d' + 1) 455 (0, [vr 2075, vl (I' 2185 i), vu, vi (-2), vu], [], (J', Y')) (vWC (d' + 2) 454 50 3 [vr 2075, vi (i : Int), vu, vu, vu] [] P) := fun P => by
      rw [b454_30 hL' hV, hX, gX, hV1, if_neg (by rw [w32_id (by omega) (by omega), w32_id (by omega) (by omega)]; omega), b454_41 hL' (by omega) (by omega), tn0, h.2.2 2185 _ rfl]
    rw [b151_37, if_neg (by rw [w32_id (by omega) (by omega), w32_id (by omega) (by omega)]; omega), h151_42 hL (by omega) (by omega), tn0, h.2.1 1992 _ rfl, h.2.1 1993 _ rfl]
    apply vW_out
    simp only [hm]
    refine lk_two hL hL' hn h (hv i (by omega)) (fun K K' hK _ => ?_)
    simp only [vWC_n, Nat.reduceAdd]
    refine vW_swap.mp ?_
    rw [b151_61]
    simp only [b454_53]
    exact ih (i + 1) K K' (by omega) hK
/-- names of an activation -/
theorem r_names {X u a b T nk mb : Nat} {V k : Int} (hL : vL Y) (hL' : vL Y') (hn : n ≤ 300) (hX : Y'.1 2075 7689 = X) (hX2 : X = 2081 ∨ X = 2119) (hV : vreg Y' 2081 38 (Y'.1 2075 7689)) (u8 : u < 8) (a3 : a < 320) (hm : I' 2197 a = mb) (m24 : mb < 24) (hnm : I' (X + 3) mb = nk) (n16 : nk ≤ 16) (hT : I 1994 u = T) (hbT : b + nk ≤ T) (T4 : T ≤ 46088) (hv : ∀ i : Nat, i < nk → vv n (I 1992 (b + i)) (I 1993 (b + i)) (I' 2205 (16 * a + i)))
    (hQ : ∀ J J' : vJ, lkQ I I' n J J' → vW (d + 1) 151 (87, [vr 1960, vr 1990, vi V, vi (u : Int), vi ((b + nk : Nat) : Int), vu], [], (J, Y)) (fun r => vW (d' + 2) 454 (134, [vr 2075, vi (u : Int), vi k, vi (a : Int), vi (nk : Int)], [], (J', Y')) (fun r' => Q r r'))) :
    ∀ (m i : Nat) (J J' : vJ), i + m = nk → lkQ I I' n J J' → vW (d + 1) 151 (87, [vr 1960, vr 1990, vi V, vi (u : Int), vi ((b + i : Nat) : Int), vu], [], (J, Y)) (fun r => vW (d' + 2) 454 (91, [vr 2075, vi (u : Int), vi k, vi (a : Int), vi (i : Int)], [], (J', Y')) (fun r' => Q r r')) := by
  intro m
  induction m with
  | zero =>
    intro i J J' hi h
    have hi : i = nk := by omega
    have gX : J' (X + 3) = I' (X + 3) := fr_out h.2.2 2081 2182 (by rfl) (by omega) (by omega)
    have hm : ∀ P : vE → Prop, vW (d' + 2) 454 (91, [vr 2075, vi (u : Int), vi k, vi (a : Int), vi (i : Int)], [], (J', Y')) P ↔ vW (d' + 2) 454 (134, [vr 2075, vi (u : Int), vi k, vi (a : Int), vi (nk : Int)], [], (J', Y')) P := fun P => by
      rw [b454_91 hL' hV (by omega) (by omega) (by rw [tn0, h.2.2 2197 _ rfl, hm]; omega) (by rw [tn0, h.2.2 2197 _ rfl, hm]; omega), tn0, h.2.2 2197 _ rfl, hm, tn0, hX, gX, hnm, hi, if_pos (Int.le_refl _)]
    simp only [hm]
    rw [hi]
    exact hQ J J' h
  | succ m ih =>
    intro i J J' hi h
    have gX : J' (X + 3) = I' (X + 3) := fr_out h.2.2 2081 2182 (by rfl) (by omega) (by omega)
    have ei : ((16 * (a : Int)) + (i : Int)).toNat = 16 * a + i := by omega
    have hm : ∀ P : vE → Prop, vW (d' + 2) 454 (91, [vr 2075, vi (u : Int), vi k, vi (a : Int), vi (i : Int)], [], (J', Y')) P ↔ vW (d' + 1) 455 (0, [vr 2075, vl (I' 2205 (16 * a + i)), vu, vi (-2), vu], [], (J', Y')) (vWC (d' + 2) 454 125 3 [vr 2075, vi (u : Int), vi k, vi (a : Int), vi (i : Int)] [] P) := fun P => by
      rw [b454_91 hL' hV (by omega) (by omega) (by rw [tn0, h.2.2 2197 _ rfl, hm]; omega) (by rw [tn0, h.2.2 2197 _ rfl, hm]; omega), tn0, h.2.2 2197 _ rfl, hm, tn0, hX, gX, hnm, if_neg (by rw [w32_id (by omega) (by omega), w32_id (by omega) (by omega)]; omega), b454_110 hL' (by omega) (by omega), ei, h.2.2 2205 _ rfl]
    have e9 : ((b + i : Nat) : Int) + 1 = ((b + (i + 1) : Nat) : Int) := by omega
    rw [h151_87 hL (by omega) (by omega), tn0, h.2.1 1994 _ rfl, hT, if_neg (by rw [w32_id (by omega) (by omega), w32_id (by omega) (by omega)]; omega), h151_98 hL (by omega) (by omega), tn0, h.2.1 1992 _ rfl, h.2.1 1993 _ rfl]
    apply vW_out
    simp only [hm]
    refine lk_two hL hL' hn h (hv i (by omega)) (fun K K' hK _ => ?_)
    simp only [vWC_n, Nat.reduceAdd]
    refine vW_swap.mp ?_
    rw [b151_119, e9]
    simp only [b454_128]
    exact ih (i + 1) K K' (by omega) hK
/-- a pile, up to the numbers that wait in the model alone -/
theorem r_pile {u a c T s e : Nat} {V k : Int} (hL : vL Y) (hL' : vL Y') (hn : n ≤ 300) (u8 : u < 8) (a3 : a < 320) (hs : I' 2200 a = s) (s128 : s ≤ 128) (he : e ≤ s) (hT : I 1994 u = T) (hbT : c + e ≤ T) (T4 : T ≤ 46088) (hv : ∀ i : Nat, i < e → vv n (I 1992 (c + i)) (I 1993 (c + i)) (I' 2206 (160 * a + i)))
    (hQ : ∀ J J' : vJ, lkQ I I' n J J' → vW (d + 1) 151 (87, [vr 1960, vr 1990, vi V, vi (u : Int), vi ((c + e : Nat) : Int), vu], [], (J, Y)) (fun r => vW (d' + 2) 454 (137, [vr 2075, vi (u : Int), vi k, vi (a : Int), vi (e : Int)], [], (J', Y')) (fun r' => Q r r'))) :
    ∀ (m i : Nat) (J J' : vJ), i + m = e → lkQ I I' n J J' → vW (d + 1) 151 (87, [vr 1960, vr 1990, vi V, vi (u : Int), vi ((c + i : Nat) : Int), vu], [], (J, Y)) (fun r => vW (d' + 2) 454 (137, [vr 2075, vi (u : Int), vi k, vi (a : Int), vi (i : Int)], [], (J', Y')) (fun r' => Q r r')) := by
  intro m
  induction m with
  | zero =>
    intro i J J' hi h
    have hi : i = e := by omega
    rw [hi]
    exact hQ J J' h
  | succ m ih =>
    intro i J J' hi h
    have ei : ((160 * (a : Int)) + (i : Int)).toNat = 160 * a + i := by omega
    have hm : ∀ P : vE → Prop, vW (d' + 2) 454 (137, [vr 2075, vi (u : Int), vi k, vi (a : Int), vi (i : Int)], [], (J', Y')) P ↔ vW (d' + 1) 455 (0, [vr 2075, vl (I' 2206 (160 * a + i)), vu, vi (-2), vu], [], (J', Y')) (vWC (d' + 2) 454 164 3 [vr 2075, vi (u : Int), vi k, vi (a : Int), vi (i : Int)] [] P) := fun P => by
      rw [b454_137 hL' (by omega) (by omega), tn0, h.2.2 2200 _ rfl, hs, if_neg (by rw [w32_id (by omega) (by omega), w32_id (by omega) (by omega)]; omega), b454_148 hL' (by omega) (by omega), ei, h.2.2 2206 _ rfl]
    have e9 : ((c + i : Nat) : Int) + 1 = ((c + (i + 1) : Nat) : Int) := by omega
    rw [h151_87 hL (by omega) (by omega), tn0, h.2.1 1994 _ rfl, hT, if_neg (by rw [w32_id (by omega) (by omega), w32_id (by omega) (by omega)]; omega), h151_98 hL (by omega) (by omega), tn0, h.2.1 1992 _ rfl, h.2.1 1993 _ rfl]
    apply vW_out
    simp only [hm]
    refine lk_two hL hL' hn h (hv i (by omega)) (fun K K' hK _ => ?_)
    simp only [vWC_n, Nat.reduceAdd]
    refine vW_swap.mp ?_
    rw [b151_119, e9]
    simp only [b454_167]
    exact ih (i + 1) K K' (by omega) hK
/-- the numbers that wait in the model alone -/
theorem r_rest {J' : vJ} {u a s : Nat} {k : Int} {P : vE → Prop} (hL' : vL Y') (a3 : a < 320) (hs : J' 2200 a = s) (s128 : s ≤ 128) : ∀ (m i : Nat), i + m = s → (∀ j : Nat, i ≤ j → j < s → 0 ≤ J' 2206 (160 * a + j) ∧ J' 2206 (160 * a + j) < 32 ∧ J' 2206 (160 * a + j) % 4 = 0) → (vW (d' + 2) 454 (137, [vr 2075, vi (u : Int), vi k, vi (a : Int), vi (i : Int)], [], (J', Y')) P ↔ vW (d' + 2) 454 (173, [vr 2075, vi (u : Int), vi k, vi (a : Int), vi (s : Int)], [], (J', Y')) P) := by
  intro m
  induction m with
  | zero =>
    intro i hi _
    have hi : i = s := by omega
    rw [b454_137 hL' (by omega) (by omega), tn0, hs, hi, if_pos (Int.le_refl _)]
  | succ m ih =>
    intro i hi hw
    have ei : ((160 * (a : Int)) + (i : Int)).toNat = 160 * a + i := by omega
    have w := hw i (Nat.le_refl _) (by omega)
    rw [b454_137 hL' (by omega) (by omega), tn0, hs, if_neg (by rw [w32_id (by omega) (by omega), w32_id (by omega) (by omega)]; omega), b454_148 hL' (by omega) (by omega), ei, lk_one w.1 w.2.1 w.2.2]
    simp only [vWC_n, Nat.reduceAdd]
    rw [b454_167]
    exact ih (i + 1) (by omega) (fun j h1 h2 => hw j (by omega) h2)
/-- the elements of an array -/
theorem r_els {x j0 F0 S : Nat} {V : Int} {y3 y4 : vV} (hL : vL Y) (hL' : vL Y') (hn : n ≤ 300) (hx : x < n) (hf : I 2027 x = F0) (hf' : I' 2223 x = F0) (hs : I 2028 x = S) (hs' : I' 2224 x = S) (hE : F0 + S ≤ 6000) (hv : ∀ e : Nat, e < F0 + S → vv n (I 2033 e) (I 2034 e) (I' 2230 e)) {J0 J0' : vJ} (j3 : j0 < 300)
    (hQ : ∀ J J' : vJ, lkQ I I' n J J' → lkG J0 J0' J J' → vW (d + 1) 151 (205, [vr 1960, vr 1990, vi V, vi (j0 : Int), vi (x : Int), vi ((F0 + S : Nat) : Int)], [], (J, Y)) (fun r => vW (d' + 2) 454 (246, [vr 2075, vi (j0 : Int), vi (S : Int), y3, y4], [], (J', Y')) (fun r' => Q r r'))) :
    ∀ (m i : Nat) (J J' : vJ), i + m = S → lkQ I I' n J J' → lkG J0 J0' J J' → (j0 : Int) < J 1960 3099 → J' 2264 j0 = x → vW (d + 1) 151 (158, [vr 1960, vr 1990, vi V, vi (j0 : Int), vi (x : Int), vi ((F0 + i : Nat) : Int)], [], (J, Y)) (fun r => vW (d' + 2) 454 (197, [vr 2075, vi (j0 : Int), vi (i : Int), y3, y4], [], (J', Y')) (fun r' => Q r r')) := by
  intro m
  induction m with
  | zero =>
    intro i J J' hi h hg hj hr
    have hi : i = S := by omega
    have hm : ∀ P : vE → Prop, vW (d' + 2) 454 (197, [vr 2075, vi (j0 : Int), vi (i : Int), y3, y4], [], (J', Y')) P ↔ vW (d' + 2) 454 (246, [vr 2075, vi (j0 : Int), vi (S : Int), y3, y4], [], (J', Y')) P := fun P => by
      rw [b454_197 hL' (by omega) (by omega) (by rw [tn0, hr]; omega) (by rw [tn0, hr]; omega), tn0, hr, tn0, h.2.2 2224 _ rfl, hs', hi, if_pos (Int.le_refl _)]
    simp only [hm]
    rw [hi, h151_158 hL (by omega) (by omega), tn0, h.2.1 2027 _ rfl, h.2.1 2028 _ rfl, hf, hs, if_pos (by rw [w32_id (by omega) (by omega), w32_id (by omega) (by omega)]; omega)]
    exact hQ J J' h hg
  | succ m ih =>
    intro i J J' hi h hg hj hr
    have ei : ((F0 : Int) + (i : Int)).toNat = F0 + i := by omega
    have hm : ∀ P : vE → Prop, vW (d' + 2) 454 (197, [vr 2075, vi (j0 : Int), vi (i : Int), y3, y4], [], (J', Y')) P ↔ vW (d' + 1) 455 (0, [vr 2075, vl (I' 2230 (F0 + i)), vu, vi (x : Int), vu], [], (J', Y')) (vWC (d' + 2) 454 237 3 [vr 2075, vi (j0 : Int), vi (i : Int), y3, y4] [] P) := fun P => by
      rw [b454_197 hL' (by omega) (by omega) (by rw [tn0, hr]; omega) (by rw [tn0, hr]; omega), tn0, hr, tn0, h.2.2 2224 _ rfl, hs', if_neg (by rw [w32_id (by omega) (by omega), w32_id (by omega) (by omega)]; omega), b454_212 hL' (by omega) (by omega) (by rw [tn0, hr]; omega) (by rw [tn0, hr]; omega) (by rw [tn0, hr, tn0, h.2.2 2223 _ rfl, hf']; omega) (by rw [tn0, hr, tn0, h.2.2 2223 _ rfl, hf']; omega), tn0, hr, tn0, h.2.2 2223 _ rfl, hf', ei, h.2.2 2230 _ rfl]
    have e9 : ((F0 + i : Nat) : Int) + 1 = ((F0 + (i + 1) : Nat) : Int) := by omega
    rw [h151_158 hL (by omega) (by omega), tn0, h.2.1 2027 _ rfl, h.2.1 2028 _ rfl, hf, hs, if_neg (by rw [w32_id (by omega) (by omega), w32_id (by omega) (by omega)]; omega), h151_178 hL (by omega) (by omega), tn0, h.2.1 2033 _ rfl, h.2.1 2034 _ rfl]
    apply vW_out
    simp only [hm]
    refine lk_two hL hL' hn h (hv (F0 + i) (by omega)) (fun K K' hK hG => ?_)
    simp only [vWC_n, Nat.reduceAdd]
    refine vW_swap.mp ?_
    rw [b151_199, e9]
    simp only [b454_240]
    exact ih (i + 1) K K' (by omega) hK (lkG_trans hg hG) (by have := hG.2; omega) (by rw [(hG.1 j0 hj).2]; exact hr)
end
