/-! ===== an activation fails: both houses ===== -/
set_option maxRecDepth 20000
set_option maxHeartbeats 4000000
section
variable {d d' : Nat} {Y Y' : vY} {X mm Nn Lp : Nat} {nm pr ht : Nat → Nat} {I I' J J' : vJ} {th t A W N : Nat} {Q : vE → vE → Prop}
/-- the way that a node takes when it fails -/
theorem fail_way {x : Nat} (s1 : ST I I' Y Y' X mm Nn Lp nm pr ht) (xN : x < Nn) (hk : 1 ≤ wkV (I 38 x)) : ∃ (w0 j y m o : Nat) (p : Int), (I 48 x = w0 ∧ I' (X + 20) x = w0 ∧ I' (X + 21) x = (j : Int) + 1) ∧ wF I I' Y Y' X mm Nn (w0 + j) x y m o p ∧ I 52 (w0 + j) = 3 ∧ (∀ j', j' < j → w32 (I 52 (w0 + j')) ≠ w32 (I 52 (w0 + j))) ∧ (I 38 y = 11 ∨ I 38 y = 2) ∧ (I 42 y ≤ I 42 x ∧ lkA (I' (X + 16)) (I 42 x - I 42 y).toNat x y) ∧ (I 38 y = 2 → I 42 y = 0) ∧ (I 38 y = 11 → I' (X + 13) y = I 40 y ∧ 0 ≤ I 40 y ∧ I 40 y < I' (X + 3) m) := by
  have nf := s1.2.2.2.2.1 x xN
  have wm : I' (X + 21) x = wkN (I 38 x) := nf.2.1.2.2
  have w48 := nf.2.1.1
  have w48b := nf.2.1.2.1
  obtain ⟨w0, hw0⟩ : ∃ w0 : Nat, I 48 x = w0 := ⟨(I 48 x).toNat, by omega⟩
  have kb := nf.1.2
  -- the number of the way
  obtain ⟨j, hj1, hj2, hj3⟩ : ∃ j : Nat, wkN (I 38 x) = (j : Int) + 1 ∧ wkS (I 38 x) j = 3 ∧ ∀ j', j' < j → wkS (I 38 x) j' ≠ 3 := by
    have kk : I 38 x = 3 ∨ I 38 x = 4 ∨ I 38 x = 5 ∨ I 38 x = 6 ∨ I 38 x = 7 ∨ I 38 x = 9 ∨ I 38 x = 10 ∨ I 38 x = 12 ∨ I 38 x = 14 ∨ I 38 x = 15 := by
      unfold wkV at hk
      split at hk
      · omega
      · split at hk
        · omega
        · split at hk
          · omega
          · omega
    have c1 : ∀ j' : Nat, j' < 1 → j' = 0 := fun j' h => by omega
    have c2 : ∀ j' : Nat, j' < 2 → j' = 0 ∨ j' = 1 := fun j' h => by omega
    rcases kk with q | q | q | q | q | q | q | q | q | q
    · rw [q]; exact ⟨1, by decide, by decide, fun j' h => by rw [c1 j' h]; decide⟩
    · rw [q]; exact ⟨1, by decide, by decide, fun j' h => by rw [c1 j' h]; decide⟩
    · rw [q]; exact ⟨1, by decide, by decide, fun j' h => by rw [c1 j' h]; decide⟩
    · rw [q]; exact ⟨2, by decide, by decide, fun j' h => by rcases c2 j' h with z | z <;> (rw [z]; decide)⟩
    · rw [q]; exact ⟨1, by decide, by decide, fun j' h => by rw [c1 j' h]; decide⟩
    · rw [q]; exact ⟨1, by decide, by decide, fun j' h => by rw [c1 j' h]; decide⟩
    · rw [q]; exact ⟨0, by decide, by decide, fun j' h => absurd h (by omega)⟩
    · rw [q]; exact ⟨1, by decide, by decide, fun j' h => by rw [c1 j' h]; decide⟩
    · rw [q]; exact ⟨1, by decide, by decide, fun j' h => by rw [c1 j' h]; decide⟩
    · rw [q]; exact ⟨1, by decide, by decide, fun j' h => by rw [c1 j' h]; decide⟩
  obtain ⟨w', y, m, o, p, w1, w2, w3, w4, w5, w6, w7, w8, w9, w10, w11, w12, s, w13, w14⟩ := s1.2.2.2.2.2.1 x j xN (by rw [wm, hj1]; omega)
  have ew : w' = w0 + j := by clear w4 w5 w6 w7 w8 w9 w10 w11 w12 w13 w14 hj3; omega
  subst ew
  have w52 : I 52 (w0 + j) = 3 := by rw [w3]; exact hj2
  refine ⟨w0, j, y, m, o, p, ⟨hw0, by rw [← w48]; exact hw0, by rw [wm]; exact hj1⟩, w2, w52, fun j' hj' => ?_, w4 w52, w8 (Or.inl w52), fun q => w6.2 (Or.inr q), fun q => ?_⟩
  · obtain ⟨wz, _, _, _, _, z1, _, z3, _⟩ := s1.2.2.2.2.2.1 x j' xN (by rw [wm, hj1]; omega)
    have ez : wz = w0 + j' := by clear w4 w5 w6 w7 w8 w9 w10 w11 w12 w13 w14 hj3; omega
    rw [w52, ← ez, z3]
    have n3 := hj3 j' hj'
    have rg : 0 ≤ wkS (I 38 x) j' ∧ wkS (I 38 x) j' ≤ 2000 := by
      have jb : j ≤ 2 := by
        have : wkN (I 38 x) ≤ 3 := by unfold wkN; split; omega; split; omega; split <;> omega
        omega
      unfold wkS
      split
      · omega
      · split
        · omega
        · split <;> omega
    rw [w32_id (by omega) (by omega), w32_id (by decide) (by decide)]
    exact n3
  · have a := w14 q
    rw [← w13] at a
    exact a
/-- the model begins with an activation that fails -/
theorem t_fail {K : vE → Prop} {t B x w0 j y f : Nat} {e : Int} {x6 x7 x8 : vV} (hL : vL Y) (hX : Y.1 2075 7689 = X) (hV : vreg Y 2081 38 (Y.1 2075 7689)) (h8 : t < 8) (hB : B < 40) (hA : I 2186 t = (B : Int) + 1) (hx : I 2198 (40 * t + B) = x) (xb : x < 700) (h20 : I (X + 20) x = w0) (h21 : I (X + 21) x = (j : Int) + 1) (wb : w0 + j < 2100) (h23 : I (X + 23) (w0 + j) = y) : vW (d' + 1) 437 (13, [vr 2075, vi t, vi f, vl e, vu, vi 1, x6, x7, x8], [], (I, Y)) K ↔ vW d' 438 (0, [vr 2075, vi ((40 * t + B : Nat) : Int), vi x, vi y, vu], [], (I, Y)) (vWC (d' + 1) 437 82 3 [vr 2075, vi t, vi f, vl e, vu, vi 1, vi ((40 * t + B : Nat) : Int), vi x, vi ((w0 + j : Nat) : Int)] [] K) := by
  have ea : 40 * (t : Int) + ((B : Int) + 1) - 1 = ((40 * t + B : Nat) : Int) := by omega
  have ew : (w0 : Int) + ((j : Int) + 1) - 1 = ((w0 + j : Nat) : Int) := by omega
  rw [b437_13, if_neg (by decide), b437_18 hL (by omega) (by omega) (by rw [tn0, hA]; omega) (by rw [tn0, hA]; omega) hV (by rw [tn0, hA, ea, tn0, hx]; omega) (by rw [tn0, hA, ea, tn0, hx]; omega) (by rw [tn0, hA, ea, tn0, hx, tn0, hX, h20, h21]; omega) (by rw [tn0, hA, ea, tn0, hx, tn0, hX, h20, h21]; omega)]
  simp only [tn0, hA, ea, hx, hX, h20, h21, ew, h23]
/-- the house leaves an activation that has failed -/
theorem c_fend {K : vE → Prop} {t B w y T f : Nat} {so : Int} (hL : vL Y) (h8 : t < 8) (hA : I 1995 t = (B : Int) + 1) (hA2 : B < 40) (hB : I 2009 (40 * t + B) = T) (hy : y < 700) (k1 : I 38 y = 2) (hf : f < 10) (hfl : I 1990 3400 = f) : vW (d + 9) 195 (147, [vr 1990, vi t, vi so, vi ((40 * t + B : Nat) : Int), vi w, vi y, vu], [], (I, Y)) K ↔ vW (d + 9) 195 (282, [vr 1990, vi t, vi so, vi ((40 * t + B : Nat) : Int), vi w, vi y, vi 1], [], (up (up (up I 2039 f (I 2039 f + 1)) 1994 t T) 1995 t B, Y)) K := by
  have l1 := hL.1 2039 (by decide) (by decide)
  have l2 : Y.2.1 2039 = 100 := l1.1
  have l3 : Y.2.2.1 2039 = 10 := l1.2
  have e : (B : Int) + 1 - 1 = B := by omega
  rw [b195_147 hL (by omega) (by omega), tn0, k1, if_neg (by decide), b195_161 hL (by omega) (by omega), tn0, k1, if_pos rfl, b195_185 hL (by omega) (by omega), tn0, k1, if_neg (by decide), b195_199, b195_204, b195_206, if_pos (by decide), b195_244 hL, if_neg (by decide), b195_255 hL, hfl, b195_263 (by omega) (by rw [l3]; omega) (by omega) l2, if_neg (by decide), b195_270, b195_275 (by omega) (by rw [l3]; omega) (by omega) (by decide) l2, tn0, b195_277 hL, b170_0 hL, c_act (A := B) hL h8 (by rw [up_cell _ (by decide)]; exact hA)]
  simp only [vWC_s, Nat.reduceAdd]
  rw [b170_14 hL (by omega) (by omega) (by omega) (by omega) (by omega) (by omega)]
  simp only [tn0, vWC_n, Nat.reduceAdd]
  rw [up_cell _ (show (2009 : Nat) ≠ 2039 by decide), hB, up_cell _ (show (1995 : Nat) ≠ 2039 by decide), hA, e]
/-- the last activation of a thread has failed -/
theorem fail_end0 {y w f : Nat} {so e : Int} {x6 x7 x8 : vV} (hL : vL Y) (hL' : vL Y') (h : IL Y Y' X mm Nn Lp nm pr ht I I' th t 1 W N) (hP : PT Lp J J') (hB : bud J J' (W + 1) (ht 5000)) (g1 : goC I J) (g2 : goE I I' J' (40 * t)) (hf : f < 10) (hfl : J 1990 3400 = f) (hd : I 2012 (40 * t) = 0) (g3 : ∀ b, b ≠ 40 * t → J' 2198 b = I' 2198 b ∧ J' 2199 b = I' 2199 b ∧ J' 2200 b = I' 2200 b ∧ J 2011 b = I 2011 b ∧ J' 2202 b = I' 2202 b ∧ J' 2203 b = I' 2203 b)
    (hQ : ∀ F F', AS Y Y' X mm Nn Lp nm pr ht F F' th (W + 1) N → Q (.inl (some (vi 9)), (F, Y)) (.inl (some (vi 0)), (F', Y'))) :
    vW (d + 9) 195 (282, [vr 1990, vi t, vi so, vi ((40 * t + 0 : Nat) : Int), vi w, vi y, vi 1], [], (up (up (up J 2039 f (J 2039 f + 1)) 1994 t ((8 + 5760 * t : Nat) : Int)) 1995 t ((0 : Nat) : Int), Y)) (fun r => vW (d' + 6) 437 (13, [vr 2075, vi t, vi f, vl e, vu, vi 0, x6, x7, x8], [], (up (up J' 2251 f (J' 2251 f + 1)) 2186 t ((0 : Nat) : Int), Y')) (fun r' => Q r r')) := by
  have h0 := h
  obtain ⟨s1, ⟨s2, s2l⟩, s3, s4, ⟨s5, s6, s7, s8, s9, s10, s11⟩, s12, ⟨⟨r1, r2, r3, r4⟩, ⟨r5, r6⟩, r7, r8, r9⟩⟩ := h
  have th8 := s2.1.1.2.2
  have h8 : t < 8 := by omega
  have H1 : fr [65, 2011, 1979, 1980, 1981, 1970, 1971, 1972, 1973, 1975, 1976, 1977, 1978, 2014] [(1990, 3392), (1960, 3090)] I J := g1
  have H2 : fr [2183, 2202, 2203, 2255, 2256, 2257, 2258, 2241, 2242, 2243, 2244, 2245, 2246, 2247, 2248, 2209, 2198, 2199, 2200] [(2075, 7736), (2075, 7818)] I' J' := g2.1
  have hT0 : I 2009 (40 * t) = ((8 + 5760 * t : Nat) : Int) := by
    obtain ⟨b, s, h1, h2, _⟩ := r7
    have q1 := (h1 0 (by omega)).1
    rw [up_cell _ (show 2009 ≠ 1994 by decide), h2 (by omega)] at q1
    exact q1
  have l1 := hL.1 2040 (by decide) (by decide)
  have l2 : Y.2.1 2040 = 100 := l1.1
  have l3 : Y.2.2.1 2040 = 10 := l1.2
  have z1 : (up (up (up J 2039 f (J 2039 f + 1)) 1994 t ((8 + 5760 * t : Nat) : Int)) 1995 t ((0 : Nat) : Int)) 1995 t = 0 := up_same _ _ _ _
  have z2 : (up (up (up J 2039 f (J 2039 f + 1)) 1994 t ((8 + 5760 * t : Nat) : Int)) 1995 t ((0 : Nat) : Int)) 1990 3400 = f := by rw [up_cell _ (by decide), up_cell _ (by decide), up_cell _ (by decide)]; exact hfl
  have z3 : (up (up (up J 2039 f (J 2039 f + 1)) 1994 t ((8 + 5760 * t : Nat) : Int)) 1995 t ((0 : Nat) : Int)) 2040 f = J 2040 f := by rw [up_cell _ (by decide), up_cell _ (by decide), up_cell _ (by decide)]
  have z4 : up (up (up (up J 2039 f (J 2039 f + 1)) 1994 t ((8 + 5760 * t : Nat) : Int)) 1995 t ((0 : Nat) : Int)) 2040 f (J 2040 f + 1) 1990 3400 = f := by rw [up_cell _ (by decide)]; exact z2
  rw [b195_282 hL (by omega) (by omega), tn0, z1, if_neg (by decide), b195_291 hL, if_neg (by decide), b195_302 hL, z2, b195_310 (by omega) (by rw [l3]; omega) (by omega) l2, if_neg (by decide), b195_317, b195_322 (by omega) (by rw [l3]; omega) (by omega) (by decide) l2, tn0, z3, b195_324, if_neg (by decide), b195_331 hL, z4, b195_339 hL, b171_0 hL, if_pos (by rw [w32_id (by omega) (by omega), w32_id (by decide) (by decide)]; omega), b171_14, b171_15 hL (by omega) (by omega) (by omega) (by omega)]
  simp only [tn0]
  have x1 : ∀ u, up (up (up (up (up (up J 2039 f (J 2039 f + 1)) 1994 t ((8 + 5760 * t : Nat) : Int)) 1995 t ((0 : Nat) : Int)) 2040 f (J 2040 f + 1)) 1996 t 4) 2003 t f 1996 u = if u = t then 4 else I 1996 u := fun u => by
    rw [up_cell _ (by decide), up_at, up_cell _ (by decide), up_cell _ (by decide), up_cell _ (by decide), up_cell _ (by decide), H1 1996 _ rfl]
  have x2 : ∀ u, up (up (up (up (up (up J 2039 f (J 2039 f + 1)) 1994 t ((8 + 5760 * t : Nat) : Int)) 1995 t ((0 : Nat) : Int)) 2040 f (J 2040 f + 1)) 1996 t 4) 2003 t f 1995 u = if u = t then 0 else I 1995 u := fun u => by
    rw [up_cell _ (by decide), up_cell _ (by decide), up_cell _ (by decide), up_at, up_cell _ (by decide), up_cell _ (by decide), H1 1995 _ rfl]; rfl
  have x3 : ∀ u, up (up (up (up (up (up J 2039 f (J 2039 f + 1)) 1994 t ((8 + 5760 * t : Nat) : Int)) 1995 t ((0 : Nat) : Int)) 2040 f (J 2040 f + 1)) 1996 t 4) 2003 t f 1994 u = if u = t then I 2009 (40 * t) else I 1994 u := fun u => by
    rw [up_cell _ (by decide), up_cell _ (by decide), up_cell _ (by decide), up_cell _ (by decide), up_at, up_cell _ (by decide), H1 1994 _ rfl, hT0]
  have x4 : ∀ u, up (up (up (up (up (up J 2039 f (J 2039 f + 1)) 1994 t ((8 + 5760 * t : Nat) : Int)) 1995 t ((0 : Nat) : Int)) 2040 f (J 2040 f + 1)) 1996 t 4) 2003 t f 2003 u = if u = t then (f : Int) else J 2003 u := fun u => by
    rw [up_at, up_cell _ (by decide), up_cell _ (by decide), up_cell _ (by decide), up_cell _ (by decide), up_cell _ (by decide)]
  have x5 : ∀ u, up (up (up (up (up (up J 2039 f (J 2039 f + 1)) 1994 t ((8 + 5760 * t : Nat) : Int)) 1995 t ((0 : Nat) : Int)) 2040 f (J 2040 f + 1)) 1996 t 4) 2003 t f 2039 u = if u = f then J 2039 f + 1 else J 2039 u := fun u => by
    rw [up_cell _ (by decide), up_cell _ (by decide), up_cell _ (by decide), up_cell _ (by decide), up_cell _ (by decide), up_at]
  have x6' : ∀ u, up (up (up (up (up (up J 2039 f (J 2039 f + 1)) 1994 t ((8 + 5760 * t : Nat) : Int)) 1995 t ((0 : Nat) : Int)) 2040 f (J 2040 f + 1)) 1996 t 4) 2003 t f 2040 u = if u = f then J 2040 f + 1 else J 2040 u := fun u => by
    rw [up_cell _ (by decide), up_cell _ (by decide), up_at, up_cell _ (by decide), up_cell _ (by decide), up_cell _ (by decide)]
  have E0 : fr [1994, 1995, 1996, 2003, 2039, 2040] [] J (up (up (up (up (up (up J 2039 f (J 2039 f + 1)) 1994 t ((8 + 5760 * t : Nat) : Int)) 1995 t ((0 : Nat) : Int)) 2040 f (J 2040 f + 1)) 1996 t 4) 2003 t f) := fr_upL (fr_upL (fr_upL (fr_upL (fr_upL (fr_upL (fr_refl _ _ _) rfl _ _) rfl _ _) rfl _ _) rfl _ _) rfl _ _) rfl _ _
  generalize up (up (up (up (up (up J 2039 f (J 2039 f + 1)) 1994 t ((8 + 5760 * t : Nat) : Int)) 1995 t ((0 : Nat) : Int)) 2040 f (J 2040 f + 1)) 1996 t 4) 2003 t f = H at x1 x2 x3 x4 x5 x6' E0 ⊢
  apply vW_out
  have hm1 : ∀ K : vE → Prop, vW (d' + 6) 437 (13, [vr 2075, vi t, vi f, vl e, vu, vi 0, x6, x7, x8], [], (up (up J' 2251 f (J' 2251 f + 1)) 2186 t ((0 : Nat) : Int), Y')) K ↔ vW (d' + 5) 419 (9, [vr 2075, vi t, vi 4, vi 0], [], (up (up (up (up (up J' 2251 f (J' 2251 f + 1)) 2186 t ((0 : Nat) : Int)) 2252 f (J' 2252 f + 1)) 2192 t f) 2187 t 4, Y')) (vWC (d' + 6) 437 206 3 [vr 2075, vi t, vi f, vl e, vu, vi 0, x6, x7, x8] [] K) := by
    intro K
    rw [b437_13, if_pos (by decide), b437_186 hL' (by omega) (by omega) (by omega) (by omega), b419_0 hL' (by omega) (by omega)]
    simp only [tn0]
    rw [up_cell _ (show (2252 : Nat) ≠ 2186 by decide), up_cell _ (show (2252 : Nat) ≠ 2251 by decide)]
  simp only [hm1]
  have y1 : ∀ u, up (up (up (up (up J' 2251 f (J' 2251 f + 1)) 2186 t ((0 : Nat) : Int)) 2252 f (J' 2252 f + 1)) 2192 t f) 2187 t 4 2187 u = if u = t then 4 else I' 2187 u := fun u => by
    rw [up_at, up_cell _ (by decide), up_cell _ (by decide), up_cell _ (by decide), up_cell _ (by decide), H2 2187 _ rfl]
  have y2 : ∀ u, up (up (up (up (up J' 2251 f (J' 2251 f + 1)) 2186 t ((0 : Nat) : Int)) 2252 f (J' 2252 f + 1)) 2192 t f) 2187 t 4 2186 u = if u = t then 0 else I' 2186 u := fun u => by
    rw [up_cell _ (by decide), up_cell _ (by decide), up_cell _ (by decide), up_at, up_cell _ (by decide), H2 2186 _ rfl]; rfl
  have y3 : ∀ u, up (up (up (up (up J' 2251 f (J' 2251 f + 1)) 2186 t ((0 : Nat) : Int)) 2252 f (J' 2252 f + 1)) 2192 t f) 2187 t 4 2192 u = if u = t then (f : Int) else J' 2192 u := fun u => by
    rw [up_cell _ (by decide), up_at, up_cell _ (by decide), up_cell _ (by decide), up_cell _ (by decide)]
  have y4 : ∀ u, up (up (up (up (up J' 2251 f (J' 2251 f + 1)) 2186 t ((0 : Nat) : Int)) 2252 f (J' 2252 f + 1)) 2192 t f) 2187 t 4 2251 u = if u = f then J' 2251 f + 1 else J' 2251 u := fun u => by
    rw [up_cell _ (by decide), up_cell _ (by decide), up_cell _ (by decide), up_cell _ (by decide), up_at]
  have y5 : ∀ u, up (up (up (up (up J' 2251 f (J' 2251 f + 1)) 2186 t ((0 : Nat) : Int)) 2252 f (J' 2252 f + 1)) 2192 t f) 2187 t 4 2252 u = if u = f then J' 2252 f + 1 else J' 2252 u := fun u => by
    rw [up_cell _ (by decide), up_cell _ (by decide), up_at, up_cell _ (by decide), up_cell _ (by decide)]
  have E2 : fr [2186, 2187, 2192, 2251, 2252] [] J' (up (up (up (up (up J' 2251 f (J' 2251 f + 1)) 2186 t ((0 : Nat) : Int)) 2252 f (J' 2252 f + 1)) 2192 t f) 2187 t 4) := fr_upL (fr_upL (fr_upL (fr_upL (fr_upL (fr_refl _ _ _) rfl _ _) rfl _ _) rfl _ _) rfl _ _) rfl _ _
  generalize up (up (up (up (up J' 2251 f (J' 2251 f + 1)) 2186 t ((0 : Nat) : Int)) 2252 f (J' 2252 f + 1)) 2192 t f) 2187 t 4 = H' at y1 y2 y3 y4 y5 E2 ⊢
  refine e_loop (d := d + 6) (d' := d' + 3) (t := t) (th := th) (N := N) (I := H) (I' := H') hL hL' h8 th8 (by rw [E0 1990 _ rfl, H1 1990 _ rfl]; exact s2.1.1.1) (by rw [E2 2075 _ rfl, H2 2075 _ rfl]; exact s2.1.1.2.1) (by rw [E0 1990 _ rfl, H1 1990 _ rfl]; exact s7) (by rw [E2 2075 _ rfl, H2 2075 _ rfl]; exact s8) (fun u hu => ?_) (fun F F' q1 q2 => ?_) th 0 H H' (by omega) ⟨fr_refl _ _ _, fun u => ⟨fun q => absurd q.1 (by omega), fun _ => ⟨rfl, rfl, rfl, rfl⟩⟩⟩ ⟨fr_refl _ _ _, fun u => ⟨fun q => absurd q.1 (by omega), fun _ => ⟨rfl, rfl, rfl, rfl⟩⟩⟩
  · obtain ⟨a1, a2, a3, a4, _⟩ := s2.1.2 u hu
    rw [x1, y1, E0 1997 _ rfl, E2 2188 _ rfl, H1 1997 _ rfl, H2 2188 _ rfl]
    by_cases z : u = t
    · rw [if_pos z, if_pos z]
      exact ⟨rfl, ⟨by decide, by decide⟩, fun q => absurd q (by decide), a3, a4⟩
    · rw [if_neg z, if_neg z]
      exact ⟨a1.1, a1.2, fun q => (a2 (Or.inr q)).1, a3, a4⟩
  · simp only [vWC_n, vWC_s, Nat.reduceAdd, b437_209, b195_342]
    apply hQ
    have jj : ∀ u, u ≠ t → (jn H t u ↔ jn I t u) := fun u hu => by
      unfold jn
      rw [x1, if_neg hu, E0 1997 _ rfl, H1 1997 _ rfl]
    have jt : ¬ jn H t t := fun q => by
      have := q.1
      rw [x1, if_pos rfl] at this
      omega
    have F1 : fr [65, 1970, 1971, 1972, 1973, 1975, 1976, 1977, 1978, 1979, 1980, 1981, 2011, 2014, 1994, 1995, 1996, 2003, 2005, 2004, 2000, 2038, 2039, 2040] [(1990, 3392), (1960, 3090), (1990, 3401), (1990, 3402)] I F := fr_trans (fr_trans (fr_weak H1 (by decide) (by decide)) (fr_weak E0 (by decide) (by decide))) (fr_weak q1.1 (by decide) (by decide))
    have F2 : fr [2183, 2202, 2203, 2255, 2256, 2257, 2258, 2241, 2242, 2243, 2244, 2245, 2246, 2247, 2248, 2209, 2198, 2199, 2200, 2186, 2187, 2196, 2195, 2190, 2192, 2251, 2252] [(2075, 7736), (2075, 7818)] I' F' := fr_trans (fr_trans (fr_weak H2 (by decide) (by decide)) (fr_weak E2 (by decide) (by decide))) (fr_weak q2.1 (by decide) (by decide))
    have D1 : fr [1994, 1995, 1996, 2003, 2039, 2040, 2005, 2004, 2000] [] J F := fr_trans (fr_weak E0 (by decide) (by decide)) (fr_weak q1.1 (by decide) (by decide))
    have D2 : fr [2186, 2187, 2192, 2251, 2252, 2196, 2195, 2190] [] J' F' := fr_trans (fr_weak E2 (by decide) (by decide)) (fr_weak q2.1 (by decide) (by decide))
    have w1 := q1
    have w2 := q2
    refine AS_end (sc := 4) h0 ?_ ?_ hd (Or.inr rfl) ⟨?_, fun u hu z => ⟨fun q => ?_, fun q => ?_⟩⟩ (fun u => by rw [q1.1 1995 _ rfl]; exact x2 u) (fun u => by rw [q2.1 2186 _ rfl]; exact y2 u) (fun u => by rw [q1.1 1994 _ rfl]; exact x3 u) (fun b hb => ?_) F1 F2
    · obtain ⟨q1, q2, q3, q4, q5, q6, q7, q8, q9, q10, q11, q12, q13, q14, q15, q16, q17, q18, q19, q20⟩ := hP
      have hD : pDone F F' := fun u hu => by
        have a := q15 u hu
        rw [D1 2001 _ rfl, D2 2191 _ rfl, w2.1 2192 _ rfl, y3, D1 1990 _ rfl, w1.1 2003 _ rfl, x4]
        by_cases z : u = t
        · subst z
          rw [if_pos rfl, if_pos rfl]
          refine ⟨a.1, rfl, fun _ c => ?_⟩
          have b := ((w1.2 u).2 (fun q => jt q.2)).1
          rw [b, x1, if_pos rfl] at c
          omega
        · rw [if_neg z, if_neg z]
          refine ⟨a.1, a.2.1, fun c e => a.2.2 c ?_⟩
          rw [H1 1996 _ rfl]
          rw [H1 1990 _ rfl, s2.1.1.1] at c
          by_cases y : jn H t u
          · rw [((jj u z).mp y).1]; decide
          · have b := ((w1.2 u).2 (fun q => y q.2)).1
            rw [b, x1, if_neg z] at e
            exact e
      have hTh : pThr F F' := fun j hj => by
        have a := q14 j hj
        rw [D1 2037 _ rfl, D2 2249 _ rfl, D1 2038 _ rfl, D2 2250 _ rfl, w1.1 2039 _ rfl, w1.1 2040 _ rfl, w2.1 2251 _ rfl, w2.1 2252 _ rfl, x5, x6', y4, y5]
        by_cases z : j = f
        · subst z
          simp only [if_true]
          exact ⟨a.1, a.2.1, by rw [a.2.2.1], by rw [a.2.2.2]⟩
        · simp only [z, if_false]
          exact a
      have hM9 : pMet F F' := ⟨by rw [D1 1990 _ rfl, D2 2075 _ rfl]; exact q9.1, fwR_leave (t := t) (A := 0) q9.2 (fun c z1 z2 => fr_out D1 35 66 (by rfl) z1 z2) (fr_row D2 2183 (fun _ => rfl)) (fr_row D2 2198 (fun _ => rfl)) (D2 2075 _ rfl) (fun u => by rw [w2.1 2186 _ rfl, y2, H2 2186 _ rfl]; rfl) (by rw [H2 2186 _ rfl, r2]; rfl) (by rw [H1 38 _ rfl]; exact g2.2) (by decide)⟩
      exact ⟨su_keep su_tR D1 D2 rfl q1, su_keep su_pPath D1 D2 rfl q2, su_keep su_loR D1 D2 rfl q3, su_keep su_pArr D1 D2 rfl q4, su_keep su_pStep D1 D2 rfl q5, su_keep su_pKeep D1 D2 rfl q6, su_keep su_pCost D1 D2 rfl q7, su_keep su_pCalls D1 D2 rfl q8, hM9, su_keep su_pPrint D1 D2 rfl q10, su_keep su_pBegun D1 D2 rfl q11, su_keep su_pLooks D1 D2 rfl q12, su_keep su_pPar D1 D2 rfl q13, hTh, hD, su_keep su_pLast D1 D2 rfl q16, su_keep su_pFor D1 D2 rfl q17, su_keep su_pTurns D1 D2 rfl q18, su_keep su_pSeed D1 D2 rfl q19, su_keep su_pVars D1 D2 rfl q20⟩
    · obtain ⟨⟨n, b1, b2⟩, b3, b4⟩ := hB
      have x1 := fr_row D2 2255 (fun _ => rfl)
      have x2 := fr_row D2 2256 (fun _ => rfl)
      refine ⟨⟨n, hR_same b1 (D1 1960 _ rfl) (fr_row D1 1979 (fun _ => rfl)) (fr_row D1 1980 (fun _ => rfl)) (fr_row D1 1981 (fun _ => rfl)) (D2 2075 _ rfl) x1 x2 (fr_row D2 2257 (fun _ => rfl)) (fr_row D2 2258 (fun _ => rfl)), by rw [x1, x2]; exact b2⟩, by rw [D1 1990 _ rfl]; exact b3, ⟨fun j hj => ?_, tot_le b4.2 (fr_row D1 35 (fun _ => rfl)) (fr_row D2 2183 (fun _ => rfl)) (D1 1990 _ rfl)⟩⟩
      rw [D1 2014 j rfl, D1 1990 _ rfl]; exact b4.1 j hj
    · have a := (q1.2 t).2 (fun q => jt q.2)
      have b := (q2.2 t).2 (fun q => jt q.2)
      rw [a.1, a.2.1, a.2.2.1, a.2.2.2, b.1, b.2.1, b.2.2.1, b.2.2.2, x1, y1, if_pos rfl, if_pos rfl, E0 2005 _ rfl, E0 2004 _ rfl, E0 2000 _ rfl, E2 2196 _ rfl, E2 2195 _ rfl, E2 2190 _ rfl, H1 2005 _ rfl, H1 2004 _ rfl, H1 2000 _ rfl, H2 2196 _ rfl, H2 2195 _ rfl, H2 2190 _ rfl]
      exact ⟨rfl, rfl, rfl, rfl, rfl, rfl, rfl, rfl⟩
    · have q := (jj u z).mpr q
      have a := (q1.2 u).1 ⟨hu, q⟩
      have b := (q2.2 u).1 ⟨hu, q⟩
      rw [E0 2000 _ rfl, E0 1998 _ rfl, H1 2000 _ rfl, H1 1998 _ rfl] at a
      rw [E2 2190 _ rfl, E2 2189 _ rfl, H2 2190 _ rfl, H2 2189 _ rfl] at b
      exact ⟨a, b⟩
    · have q := fun z2 => q ((jj u z).mp z2)
      have a := (q1.2 u).2 (fun z2 => q z2.2)
      have b := (q2.2 u).2 (fun z2 => q z2.2)
      rw [E0 2005 _ rfl, E0 2004 _ rfl, E0 2000 _ rfl, H1 2005 _ rfl, H1 2004 _ rfl, H1 2000 _ rfl, x1, if_neg z] at a
      rw [E2 2196 _ rfl, E2 2195 _ rfl, E2 2190 _ rfl, H2 2196 _ rfl, H2 2195 _ rfl, H2 2190 _ rfl, y1, if_neg z] at b
      exact ⟨a, b⟩
    · rw [D2 2198 _ rfl, D2 2199 _ rfl, D2 2200 _ rfl, D1 2011 _ rfl, D2 2202 _ rfl, D2 2203 _ rfl]
      exact g3 b hb
end
