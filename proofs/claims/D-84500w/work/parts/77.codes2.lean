/-! ===== one code in both houses ===== -/
set_option maxRecDepth 20000
theorem pu_fr0 (I : vJ) (t T : Nat) (k v : Int) : fr [1992, 1993, 1994] [] I (pu I t T k v) := fr_upL (fr_upL (fr_upL (fr_refl _ _ _) rfl _ _) rfl _ _) rfl _ _
theorem pt_fr0 (I : vJ) (a i S : Nat) (e : Int) : fr [2199, 2200, 2206] [] I (pt I a i S e) := fr_upL (fr_upL (fr_upL (fr_refl _ _ _) rfl _ _) rfl _ _) rfl _ _
theorem pu_a (I : vJ) (t T : Nat) (k v : Int) (p : Nat) : pu I t T k v 1992 p = if p = T then k else I 1992 p := by unfold pu; rw [up_cell _ (by decide), up_cell _ (by decide), up_at]
theorem pu_b (I : vJ) (t T : Nat) (k v : Int) (p : Nat) : pu I t T k v 1993 p = if p = T then v else I 1993 p := by unfold pu; rw [up_cell _ (by decide), up_at, up_cell _ (by decide)]
theorem pu_c (I : vJ) (t T : Nat) (k v : Int) (p : Nat) : pu I t T k v 1994 p = if p = t then (T : Int) + 1 else I 1994 p := by unfold pu; rw [up_at, up_cell _ (by decide), up_cell _ (by decide)]
theorem pt_a (I : vJ) (a i S : Nat) (e : Int) (p : Nat) : pt I a i S e 2199 p = if p = a then (i : Int) + 1 else I 2199 p := by unfold pt; rw [up_cell _ (by decide), up_cell _ (by decide), up_at]
theorem pt_b (I : vJ) (a i S : Nat) (e : Int) (p : Nat) : pt I a i S e 2200 p = if p = a then (S : Int) + 1 else I 2200 p := by unfold pt; rw [up_at, up_cell _ (by decide), up_cell _ (by decide)]
theorem pt_c (I : vJ) (a i S : Nat) (e : Int) (p : Nat) : pt I a i S e 2206 p = if p = 160 * a + S then e else I 2206 p := by unfold pt; rw [up_cell _ (by decide), up_at, up_cell _ (by decide)]
/-- a use of an array -/
theorem pArr_use {I I' J J' : vJ} {k n E : Nat} {N : Int} (h : aR I I' n E) (F1 : fr [1992, 1993, 1994, 2032] [] I J) (F2 : fr [2199, 2200, 2206, 2228] [] I' J') (e1 : ∀ j, J 2032 j = if j = k then N else I 2032 j) (e2 : ∀ j, J' 2228 j = if j = k then N else I' 2228 j) : aR J J' n E := by
  unfold aR at *
  rw [F1 1990 _ rfl, F1 1990 3377 rfl, F2 2075 _ rfl, F2 2075 7738 rfl, fr_row F1 2033 (fun _ => rfl), fr_row F1 2034 (fun _ => rfl), fr_row F2 2230 (fun _ => rfl)]
  refine ⟨h.1, h.2.1, h.2.2.1, h.2.2.2.1, fun j hj => ?_, h.2.2.2.2.2⟩
  have q := h.2.2.2.2.1 j hj
  rw [fr_row F1 2027 (fun _ => rfl), fr_row F1 2028 (fun _ => rfl), fr_row F1 2029 (fun _ => rfl), fr_row F1 2030 (fun _ => rfl), fr_row F1 2031 (fun _ => rfl), fr_row F1 1985 (fun _ => rfl), fr_row F2 2223 (fun _ => rfl), fr_row F2 2224 (fun _ => rfl), fr_row F2 2225 (fun _ => rfl), fr_row F2 2226 (fun _ => rfl), fr_row F2 2227 (fun _ => rfl), fr_row F2 2229 (fun _ => rfl), e1, e2, F1 18 _ rfl]
  refine ⟨⟨q.1.1, q.1.2.1, q.1.2.2.1, q.1.2.2.2.1, q.1.2.2.2.2.1, ?_, q.1.2.2.2.2.2.2⟩, q.2⟩
  by_cases z : j = k
  · rw [if_pos z, if_pos z]
  · rw [if_neg z, if_neg z]; exact q.1.2.2.2.2.2.1
section
variable {d d' : Nat} {Y Y' : vY} {X mm Nn Lp : Nat} {nm pr ht : Nat → Nat} {I I' : vJ} {th t A i W N : Nat} {Q : vE → vE → Prop}
/-- what comes behind a code -/
def nxt (d d' : Nat) (Y Y' : vY) (X mm Nn Lp : Nat) (nm pr ht : Nat → Nat) (th t A i W N nd : Nat) (Q : vE → vE → Prop) : Prop := ∀ (J J' : vJ) (x6 x7 x8 y3 y4 y5 y6 : vV), IS Y Y' X mm Nn Lp nm pr ht J J' th t A (i + 1) W N → J 2007 (40 * t + (A - 1)) = nd → vW (d + 6) 177 (33, [vr 1990, vi t, vi ((40 * t + (A - 1) : Nat) : Int), vi nd, vi (2 * ((i + 1 : Nat) : Int)), vr 37, x6, x7, x8], [], (J, Y)) (fun r => vW (d' + 6) 422 (2, [vr 2075, vi t, vi 1, y3, y4, y5, y6], [], (J', Y')) (fun r' => Q r r'))
/-- what comes behind a failure -/
def flt (d' : Nat) (Y Y' : vY) (X mm Nn Lp : Nat) (nm pr ht : Nat → Nat) (I : vJ) (th t A W N nd : Nat) (Q : vE → vE → Prop) : Prop := ∀ (J' : vJ) (f y5 y6 : Int), 1 ≤ f → f ≤ 9 → IFs Y Y' X mm Nn Lp nm pr ht I J' th t A W N → vW (d' + 5) 437 (0, [vr 2075, vi t, vi f, vl (4 * f), vu, vu, vu, vu, vu], [], (J', Y')) (vWC (d' + 6) 422 102 3 [vr 2075, vi t, vi 1, vi ((40 * t + (A - 1) : Nat) : Int), vi nd, vi y5, vi y6] [] (fun r' => Q (.inl (some (vi 3)), (flC I f, Y)) r'))
theorem k_simple {nd B T : Nat} {kd v e : Int} {x6 x7 x8 y3 y4 y5 y6 z6 z7 z8 w3 w4 w5 w6 : vV} (h : IS Y Y' X mm Nn Lp nm pr ht I I' th t A i W N) (hi : (i : Int) < I' (X + 12) (I 2007 (40 * t + (A - 1))).toNat) (hnd : I 2007 (40 * t + (A - 1)) = nd) (h1 : I 2009 (40 * t + (A - 1)) = B) (h3 : T = B + nm (I 2006 (40 * t + (A - 1))).toNat + ht i) (h5 : 8 ≤ B) (h6 : ht (i + 1) = ht i + 1) (h7 : ht (i + 1) ≤ 100) (hv : vv (I 1990 3376) kd v e)
    (hc : ∀ K : vE → Prop, vW (d + 6) 177 (33, [vr 1990, vi t, vi ((40 * t + (A - 1) : Nat) : Int), vi nd, vi (2 * (i : Int)), vr 37, x6, x7, x8], [], (I, Y)) K ↔ vW (d + 6) 177 (33, [vr 1990, vi t, vi ((40 * t + (A - 1) : Nat) : Int), vi nd, vi (2 * (i : Int) + 2), vr 37, z6, z7, z8], [], (pu I t T kd v, Y)) K)
    (hm : ∀ K : vE → Prop, vW (d' + 6) 422 (2, [vr 2075, vi t, vi 1, y3, y4, y5, y6], [], (I', Y')) K ↔ vW (d' + 6) 422 (2, [vr 2075, vi t, vi 1, w3, w4, w5, w6], [], (pt I' (40 * t + (A - 1)) i (ht i) e, Y')) K)
    (hN : nxt d d' Y Y' X mm Nn Lp nm pr ht th t A i W N nd Q) :
    vW (d + 6) 177 (33, [vr 1990, vi t, vi ((40 * t + (A - 1) : Nat) : Int), vi nd, vi (2 * (i : Int)), vr 37, x6, x7, x8], [], (I, Y)) (fun r => vW (d' + 6) 422 (2, [vr 2075, vi t, vi 1, y3, y4, y5, y6], [], (I', Y')) (fun r' => Q r r')) := by
  simp only [hm]
  rw [hc, show 2 * (i : Int) + 2 = 2 * ((i + 1 : Nat) : Int) by omega]
  have F1 := pu_fr I t T kd v
  have F2 := pt_fr I' (40 * t + (A - 1)) i (ht i) e
  refine hN _ _ _ _ _ _ _ _ _ (IS_put (S := ht i) (T := T) h hi (Nat.le_refl _) h6 h7 (by omega) (by omega) hv F1 F2 (su_keep su_pArr (pu_fr0 I t T kd v) (pt_fr0 I' (40 * t + (A - 1)) i (ht i) e) rfl h.2.2.1.2.2.2.1) (pu_a _ _ _ _ _) (pu_b _ _ _ _ _) (pu_c _ _ _ _ _) (pt_a _ _ _ _ _) (pt_b _ _ _ _ _) (pt_c _ _ _ _ _)) ?_
  rw [F1 2007 _ rfl]; exact hnd
/-- numbers, nil, names, vars -/
theorem k_push {nd : Nat} {x6 x7 x8 y3 y4 y5 y6 : vV} (hL : vL Y) (hL' : vL Y') (h : IS Y Y' X mm Nn Lp nm pr ht I I' th t A i W N) (hi : (i : Int) < I' (X + 12) (I 2007 (40 * t + (A - 1))).toNat) (hnd : I 2007 (40 * t + (A - 1)) = nd) (hk : I 37 (2 * i) = 0 ∨ I 37 (2 * i) = 1 ∨ I 37 (2 * i) = 2 ∨ I 37 (2 * i) = 3) (hN : nxt d d' Y Y' X mm Nn Lp nm pr ht th t A i W N nd Q) :
    vW (d + 6) 177 (33, [vr 1990, vi t, vi ((40 * t + (A - 1) : Nat) : Int), vi nd, vi (2 * (i : Int)), vr 37, x6, x7, x8], [], (I, Y)) (fun r => vW (d' + 6) 422 (2, [vr 2075, vi t, vi 1, y3, y4, y5, y6], [], (I', Y')) (fun r' => Q r r')) := by
  obtain ⟨nd', ct, B, T, ⟨a1, a2, a3, a4⟩, ⟨b1, b2, b3, b3'⟩, ⟨b4, b5, b6, b7⟩, ⟨c1, c2, c3, c4, c5, c6⟩, ⟨v1, v2⟩, ⟨o1, o2, o3⟩, ⟨p1, p2, p3⟩⟩ := IS_at h hi
  have e0 : nd' = nd := by omega
  subst e0
  obtain ⟨hX, hX2, hV⟩ := h.1.1
  rcases o1 with o | o | o | o | o | o | o | o | o | o | o
  · exact k_simple h hi hnd c1 c3 c5 o.2.2.2.2.2 o3 (Or.inl ⟨rfl, rfl, by omega, by omega⟩) (fun K => c_k0 (d := d + 4) (T := T) hL a1 b3 b4 b6 b7 o.1 c2 (by omega)) (fun K => t_k0 (d := d' + 4) (v := I 37 (2 * i + 1)) hL' hX hX2 hV a1 p1 (by omega) rfl b2 b3 p2 b5 b6 b7 o.2.1 o.2.2.1 o.2.2.2.1 o.2.2.2.2.1 p3 (by omega)) hN
  · exact k_simple h hi hnd c1 c3 c5 o.2.2 o3 (Or.inr (Or.inr ⟨rfl, rfl, rfl⟩)) (fun K => c_k1 (d := d + 4) (T := T) hL a1 b3 b4 b6 b7 o.1 c2 (by omega)) (fun K => t_k1 (d := d' + 4) hL' hX hX2 hV a1 p1 (by omega) rfl b2 b3 p2 b5 b6 b7 o.2.1 p3 (by omega)) hN
  · obtain ⟨j, hj⟩ : ∃ j : Nat, I 37 (2 * i + 1) = j := ⟨(I 37 (2 * i + 1)).toNat, by omega⟩
    have vj := v1 j (by omega)
    have kj : 0 ≤ I 1992 (B + j) ∧ I 1992 (B + j) ≤ 2 := by rcases vj with z | z | z <;> omega
    exact k_simple h hi hnd c1 c3 c5 o.2.2.2.2.2 o3 vj (fun K => c_k2 (d := d + 4) (T := T) hL a1 a4 b3 b4 b6 b7 o.1 c2 (by omega) c1 hj (by omega) kj) (fun K => t_k3 (d := d' + 4) hL' hX hX2 hV a1 p1 (by omega) rfl b2 b3 p2 b5 b6 b7 o.2.1 (by omega) (by omega) p3 (by omega)) hN
  · obtain ⟨j, hj⟩ : ∃ j : Nat, I 37 (2 * i + 1) = j := ⟨(I 37 (2 * i + 1)).toNat, by omega⟩
    have gvs : I 1960 3100 = nm 5000 := h.2.2.2.2.1.2.1.2.2
    have vj := h.2.2.1.2.2.2.2.2.2.2.2.2.2.2.2.2.2.2.2.2.2.2 j (by omega) (by omega)
    have kj : 0 ≤ I 1992 j ∧ I 1992 j ≤ 2 := by rcases vj with z | z | z <;> omega
    exact k_simple h hi hnd c1 c3 c5 o.2.2.2.2.2 o3 vj (fun K => c_k3 (d := d + 4) (T := T) hL a1 b3 b4 b6 b7 o.1 c2 (by omega) hj (by omega) kj) (fun K => t_k2 (d := d' + 4) hL' hX hX2 hV a1 p1 (by omega) rfl b2 b3 p2 b5 b6 b7 o.2.1 (by omega) (by omega) p3 (by omega)) hN
  all_goals (exfalso; omega)
end
