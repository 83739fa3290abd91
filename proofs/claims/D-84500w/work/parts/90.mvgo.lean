/-! ===== moves beside onward, whole, for ways that leave no locks ===== -/
set_option maxRecDepth 20000
set_option maxHeartbeats 4000000
section
variable {d d' : Nat} {Y Y' : vY} {X mm Nn Lp : Nat} {nm pr ht : Nat → Nat} {I I' : vJ} {th t A W N : Nat} {Q : vE → vE → Prop}
theorem mv_go {x j w : Nat} (hL : vL Y) (hL' : vL Y') (h : IFs Y Y' X mm Nn Lp nm pr ht I I' th t A W N) (hx : I 2007 (40 * t + (A - 1)) = x) (hTop : I 1994 t = I 2009 (40 * t + (A - 1)) + nm (I 2006 (40 * t + (A - 1))).toNat) (hk : I 38 x ≠ 9 ∧ I 38 x ≠ 16 ∧ I 38 x ≠ 12 ∧ I 38 x ≠ 13) (hj : (j : Int) < wkN (I 38 x)) (hs : wkS (I 38 x) j ≠ 3) (hw : (w : Int) = I 48 x + j)
    (hStay : ∀ J J', AS Y Y' X mm Nn Lp nm pr ht J J' th (W + 1) N → Q (.inl (some (vi 9)), (J, Y)) (.inl (some (vi 0)), (J', Y')))
    (hBack : ∀ (B : Nat) (F F' : vJ) (pc nd y : Nat), A = B + 1 → 0 < B → IS Y Y' X mm Nn Lp nm pr ht F F' th t B pc (W + 1) N → F 2007 (40 * t + (B - 1)) = nd → vW (d + 8) 177 (33, [vr 1990, vi t, vi ((40 * t + (B - 1) : Nat) : Int), vi nd, vi (2 * (pc : Int)), vr 37, vu, vu, vu], [], (F, Y)) (vWC (d + 9) 195 367 3 [vr 1990, vi t, vi (wkS (I 38 x) j), vi ((40 * t + B : Nat) : Int), vi w, vi y, vi 0] [] (fun r => Q r (.inl (some (vi 1)), (F', Y'))))) :
    vW (d + 9) 195 (0, [vr 1990, vi t, vi (wkS (I 38 x) j), vu, vu, vu, vu], [], (I, Y)) (fun r => vW (d' + 9) 417 (0, [vr 2075, vi ((40 * t + (A - 1) : Nat) : Int), vi w], [], (I', Y')) (fun r' => Q r r')) := by
  have xN : x < Nn := by
    have r8 := h.2.2.2.2.2.2.2.2.2.1 (A - 1) (by have := h.2.2.2.2.2.2.1.2.2.1; omega)
    have := r8.2.1.2.2.1
    omega
  refine mv_on (x := x) (j := j) (w := w) hL hL' h hx hTop hk hj hs hw hStay (fun J J' y k1 k2 k3 k4 k5 k6 k7 k8 k9 => ?_)
  have r3 := h.2.2.2.2.2.2.1.2.2.1
  cases A with
  | zero => omega
  | succ B =>
    rw [Nat.add_sub_cancel] at *
    cases B with
    | zero => exact mv_end0 (x := x) hL hL' (IFs_IL h).1 k1 k2 k3 k4 k5 k6 k7 k8 xN hk.1 k9 hStay
    | succ B => exact mv_end1 (x := x) hL hL' (IFs_IL h).1 (by omega) k1 k2 k3 k4 k5 k6 k7 k8 xN hk.1 k9 (fun F F' pc nd a b => hBack (B + 1) F F' pc nd y rfl (by omega) a b)
end
