/-! ===== the step's loop: a way that the works have asked for is taken ===== -/
set_option maxRecDepth 20000
set_option maxHeartbeats 4000000
/-- what the house does with the sort that its works give back -/
def bk (d : Nat) (Y : vY) (t : Nat) (a0 k0 : Int) (QQ : vE → vE → Prop) (Q : vE → vE → Prop) : Prop := ∀ (s : Int) (J : vJ) (r' : vE), J 2005 t = 0 → vW (d + 10) 174 (151, [vr 1990, vi t, vi a0, vi k0, vi s], [], (J, Y)) (fun z => QQ z r') → Q (.inl (some (vi s)), (J, Y)) r'
section
variable {d d' : Nat} {Y Y' : vY} {X mm Nn Lp : Nat} {nm pr ht : Nat → Nat} {I I' : vJ} {th t A W N : Nat} {Q QQ : vE → vE → Prop}
theorem on_go {x j w D' : Nat} {a0 k0 : Int} {y5 y6 : vV} (hL : vL Y) (hL' : vL Y') (h : IFs Y Y' X mm Nn Lp nm pr ht I I' th t A W N) (hx : I 2007 (40 * t + (A - 1)) = x) (hTop : I 1994 t = I 2009 (40 * t + (A - 1)) + nm (I 2006 (40 * t + (A - 1))).toNat) (hk : I 38 x ≠ 9 ∧ I 38 x ≠ 16 ∧ I 38 x ≠ 12 ∧ I 38 x ≠ 13) (hj : (j : Int) < wkN (I 38 x)) (hj3 : j < 3) (hs : wkS (I 38 x) j ≠ 3) (hw : (w : Int) = I 48 x + j) (hQ : bk d Y t a0 k0 QQ Q)
    (hStay : ∀ F F', AS Y Y' X mm Nn Lp nm pr ht F F' th (W + 1) N → vW (d + 10) 174 (170, [vr 1990, vi t, vi a0, vi k0, vi 9], [], (F, Y)) (fun z => QQ z (.inl none, (F', Y'))))
    (hBack : ∀ (B : Nat) (F F' : vJ) (pc nd : Nat) (Q2 : vE → vE → Prop), bk d Y t a0 k0 QQ Q2 → A = B + 1 → 0 < B → IS Y Y' X mm Nn Lp nm pr ht F F' th t B pc (W + 1) N → F 2007 (40 * t + (B - 1)) = nd → vW (d + 8) 177 (33, [vr 1990, vi t, vi ((40 * t + (B - 1) : Nat) : Int), vi nd, vi (2 * (pc : Int)), vr 37, vu, vu, vu], [], (F, Y)) (fun r => vW D' 422 (2, [vr 2075, vi t, vi 1, vi ((40 * t + (A - 1) : Nat) : Int), vi x, y5, y6], [], (F', Y')) (fun r' => Q2 r r'))) :
    onw (d' + 9) D' Y Y' t (40 * t + (A - 1)) x w y5 y6 (wkS (I 38 x) j) I I' Q := by
  have r6 : I 2005 t = 0 := h.2.2.2.2.2.2.2.1.2
  have s9 : ¬ w32 (wkS (I 38 x) j) = w32 9 := by
    rw [show w32 9 = 9 from w32_id (by decide) (by decide)]
    unfold wkS
    split
    · rw [w32_id (by omega) (by omega)]; omega
    · split
      · decide
      · split <;> decide
  have main := mv_go (d := d) (d' := d') (x := x) (j := j) (w := w) (Q := fun r q => ∃ (s : Int) (M : vJ × vY), q = (.inl (some (vi s)), M) ∧ (s = 0 ∨ s = 1) ∧ vW D' 422 (2, [vr 2075, vi t, vi s, vi ((40 * t + (A - 1) : Nat) : Int), vi x, y5, y6], [], M) (fun r' => vWC (d + 10) 174 162 3 [vr 1990, vi t, vi a0, vi k0, vi (wkS (I 38 x) j)] [] (fun z => QQ z r') r)) hL hL' h hx hTop hk hj hs hw (fun F F' hA => ?_) (fun B F F' pc nd y e1 e2 e3 e4 => ?_)
  · refine vWmo (Nat.le_refl _) (fun q hq => ?_) (vW_swap.mp main)
    obtain ⟨r, hr, s, M, q1, q2, q3⟩ := hq
    refine ⟨s, M, q1, q2, vWmo (Nat.le_refl _) (fun r' hc => hQ _ _ _ r6 ?_) q3⟩
    rw [b174_151, if_neg s9, b174_158 hL]
    exact ⟨r, hr, hc⟩
  · refine ⟨0, (F', Y'), rfl, Or.inl rfl, ?_⟩
    rw [b422_2, if_pos (by decide), b422_121]
    simp only [vWC_s, Nat.reduceAdd]
    rw [b174_165, b174_151, if_pos rfl]
    exact hStay F F' hA
  · have g := hBack B F F' pc nd (fun r r' => vWC (d + 9) 195 367 3 [vr 1990, vi t, vi (wkS (I 38 x) j), vi ((40 * t + B : Nat) : Int), vi w, vi y, vi 0] [] (fun r2 => vWC (d + 10) 174 162 3 [vr 1990, vi t, vi a0, vi k0, vi (wkS (I 38 x) j)] [] (fun z => QQ z r') r2) r) (fun s J r' _ hz => ?_) e1 e2 e3 e4
    · refine vWmo (Nat.le_refl _) (fun r hr => ?_) g
      exact vWC_mo (fun r2 hr2 => ⟨1, (F', Y'), rfl, Or.inr rfl, hr2⟩) (vWC_out hr)
    · simp only [vWC_s, Nat.reduceAdd, b195_370]
      rw [b174_165]
      exact hz
end
