/-! ===== the codes of a node, one behind the other ===== -/
set_option maxRecDepth 20000
set_option maxHeartbeats 4000000
/-- both houses at place i of the node's code -/
def atc (d d' : Nat) (Y Y' : vY) (t A i nd : Nat) (I I' : vJ) (Q : vE → vE → Prop) : Prop := ∀ (x6 x7 x8 y3 y4 y5 y6 : vV), vW (d + 9) 177 (33, [vr 1990, vi t, vi ((40 * t + (A - 1) : Nat) : Int), vi nd, vi (2 * (i : Int)), vr 37, x6, x7, x8], [], (I, Y)) (fun r => vW (d' + 11) 422 (2, [vr 2075, vi t, vi 1, y3, y4, y5, y6], [], (I', Y')) (fun r' => Q r r'))
section
variable {d d' : Nat} {Y Y' : vY} {X mm Nn Lp : Nat} {nm pr ht : Nat → Nat} {th t A W N nd : Nat} {Q : vE → vE → Prop}
theorem k_loop (hL : vL Y) (hL' : vL Y') (hF : ∀ J : vJ, J 2007 (40 * t + (A - 1)) = nd → flt (d' + 5) Y Y' X mm Nn Lp nm pr ht J th t A W N nd Q) (hS : ∀ J J', AS Y Y' X mm Nn Lp nm pr ht J J' th W N → J 2005 t = 0 → Q (.inl (some (vi 9)), (J, Y)) (.inl none, (J', Y')))
    (hStart : ∀ (J J' : vJ) (i : Nat), IS Y Y' X mm Nn Lp nm pr ht J J' th t A i W N → (i : Int) < J' (X + 12) (J 2007 (40 * t + (A - 1))).toNat → J 2007 (40 * t + (A - 1)) = nd → J 37 (2 * i) = 11 → nxt (d + 3) (d' + 5) Y Y' X mm Nn Lp nm pr ht th t A i W N nd Q → atc d d' Y Y' t A i nd J J' Q)
    (hE : ∀ (J J' : vJ) (i : Nat), IS Y Y' X mm Nn Lp nm pr ht J J' th t A i W N → ¬ (i : Int) < J' (X + 12) (J 2007 (40 * t + (A - 1))).toNat → J 2007 (40 * t + (A - 1)) = nd → atc d d' Y Y' t A i nd J J' Q) :
    ∀ (r i : Nat) (I I' : vJ), i + r = 2101 → IS Y Y' X mm Nn Lp nm pr ht I I' th t A i W N → I 2007 (40 * t + (A - 1)) = nd → atc d d' Y Y' t A i nd I I' Q := by
  intro r
  induction r with
  | zero =>
    intro i I I' hr h hnd
    by_cases hi : (i : Int) < I' (X + 12) (I 2007 (40 * t + (A - 1))).toNat
    · obtain ⟨nd', ct, B, T, _, _, ⟨_, _, b6, b7⟩, _⟩ := IS_at h hi
      omega
    · exact hE I I' i h hi hnd
  | succ r ih =>
    intro i I I' hr h hnd
    by_cases hi : (i : Int) < I' (X + 12) (I 2007 (40 * t + (A - 1))).toNat
    · have hN : nxt (d + 3) (d' + 5) Y Y' X mm Nn Lp nm pr ht th t A i W N nd Q := fun J J' x6 x7 x8 y3 y4 y5 y6 hJ hJn => ih (i + 1) J J' (by omega) hJ hJn x6 x7 x8 y3 y4 y5 y6
      have hFI := hF I hnd
      have kk : (I 37 (2 * i) = 0 ∨ I 37 (2 * i) = 1 ∨ I 37 (2 * i) = 2 ∨ I 37 (2 * i) = 3) ∨ I 37 (2 * i) = 4 ∨ I 37 (2 * i) = 5 ∨ I 37 (2 * i) = 6 ∨ I 37 (2 * i) = 7 ∨ I 37 (2 * i) = 8 ∨ I 37 (2 * i) = 9 ∨ I 37 (2 * i) = 10 ∨ I 37 (2 * i) = 11 := by
        obtain ⟨nd', ct, B, T, _, _, _, _, _, ⟨o1, _, _⟩, _⟩ := IS_at h hi
        clear hN hFI ih hF hS hStart hE h
        rcases o1 with o | o | o | o | o | o | o | o | o | o | o
        · exact Or.inl (Or.inl o.1)
        · exact Or.inl (Or.inr (Or.inl o.1))
        · exact Or.inl (Or.inr (Or.inr (Or.inl o.1)))
        · exact Or.inl (Or.inr (Or.inr (Or.inr o.1)))
        · exact Or.inr (Or.inl o.1)
        · exact Or.inr (Or.inr (Or.inl o.1))
        · exact Or.inr (Or.inr (Or.inr (Or.inl o.1)))
        · exact Or.inr (Or.inr (Or.inr (Or.inr (Or.inl o.1))))
        · exact Or.inr (Or.inr (Or.inr (Or.inr (Or.inr (Or.inl o.1)))))
        · exact Or.inr (Or.inr (Or.inr (Or.inr (Or.inr (Or.inr (Or.inl o.1))))))
        · rcases o.1 with z | z
          · exact Or.inr (Or.inr (Or.inr (Or.inr (Or.inr (Or.inr (Or.inr (Or.inl z.1)))))))
          · exact Or.inr (Or.inr (Or.inr (Or.inr (Or.inr (Or.inr (Or.inr (Or.inr z.1)))))))
      intro x6 x7 x8 y3 y4 y5 y6
      rcases kk with k | k | k | k | k | k | k | k | k
      · exact k_push (d := d + 3) (d' := d' + 5) hL hL' h hi hnd k hN
      · exact k_look (d := d + 3) (d' := d' + 5) hL hL' h hi hnd k hN hFI
      · exact k_make (d := d + 3) (d' := d' + 5) hL hL' h hi hnd k hN hFI
      · exact k_len (d := d + 3) (d' := d' + 5) hL hL' h hi hnd k hN hFI
      · exact k_not (d := d + 3) (d' := d' + 5) hL hL' h hi hnd k hN hFI
      · exact k_minus (d := d + 3) (d' := d' + 5) hL hL' h hi hnd k hN hFI
      · exact k_two (d := d + 3) (d' := d' + 5) hL hL' h hi hnd k hN hFI
      · exact k_call (d := d) (d' := d') hL hL' h hi hnd k hN hFI hS
      · exact hStart I I' i h hi hnd k hN x6 x7 x8 y3 y4 y5 y6
    · exact hE I I' i h hi hnd
end
