/-! ===== the works of a step: both houses ===== -/
set_option maxRecDepth 20000
set_option maxHeartbeats 4000000
/-- code START, as it is to be shown: other threads may have come -/
def stP (d d' : Nat) (Y Y' : vY) (X mm Nn Lp : Nat) (nm pr ht : Nat → Nat) (t N : Nat) : Prop := ∀ (th A i W nd : Nat) (J J' : vJ) (Q : vE → vE → Prop), IS Y Y' X mm Nn Lp nm pr ht J J' th t A i W N → (i : Int) < J' (X + 12) (J 2007 (40 * t + (A - 1))).toNat → J 2007 (40 * t + (A - 1)) = nd → J 37 (2 * i) = 11 → (∀ th', nxt (d + 3) (d' + 5) Y Y' X mm Nn Lp nm pr ht th' t A i W N nd Q) → flt (d' + 5) Y Y' X mm Nn Lp nm pr ht J th t A W N nd Q → atc d d' Y Y' t A i nd J J' Q
section
variable {d d' : Nat} {Y Y' : vY} {X mm Nn Lp : Nat} {nm pr ht : Nat → Nat} {t A W N nd : Nat} {Q QQ : vE → vE → Prop}
theorem k_loop2 (hL : vL Y) (hL' : vL Y') (hF : ∀ (th : Nat) (J J' : vJ) (i : Nat), IS Y Y' X mm Nn Lp nm pr ht J J' th t A i W N → (i : Int) < J' (X + 12) (J 2007 (40 * t + (A - 1))).toNat → J 2007 (40 * t + (A - 1)) = nd → flt (d' + 5) Y Y' X mm Nn Lp nm pr ht J th t A W N nd Q) (hS : ∀ th J J', AS Y Y' X mm Nn Lp nm pr ht J J' th W N → J 2005 t = 0 → Q (.inl (some (vi 9)), (J, Y)) (.inl none, (J', Y')))
    (hStart : stP d d' Y Y' X mm Nn Lp nm pr ht t N)
    (hE : ∀ (th : Nat) (J J' : vJ) (i : Nat), IS Y Y' X mm Nn Lp nm pr ht J J' th t A i W N → ¬ (i : Int) < J' (X + 12) (J 2007 (40 * t + (A - 1))).toNat → J 2007 (40 * t + (A - 1)) = nd → atc d d' Y Y' t A i nd J J' Q) :
    ∀ (r i th : Nat) (I I' : vJ), i + r = 2101 → IS Y Y' X mm Nn Lp nm pr ht I I' th t A i W N → I 2007 (40 * t + (A - 1)) = nd → atc d d' Y Y' t A i nd I I' Q := by
  intro r
  induction r with
  | zero =>
    intro i th I I' hr h hnd
    by_cases hi : (i : Int) < I' (X + 12) (I 2007 (40 * t + (A - 1))).toNat
    · obtain ⟨nd', ct, B, T, _, _, ⟨_, _, b6, b7⟩, _⟩ := IS_at h hi
      omega
    · exact hE th I I' i h hi hnd
  | succ r ih =>
    intro i th I I' hr h hnd
    by_cases hi : (i : Int) < I' (X + 12) (I 2007 (40 * t + (A - 1))).toNat
    · have hN : ∀ th', nxt (d + 3) (d' + 5) Y Y' X mm Nn Lp nm pr ht th' t A i W N nd Q := fun th' J J' x6 x7 x8 y3 y4 y5 y6 hJ hJn => ih (i + 1) th' J J' (by omega) hJ hJn x6 x7 x8 y3 y4 y5 y6
      have hFI := hF th I I' i h hi hnd
      have kk : (I 37 (2 * i) = 0 ∨ I 37 (2 * i) = 1 ∨ I 37 (2 * i) = 2 ∨ I 37 (2 * i) = 3) ∨ I 37 (2 * i) = 4 ∨ I 37 (2 * i) = 5 ∨ I 37 (2 * i) = 6 ∨ I 37 (2 * i) = 7 ∨ I 37 (2 * i) = 8 ∨ I 37 (2 * i) = 9 ∨ I 37 (2 * i) = 10 ∨ I 37 (2 * i) = 11 := by
        obtain ⟨nd', ct, B, T, _, _, _, _, _, ⟨o1, _, _⟩, _⟩ := IS_at h hi
        clear hN hFI ih hF hS hStart hE h
        rcases o1 with o | o | o | o | o | o | o | o | o | o | o
        · exact Or.inl (Or.inl o.1)
        · exact Or.inl (Or.inr (Or.inl o.1))
        · exact Or.inl (Or.inr (Or.inr (Or.inl o.1)))
        · exact Or.inl (Or.inr (Or.inr (Or.inr o.1)))
        · exact Or.inr (Or.inl o.1)
        · exact Or.inr (Or.inr (Or.inl o.1))
        · exact Or.inr (Or.inr (Or.inr (Or.inl o.1)))
        · exact Or.inr (Or.inr (Or.inr (Or.inr (Or.inl o.1))))
        · exact Or.inr (Or.inr (Or.inr (Or.inr (Or.inr (Or.inl o.1)))))
        · exact Or.inr (Or.inr (Or.inr (Or.inr (Or.inr (Or.inr (Or.inl o.1))))))
        · rcases o.1 with z | z
          · exact Or.inr (Or.inr (Or.inr (Or.inr (Or.inr (Or.inr (Or.inr (Or.inl z.1)))))))
          · exact Or.inr (Or.inr (Or.inr (Or.inr (Or.inr (Or.inr (Or.inr (Or.inr z.1)))))))
      intro x6 x7 x8 y3 y4 y5 y6
      rcases kk with k | k | k | k | k | k | k | k | k
      · exact k_push (d := d + 3) (d' := d' + 5) hL hL' h hi hnd k (hN th)
      · exact k_look (d := d + 3) (d' := d' + 5) hL hL' h hi hnd k (hN th) hFI
      · exact k_make (d := d + 3) (d' := d' + 5) hL hL' h hi hnd k (hN th) hFI
      · exact k_len (d := d + 3) (d' := d' + 5) hL hL' h hi hnd k (hN th) hFI
      · exact k_not (d := d + 3) (d' := d' + 5) hL hL' h hi hnd k (hN th) hFI
      · exact k_minus (d := d + 3) (d' := d' + 5) hL hL' h hi hnd k (hN th) hFI
      · exact k_two (d := d + 3) (d' := d' + 5) hL hL' h hi hnd k (hN th) hFI
      · exact k_call (d := d) (d' := d') hL hL' h hi hnd k (hN th) hFI (hS th)
      · exact hStart th A i W nd I I' Q h hi hnd k hN hFI x6 x7 x8 y3 y4 y5 y6
    · exact hE th I I' i h hi hnd
theorem on_go0 {th x j w D' : Nat} {k so a0 k0 : Int} {y5 y6 : vV} {I I' : vJ} (hL : vL Y) (hL' : vL Y') (hk : I 38 x = k) (h1 : k ≠ 9 ∧ k ≠ 16 ∧ k ≠ 12 ∧ k ≠ 13) (h2 : (j : Int) < wkN k) (h3 : j < 3) (h4 : wkS k j = so) (h5 : so ≠ 3) (hw : (w : Int) = I 48 x + j) (h : IFs Y Y' X mm Nn Lp nm pr ht I I' th t A W N) (hx : I 2007 (40 * t + (A - 1)) = x) (hTop : I 1994 t = I 2009 (40 * t + (A - 1)) + nm (I 2006 (40 * t + (A - 1))).toNat) (hQ : bk d Y t a0 k0 QQ Q)
    (hStay : ∀ F F', AS Y Y' X mm Nn Lp nm pr ht F F' th (W + 1) N → vW (d + 10) 174 (170, [vr 1990, vi t, vi a0, vi k0, vi 9], [], (F, Y)) (fun z => QQ z (.inl none, (F', Y'))))
    (hBack : ∀ (B : Nat) (F F' : vJ) (pc nd : Nat) (Q2 : vE → vE → Prop), bk d Y t a0 k0 QQ Q2 → A = B + 1 → 0 < B → IS Y Y' X mm Nn Lp nm pr ht F F' th t B pc (W + 1) N → F 2007 (40 * t + (B - 1)) = nd → vW (d + 8) 177 (33, [vr 1990, vi t, vi ((40 * t + (B - 1) : Nat) : Int), vi nd, vi (2 * (pc : Int)), vr 37, vu, vu, vu], [], (F, Y)) (fun r => vW D' 422 (2, [vr 2075, vi t, vi 1, vi ((40 * t + (A - 1) : Nat) : Int), vi x, y5, y6], [], (F', Y')) (fun r' => Q2 r r'))) :
    onw (d' + 9) D' Y Y' t (40 * t + (A - 1)) x w y5 y6 so I I' Q := by
  have o := on_go (d := d) (d' := d') (x := x) (j := j) (w := w) (D' := D') (y5 := y5) (y6 := y6) hL hL' h hx hTop (by rw [hk]; exact h1) (by rw [hk]; exact h2) h3 (by rw [hk, h4]; exact h5) hw hQ hStay hBack
  rw [hk, h4] at o
  exact o
end
section
variable {d d' : Nat} {Y Y' : vY} {X mm Nn Lp : Nat} {nm pr ht : Nat → Nat} {t N : Nat} {QQ : vE → vE → Prop}
theorem works {a0 k0 : Int} (hL : vL Y) (hL' : vL Y') (hSt : stP d (d' + 1) Y Y' X mm Nn Lp nm pr ht t N)
    (hStay : ∀ (th' W' : Nat) (F F' : vJ), AS Y Y' X mm Nn Lp nm pr ht F F' th' W' N → vW (d + 1 + 10) 174 (170, [vr 1990, vi t, vi a0, vi k0, vi 9], [], (F, Y)) (fun z => QQ z (.inl none, (F', Y')))) :
    ∀ (n A th W : Nat) (I I' : vJ) (i nd : Nat) (Q : vE → vE → Prop), A ≤ n → bk (d + 1) Y t a0 k0 QQ Q → IS Y Y' X mm Nn Lp nm pr ht I I' th t A i W N → I 2007 (40 * t + (A - 1)) = nd → atc d (d' + 1) Y Y' t A i nd I I' Q := by
  intro n
  induction n with
  | zero =>
    intro A th W I I' i nd Q hn _ h
    have := h.2.2.2.2.2.2.1.2.2.1
    omega
  | succ n ih =>
    intro A th W I I' i nd Q hn hQ h hnd
    have i2 : i ≤ 2100 := by
      obtain ⟨c1, c2, _⟩ := h.2.2.2.2.2.2.2.2.2.1 (A - 1) (by have := h.2.2.2.2.2.2.1.2.2.1; omega)
      have r10 := h.2.2.2.2.2.2.2.2.2.2.2.1
      rw [hnd, tn0] at r10
      obtain ⟨_, _, cf, ct, _, _, _, k4, _, k6, _⟩ := h.1.2.2.2.2.1 nd (by omega)
      omega
    have hSQ : ∀ th J J', AS Y Y' X mm Nn Lp nm pr ht J J' th W N → J 2005 t = 0 → Q (.inl (some (vi 9)), (J, Y)) (.inl none, (J', Y')) := fun th J J' hA h5 => hQ 9 J _ h5 (by
      rw [b174_151, if_pos rfl]
      exact hStay th W J J' hA)
    refine k_loop2 hL hL' (fun th J J' i hJ hi hJn => ?_) hSQ hSt (fun th J J' i hJ hi hJn => ?_) (2101 - i) i th I I' (by omega) h hnd
    · have c2 := (hJ.2.2.2.2.2.2.2.2.2.1 (A - 1) (by have := hJ.2.2.2.2.2.2.1.2.2.1; omega)).2.1
      have ndN : nd < Nn := by omega
      have r10 := hJ.2.2.2.2.2.2.2.2.2.2.2.1.1
      rw [hJn, tn0] at r10 hi
      exact flt_go (d := d + 1) (d' := d' + 5) hL hL' hJn (wkV_code (pc := i + 1) hJ.1 ndN (by omega) (by omega)) hQ (fun W' F F' hA => hStay th W' F F' hA)
    · have cc := hJ.2.2.2.2.2.2.2.2.2.1 (A - 1) (by have := hJ.2.2.2.2.2.2.1.2.2.1; omega)
      have ndN : nd < Nn := by have := cc.2.1; omega
      have k3 : 3 ≤ J 38 nd := by
        have := cc.2.2.1.2.1.2
        rw [hJn, tn0] at this
        exact this
      have nf := hJ.1.2.2.2.2.1 nd ndN
      have k16 := nf.1.2.2
      obtain ⟨w, hw⟩ : ∃ w : Nat, J 48 nd = w := ⟨(J 48 nd).toNat, by have := nf.2.1.2.1; omega⟩
      have hb : ∀ (B : Nat) (F F' : vJ) (pc nd2 : Nat) (Q2 : vE → vE → Prop) (z5 z6 : vV), bk (d + 1) Y t a0 k0 QQ Q2 → A = B + 1 → 0 < B → IS Y Y' X mm Nn Lp nm pr ht F F' th t B pc (W + 1) N → F 2007 (40 * t + (B - 1)) = nd2 → vW (d + 1 + 8) 177 (33, [vr 1990, vi t, vi ((40 * t + (B - 1) : Nat) : Int), vi nd2, vi (2 * (pc : Int)), vr 37, vu, vu, vu], [], (F, Y)) (fun r => vW (d' + 1 + 11) 422 (2, [vr 2075, vi t, vi 1, vi ((40 * t + (A - 1) : Nat) : Int), vi nd, z5, z6], [], (F', Y')) (fun r' => Q2 r r')) := fun B F F' pc nd2 Q2 z5 z6 hQ2 e1 e2 e3 e4 => ih B th (W + 1) F F' pc nd2 Q2 (by omega) hQ2 e3 e4 _ _ _ _ _ _ _
      have hs := fun F F' (hA : AS Y Y' X mm Nn Lp nm pr ht F F' th (W + 1) N) => hStay th (W + 1) F F' hA
      have hsa := fun W' F F' (hA : AS Y Y' X mm Nn Lp nm pr ht F F' th W' N) => hStay th W' F F' hA
      intro x6 x7 x8 y3 y4 y5 y6
      have kk : J 38 nd = 3 ∨ J 38 nd = 4 ∨ (J 38 nd = 5 ∨ J 38 nd = 11) ∨ J 38 nd = 6 ∨ J 38 nd = 7 ∨ J 38 nd = 8 ∨ J 38 nd = 9 ∨ J 38 nd = 10 ∨ J 38 nd = 12 ∨ J 38 nd = 13 ∨ J 38 nd = 14 ∨ J 38 nd = 15 ∨ J 38 nd = 16 := by
        clear hb hs hsa nf cc
        omega
      rcases kk with k | k | k | k | k | k | k | k | k | k | k | k | k
      · exact e_put (d := d) (d' := d' + 1) hL hL' hJ hi hJn hw k (fun K K' hK a b c e => on_go0 (k := 3) (d := d + 1) (d' := d' + 1) (j := 0) hL hL' (by rw [b]; exact k) (by decide) (by decide) (by decide) (by decide) (by decide) (by rw [c, hw]; rfl) hK a e hQ hs (fun B F F' pc nd2 Q2 => hb B F F' pc nd2 Q2 y5 y6))
      · exact e_store (d := d) (d' := d' + 1) hL hL' hJ hi hJn hw k (fun K K' hK a b c e => on_go0 (k := 4) (d := d + 1) (d' := d') (j := 0) hL hL' (by rw [b]; exact k) (by decide) (by decide) (by decide) (by decide) (by decide) (by rw [c, hw]; rfl) hK a e hQ hs (fun B F F' pc nd2 Q2 => hb B F F' pc nd2 Q2 y5 y6)) (fun K' f f1 f2 hK => fln_go (d := d + 1) (d' := d' + 3) hL hL' f1 f2 hK hJn (by rw [k]; decide) hQ hsa)
      · refine e_pop (d := d) (d' := d' + 1) hL hL' hJ hi hJn hw k (fun K hK a b c e => ?_)
        rcases k with k | k
        · exact on_go0 (k := 5) (d := d + 1) (d' := d' + 1) (j := 0) hL hL' (by rw [b]; exact k) (by decide) (by decide) (by decide) (by decide) (by decide) (by rw [c, hw]; rfl) hK a e hQ hs (fun B F F' pc nd2 Q2 => hb B F F' pc nd2 Q2 y5 y6)
        · exact on_go0 (k := 11) (d := d + 1) (d' := d' + 1) (j := 0) hL hL' (by rw [b]; exact k) (by decide) (by decide) (by decide) (by decide) (by decide) (by rw [c, hw]; rfl) hK a e hQ hs (fun B F F' pc nd2 Q2 => hb B F F' pc nd2 Q2 y5 y6)
      · refine e_test (d := d) (d' := d' + 1) hL hL' hJ hi hJn hw k (fun K K' j hj hK a b c e => ?_)
        have j2 : j = 0 ∨ j = 1 := by omega
        rcases j2 with z | z
        · subst z; exact on_go0 (k := 6) (d := d + 1) (d' := d' + 1) (j := 0) hL hL' (by rw [b]; exact k) (by decide) (by decide) (by decide) (by decide) (by decide) (by rw [c, hw]; rfl) hK a e hQ hs (fun B F F' pc nd2 Q2 => hb B F F' pc nd2 Q2 y5 y6)
        · subst z; exact on_go0 (k := 6) (d := d + 1) (d' := d' + 1) (j := 1) hL hL' (by rw [b]; exact k) (by decide) (by decide) (by decide) (by decide) (by decide) (by rw [c, hw]; rfl) hK a e hQ hs (fun B F F' pc nd2 Q2 => hb B F F' pc nd2 Q2 y5 y6)
      · exact e_begin (d := d) (d' := d' + 1) hL hL' hJ hi hJn hw k (fun K K' hK a b c e => on_go0 (k := 7) (d := d + 1) (d' := d') (j := 0) hL hL' (by rw [b]; exact k) (by decide) (by decide) (by decide) (by decide) (by decide) (by rw [c, hw]; rfl) hK a e hQ hs (fun B F F' pc nd2 Q2 => hb B F F' pc nd2 Q2 y5 y6)) (fun K' f f1 f2 hK => fln_go (d := d + 1) (d' := d' + 3) hL hL' f1 f2 hK hJn (by rw [k]; decide) hQ hsa)
      · refine e_turn (d := d) (d' := d' + 1) hL hL' hJ hi hJn hw k (fun K K' j hj hK a b c e => ?_)
        have j2 : j = 0 ∨ j = 1 := by omega
        rcases j2 with z | z
        · subst z; exact on_go0 (k := 8) (d := d + 1) (d' := d' + 1) (j := 0) hL hL' (by rw [b]; exact k) (by decide) (by decide) (by decide) (by decide) (by decide) (by rw [c, hw]; rfl) hK a e hQ hs (fun B F F' pc nd2 Q2 => hb B F F' pc nd2 Q2 y5 y6)
        · subst z; exact on_go0 (k := 8) (d := d + 1) (d' := d' + 1) (j := 1) hL hL' (by rw [b]; exact k) (by decide) (by decide) (by decide) (by decide) (by decide) (by rw [c, hw]; rfl) hK a e hQ hs (fun B F F' pc nd2 Q2 => hb B F F' pc nd2 Q2 y5 y6)
      · exact e_ret (d := d) (d' := d' + 1) hL hL' hJ hi hJn hw k (fun K K' e hK a b c v => ret_go (d := d + 1) (d' := d' + 1) hL hL' hK a (by rw [b]; exact k) (by rw [c, hw]) v hQ hs (fun B F F' pc nd2 Q2 => hb B F F' pc nd2 Q2 y5 y6))
      · exact e_throw (d := d) (d' := d' + 1) hL hL' hJ hi hJn k (fun K' kd v e hv hK => fth_go (d := d + 1) (d' := d' + 4) hL hL' hv hK hJn (by rw [k]; decide) hQ hsa)
      · exact e_lock (d := d) (d' := d' + 1) hL hL' hJ hi hJn hw k (fun K K' hK a b c e f _ l => il_go (d := d + 1) (d' := d') (L := J 42 nd + 1) hL hL' hK a f (Or.inl ⟨by rw [b]; exact k, by rw [e]⟩) (by rw [c, hw]) l hQ hs (fun B F F' pc nd2 Q2 => hb B F F' pc nd2 Q2 y5 y6)) (fun K' f f1 f2 hK => fln_go (d := d + 1) (d' := d' + 3) hL hL' f1 f2 hK hJn (by rw [k]; decide) hQ hsa) (hSQ th)
      · exact e_unlock (d := d) (d' := d' + 1) hL hL' hJ hi hJn hw k (fun K K' hK a b c e => unl_go (d := d + 1) (d' := d' + 1) hL hL' hK a e (by rw [b]; exact k) (by rw [c, hw]) hQ hs (fun B F F' pc nd2 Q2 => hb B F F' pc nd2 Q2 y5 y6))
      · exact e_join (d := d) (d' := d' + 1) hL hL' hJ hi hJn hw k (fun K K' hK a b c e f _ l => il_go (d := d + 1) (d' := d') (L := J 42 nd) hL hL' hK a f (Or.inr ⟨by rw [b]; exact k, by rw [e]⟩) (by rw [c, hw]) l hQ hs (fun B F F' pc nd2 Q2 => hb B F F' pc nd2 Q2 y5 y6)) (fun K' f f1 f2 hK => fln_go (d := d + 1) (d' := d' + 3) hL hL' f1 f2 hK hJn (by rw [k]; decide) hQ hsa) (hSQ th)
      · exact e_print (d := d) (d' := d' + 1) hL hL' hJ hi hJn hw k (fun K K' hK a b c e => on_go0 (k := 15) (d := d + 1) (d' := d') (j := 0) hL hL' (by rw [b]; exact k) (by decide) (by decide) (by decide) (by decide) (by decide) (by rw [c, hw]; rfl) hK a e hQ hs (fun B F F' pc nd2 Q2 => hb B F F' pc nd2 Q2 y5 y6)) (fun K' f f1 f2 hK => fln_go (d := d + 1) (d' := d' + 3) hL hL' f1 f2 hK hJn (by rw [k]; decide) hQ hsa)
      · exact e_break (d := d) (d' := d' + 1) hL hL' hJ hi hJn hw k (fun K K' hK a b c e => brk_go (d := d + 1) (d' := d' + 1) hL hL' hK a e (by rw [b]; exact k) (by rw [c, hw]) hQ hs (fun B F F' pc nd2 Q2 => hb B F F' pc nd2 Q2 y5 y6))
end
