/-! ===== what comes behind a failure: at a node, at a code, thrown ===== -/
set_option maxRecDepth 20000
set_option maxHeartbeats 4000000
section
variable {d d' : Nat} {Y Y' : vY} {X mm Nn Lp : Nat} {nm pr ht : Nat → Nat} {th t N : Nat} {Q QQ : vE → vE → Prop}
theorem fl_any {f x A W : Nat} {kd v e a0 k0 : Int} {I J' : vJ} (hL : vL Y) (hL' : vL Y') (hf : f < 10) (h : IFs Y Y' X mm Nn Lp nm pr ht I J' th t A W N) (hx : I 2007 (40 * t + (A - 1)) = x) (hk : 1 ≤ wkV (I 38 x)) (hvv : vv (I 1990 3376) kd v e) (hQ : bk d Y t a0 k0 QQ Q)
    (hStay : ∀ (W' : Nat) (F F' : vJ), AS Y Y' X mm Nn Lp nm pr ht F F' th W' N → vW (d + 10) 174 (170, [vr 1990, vi t, vi a0, vi k0, vi 9], [], (F, Y)) (fun z => QQ z (.inl none, (F', Y')))) :
    vW (d' + 6) 437 (0, [vr 2075, vi t, vi f, vl e, vu, vu, vu, vu, vu], [], (J', Y')) (fun q => ∃ F' : vJ, q = (.inl (some (vi 0)), (F', Y')) ∧ Q (.inl (some (vi 3)), (up (up (flC I f) 1990 3401 kd) 1990 3402 v, Y)) (.inl none, (F', Y'))) := by
  obtain ⟨g1, g2, g3, g4, g5, g6⟩ := IFs_fl (kd := kd) (v := v) h hf
  rw [b437_0 hL' (by omega) (by omega), tn0]
  exact fl_core hL hL' hf g1 (by rw [g2 2007 (by decide) (by decide)]; exact hx) (by rw [g2 38 (by decide) (by decide)]; exact hk) g3 (by rw [g4, g5, g6]; exact hvv) hQ hStay
theorem vv_f {n : Int} {f : Nat} (hf : f < 10) : vv n 0 f (4 * (f : Int)) := Or.inl ⟨rfl, rfl, by omega, by omega⟩
theorem fln_go {nd A W D' : Nat} {f a0 k0 : Int} {y5 y6 : vV} {I J' : vJ} (hL : vL Y) (hL' : vL Y') (h1 : 1 ≤ f) (h2 : f ≤ 9) (h : IFs Y Y' X mm Nn Lp nm pr ht I J' th t A W N) (hx : I 2007 (40 * t + (A - 1)) = nd) (hk : 1 ≤ wkV (I 38 nd)) (hQ : bk d Y t a0 k0 QQ Q)
    (hStay : ∀ (W' : Nat) (F F' : vJ), AS Y Y' X mm Nn Lp nm pr ht F F' th W' N → vW (d + 10) 174 (170, [vr 1990, vi t, vi a0, vi k0, vi 9], [], (F, Y)) (fun z => QQ z (.inl none, (F', Y')))) :
    fln (d' + 6) D' Y Y' t (40 * t + (A - 1)) nd y5 y6 f I J' Q := by
  obtain ⟨g, hg⟩ : ∃ g : Nat, f = g := ⟨f.toNat, by omega⟩
  subst hg
  have m := fl_any (d := d) (d' := d') (f := g) (kd := 0) (v := g) (e := 4 * (g : Int)) hL hL' (by omega) h hx hk (vv_f (by omega)) hQ hStay
  rw [← flC_got] at m
  refine vWmo (Nat.le_refl _) (fun q hq => ?_) m
  obtain ⟨F', q1, q2⟩ := hq
  refine ⟨0, (F', Y'), q1, Or.inl rfl, ?_⟩
  rw [b422_2, if_pos (by decide), b422_121]
  exact q2
theorem fth_go {nd A W D' : Nat} {kd v e a0 k0 : Int} {y5 y6 : vV} {I J' : vJ} (hL : vL Y) (hL' : vL Y') (hvv : vv (I 1990 3376) kd v e) (h : IFs Y Y' X mm Nn Lp nm pr ht I J' th t A W N) (hx : I 2007 (40 * t + (A - 1)) = nd) (hk : 1 ≤ wkV (I 38 nd)) (hQ : bk d Y t a0 k0 QQ Q)
    (hStay : ∀ (W' : Nat) (F F' : vJ), AS Y Y' X mm Nn Lp nm pr ht F F' th W' N → vW (d + 10) 174 (170, [vr 1990, vi t, vi a0, vi k0, vi 9], [], (F, Y)) (fun z => QQ z (.inl none, (F', Y')))) :
    fth (d' + 6) D' Y Y' t (40 * t + (A - 1)) nd y5 y6 kd v e I J' Q := by
  have m := fl_any (d := d) (d' := d') (f := 0) (kd := kd) (v := v) (e := e) hL hL' (by omega) h hx hk hvv hQ hStay
  refine vWmo (Nat.le_refl _) (fun q hq => ?_) m
  obtain ⟨F', q1, q2⟩ := hq
  refine ⟨0, (F', Y'), q1, Or.inl rfl, ?_⟩
  rw [b422_2, if_pos (by decide), b422_121]
  exact q2
theorem flt_go {nd A W : Nat} {a0 k0 : Int} {I : vJ} (hL : vL Y) (hL' : vL Y') (hx : I 2007 (40 * t + (A - 1)) = nd) (hk : 1 ≤ wkV (I 38 nd)) (hQ : bk d Y t a0 k0 QQ Q)
    (hStay : ∀ (W' : Nat) (F F' : vJ), AS Y Y' X mm Nn Lp nm pr ht F F' th W' N → vW (d + 10) 174 (170, [vr 1990, vi t, vi a0, vi k0, vi 9], [], (F, Y)) (fun z => QQ z (.inl none, (F', Y')))) :
    flt (d' + 1) Y Y' X mm Nn Lp nm pr ht I th t A W N nd Q := by
  intro J' f y5 y6 h1 h2 h
  obtain ⟨g, hg⟩ : ∃ g : Nat, f = g := ⟨f.toNat, by omega⟩
  subst hg
  have m := fl_any (d := d) (d' := d') (f := g) (kd := 0) (v := g) (e := 4 * (g : Int)) hL hL' (by omega) h hx hk (vv_f (by omega)) hQ hStay
  rw [← flC_got] at m
  refine vWmo (Nat.le_refl _) (fun q hq => ?_) m
  obtain ⟨F', q1, q2⟩ := hq
  rw [q1]
  simp only [vWC_s, Nat.reduceAdd]
  rw [b422_105, b422_106, b422_118, b422_2, if_pos (by decide), b422_121]
  exact q2
end
