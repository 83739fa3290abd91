/-! ===== from two memories to the law's one memory ===== -/
set_option maxRecDepth 20000
set_option maxHeartbeats 4000000
/-- the model's cells; the house's -/
def cT (c : Nat) : Prop := 2075 ≤ c ∧ c < 2297
def cH (Y : vY) (c : Nat) : Prop := 18 ≤ c ∧ c < Y.2.2.2.1 ∧ ¬ (2075 ≤ c ∧ c < 2297)
/-- no reference leads from one house to the other -/
def sepY (Y : vY) : Prop := 2297 ≤ Y.2.2.2.1 ∧ (∀ c f, ¬ cT c → ¬ cT (Y.1 c f)) ∧ ∀ c f, ¬ cH Y c → ¬ cH Y (Y.1 c f)
theorem sep_T {I : vJ} {Y : vY} (h : sepY Y) : sM cT (I, Y) := ⟨fun c f q => h.2.1 c f q, fun c q => Nat.lt_of_lt_of_le q.2 h.1, fun c q w => absurd w.1 (by omega)⟩
theorem sep_H {I : vJ} {Y : vY} (h : sepY Y) : sM (cH Y) (I, Y) := ⟨fun c f q => h.2.2 c f q, fun c q => q.2.1, fun c q w => absurd w.1 (by omega)⟩
theorem o_join {R : Nat → vJ → vJ → vY → Prop} {k z z' : Nat} {la la' : List vV} (h1 : sL cT la) (h2 : ∀ Y : vY, sepY Y → sL (cH Y) la') (hS : ∀ I I' Y, R k I I' Y → sepY Y)
    (hR1 : ∀ I I' J' Y, R k I I' Y → (∀ c, cT c → J' c = I' c) → R k I J' Y)
    (hR2 : ∀ I I' J Y, R (k + 1) I I' Y → (∀ c, cH Y c ∨ c < 18 → J c = I c) → R (k + 1) J I' Y)
    (hp : ∀ I I' Y, R k I I' Y → vW 2000 z (0, la, [], (I, Y)) (fun r => vW 2000 z' (0, la', [], (I', Y)) (fun r' => ∃ v v' J J', r = (.inl (some (vi v)), (J, Y)) ∧ r' = (.inl (some (vi v')), (J', Y)) ∧ w32 v = w32 v' ∧ R (k + 1) J J' Y))) :
    oI (fun I Y => R k I I Y) (fun I Y => R (k + 1) I I Y) z z' la la' := by
  intro I Y h
  have sp := hS I I Y h
  obtain ⟨r, hr, r', hr', v, v', J, J', e1, e2, e3, e4⟩ := hp I I Y h
  subst e1
  have kj : ∀ c, cT c → J c = I c := fun c hc => funext fun f => ((vR_keep (M := (I, Y)) (sep_T sp) h1 hr).2.1 c hc).1 f
  obtain ⟨r2, hr2, r2', hr2', v2, v2', J2, J2', e5, e6, e7, e8⟩ := hp I J Y (hR1 I I J Y h kj)
  subst e5
  have d := vR_det hr2 hr
  have dJ : J2 = J := congrArg (fun q : vE => q.2.1) d
  have dv : v2 = v := by
    have w : (Sum.inl (some (vi v2)) : Option vV ⊕ Nat) = Sum.inl (some (vi v)) := congrArg Prod.fst d
    exact Sum.inl.inj (Option.some.inj (Sum.inl.inj w))
  subst dJ
  subst dv
  subst e6
  have kh : ∀ c, cH Y c ∨ c < 18 → J2' c = J2 c := fun c hc => funext fun f => by
    rcases hc with hc | hc
    · exact ((vR_keep (M := (J2, Y)) (sep_H sp) (h2 Y sp) hr2').2.1 c hc).1 f
    · exact ((vR_low (F := (0, la', [], (J2, Y))) (show 18 ≤ Y.2.2.2.1 by have := sp.1; omega) hr2').1 c (by unfold tL; exact hc)).1 f
  exact ⟨_, hr, v2, J2, Y, rfl, _, hr2', v2', J2', Y, rfl, e7, hR2 J2 J2' J2' Y e8 kh⟩
