/-! ===== all pairs of the law, as far as they are there: eight are premises still ===== -/
set_option maxRecDepth 20000
section
variable {L : Nat} {x : Nat → Int} {SX : vJ → vJ → vY → Nat → Nat → Nat → Prop}
theorem LW_all (hX : sxK SX) (hD : sxD SX) (o1 : oD1 (fun k I Y => LW L x SX k I I Y)) (o6 : oD6 (fun k I Y => LW L x SX k I I Y)) (o14 : oD14 (fun k I Y => LW L x SX k I I Y)) (o16 : oD16 (fun k I Y => LW L x SX k I I Y)) (o17 : oD17 (fun k I Y => LW L x SX k I I Y)) (o31 : oD31 (fun k I Y => LW L x SX k I I Y)) (o32 : oD32 (fun k I Y => LW L x SX k I I Y)) (o33 : oD33 (fun k I Y => LW L x SX k I I Y)) : oDall (fun k I Y => LW L x SX k I I Y) :=
  ⟨d_feed hX, o1, d_fault hX hD, d_member hX hD, d_node hX hD, d_way hX hD, o6, d_price hX, d_arg hX, d_begin hX, d_run hX, d_state hX, d_printed hX, d_thread hX, o14, d_gone hX, o16, o17, d_loop hX hD, d_tree hX, d_look hX, d_seen hX, d_made hX, d_held hX, d_lock hX, d_long hX, d_gain hX, d_thrown hX, d_watch hX hD, d_kept hX, d_keep hX, o31, o32, o33⟩
/-- the law's loop from its start on -/
theorem LW_end (hx : ∀ j, inI (x j)) (hL : L ≤ 384) (ho : oDall (fun k I Y => LW L x SX k I I Y)) {I : vJ} {Y : vY} (h : LW L x SX 0 I I Y) : vW 2001 531 (18, [vr 1, vr 18, vr 2075, vi 0], [], (I, Y)) (fun r => ∃ J Z, r = (.inl (some (vi 1)), (J, Z)) ∧ Z.2.2.2.1 ≤ 18 + 1200128 ∧ Z.2.2.2.2 ≤ 5501097) := by
  have g := law_loop2 hx LW_oP hL ho (L + 1) 0 I Y (by omega) (by omega) h
  obtain ⟨r, h1, J, Z, j, hj, e, hp⟩ := g
  exact ⟨r, h1, J, Z, e, LW_size hp hj⟩
end
