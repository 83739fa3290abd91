/-! ===== the law's frame for the relation of calls ===== -/
set_option maxRecDepth 20000
theorem LW_oP {L : Nat} {x : Nat → Int} {SX : vJ → vJ → vY → Nat → Nat → Nat → Prop} : oP L x (fun k I Y => LW L x SX k I I Y) :=
  ⟨fun _ _ _ h => LW_up h, fun k I Y h => by
    obtain ⟨⟨v1, _⟩, ⟨p1, p2, p3⟩, _⟩ := h
    exact ⟨p1, p2, p3, lK v1 18 1 rfl, lK v1 2075 30 rfl, v1.2.2⟩⟩
/-- what the law's end asks of the memory's size -/
theorem LW_size {L : Nat} {x : Nat → Int} {SX : vJ → vJ → vY → Nat → Nat → Nat → Prop} {k : Nat} {I I' : vJ} {Y : vY} (h : LW L x SX k I I' Y) (hk : k ≤ 64) : Y.2.2.2.1 ≤ 18 + 1200128 ∧ Y.2.2.2.2 ≤ 5501097 := by
  obtain ⟨⟨_, _, _, _, v5, v6⟩, _⟩ := h
  exact ⟨by omega, by omega⟩
