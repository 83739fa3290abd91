/-! ===== small laws of places and numbers ===== -/
theorem tn0 (a : Nat) : ((a : Int)).toNat = a := rfl
theorem tn1 (a b : Nat) : ((a : Int) + (b : Int)).toNat = a + b := by omega
theorem tn2 (a c : Nat) : ((a : Int) + (no_index (OfNat.ofNat c : Int))).toNat = a + OfNat.ofNat c := by
  exact tn1 a (OfNat.ofNat c)
theorem tn3 (a c : Nat) : ((a : Int) - (no_index (OfNat.ofNat c : Int))).toNat = a - OfNat.ofNat c := by
  show ((a : Int) - ((OfNat.ofNat c : Nat) : Int)).toNat = a - OfNat.ofNat c
  generalize (OfNat.ofNat c : Nat) = m; omega
theorem tn4 (a c : Nat) : ((no_index (OfNat.ofNat c : Int)) * (a : Int)).toNat = OfNat.ofNat c * a := by
  have : (OfNat.ofNat c : Int) * (a : Int) = ((OfNat.ofNat c * a : Nat) : Int) := by rw [Int.natCast_mul]; rfl
  rw [this]; rfl
theorem tn5 (a b c : Nat) : ((no_index (OfNat.ofNat c : Int)) * (a : Int) + (b : Int)).toNat = OfNat.ofNat c * a + b := by
  have : (OfNat.ofNat c : Int) * (a : Int) = ((OfNat.ofNat c * a : Nat) : Int) := by rw [Int.natCast_mul]; rfl
  rw [this]; omega
theorem tn6 (a b c : Nat) : ((a : Int) * (no_index (OfNat.ofNat c : Int)) + (b : Int)).toNat = a * OfNat.ofNat c + b := by
  have : (a : Int) * (OfNat.ofNat c : Int) = ((a * OfNat.ofNat c : Nat) : Int) := by rw [Int.natCast_mul]; rfl
  rw [this]; omega
theorem tn7 (a c e : Nat) : ((no_index (OfNat.ofNat c : Int)) * (a : Int) + (no_index (OfNat.ofNat e : Int))).toNat = OfNat.ofNat c * a + OfNat.ofNat e := by
  have : (OfNat.ofNat c : Int) * (a : Int) = ((OfNat.ofNat c * a : Nat) : Int) := by rw [Int.natCast_mul]; rfl
  rw [this]; exact tn1 _ (OfNat.ofNat e)
theorem tn8 (a b c e : Nat) : ((no_index (OfNat.ofNat c : Int)) * (a : Int) + (b : Int) - (no_index (OfNat.ofNat e : Int))).toNat = OfNat.ofNat c * a + b - OfNat.ofNat e := by
  have : (OfNat.ofNat c : Int) * (a : Int) = ((OfNat.ofNat c * a : Nat) : Int) := by rw [Int.natCast_mul]; rfl
  rw [this]
  show (_ + (b : Int) - ((OfNat.ofNat e : Nat) : Int)).toNat = _
  generalize (OfNat.ofNat e : Nat) = m; generalize (OfNat.ofNat c * a : Nat) = q; omega
theorem tn9 (a b c e : Nat) : ((a : Int) * (no_index (OfNat.ofNat c : Int)) + (b : Int) - (no_index (OfNat.ofNat e : Int))).toNat = a * OfNat.ofNat c + b - OfNat.ofNat e := by
  have : (a : Int) * (OfNat.ofNat c : Int) = ((a * OfNat.ofNat c : Nat) : Int) := by rw [Int.natCast_mul]; rfl
  rw [this]
  show (_ + (b : Int) - ((OfNat.ofNat e : Nat) : Int)).toNat = _
  generalize (OfNat.ofNat e : Nat) = m; generalize (a * OfNat.ofNat c : Nat) = q; omega
theorem cst1 (a c : Nat) : (a : Int) + (no_index (OfNat.ofNat c : Int)) = ((a + OfNat.ofNat c : Nat) : Int) := by
  exact (Int.natCast_add a (OfNat.ofNat c)).symm
theorem up_row (I : vJ) {a b : Nat} (h : b ≠ a) (k : Nat) (x : Int) : up I a k x b = I b := by
  funext j; exact up_cell I h k x j
theorem vW_eq {d y : Nat} {F : vF} {r : vE} : vW d y F (fun q => q = r) ↔ vR d y F r := ⟨fun ⟨q, h, e⟩ => e ▸ h, fun h => ⟨r, h, rfl⟩⟩
/-- two rows that say the same of a number -/
theorem w32_dec (c : Int) : w32 c = 1 ↔ w32 (c - 1) = 0 := by
  unfold w32; rw [Int.bmod_def, Int.bmod_def]; split <;> split <;> omega
theorem vW_false {d y : Nat} {F : vF} : vW d y F (fun _ => False) ↔ False := ⟨fun ⟨_, _, h⟩ => h, fun h => h.elim⟩
/-- a run that waits behind a call's return is brought ahead of it -/
theorem vWC_out {d y pc n d' y' : Nat} {ls st : List vV} {F' : vF} {q : vE} {Q : vE → vE → Prop} : vW d' y' F' (fun r' => vWC d y pc n ls st (fun r => Q r r') q) → vWC d y pc n ls st (fun r => vW d' y' F' (fun r' => Q r r')) q := by
  obtain ⟨o, M⟩ := q
  rcases o with v | a
  · cases v with
    | none => exact fun h => vW_swap.mp h
    | some v => exact fun h => vW_swap.mp h
  · show vW d' y' F' (fun r' => vWX d y pc ls (fun r => Q r r') a M) → vWX d y pc ls (fun r => vW d' y' F' (fun r' => Q r r')) a M
    unfold vWX
    cases vhan y pc (gK M a) with
    | none => exact fun h => vW_false.mp h
    | some p => cases p with
      | none => exact fun h => h
      | some p => exact fun h => vW_swap.mp h
/-- the same, for a run that is called: the other one is brought beside it -/
theorem vW_out {d y pc n d0 y0 d' y' : Nat} {ls st : List vV} {F F' : vF} {Q : vE → vE → Prop} (h : vW d0 y0 F (fun q => vW d' y' F' (fun r' => vWC d y pc n ls st (fun r => Q r r') q))) : vW d0 y0 F (vWC d y pc n ls st (fun r => vW d' y' F' (fun r' => Q r r'))) :=
  vWmo (Nat.le_refl _) (fun _ hq => vWC_out hq) h
