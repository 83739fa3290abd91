/-! ===== THE V MACHINE, values and memory: ints and longs are whole numbers (only what looks at them wraps them), a reference is a small number (0: null), the memory is plain functions ===== -/
abbrev vV : Type := Int ⊕ Int ⊕ Nat ⊕ Unit
abbrev vi (x : Int) : vV := .inl x
abbrev vl (x : Int) : vV := .inr (.inl x)
abbrev vr (a : Nat) : vV := .inr (.inr (.inl a))
abbrev vu : vV := .inr (.inr (.inr ()))
/-- what an int, a long holds of a whole number -/
def w32 (x : Int) : Int := x.bmod 4294967296
def w64 (x : Int) : Int := x.bmod 18446744073709551616
def w8 (x : Int) : Int := x.bmod 256
theorem w32_id {x : Int} (h1 : -2147483648 ≤ x) (h2 : x < 2147483648) : w32 x = x := by
  unfold w32; rw [Int.bmod_def]; split <;> omega
theorem w64_id {x : Int} (h1 : -9223372036854775808 ≤ x) (h2 : x < 9223372036854775808) : w64 x = x := by
  unfold w64; rw [Int.bmod_def]; split <;> omega
theorem w8_id {x : Int} (h1 : -128 ≤ x) (h2 : x < 128) : w8 x = x := by
  unfold w8; rw [Int.bmod_def]; split <;> omega
theorem w32_lo (x : Int) : -2147483648 ≤ w32 x := by
  unfold w32; rw [Int.bmod_def]; split <;> omega
theorem w32_hi (x : Int) : w32 x < 2147483648 := by
  unfold w32; rw [Int.bmod_def]; split <;> omega
theorem w64_lo (x : Int) : -9223372036854775808 ≤ w64 x := by
  unfold w64; rw [Int.bmod_def]; split <;> omega
theorem w64_hi (x : Int) : w64 x < 9223372036854775808 := by
  unfold w64; rw [Int.bmod_def]; split <;> omega
theorem w32_w32 (x : Int) : w32 (w32 x) = w32 x := w32_id (w32_lo x) (w32_hi x)
theorem w64_w64 (x : Int) : w64 (w64 x) = w64 x := w64_id (w64_lo x) (w64_hi x)
/-- memory: ints and longs, references (0: null), kinds, lengths, cells made, slots made -/
abbrev vM : Type := (Nat → Nat → Int) × (Nat → Nat → Nat) × (Nat → Nat) × (Nat → Nat) × Nat × Nat
def gI (M : vM) (a k : Nat) : Int := M.1 a k
def gP (M : vM) (a k : Nat) : Nat := M.2.1 a k
def gK (M : vM) (a : Nat) : Nat := M.2.2.1 a
def gN (M : vM) (a : Nat) : Nat := M.2.2.2.1 a
def gZ (M : vM) : Nat := M.2.2.2.2.1
def gS (M : vM) : Nat := M.2.2.2.2.2
def sI (M : vM) (a k : Nat) (x : Int) : vM := (fun b j => if b = a ∧ j = k then x else M.1 b j, M.2)
def sP (M : vM) (a k : Nat) (x : Nat) : vM := (M.1, fun b j => if b = a ∧ j = k then x else M.2.1 b j, M.2.2)
/-- a new cell: its kind, its length, its slots -/
def nC (M : vM) (k n s : Nat) : vM := (fun b j => if b = gZ M then 0 else M.1 b j, fun b j => if b = gZ M then 0 else M.2.1 b j, fun b => if b = gZ M then k else M.2.2.1 b, fun b => if b = gZ M then n else M.2.2.2.1 b, gZ M + 1, gS M + s)
/-- n places are copied, from place i of a to place j of b -/
def cI (M : vM) (a i b j n : Nat) : vM := (fun c k => if c = b ∧ j ≤ k ∧ k < j + n then M.1 a (i + (k - j)) else M.1 c k, M.2)
def cP (M : vM) (a i b j n : Nat) : vM := (M.1, fun c k => if c = b ∧ j ≤ k ∧ k < j + n then M.2.1 a (i + (k - j)) else M.2.1 c k, M.2.2)
theorem gI_sI (M : vM) (a k b j : Nat) (x : Int) : gI (sI M a k x) b j = if b = a ∧ j = k then x else gI M b j := rfl
theorem gP_sI (M : vM) (a k b j : Nat) (x : Int) : gP (sI M a k x) b j = gP M b j := rfl
theorem gK_sI (M : vM) (a k b : Nat) (x : Int) : gK (sI M a k x) b = gK M b := rfl
theorem gN_sI (M : vM) (a k b : Nat) (x : Int) : gN (sI M a k x) b = gN M b := rfl
theorem gZ_sI (M : vM) (a k : Nat) (x : Int) : gZ (sI M a k x) = gZ M := rfl
theorem gS_sI (M : vM) (a k : Nat) (x : Int) : gS (sI M a k x) = gS M := rfl
theorem gI_sP (M : vM) (a k b j x : Nat) : gI (sP M a k x) b j = gI M b j := rfl
theorem gP_sP (M : vM) (a k b j x : Nat) : gP (sP M a k x) b j = if b = a ∧ j = k then x else gP M b j := rfl
theorem gK_sP (M : vM) (a k b x : Nat) : gK (sP M a k x) b = gK M b := rfl
theorem gN_sP (M : vM) (a k b x : Nat) : gN (sP M a k x) b = gN M b := rfl
theorem gZ_sP (M : vM) (a k x : Nat) : gZ (sP M a k x) = gZ M := rfl
theorem gS_sP (M : vM) (a k x : Nat) : gS (sP M a k x) = gS M := rfl
theorem gI_nC (M : vM) (k n s b j : Nat) : gI (nC M k n s) b j = if b = gZ M then 0 else gI M b j := rfl
theorem gP_nC (M : vM) (k n s b j : Nat) : gP (nC M k n s) b j = if b = gZ M then 0 else gP M b j := rfl
theorem gK_nC (M : vM) (k n s b : Nat) : gK (nC M k n s) b = if b = gZ M then k else gK M b := rfl
theorem gN_nC (M : vM) (k n s b : Nat) : gN (nC M k n s) b = if b = gZ M then n else gN M b := rfl
theorem gZ_nC (M : vM) (k n s : Nat) : gZ (nC M k n s) = gZ M + 1 := rfl
theorem gS_nC (M : vM) (k n s : Nat) : gS (nC M k n s) = gS M + s := rfl
theorem gI_cI (M : vM) (a i b j n c k : Nat) : gI (cI M a i b j n) c k = if c = b ∧ j ≤ k ∧ k < j + n then gI M a (i + (k - j)) else gI M c k := rfl
theorem gP_cI (M : vM) (a i b j n c k : Nat) : gP (cI M a i b j n) c k = gP M c k := rfl
theorem gK_cI (M : vM) (a i b j n c : Nat) : gK (cI M a i b j n) c = gK M c := rfl
theorem gN_cI (M : vM) (a i b j n c : Nat) : gN (cI M a i b j n) c = gN M c := rfl
theorem gZ_cI (M : vM) (a i b j n : Nat) : gZ (cI M a i b j n) = gZ M := rfl
theorem gS_cI (M : vM) (a i b j n : Nat) : gS (cI M a i b j n) = gS M := rfl
theorem gI_cP (M : vM) (a i b j n c k : Nat) : gI (cP M a i b j n) c k = gI M c k := rfl
theorem gP_cP (M : vM) (a i b j n c k : Nat) : gP (cP M a i b j n) c k = if c = b ∧ j ≤ k ∧ k < j + n then gP M a (i + (k - j)) else gP M c k := rfl
theorem gK_cP (M : vM) (a i b j n c : Nat) : gK (cP M a i b j n) c = gK M c := rfl
theorem gN_cP (M : vM) (a i b j n c : Nat) : gN (cP M a i b j n) c = gN M c := rfl
theorem gZ_cP (M : vM) (a i b j n : Nat) : gZ (cP M a i b j n) = gZ M := rfl
theorem gS_cP (M : vM) (a i b j n : Nat) : gS (cP M a i b j n) = gS M := rfl
/-- locals: what may stand ahead of a place that is put; putting one place, two places; at entry -/
def vnl (v : vV) : Bool := match v with | .inr (.inl _) => false | _ => true
def vtag (v : vV) : Nat := match v with | .inl _ => 0 | .inr (.inl _) => 1 | .inr (.inr (.inl _)) => 2 | .inr (.inr (.inr _)) => 3
def vcat (v : vV) : Nat := match v with | .inr (.inl _) => 2 | _ => 1
def vok (ls : List vV) (i : Nat) : Bool := match i with | 0 => true | k + 1 => vnl (ls.getD k vu)
def vget (t : Nat) (ls : List vV) (i : Nat) : Option vV := match ls[i]? with | some v => if vtag v = t then some v else none | none => none
def vput1 (ls : List vV) (i : Nat) (v : vV) : Option (List vV) := if i < ls.length ∧ vok ls i = true then some (ls.set i v) else none
def vput2 (ls : List vV) (i : Nat) (v : vV) : Option (List vV) := if i + 1 < ls.length ∧ vok ls i = true then some ((ls.set i v).set (i + 1) vu) else none
def vent : List vV → Nat → List vV
  | [], n => List.replicate n vu
  | .inr (.inl x) :: r, n => vl x :: vu :: vent r (n - 2)
  | v :: r, n => v :: vent r (n - 1)
def vlen : List vV → Nat
  | [] => 0
  | v :: r => vcat v + vlen r
/-- what waits under a call's arguments: at most 8 words -/
def vfit (st : List vV) : Bool := Nat.ble (vlen st) 8
/-- a place of an array -/
def vix (M : vM) (a : Nat) (j : Int) : Prop := 0 ≤ w32 j ∧ w32 j < (gN M a : Int)
def vat (j : Int) : Nat := (w32 j).toNat
/-- places of a copy -/
def vcok (M : vM) (a : Nat) (i : Int) (b : Nat) (j n : Int) : Prop := 0 ≤ w32 i ∧ 0 ≤ w32 j ∧ 0 ≤ w32 n ∧ w32 i + w32 n ≤ (gN M a : Int) ∧ w32 j + w32 n ≤ (gN M b : Int)
def b32 (f : Int32 → Int32 → Int32) (x y : Int) : Int := (f (Int32.ofInt x) (Int32.ofInt y)).toInt
def b64 (f : Int64 → Int64 → Int64) (x y : Int) : Int := (f (Int64.ofInt x) (Int64.ofInt y)).toInt
