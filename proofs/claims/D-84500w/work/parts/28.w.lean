/-! ===== runs by what is wanted of them: vW d y F Q says that frame F of method y comes to an end, and that its end has Q ===== -/
abbrev vJ : Type := Nat → Nat → Int
abbrev vY : Type := (Nat → Nat → Nat) × (Nat → Nat) × (Nat → Nat) × Nat × Nat
/-- one place of the ints is put -/
def up (I : vJ) (a k : Nat) (x : Int) : vJ := fun b j => if b = a ∧ j = k then x else I b j
/-- one place of the references is put; a new cell -/
def uP (Y : vY) (a k x : Nat) : vY := (fun b j => if b = a ∧ j = k then x else Y.1 b j, Y.2)
def uN (Y : vY) (k n s : Nat) : vY := (fun b j => if b = Y.2.2.2.1 then 0 else Y.1 b j, fun b => if b = Y.2.2.2.1 then k else Y.2.1 b, fun b => if b = Y.2.2.2.1 then n else Y.2.2.1 b, Y.2.2.2.1 + 1, Y.2.2.2.2 + s)
/-- the ints of a new cell -/
def uz (I : vJ) (a : Nat) : vJ := fun b j => if b = a then 0 else I b j
/-- places are copied -/
def ucp (I : vJ) (a i b j n : Nat) : vJ := fun c k => if c = b ∧ j ≤ k ∧ k < j + n then I a (i + (k - j)) else I c k
def uCP (Y : vY) (a i b j n : Nat) : vY := (fun c k => if c = b ∧ j ≤ k ∧ k < j + n then Y.1 a (i + (k - j)) else Y.1 c k, Y.2)
theorem up_app (I : vJ) (a k : Nat) (x : Int) (b j : Nat) : up I a k x b j = if b = a ∧ j = k then x else I b j := rfl
theorem up_same (I : vJ) (a k : Nat) (x : Int) : up I a k x a k = x := if_pos ⟨rfl, rfl⟩
theorem up_at (I : vJ) (a k : Nat) (x : Int) (j : Nat) : up I a k x a j = if j = k then x else I a j := by
  unfold up; simp only [true_and]
theorem up_cell (I : vJ) {a b : Nat} (h : b ≠ a) (k : Nat) (x : Int) (j : Nat) : up I a k x b j = I b j := if_neg (fun q => h q.1)
theorem up_place (I : vJ) (a : Nat) {k j : Nat} (h : j ≠ k) (x : Int) : up I a k x a j = I a j := if_neg (fun q => h q.2)
theorem up_up (I : vJ) (a k : Nat) (x y : Int) : up (up I a k x) a k y = up I a k y := by
  funext b j; unfold up; split <;> rfl
theorem up_self (I : vJ) (a k : Nat) : up I a k (I a k) = I := by
  funext b j; unfold up; split
  · next h => rw [h.1, h.2]
  · rfl
theorem up_comm (I : vJ) {a b : Nat} (h : a ≠ b) (k j : Nat) (x y : Int) : up (up I a k x) b j y = up (up I b j y) a k x := by
  funext c i; unfold up
  by_cases h1 : c = a ∧ i = k
  · by_cases h2 : c = b ∧ i = j
    · exact absurd (h1.1.symm.trans h2.1) h
    · rw [if_neg h2, if_pos h1, if_pos h1]
  · by_cases h2 : c = b ∧ i = j
    · rw [if_pos h2, if_neg h1, if_pos h2]
    · rw [if_neg h2, if_neg h1, if_neg h1, if_neg h2]
def vW (d y : Nat) (F : vF) (Q : vE → Prop) : Prop := ∃ r, vR d y F r ∧ Q r
/-- what a thrown cell does here; what comes behind a call -/
def vWX (d y pc : Nat) (ls : List vV) (Q : vE → Prop) (a : Nat) (M : vM) : Prop := match vhan y pc (gK M a) with
  | none => False
  | some none => Q (.inr a, M)
  | some (some h) => vW d y (h, ls, [vr a], M) Q
def vWC (d y pc n : Nat) (ls st : List vV) (Q : vE → Prop) (q : vE) : Prop := match q with
  | (.inl none, M) => vW d y (pc + n, ls, st, M) Q
  | (.inl (some v), M) => vW d y (pc + n, ls, v :: st, M) Q
  | (.inr a, M) => vWX d y pc ls Q a M
theorem vWC_n {d y pc n : Nat} {ls st : List vV} {Q : vE → Prop} {M : vM} : vWC d y pc n ls st Q (.inl none, M) = vW d y (pc + n, ls, st, M) Q := rfl
theorem vWC_s {d y pc n : Nat} {ls st : List vV} {Q : vE → Prop} {M : vM} {v : vV} : vWC d y pc n ls st Q (.inl (some v), M) = vW d y (pc + n, ls, v :: st, M) Q := rfl
theorem vWC_x {d y pc n : Nat} {ls st : List vV} {Q : vE → Prop} {M : vM} {a : Nat} : vWC d y pc n ls st Q (.inr a, M) = vWX d y pc ls Q a M := rfl
theorem vWX_of {d y pc : Nat} {ls : List vV} {Q : vE → Prop} {a : Nat} {M : vM} : (∃ r, vRX d y pc ls a M r ∧ Q r) ↔ vWX d y pc ls Q a M := by
  unfold vRX vWX
  cases vhan y pc (gK M a) with
  | none => simp
  | some o => cases o with
    | none => simp
    | some p => rfl
theorem vWC_of {d y pc n : Nat} {ls st : List vV} {Q : vE → Prop} {q : vE} : (∃ r, vRC d y pc n ls st r q ∧ Q r) ↔ vWC d y pc n ls st Q q := by
  obtain ⟨a, M⟩ := q
  cases a with
  | inl o => cases o <;> rfl
  | inr a => exact vWX_of
/-- more frames do no harm -/
theorem vexec_deep : ∀ {n d d' y : Nat} {F : vF} {r : vE}, d ≤ d' → vexec n d y F = some r → vexec n d' y F = some r := by
  intro n
  induction n with
  | zero => intro d d' y F r _ h; cases h
  | succ n ih =>
    intro d d' y F r hd h
    obtain ⟨pc, ls, st, M⟩ := F
    rw [vexec] at h ⊢
    cases hc : vcode y pc with
    | none => rw [hc] at h; cases h
    | some i =>
      obtain ⟨i, len⟩ := i
      rw [hc] at h
      simp only at h ⊢
      cases hs : vstep (vret y) i len pc ls st M with
      | none => rw [hs] at h; cases h
      | some o =>
        rw [hs] at h
        rcases o with F | ⟨v | a, M1⟩ | ⟨z, la, s1, M1⟩
        · exact ih hd h
        · exact h
        · simp only at h ⊢
          cases hh : vhan y pc (gK M1 a) with
          | none => rw [hh] at h; cases h
          | some o => rw [hh] at h; cases o with
            | none => exact h
            | some p => exact ih hd h
        · simp only at h ⊢
          cases d with
          | zero => cases h
          | succ d =>
            cases d' with
            | zero => omega
            | succ d' =>
              simp only at h ⊢
              cases hx : vexec n d z (0, la, [], M1) with
              | none => rw [hx] at h; cases h
              | some q =>
                rw [hx] at h
                rw [ih (by omega) hx]
                rcases q with ⟨v | a, M2⟩
                · exact ih hd h
                · simp only at h ⊢
                  cases hh : vhan y pc (gK M2 a) with
                  | none => rw [hh] at h; cases h
                  | some o => rw [hh] at h; cases o with
                    | none => exact h
                    | some p => exact ih hd h
theorem vR_mono {d d' y : Nat} {F : vF} {r : vE} (hd : d ≤ d') (h : vR d y F r) : vR d' y F r := h.elim fun n h => ⟨n, vexec_deep hd h⟩
theorem vWmo {d d' y : Nat} {F : vF} {Q Q' : vE → Prop} (hd : d ≤ d') (hq : ∀ r, Q r → Q' r) (h : vW d y F Q) : vW d' y F Q' := h.elim fun r h => ⟨r, vR_mono hd h.1, hq r h.2⟩
theorem vW_of {d y : Nat} {F : vF} {r : vE} {Q : vE → Prop} (h : vR d y F r) : vW d y F Q ↔ Q r := ⟨fun ⟨r', h', q⟩ => vR_det h' h ▸ q, fun q => ⟨r, h, q⟩⟩
/-- two runs, the one behind the other, in either order -/
theorem vW_swap {d y d' y' : Nat} {F F' : vF} {Q : vE → vE → Prop} : vW d y F (fun r => vW d' y' F' (fun r' => Q r r')) ↔ vW d' y' F' (fun r' => vW d y F (fun r => Q r r')) := by
  unfold vW
  constructor
  · rintro ⟨r, h, r', h', q⟩; exact ⟨r', h', r, h, q⟩
  · rintro ⟨r, h, r', h', q⟩; exact ⟨r', h', r, h, q⟩
section
variable {d y pc n : Nat} {ls st : List vV} {F F' : vF} {Q : vE → Prop} {I : vJ} {Y : vY} {M : vM}
theorem qS (h : ∀ r, vR d y F r ↔ vR d y F' r) : vW d y F Q ↔ vW d y F' Q := by
  unfold vW; simp only [h]
theorem qG {c : Prop} (h : ∀ r, vR d y F r ↔ (c ∧ vR d y F' r)) (hc : c) : vW d y F Q ↔ vW d y F' Q := by
  unfold vW; simp only [h, hc, true_and]
theorem qI {c : Prop} [Decidable c] {F1 F2 : vF} (h : ∀ r, vR d y F r ↔ if c then vR d y F1 r else vR d y F2 r) : vW d y F Q ↔ if c then vW d y F1 Q else vW d y F2 Q := by
  unfold vW; simp only [h]; split <;> rfl
theorem qT {x : vE} (h : ∀ r, vR d y F r ↔ r = x) : vW d y F Q ↔ Q x := by
  unfold vW; simp only [h]; exact ⟨fun ⟨_, e, q⟩ => e ▸ q, fun q => ⟨_, rfl, q⟩⟩
theorem qTG {c : Prop} {x : vE} (h : ∀ r, vR d y F r ↔ (c ∧ r = x)) (hc : c) : vW d y F Q ↔ Q x := qT (fun r => (h r).trans (and_iff_right hc))
theorem qC {c : Prop} {z : Nat} {la s1 : List vV} {M1 : vM} (h : ∀ r, vR (d + 1) y F r ↔ (c ∧ ∃ q, vR d z (0, la, [], M1) q ∧ vRC (d + 1) y pc n ls s1 r q)) (hc : c) : vW (d + 1) y F Q ↔ vW d z (0, la, [], M1) (vWC (d + 1) y pc n ls s1 Q) := by
  unfold vW
  simp only [h, hc, true_and]
  constructor
  · rintro ⟨r, ⟨q, h1, h2⟩, h3⟩; exact ⟨q, h1, vWC_of.mp ⟨r, h2, h3⟩⟩
  · rintro ⟨q, h1, h2⟩
    obtain ⟨r, h3, h4⟩ := vWC_of.mpr h2
    exact ⟨r, ⟨q, h1, h3⟩, h4⟩
theorem qX {a : Nat} {c : Prop} (h : ∀ r, vR d y F r ↔ (c ∧ vRX d y pc ls a M r)) (hc : c) : vW d y F Q ↔ vWX d y pc ls Q a M := by
  unfold vW
  simp only [h, hc, true_and]
  exact vWX_of
theorem vat_id {j : Int} (h0 : 0 ≤ j) (h1 : j < 2147483648) : vat j = j.toNat := by
  unfold vat; rw [w32_id (by omega) h1]
theorem q_iaload {j : Int} {a N : Nat} (h : vcode y pc = some (.iaload, n)) (hk : Y.2.1 a = 100) (hn : Y.2.2.1 a = N) (h0 : 0 ≤ j) (h1 : j < (N : Int)) (h2 : j < 2147483648) : vW d y (pc, ls, vi j :: vr a :: st, (I, Y)) Q ↔ vW d y (pc + n, ls, vi (I a j.toNat) :: st, (I, Y)) Q := by
  rw [← vat_id h0 h2]
  exact qG (fun r => r_iaload h) ⟨hk, by rw [w32_id (by omega) h2]; exact h0, by rw [w32_id (by omega) h2]; show j < ((Y.2.2.1 a : Nat) : Int); rw [hn]; exact h1⟩
theorem q_laload {j : Int} {a N : Nat} (h : vcode y pc = some (.laload, n)) (hk : Y.2.1 a = 101) (hn : Y.2.2.1 a = N) (h0 : 0 ≤ j) (h1 : j < (N : Int)) (h2 : j < 2147483648) : vW d y (pc, ls, vi j :: vr a :: st, (I, Y)) Q ↔ vW d y (pc + n, ls, vl (I a j.toNat) :: st, (I, Y)) Q := by
  rw [← vat_id h0 h2]
  exact qG (fun r => r_laload h) ⟨hk, by rw [w32_id (by omega) h2]; exact h0, by rw [w32_id (by omega) h2]; show j < ((Y.2.2.1 a : Nat) : Int); rw [hn]; exact h1⟩
theorem q_baload {j : Int} {a N : Nat} (h : vcode y pc = some (.baload, n)) (hk : Y.2.1 a = 102 ∨ Y.2.1 a = 103) (hn : Y.2.2.1 a = N) (h0 : 0 ≤ j) (h1 : j < (N : Int)) (h2 : j < 2147483648) : vW d y (pc, ls, vi j :: vr a :: st, (I, Y)) Q ↔ vW d y (pc + n, ls, vi (I a j.toNat) :: st, (I, Y)) Q := by
  rw [← vat_id h0 h2]
  exact qG (fun r => r_baload h) ⟨hk, by rw [w32_id (by omega) h2]; exact h0, by rw [w32_id (by omega) h2]; show j < ((Y.2.2.1 a : Nat) : Int); rw [hn]; exact h1⟩
theorem q_aaload {j : Int} {a N : Nat} (h : vcode y pc = some (.aaload, n)) (hk : 110 ≤ Y.2.1 a) (hn : Y.2.2.1 a = N) (h0 : 0 ≤ j) (h1 : j < (N : Int)) (h2 : j < 2147483648) : vW d y (pc, ls, vi j :: vr a :: st, (I, Y)) Q ↔ vW d y (pc + n, ls, vr (Y.1 a j.toNat) :: st, (I, Y)) Q := by
  rw [← vat_id h0 h2]
  exact qG (fun r => r_aaload h) ⟨hk, by rw [w32_id (by omega) h2]; exact h0, by rw [w32_id (by omega) h2]; show j < ((Y.2.2.1 a : Nat) : Int); rw [hn]; exact h1⟩
theorem q_iastore {x j : Int} {a N : Nat} (h : vcode y pc = some (.iastore, n)) (h18 : 18 ≤ a) (hk : Y.2.1 a = 100) (hn : Y.2.2.1 a = N) (h0 : 0 ≤ j) (h1 : j < (N : Int)) (h2 : j < 2147483648) : vW d y (pc, ls, vi x :: vi j :: vr a :: st, (I, Y)) Q ↔ vW d y (pc + n, ls, st, (up I a j.toNat x, Y)) Q := by
  rw [← vat_id h0 h2]
  exact qG (fun r => r_iastore h) ⟨hk, h18, by rw [w32_id (by omega) h2]; exact h0, by rw [w32_id (by omega) h2]; show j < ((Y.2.2.1 a : Nat) : Int); rw [hn]; exact h1⟩
theorem q_lastore {x j : Int} {a N : Nat} (h : vcode y pc = some (.lastore, n)) (h18 : 18 ≤ a) (hk : Y.2.1 a = 101) (hn : Y.2.2.1 a = N) (h0 : 0 ≤ j) (h1 : j < (N : Int)) (h2 : j < 2147483648) : vW d y (pc, ls, vl x :: vi j :: vr a :: st, (I, Y)) Q ↔ vW d y (pc + n, ls, st, (up I a j.toNat x, Y)) Q := by
  rw [← vat_id h0 h2]
  exact qG (fun r => r_lastore h) ⟨hk, h18, by rw [w32_id (by omega) h2]; exact h0, by rw [w32_id (by omega) h2]; show j < ((Y.2.2.1 a : Nat) : Int); rw [hn]; exact h1⟩
theorem q_bastoreB {x j : Int} {a N : Nat} (h : vcode y pc = some (.bastore, n)) (h18 : 18 ≤ a) (hk : Y.2.1 a = 102) (hn : Y.2.2.1 a = N) (h0 : 0 ≤ j) (h1 : j < (N : Int)) (h2 : j < 2147483648) : vW d y (pc, ls, vi x :: vi j :: vr a :: st, (I, Y)) Q ↔ vW d y (pc + n, ls, st, (up I a j.toNat (w8 x), Y)) Q := by
  rw [← vat_id h0 h2]
  exact qG (fun r => r_bastoreB h hk) ⟨h18, by rw [w32_id (by omega) h2]; exact h0, by rw [w32_id (by omega) h2]; show j < ((Y.2.2.1 a : Nat) : Int); rw [hn]; exact h1⟩
theorem q_bastoreZ {x j : Int} {a N : Nat} (h : vcode y pc = some (.bastore, n)) (h18 : 18 ≤ a) (hk : Y.2.1 a = 103) (hn : Y.2.2.1 a = N) (h0 : 0 ≤ j) (h1 : j < (N : Int)) (h2 : j < 2147483648) (hx : x = 0 ∨ x = 1) : vW d y (pc, ls, vi x :: vi j :: vr a :: st, (I, Y)) Q ↔ vW d y (pc + n, ls, st, (up I a j.toNat x, Y)) Q := by
  rw [← vat_id h0 h2]
  exact qG (fun r => r_bastoreZ h hk) ⟨⟨h18, by rw [w32_id (by omega) h2]; exact h0, by rw [w32_id (by omega) h2]; show j < ((Y.2.2.1 a : Nat) : Int); rw [hn]; exact h1⟩, by rcases hx with rfl | rfl; exact Or.inl rfl; exact Or.inr rfl⟩
theorem q_aastore {j : Int} {a b N : Nat} (h : vcode y pc = some (.aastore, n)) (h18 : 18 ≤ a) (hk : 110 ≤ Y.2.1 a ∧ Y.2.1 a < 115) (hn : Y.2.2.1 a = N) (h0 : 0 ≤ j) (h1 : j < (N : Int)) (h2 : j < 2147483648) (hb : b = 0 ∨ vasg (Y.2.1 b) (Y.2.1 a) = true) : vW d y (pc, ls, vr b :: vi j :: vr a :: st, (I, Y)) Q ↔ vW d y (pc + n, ls, st, (I, uP Y a j.toNat b)) Q := by
  rw [← vat_id h0 h2]
  exact qG (fun r => r_aastore h) ⟨hk, h18, ⟨by rw [w32_id (by omega) h2]; exact h0, by rw [w32_id (by omega) h2]; show j < ((Y.2.2.1 a : Nat) : Int); rw [hn]; exact h1⟩, hb⟩
theorem q_alen {a N : Nat} (h : vcode y pc = some (.arraylength, n)) (hk : 100 ≤ Y.2.1 a) (hn : Y.2.2.1 a = N) : vW d y (pc, ls, vr a :: st, (I, Y)) Q ↔ vW d y (pc + n, ls, vi (N : Int) :: st, (I, Y)) Q := by
  subst hn; exact qG (fun r => r_arraylength h) hk
theorem q_newarr {x : Int} {t : ArrayType} {k N : Nat} (h : vcode y pc = some (.newarray t, n)) (hk : vakind t = k) (h0 : k ≠ 0) (hx : x = N) (hN : N ≤ 1000000) : vW d y (pc, ls, vi x :: st, (I, Y)) Q ↔ vW d y (pc + n, ls, vr Y.2.2.2.1 :: st, (uz I Y.2.2.2.1, uN Y k N N)) Q := by
  subst hx
  have e : vat (N : Int) = N := by rw [vat_id (by omega) (by omega)]; rfl
  have g := qG (Q := Q) (fun r => r_newarray (d := d) (ls := ls) (st := st) (M := (I, Y)) h hk h0) (show 0 ≤ w32 (N : Int) ∧ w32 (N : Int) ≤ 1000000 by rw [w32_id (by omega) (by omega)]; omega)
  rw [e] at g
  exact g
theorem q_anewarr {x : Int} {w k N : Nat} (h : vcode y pc = some (.anewarray w, n)) (hk : w / 65536 = k) (hx : x = N) (hN : N ≤ 1000000) : vW d y (pc, ls, vi x :: st, (I, Y)) Q ↔ vW d y (pc + n, ls, vr Y.2.2.2.1 :: st, (uz I Y.2.2.2.1, uN Y k N N)) Q := by
  subst hx
  have e : vat (N : Int) = N := by rw [vat_id (by omega) (by omega)]; rfl
  have g := qG (Q := Q) (fun r => r_anewarray (d := d) (ls := ls) (st := st) (M := (I, Y)) h hk) (show 0 ≤ w32 (N : Int) ∧ w32 (N : Int) ≤ 1000000 by rw [w32_id (by omega) (by omega)]; omega)
  rw [e] at g
  exact g
theorem q_inst {m k a : Nat} {b : Bool} (h : vcode y pc = some (.instanceof m, n)) (hk : m / 65536 = k) (h0 : a ≠ 0) (hb : vins (Y.2.1 a) k = some b) : vW d y (pc, ls, vr a :: st, (I, Y)) Q ↔ vW d y (pc + n, ls, vi (if b = true then 1 else 0) :: st, (I, Y)) Q := by
  refine qS (fun r => (r_instanceof h hk).trans ?_)
  constructor
  · rintro ⟨_, b', e, q⟩
    have : b' = b := Option.some.inj (e.symm.trans hb)
    exact this ▸ q
  · exact fun q => ⟨h0, b, hb, q⟩
theorem q_copyI {x : Nat} {i j k : Int} {a b A B N : Nat} (h : vcode y pc = some (.invokestatic x, n)) (hx : x / 65536 / 16 = 1000) (hk : Y.2.1 a = 100 ∨ Y.2.1 a = 101 ∨ Y.2.1 a = 102) (hab : Y.2.1 a = Y.2.1 b) (h18 : 18 ≤ a ∧ 18 ≤ b) (hne : a ≠ b) (hi : i = A) (hj : j = B) (hn : k = N) (h1 : A + N ≤ Y.2.2.1 a) (h2 : B + N ≤ Y.2.2.1 b) (h3 : A < 1000000 ∧ B < 1000000 ∧ N < 1000000) (hf : vfit st = true) : vW d y (pc, ls, vi k :: vi j :: vr b :: vi i :: vr a :: st, (I, Y)) Q ↔ vW d y (pc + n, ls, st, (ucp I a A b B N, Y)) Q := by
  subst hi; subst hj; subst hn
  have eA : vat (A : Int) = A := by rw [vat_id (by omega) (by omega)]; rfl
  have eB : vat (B : Int) = B := by rw [vat_id (by omega) (by omega)]; rfl
  have eN : vat (N : Int) = N := by rw [vat_id (by omega) (by omega)]; rfl
  have g := qG (Q := Q) (fun r => r_copyI (d := d) (ls := ls) (st := st) (i := (A : Int)) (j := (B : Int)) (k := (N : Int)) (b := b) (M := (I, Y)) h hx hk) ⟨hab, h18, hne, by
    unfold vcok; rw [w32_id (x := (A : Int)) (by omega) (by omega), w32_id (x := (B : Int)) (by omega) (by omega), w32_id (x := (N : Int)) (by omega) (by omega)]
    show _ ∧ _ ∧ _ ∧ (A : Int) + N ≤ ((Y.2.2.1 a : Nat) : Int) ∧ (B : Int) + N ≤ ((Y.2.2.1 b : Nat) : Int)
    omega, hf⟩
  rw [eA, eB, eN] at g
  exact g
theorem q_copyP {x : Nat} {i j k : Int} {a b A B N : Nat} (h : vcode y pc = some (.invokestatic x, n)) (hx : x / 65536 / 16 = 1000) (hk : 110 ≤ Y.2.1 a ∧ Y.2.1 a < 115) (hab : Y.2.1 a = Y.2.1 b) (h18 : 18 ≤ a ∧ 18 ≤ b) (hne : a ≠ b) (hi : i = A) (hj : j = B) (hn : k = N) (h1 : A + N ≤ Y.2.2.1 a) (h2 : B + N ≤ Y.2.2.1 b) (h3 : A < 1000000 ∧ B < 1000000 ∧ N < 1000000) (hf : vfit st = true) : vW d y (pc, ls, vi k :: vi j :: vr b :: vi i :: vr a :: st, (I, Y)) Q ↔ vW d y (pc + n, ls, st, (I, uCP Y a A b B N)) Q := by
  subst hi; subst hj; subst hn
  have eA : vat (A : Int) = A := by rw [vat_id (by omega) (by omega)]; rfl
  have eB : vat (B : Int) = B := by rw [vat_id (by omega) (by omega)]; rfl
  have eN : vat (N : Int) = N := by rw [vat_id (by omega) (by omega)]; rfl
  have g := qG (Q := Q) (fun r => r_copyP (d := d) (ls := ls) (st := st) (i := (A : Int)) (j := (B : Int)) (k := (N : Int)) (b := b) (M := (I, Y)) h hx hk) ⟨hab, h18, hne, by
    unfold vcok; rw [w32_id (x := (A : Int)) (by omega) (by omega), w32_id (x := (B : Int)) (by omega) (by omega), w32_id (x := (N : Int)) (by omega) (by omega)]
    show _ ∧ _ ∧ _ ∧ (A : Int) + N ≤ ((Y.2.2.1 a : Nat) : Int) ∧ (B : Int) + N ≤ ((Y.2.2.1 b : Nat) : Int)
    omega, hf⟩
  rw [eA, eB, eN] at g
  exact g
end
