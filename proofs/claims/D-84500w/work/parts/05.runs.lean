/-! ===== RUNS of the V machine: R d y F r: from the frame F of method y, with d frames above, it comes to the end r; a row an instruction, for simp (printed by gen/runs.py) ===== -/
def vR (d y : Nat) (F : vF) (r : vE) : Prop := ∃ n, vexec n d y F = some r
theorem vexec_mono : ∀ (n d y : Nat) (F : vF) (r : vE), vexec n d y F = some r → vexec (n + 1) d y F = some r := by
  intro n
  induction n with
  | zero => intro d y F r h; simp [vexec] at h
  | succ n ih =>
    intro d y F r h
    obtain ⟨pc, ls, st, M⟩ := F
    rw [vexec] at h ⊢
    cases hc : vcode y pc with
    | none => rw [hc] at h; cases h
    | some q =>
      obtain ⟨i, len⟩ := q
      rw [hc] at h
      simp only at h ⊢
      cases hs : vstep (vret y) i len pc ls st M with
      | none => rw [hs] at h; cases h
      | some o =>
        rw [hs] at h
        rcases o with F1 | ⟨v | a, M1⟩ | ⟨z, la, r1, M1⟩
        · exact ih _ _ _ _ h
        · exact h
        · simp only at h ⊢
          cases hh : vhan y pc (gK M1 a) with
          | none => rw [hh] at h; cases h
          | some o2 =>
            rw [hh] at h
            cases o2 with
            | none => exact h
            | some k => exact ih _ _ _ _ h
        · simp only at h ⊢
          cases d with
          | zero => cases h
          | succ d =>
            simp only at h ⊢
            cases hx : vexec n d z (0, la, [], M1) with
            | none => rw [hx] at h; cases h
            | some e =>
              rw [hx] at h
              rw [ih _ _ _ _ hx]
              obtain ⟨v | a, M2⟩ := e
              · exact ih _ _ _ _ h
              · simp only at h ⊢
                cases hh : vhan y pc (gK M2 a) with
                | none => rw [hh] at h; cases h
                | some o2 =>
                  rw [hh] at h
                  cases o2 with
                  | none => exact h
                  | some k => exact ih _ _ _ _ h
theorem vexec_le {n m d y : Nat} {F : vF} {r : vE} (h : n ≤ m) (e : vexec n d y F = some r) : vexec m d y F = some r := by
  induction m with
  | zero => obtain rfl : n = 0 := by omega
            exact e
  | succ m ih =>
    by_cases q : n = m + 1
    · subst q; exact e
    · exact vexec_mono _ _ _ _ _ (ih (by omega))
theorem vR_det {d y : Nat} {F : vF} {r r' : vE} (h : vR d y F r) (h' : vR d y F r') : r = r' := by
  obtain ⟨n, h⟩ := h
  obtain ⟨m, h'⟩ := h'
  have a := vexec_le (Nat.le_max_left n m) h
  have b := vexec_le (Nat.le_max_right n m) h'
  exact Option.some.inj (a.symm.trans b)
theorem vR_eq {d y : Nat} {F : vF} {r0 : vE} (h : vR d y F r0) (r : vE) : vR d y F r ↔ r = r0 := ⟨fun q => vR_det q h, fun q => q ▸ h⟩
section
variable {d y pc n : Nat} {ls st : List vV} {M : vM} {r : vE} {i : Instr}
theorem vR_step {F1 : vF} (h : vcode y pc = some (i, n)) (hs : vstep (vret y) i n pc ls st M = some (.inl F1)) : vR d y (pc, ls, st, M) r ↔ vR d y F1 r := by
  constructor
  · rintro ⟨k, e⟩
    cases k with
    | zero => simp [vexec] at e
    | succ k => rw [vexec, h] at e; simp only [hs] at e; exact ⟨k, e⟩
  · rintro ⟨k, e⟩
    exact ⟨k + 1, by rw [vexec, h]; simp only [hs]; exact e⟩
theorem vR_none (h : vcode y pc = some (i, n)) (hs : vstep (vret y) i n pc ls st M = none) : vR d y (pc, ls, st, M) r ↔ False := by
  constructor
  · rintro ⟨k, e⟩
    cases k with
    | zero => simp [vexec] at e
    | succ k => rw [vexec, h] at e; simp only [hs] at e; cases e
  · exact fun q => q.elim
theorem vR_ret {v : Option vV} {M1 : vM} (h : vcode y pc = some (i, n)) (hs : vstep (vret y) i n pc ls st M = some (.inr (.inl (.inl v, M1)))) : vR d y (pc, ls, st, M) r ↔ r = (.inl v, M1) := by
  constructor
  · rintro ⟨k, e⟩
    cases k with
    | zero => simp [vexec] at e
    | succ k => rw [vexec, h] at e; simp only [hs] at e; exact (Option.some.inj e).symm
  · rintro rfl
    exact ⟨1, by rw [vexec, h]; simp only [hs]⟩
/-- what a thrown cell does here -/
def vRX (d y pc : Nat) (ls : List vV) (a : Nat) (M : vM) (r : vE) : Prop := match vhan y pc (gK M a) with
  | none => False
  | some none => r = (.inr a, M)
  | some (some h) => vR d y (h, ls, [vr a], M) r
theorem vR_thr {a : Nat} {M1 : vM} (h : vcode y pc = some (i, n)) (hs : vstep (vret y) i n pc ls st M = some (.inr (.inl (.inr a, M1)))) : vR d y (pc, ls, st, M) r ↔ vRX d y pc ls a M1 r := by
  unfold vRX
  cases hh : vhan y pc (gK M1 a) with
  | none =>
    constructor
    · rintro ⟨k, e⟩
      cases k with
      | zero => simp [vexec] at e
      | succ k => rw [vexec, h] at e; simp only [hs, hh] at e; cases e
    · exact fun q => q.elim
  | some o =>
    cases o with
    | none =>
      constructor
      · rintro ⟨k, e⟩
        cases k with
        | zero => simp [vexec] at e
        | succ k => rw [vexec, h] at e; simp only [hs, hh] at e; exact (Option.some.inj e).symm
      · rintro rfl
        exact ⟨1, by rw [vexec, h]; simp only [hs, hh]⟩
    | some p =>
      constructor
      · rintro ⟨k, e⟩
        cases k with
        | zero => simp [vexec] at e
        | succ k => rw [vexec, h] at e; simp only [hs, hh] at e; exact ⟨k, e⟩
      · rintro ⟨k, e⟩
        exact ⟨k + 1, by rw [vexec, h]; simp only [hs, hh]; exact e⟩
/-- behind a call -/
def vRC (d y pc n : Nat) (ls st : List vV) (r q : vE) : Prop := match q with
  | (.inl none, M) => vR d y (pc + n, ls, st, M) r
  | (.inl (some v), M) => vR d y (pc + n, ls, v :: st, M) r
  | (.inr a, M) => vRX d y pc ls a M r
theorem vR_call {z : Nat} {la s1 : List vV} {M1 : vM} (h : vcode y pc = some (i, n)) (hs : vstep (vret y) i n pc ls st M = some (.inr (.inr (z, la, s1, M1)))) : vR (d + 1) y (pc, ls, st, M) r ↔ ∃ q, vR d z (0, la, [], M1) q ∧ vRC (d + 1) y pc n ls s1 r q := by
  constructor
  · rintro ⟨k, e⟩
    cases k with
    | zero => simp [vexec] at e
    | succ k =>
      rw [vexec, h] at e
      simp only [hs] at e
      cases hx : vexec k d z (0, la, [], M1) with
      | none => rw [hx] at e; cases e
      | some q =>
        rw [hx] at e
        refine ⟨q, ⟨k, hx⟩, ?_⟩
        obtain ⟨v | a, M2⟩ := q
        · cases v with
          | none => exact ⟨k, e⟩
          | some v => exact ⟨k, e⟩
        · show vRX _ _ _ _ _ _ _
          unfold vRX
          simp only at e
          cases hh : vhan y pc (gK M2 a) with
          | none => rw [hh] at e; cases e
          | some o =>
            rw [hh] at e
            cases o with
            | none => exact (Option.some.inj e).symm
            | some p => exact ⟨k, e⟩
  · rintro ⟨q, ⟨k, hx⟩, e⟩
    obtain ⟨v | a, M2⟩ := q
    · have e2 : vR (d + 1) y (pc + n, ls, v.toList ++ s1, M2) r := by
        cases v with
        | none => exact e
        | some v => exact e
      obtain ⟨j, e2⟩ := e2
      refine ⟨max k j + 1, ?_⟩
      rw [vexec, h]
      simp only [hs]
      rw [vexec_le (Nat.le_max_left k j) hx]
      exact vexec_le (Nat.le_max_right k j) e2
    · have e2 : vRX (d + 1) y pc ls a M2 r := e
      unfold vRX at e2
      cases hh : vhan y pc (gK M2 a) with
      | none => rw [hh] at e2; exact e2.elim
      | some o =>
        rw [hh] at e2
        cases o with
        | none =>
          refine ⟨k + 1, ?_⟩
          rw [vexec, h]
          simp only [hs]
          rw [hx]
          simp only [hh]
          exact congrArg some e2.symm
        | some p =>
          obtain ⟨j, e2⟩ := e2
          refine ⟨max k j + 1, ?_⟩
          rw [vexec, h]
          simp only [hs]
          rw [vexec_le (Nat.le_max_left k j) hx]
          simp only [hh]
          exact vexec_le (Nat.le_max_right k j) e2
theorem vif {c : Prop} [Decidable c] {F1 : vF} (h : vcode y pc = some (i, n)) (hs : vstep (vret y) i n pc ls st M = if c then some (.inl F1) else none) : vR d y (pc, ls, st, M) r ↔ (c ∧ vR d y F1 r) := by
  by_cases q : c
  · rw [if_pos q] at hs
    rw [vR_step h hs]
    exact ⟨fun z => ⟨q, z⟩, fun z => z.2⟩
  · rw [if_neg q] at hs
    rw [vR_none h hs]
    exact ⟨fun z => z.elim, fun z => q z.1⟩
theorem vbr {c : Prop} [Decidable c] {p1 p2 : Nat} {l1 s1 : List vV} {M1 : vM} (h : vcode y pc = some (i, n)) (hs : vstep (vret y) i n pc ls st M = some (.inl (if c then p1 else p2, l1, s1, M1))) : vR d y (pc, ls, st, M) r ↔ if c then vR d y (p1, l1, s1, M1) r else vR d y (p2, l1, s1, M1) r := by
  rw [vR_step h hs]
  by_cases q : c
  · rw [if_pos q, if_pos q]
  · rw [if_neg q, if_neg q]

theorem r_iadd {a b : Int} (h : vcode y pc = some (.iadd, n)) : vR d y (pc, ls, vi b :: vi a :: st, M) r ↔ vR d y (pc + n, ls, vi (a + b) :: st, M) r := vR_step h rfl
theorem r_isub {a b : Int} (h : vcode y pc = some (.isub, n)) : vR d y (pc, ls, vi b :: vi a :: st, M) r ↔ vR d y (pc + n, ls, vi (a - b) :: st, M) r := vR_step h rfl
theorem r_imul {a b : Int} (h : vcode y pc = some (.imul, n)) : vR d y (pc, ls, vi b :: vi a :: st, M) r ↔ vR d y (pc + n, ls, vi (a * b) :: st, M) r := vR_step h rfl
theorem r_iand {a b : Int} (h : vcode y pc = some (.iand, n)) : vR d y (pc, ls, vi b :: vi a :: st, M) r ↔ vR d y (pc + n, ls, vi (b32 (· &&& ·) a b) :: st, M) r := vR_step h rfl
theorem r_ior {a b : Int} (h : vcode y pc = some (.ior, n)) : vR d y (pc, ls, vi b :: vi a :: st, M) r ↔ vR d y (pc + n, ls, vi (b32 (· ||| ·) a b) :: st, M) r := vR_step h rfl
theorem r_ixor {a b : Int} (h : vcode y pc = some (.ixor, n)) : vR d y (pc, ls, vi b :: vi a :: st, M) r ↔ vR d y (pc + n, ls, vi (b32 (· ^^^ ·) a b) :: st, M) r := vR_step h rfl
theorem r_ishl {a b : Int} (h : vcode y pc = some (.ishl, n)) : vR d y (pc, ls, vi b :: vi a :: st, M) r ↔ vR d y (pc + n, ls, vi (b32 (fun x y => x <<< (y &&& 31)) a b) :: st, M) r := vR_step h rfl
theorem r_ishr {a b : Int} (h : vcode y pc = some (.ishr, n)) : vR d y (pc, ls, vi b :: vi a :: st, M) r ↔ vR d y (pc + n, ls, vi (b32 (fun x y => x >>> (y &&& 31)) a b) :: st, M) r := vR_step h rfl
theorem r_iushr {a b : Int} (h : vcode y pc = some (.iushr, n)) : vR d y (pc, ls, vi b :: vi a :: st, M) r ↔ vR d y (pc + n, ls, vi (b32 (fun x y => (x.toUInt32 >>> (y.toUInt32 &&& Int32.toUInt32 31)).toInt32) a b) :: st, M) r := vR_step h rfl
theorem r_ladd {a b : Int} (h : vcode y pc = some (.ladd, n)) : vR d y (pc, ls, vl b :: vl a :: st, M) r ↔ vR d y (pc + n, ls, vl (a + b) :: st, M) r := vR_step h rfl
theorem r_lsub {a b : Int} (h : vcode y pc = some (.lsub, n)) : vR d y (pc, ls, vl b :: vl a :: st, M) r ↔ vR d y (pc + n, ls, vl (a - b) :: st, M) r := vR_step h rfl
theorem r_lmul {a b : Int} (h : vcode y pc = some (.lmul, n)) : vR d y (pc, ls, vl b :: vl a :: st, M) r ↔ vR d y (pc + n, ls, vl (a * b) :: st, M) r := vR_step h rfl
theorem r_land {a b : Int} (h : vcode y pc = some (.land, n)) : vR d y (pc, ls, vl b :: vl a :: st, M) r ↔ vR d y (pc + n, ls, vl (b64 (· &&& ·) a b) :: st, M) r := vR_step h rfl
theorem r_lxor {a b : Int} (h : vcode y pc = some (.lxor, n)) : vR d y (pc, ls, vl b :: vl a :: st, M) r ↔ vR d y (pc + n, ls, vl (b64 (· ^^^ ·) a b) :: st, M) r := vR_step h rfl
theorem r_lshl {a b : Int} (h : vcode y pc = some (.lshl, n)) : vR d y (pc, ls, vi b :: vl a :: st, M) r ↔ vR d y (pc + n, ls, vl ((Int64.ofInt a <<< ((Int32.ofInt b).toInt64 &&& 63)).toInt) :: st, M) r := vR_step h rfl
theorem r_lshr {a b : Int} (h : vcode y pc = some (.lshr, n)) : vR d y (pc, ls, vi b :: vl a :: st, M) r ↔ vR d y (pc + n, ls, vl ((Int64.ofInt a >>> ((Int32.ofInt b).toInt64 &&& 63)).toInt) :: st, M) r := vR_step h rfl
theorem r_lushr {a b : Int} (h : vcode y pc = some (.lushr, n)) : vR d y (pc, ls, vi b :: vl a :: st, M) r ↔ vR d y (pc + n, ls, vl (((Int64.ofInt a).toUInt64 >>> ((Int32.ofInt b).toInt64.toUInt64 &&& Int64.toUInt64 63)).toInt64.toInt) :: st, M) r := vR_step h rfl
theorem r_ineg {a : Int} (h : vcode y pc = some (.ineg, n)) : vR d y (pc, ls, vi a :: st, M) r ↔ vR d y (pc + n, ls, vi (-a) :: st, M) r := vR_step h rfl
theorem r_lneg {a : Int} (h : vcode y pc = some (.lneg, n)) : vR d y (pc, ls, vl a :: st, M) r ↔ vR d y (pc + n, ls, vl (-a) :: st, M) r := vR_step h rfl
theorem r_i2l {a : Int} (h : vcode y pc = some (.i2l, n)) : vR d y (pc, ls, vi a :: st, M) r ↔ vR d y (pc + n, ls, vl (w32 a) :: st, M) r := vR_step h rfl
theorem r_l2i {a : Int} (h : vcode y pc = some (.l2i, n)) : vR d y (pc, ls, vl a :: st, M) r ↔ vR d y (pc + n, ls, vi a :: st, M) r := vR_step h rfl
theorem r_i2b {a : Int} (h : vcode y pc = some (.i2b, n)) : vR d y (pc, ls, vi a :: st, M) r ↔ vR d y (pc + n, ls, vi (w8 a) :: st, M) r := vR_step h rfl
theorem r_i2c {a : Int} (h : vcode y pc = some (.i2c, n)) : vR d y (pc, ls, vi a :: st, M) r ↔ vR d y (pc + n, ls, vi (a % 65536) :: st, M) r := vR_step h rfl
theorem r_iconst {x : Int} (h : vcode y pc = some (.iconst x, n)) : vR d y (pc, ls, st, M) r ↔ vR d y (pc + n, ls, vi x :: st, M) r := vR_step h rfl
theorem r_lconst {x : Fin 2} (h : vcode y pc = some (.lconst x, n)) : vR d y (pc, ls, st, M) r ↔ vR d y (pc + n, ls, vl x.val :: st, M) r := vR_step h rfl
theorem r_bipush {x v : Int} (h : vcode y pc = some (.bipush x, n)) (hv : w8 x = v) : vR d y (pc, ls, st, M) r ↔ vR d y (pc + n, ls, vi v :: st, M) r := by subst hv; exact vR_step h rfl
theorem r_sipush {x v : Int} (h : vcode y pc = some (.sipush x, n)) (hv : x.bmod 65536 = v) : vR d y (pc, ls, st, M) r ↔ vR d y (pc + n, ls, vi v :: st, M) r := by subst hv; exact vR_step h rfl
theorem r_aconst_null (h : vcode y pc = some (.aconst_null, n)) : vR d y (pc, ls, st, M) r ↔ vR d y (pc + n, ls, vr 0 :: st, M) r := vR_step h rfl
theorem r_ldc {x : Nat} {v : vV} (h : vcode y pc = some (.ldc x, n)) (hv : vcons (x / 65536) = some v) : vR d y (pc, ls, st, M) r ↔ vR d y (pc + n, ls, v :: st, M) r := vR_step h (by show vldc x (pc + n) ls st M = _; unfold vldc; rw [hv]; rfl)
theorem r_ldc_w {x : Nat} {v : vV} (h : vcode y pc = some (.ldc_w x, n)) (hv : vcons (x / 65536) = some v) : vR d y (pc, ls, st, M) r ↔ vR d y (pc + n, ls, v :: st, M) r := vR_step h (by show vldc x (pc + n) ls st M = _; unfold vldc; rw [hv]; rfl)
theorem r_ldc2_w {x : Nat} {v : vV} (h : vcode y pc = some (.ldc2_w x, n)) (hv : vcons (x / 65536) = some v) : vR d y (pc, ls, st, M) r ↔ vR d y (pc + n, ls, v :: st, M) r := vR_step h (by show vldc x (pc + n) ls st M = _; unfold vldc; rw [hv]; rfl)
theorem r_getstatic {x : Nat} {v : vV} (h : vcode y pc = some (.getstatic x, n)) (hv : vstat (x / 65536) = some v) : vR d y (pc, ls, st, M) r ↔ vR d y (pc + n, ls, v :: st, M) r := vR_step h (by show (match vstat (x / 65536) with | some v => vgo (pc + n) ls (v :: st) M | none => none) = _; rw [hv]; rfl)
theorem r_goto {x : Int} {t : Nat} (h : vcode y pc = some (.goto x, n)) (ht : vtg pc x = t) : vR d y (pc, ls, st, M) r ↔ vR d y (t, ls, st, M) r := by subst ht; exact vR_step h rfl
theorem r_pop {v : vV} (h : vcode y pc = some (.pop, n)) : vR d y (pc, ls, v :: st, M) r ↔ (vnl v = true ∧ vR d y (pc + n, ls, st, M) r) := vif h rfl
theorem r_dup {v : vV} (h : vcode y pc = some (.dup, n)) : vR d y (pc, ls, v :: st, M) r ↔ (vnl v = true ∧ vR d y (pc + n, ls, v :: v :: st, M) r) := vif h rfl
theorem r_dup_x1 {v w : vV} (h : vcode y pc = some (.dup_x1, n)) : vR d y (pc, ls, v :: w :: st, M) r ↔ ((vnl v = true ∧ vnl w = true) ∧ vR d y (pc + n, ls, v :: w :: v :: st, M) r) := vif h rfl
theorem r_dup2 {v w : vV} (h : vcode y pc = some (.dup2, n)) : vR d y (pc, ls, v :: w :: st, M) r ↔ ((vnl v = true ∧ vnl w = true) ∧ vR d y (pc + n, ls, v :: w :: v :: w :: st, M) r) := vif h rfl
theorem r_iaload {j : Int} {a : Nat} (h : vcode y pc = some (.iaload, n)) : vR d y (pc, ls, vi j :: vr a :: st, M) r ↔ ((gK M a = 100 ∧ 0 ≤ w32 j ∧ w32 j < (gN M a : Int)) ∧ vR d y (pc + n, ls, vi (gI M a (vat j)) :: st, M) r) := by
  have e := vif (d := d) (r := r) (ls := ls) (st := vi j :: vr a :: st) (M := M) h rfl
  simpa [vixb] using e
theorem r_laload {j : Int} {a : Nat} (h : vcode y pc = some (.laload, n)) : vR d y (pc, ls, vi j :: vr a :: st, M) r ↔ ((gK M a = 101 ∧ 0 ≤ w32 j ∧ w32 j < (gN M a : Int)) ∧ vR d y (pc + n, ls, vl (gI M a (vat j)) :: st, M) r) := by
  have e := vif (d := d) (r := r) (ls := ls) (st := vi j :: vr a :: st) (M := M) h rfl
  simpa [vixb] using e
theorem r_baload {j : Int} {a : Nat} (h : vcode y pc = some (.baload, n)) : vR d y (pc, ls, vi j :: vr a :: st, M) r ↔ (((gK M a = 102 ∨ gK M a = 103) ∧ 0 ≤ w32 j ∧ w32 j < (gN M a : Int)) ∧ vR d y (pc + n, ls, vi (gI M a (vat j)) :: st, M) r) := by
  have e := vif (d := d) (r := r) (ls := ls) (st := vi j :: vr a :: st) (M := M) h rfl
  simpa [vixb] using e
theorem r_aaload {j : Int} {a : Nat} (h : vcode y pc = some (.aaload, n)) : vR d y (pc, ls, vi j :: vr a :: st, M) r ↔ ((110 ≤ gK M a ∧ 0 ≤ w32 j ∧ w32 j < (gN M a : Int)) ∧ vR d y (pc + n, ls, vr (gP M a (vat j)) :: st, M) r) := by
  have e := vif (d := d) (r := r) (ls := ls) (st := vi j :: vr a :: st) (M := M) h rfl
  simpa [vixb] using e
theorem r_iastore {x j : Int} {a : Nat} (h : vcode y pc = some (.iastore, n)) : vR d y (pc, ls, vi x :: vi j :: vr a :: st, M) r ↔ ((gK M a = 100 ∧ 18 ≤ a ∧ 0 ≤ w32 j ∧ w32 j < (gN M a : Int)) ∧ vR d y (pc + n, ls, st, sI M a (vat j) x) r) := by
  have e := vif (d := d) (r := r) (ls := ls) (st := vi x :: vi j :: vr a :: st) (M := M) h rfl
  simpa [vixb] using e
theorem r_lastore {x j : Int} {a : Nat} (h : vcode y pc = some (.lastore, n)) : vR d y (pc, ls, vl x :: vi j :: vr a :: st, M) r ↔ ((gK M a = 101 ∧ 18 ≤ a ∧ 0 ≤ w32 j ∧ w32 j < (gN M a : Int)) ∧ vR d y (pc + n, ls, st, sI M a (vat j) x) r) := by
  have e := vif (d := d) (r := r) (ls := ls) (st := vl x :: vi j :: vr a :: st) (M := M) h rfl
  simpa [vixb] using e
theorem r_aastore {j : Int} {a b : Nat} (h : vcode y pc = some (.aastore, n)) : vR d y (pc, ls, vr b :: vi j :: vr a :: st, M) r ↔ (((110 ≤ gK M a ∧ gK M a < 115) ∧ 18 ≤ a ∧ (0 ≤ w32 j ∧ w32 j < (gN M a : Int)) ∧ (b = 0 ∨ vasg (gK M b) (gK M a) = true)) ∧ vR d y (pc + n, ls, st, sP M a (vat j) b) r) := by
  have e := vif (d := d) (r := r) (ls := ls) (st := vr b :: vi j :: vr a :: st) (M := M) h rfl
  simpa [vixb] using e
theorem r_bastoreB {x j : Int} {a : Nat} (h : vcode y pc = some (.bastore, n)) (hk : gK M a = 102) : vR d y (pc, ls, vi x :: vi j :: vr a :: st, M) r ↔ ((18 ≤ a ∧ 0 ≤ w32 j ∧ w32 j < (gN M a : Int)) ∧ vR d y (pc + n, ls, st, sI M a (vat j) (w8 x)) r) := by
  have e := vif (c := 18 ≤ a ∧ vixb M a j = true) (d := d) (r := r) (ls := ls) (st := vi x :: vi j :: vr a :: st) (M := M) h (by show (if 18 ≤ a ∧ vixb M a j = true then (if gK M a = 102 then vgo (pc + n) ls st (sI M a (vat j) (w8 x)) else if gK M a = 103 ∧ v01 x = true then vgo (pc + n) ls st (sI M a (vat j) x) else none) else none) = _; rw [if_pos hk]; rfl)
  simpa [vixb] using e
theorem r_bastoreZ {x j : Int} {a : Nat} (h : vcode y pc = some (.bastore, n)) (hk : gK M a = 103) : vR d y (pc, ls, vi x :: vi j :: vr a :: st, M) r ↔ (((18 ≤ a ∧ 0 ≤ w32 j ∧ w32 j < (gN M a : Int)) ∧ (w32 x = 0 ∨ w32 x = 1)) ∧ vR d y (pc + n, ls, st, sI M a (vat j) x) r) := by
  have e := vif (c := (18 ≤ a ∧ vixb M a j = true) ∧ v01 x = true) (F1 := (pc + n, ls, st, sI M a (vat j) x)) (d := d) (r := r) (ls := ls) (st := vi x :: vi j :: vr a :: st) (M := M) h (by show (if 18 ≤ a ∧ vixb M a j = true then (if gK M a = 102 then vgo (pc + n) ls st (sI M a (vat j) (w8 x)) else if gK M a = 103 ∧ v01 x = true then vgo (pc + n) ls st (sI M a (vat j) x) else none) else none) = _; rw [if_neg (by omega : ¬ gK M a = 102)]; by_cases q : v01 x = true <;> by_cases q2 : 18 ≤ a ∧ vixb M a j = true <;> simp [q, q2, hk, vgo])
  simpa [vixb, v01] using e
theorem r_bastore {x j : Int} {a : Nat} (h : vcode y pc = some (.bastore, n)) : vR d y (pc, ls, vi x :: vi j :: vr a :: st, M) r ↔ ((18 ≤ a ∧ (0 ≤ w32 j ∧ w32 j < (gN M a : Int)) ∧ (gK M a = 102 ∨ gK M a = 103 ∧ (w32 x = 0 ∨ w32 x = 1))) ∧ vR d y (pc + n, ls, st, sI M a (vat j) (if gK M a = 102 then w8 x else x)) r) := by
  by_cases k2 : gK M a = 102
  · rw [r_bastoreB h k2, if_pos k2]
    exact ⟨fun q => ⟨⟨q.1.1, q.1.2, Or.inl k2⟩, q.2⟩, fun q => ⟨⟨q.1.1, q.1.2.1⟩, q.2⟩⟩
  · by_cases k3 : gK M a = 103
    · rw [r_bastoreZ h k3, if_neg k2]
      exact ⟨fun q => ⟨⟨q.1.1.1, q.1.1.2, Or.inr ⟨k3, q.1.2⟩⟩, q.2⟩, fun q => ⟨⟨⟨q.1.1, q.1.2.1⟩, (q.1.2.2.resolve_left k2).2⟩, q.2⟩⟩
    · rw [vR_none h (by show (if 18 ≤ a ∧ vixb M a j = true then (if gK M a = 102 then vgo (pc + n) ls st (sI M a (vat j) (w8 x)) else if gK M a = 103 ∧ v01 x = true then vgo (pc + n) ls st (sI M a (vat j) x) else none) else none) = _; simp [k2, k3])]
      exact ⟨fun q => q.elim, fun q => by rcases q.1.2.2 with z | z; exact k2 z; exact k3 z.1⟩
theorem r_arraylength {a : Nat} (h : vcode y pc = some (.arraylength, n)) : vR d y (pc, ls, vr a :: st, M) r ↔ (100 ≤ gK M a ∧ vR d y (pc + n, ls, vi (gN M a) :: st, M) r) := vif h rfl
theorem r_idiv {a b : Int} (h : vcode y pc = some (.idiv, n)) : vR d y (pc, ls, vi b :: vi a :: st, M) r ↔ (w32 b ≠ 0 ∧ vR d y (pc + n, ls, vi ((w32 a).tdiv (w32 b)) :: st, M) r) := vif h rfl
theorem r_irem {a b : Int} (h : vcode y pc = some (.irem, n)) : vR d y (pc, ls, vi b :: vi a :: st, M) r ↔ (w32 b ≠ 0 ∧ vR d y (pc + n, ls, vi ((w32 a).tmod (w32 b)) :: st, M) r) := vif h rfl
theorem r_ldiv {a b : Int} (h : vcode y pc = some (.ldiv, n)) : vR d y (pc, ls, vl b :: vl a :: st, M) r ↔ (w64 b ≠ 0 ∧ vR d y (pc + n, ls, vl ((w64 a).tdiv (w64 b)) :: st, M) r) := vif h rfl
theorem r_lrem {a b : Int} (h : vcode y pc = some (.lrem, n)) : vR d y (pc, ls, vl b :: vl a :: st, M) r ↔ (w64 b ≠ 0 ∧ vR d y (pc + n, ls, vl ((w64 a).tmod (w64 b)) :: st, M) r) := vif h rfl
theorem r_lcmp {a b : Int} (h : vcode y pc = some (.lcmp, n)) : vR d y (pc, ls, vl b :: vl a :: st, M) r ↔ vR d y (pc + n, ls, vi (if w64 a < w64 b then -1 else if w64 a = w64 b then 0 else 1) :: st, M) r := vR_step h rfl
theorem r_icmp_eq {a b x : Int} {t : Nat} (h : vcode y pc = some (.if_icmp .eq x, n)) (ht : vtg pc x = t) : vR d y (pc, ls, vi b :: vi a :: st, M) r ↔ if w32 a = w32 b then vR d y (t, ls, st, M) r else vR d y (pc + n, ls, st, M) r := by
  subst ht
  have e := vbr (d := d) (r := r) (ls := ls) (st := vi b :: vi a :: st) (M := M) h rfl
  simpa [vcmp] using e
theorem r_if_eq {a x : Int} {t : Nat} (h : vcode y pc = some (.ifCond .eq x, n)) (ht : vtg pc x = t) : vR d y (pc, ls, vi a :: st, M) r ↔ if w32 a = 0 then vR d y (t, ls, st, M) r else vR d y (pc + n, ls, st, M) r := by
  subst ht
  have e := vbr (d := d) (r := r) (ls := ls) (st := vi a :: st) (M := M) h rfl
  simpa [vcmp] using e
theorem r_icmp_ne {a b x : Int} {t : Nat} (h : vcode y pc = some (.if_icmp .ne x, n)) (ht : vtg pc x = t) : vR d y (pc, ls, vi b :: vi a :: st, M) r ↔ if w32 a ≠ w32 b then vR d y (t, ls, st, M) r else vR d y (pc + n, ls, st, M) r := by
  subst ht
  have e := vbr (d := d) (r := r) (ls := ls) (st := vi b :: vi a :: st) (M := M) h rfl
  simpa [vcmp] using e
theorem r_if_ne {a x : Int} {t : Nat} (h : vcode y pc = some (.ifCond .ne x, n)) (ht : vtg pc x = t) : vR d y (pc, ls, vi a :: st, M) r ↔ if w32 a ≠ 0 then vR d y (t, ls, st, M) r else vR d y (pc + n, ls, st, M) r := by
  subst ht
  have e := vbr (d := d) (r := r) (ls := ls) (st := vi a :: st) (M := M) h rfl
  simpa [vcmp] using e
theorem r_icmp_lt {a b x : Int} {t : Nat} (h : vcode y pc = some (.if_icmp .lt x, n)) (ht : vtg pc x = t) : vR d y (pc, ls, vi b :: vi a :: st, M) r ↔ if w32 a < w32 b then vR d y (t, ls, st, M) r else vR d y (pc + n, ls, st, M) r := by
  subst ht
  have e := vbr (d := d) (r := r) (ls := ls) (st := vi b :: vi a :: st) (M := M) h rfl
  simpa [vcmp] using e
theorem r_if_lt {a x : Int} {t : Nat} (h : vcode y pc = some (.ifCond .lt x, n)) (ht : vtg pc x = t) : vR d y (pc, ls, vi a :: st, M) r ↔ if w32 a < 0 then vR d y (t, ls, st, M) r else vR d y (pc + n, ls, st, M) r := by
  subst ht
  have e := vbr (d := d) (r := r) (ls := ls) (st := vi a :: st) (M := M) h rfl
  simpa [vcmp] using e
theorem r_icmp_ge {a b x : Int} {t : Nat} (h : vcode y pc = some (.if_icmp .ge x, n)) (ht : vtg pc x = t) : vR d y (pc, ls, vi b :: vi a :: st, M) r ↔ if w32 b ≤ w32 a then vR d y (t, ls, st, M) r else vR d y (pc + n, ls, st, M) r := by
  subst ht
  have e := vbr (d := d) (r := r) (ls := ls) (st := vi b :: vi a :: st) (M := M) h rfl
  simpa [vcmp] using e
theorem r_if_ge {a x : Int} {t : Nat} (h : vcode y pc = some (.ifCond .ge x, n)) (ht : vtg pc x = t) : vR d y (pc, ls, vi a :: st, M) r ↔ if 0 ≤ w32 a then vR d y (t, ls, st, M) r else vR d y (pc + n, ls, st, M) r := by
  subst ht
  have e := vbr (d := d) (r := r) (ls := ls) (st := vi a :: st) (M := M) h rfl
  simpa [vcmp] using e
theorem r_icmp_gt {a b x : Int} {t : Nat} (h : vcode y pc = some (.if_icmp .gt x, n)) (ht : vtg pc x = t) : vR d y (pc, ls, vi b :: vi a :: st, M) r ↔ if w32 b < w32 a then vR d y (t, ls, st, M) r else vR d y (pc + n, ls, st, M) r := by
  subst ht
  have e := vbr (d := d) (r := r) (ls := ls) (st := vi b :: vi a :: st) (M := M) h rfl
  simpa [vcmp] using e
theorem r_if_gt {a x : Int} {t : Nat} (h : vcode y pc = some (.ifCond .gt x, n)) (ht : vtg pc x = t) : vR d y (pc, ls, vi a :: st, M) r ↔ if 0 < w32 a then vR d y (t, ls, st, M) r else vR d y (pc + n, ls, st, M) r := by
  subst ht
  have e := vbr (d := d) (r := r) (ls := ls) (st := vi a :: st) (M := M) h rfl
  simpa [vcmp] using e
theorem r_icmp_le {a b x : Int} {t : Nat} (h : vcode y pc = some (.if_icmp .le x, n)) (ht : vtg pc x = t) : vR d y (pc, ls, vi b :: vi a :: st, M) r ↔ if w32 a ≤ w32 b then vR d y (t, ls, st, M) r else vR d y (pc + n, ls, st, M) r := by
  subst ht
  have e := vbr (d := d) (r := r) (ls := ls) (st := vi b :: vi a :: st) (M := M) h rfl
  simpa [vcmp] using e
theorem r_if_le {a x : Int} {t : Nat} (h : vcode y pc = some (.ifCond .le x, n)) (ht : vtg pc x = t) : vR d y (pc, ls, vi a :: st, M) r ↔ if w32 a ≤ 0 then vR d y (t, ls, st, M) r else vR d y (pc + n, ls, st, M) r := by
  subst ht
  have e := vbr (d := d) (r := r) (ls := ls) (st := vi a :: st) (M := M) h rfl
  simpa [vcmp] using e
theorem r_acmp_eq {x : Int} {a b t : Nat} (h : vcode y pc = some (.if_acmp .eq x, n)) (ht : vtg pc x = t) : vR d y (pc, ls, vr b :: vr a :: st, M) r ↔ (vacmp a b = true ∧ if a = b then vR d y (t, ls, st, M) r else vR d y (pc + n, ls, st, M) r) := by
  subst ht
  rw [vif (c := vacmp a b = true) (F1 := (if a = b then vtg pc x else pc + n, ls, st, M)) h (by show (if vacmp a b = true then vgo (if decide (a = b) = true then vtg pc x else pc + n) ls st M else none) = _; simp [vgo])]
  by_cases q : a = b <;> simp [q]
theorem r_acmp_ne {x : Int} {a b t : Nat} (h : vcode y pc = some (.if_acmp .ne x, n)) (ht : vtg pc x = t) : vR d y (pc, ls, vr b :: vr a :: st, M) r ↔ (vacmp a b = true ∧ if a = b then vR d y (pc + n, ls, st, M) r else vR d y (t, ls, st, M) r) := by
  subst ht
  rw [vif (c := vacmp a b = true) (F1 := (if a = b then pc + n else vtg pc x, ls, st, M)) h (by show (if vacmp a b = true then vgo (if decide (a ≠ b) = true then vtg pc x else pc + n) ls st M else none) = _; by_cases q : a = b <;> simp [vgo, q])]
  by_cases q : a = b <;> simp [q]
theorem r_ifnull {x : Int} {a t : Nat} (h : vcode y pc = some (.ifnull x, n)) (ht : vtg pc x = t) : vR d y (pc, ls, vr a :: st, M) r ↔ if a = 0 then vR d y (t, ls, st, M) r else (gK M a ≠ 0 ∧ vR d y (pc + n, ls, st, M) r) := by
  subst ht
  by_cases q : a = 0
  · rw [if_pos q, vR_step h (by show (if a = 0 then vgo (vtg pc x) ls st M else if gK M a = 0 then none else vgo (pc + n) ls st M) = _; rw [if_pos q]; rfl)]
  · rw [if_neg q]
    exact vif (c := gK M a ≠ 0) h (by show (if a = 0 then vgo (vtg pc x) ls st M else if gK M a = 0 then none else vgo (pc + n) ls st M) = _; rw [if_neg q]; by_cases z : gK M a = 0 <;> simp [z, vgo])
theorem r_ifnonnull {x : Int} {a t : Nat} (h : vcode y pc = some (.ifnonnull x, n)) (ht : vtg pc x = t) : vR d y (pc, ls, vr a :: st, M) r ↔ if a = 0 then vR d y (pc + n, ls, st, M) r else (gK M a ≠ 0 ∧ vR d y (t, ls, st, M) r) := by
  subst ht
  by_cases q : a = 0
  · rw [if_pos q, vR_step h (by show (if a = 0 then vgo (pc + n) ls st M else if gK M a = 0 then none else vgo (vtg pc x) ls st M) = _; rw [if_pos q]; rfl)]
  · rw [if_neg q]
    exact vif (c := gK M a ≠ 0) h (by show (if a = 0 then vgo (pc + n) ls st M else if gK M a = 0 then none else vgo (vtg pc x) ls st M) = _; rw [if_neg q]; by_cases z : gK M a = 0 <;> simp [z, vgo])
theorem r_tsw {x dd lo hi : Int} {os : Array Int} (h : vcode y pc = some (.tableswitch dd lo hi os, n)) : vR d y (pc, ls, vi x :: st, M) r ↔ vR d y (vtg pc (if w32 x < lo ∨ hi < w32 x then dd else os.getD (w32 x - lo).toNat dd), ls, st, M) r := vR_step h rfl
theorem r_lsw {x dd : Int} {ps : Array (Int × Int)} (h : vcode y pc = some (.lookupswitch dd ps, n)) : vR d y (pc, ls, vi x :: st, M) r ↔ vR d y (vtg pc (Op.lookupswitch.offset ps.toList dd (w32 x)), ls, st, M) r := vR_step h rfl
theorem r_getI {f c x a : Nat} (h : vcode y pc = some (.getfield x, n)) (hf : x / 65536 / 4 = f) (hc : f / 256 = c) (ht : x / 65536 % 4 = 0 ∨ x / 65536 % 4 = 3) : vR d y (pc, ls, vr a :: st, M) r ↔ ((a ≠ 0 ∧ vsub (gK M a) c = true) ∧ vR d y (pc + n, ls, vi (gI M a f) :: st, M) r) := by
  subst hf; subst hc
  have e : vfv M a (x / 65536 / 4) (x / 65536 % 4) = vi (gI M a (x / 65536 / 4)) := by unfold vfv; rw [if_neg (by omega), if_neg (by omega)]
  rw [← e]
  exact vif h rfl
theorem r_getL {f c x a : Nat} (h : vcode y pc = some (.getfield x, n)) (hf : x / 65536 / 4 = f) (hc : f / 256 = c) (ht : x / 65536 % 4 = 1) : vR d y (pc, ls, vr a :: st, M) r ↔ ((a ≠ 0 ∧ vsub (gK M a) c = true) ∧ vR d y (pc + n, ls, vl (gI M a f) :: st, M) r) := by
  subst hf; subst hc
  have e : vfv M a (x / 65536 / 4) (x / 65536 % 4) = vl (gI M a (x / 65536 / 4)) := by unfold vfv; rw [if_pos ht]
  rw [← e]
  exact vif h rfl
theorem r_getP {f c x a : Nat} (h : vcode y pc = some (.getfield x, n)) (hf : x / 65536 / 4 = f) (hc : f / 256 = c) (ht : x / 65536 % 4 = 2) : vR d y (pc, ls, vr a :: st, M) r ↔ ((a ≠ 0 ∧ vsub (gK M a) c = true) ∧ vR d y (pc + n, ls, vr (gP M a f) :: st, M) r) := by
  subst hf; subst hc
  have e : vfv M a (x / 65536 / 4) (x / 65536 % 4) = vr (gP M a (x / 65536 / 4)) := by unfold vfv; rw [if_neg (by omega), if_pos ht]
  rw [← e]
  exact vif h rfl
theorem r_putI {f c x a : Nat} {v : Int} (h : vcode y pc = some (.putfield x, n)) (hf : x / 65536 / 4 = f) (hc : f / 256 = c) (ht : x / 65536 % 4 = 0) : vR d y (pc, ls, vi v :: vr a :: st, M) r ↔ ((18 ≤ a ∧ vsub (gK M a) c = true) ∧ vR d y (pc + n, ls, st, sI M a f v) r) := by
  subst hf; subst hc
  have e := vif (d := d) (r := r) (ls := ls) (st := vi v :: vr a :: st) (M := M) h rfl
  simpa [ht] using e
theorem r_putZ {f c x a : Nat} {v : Int} (h : vcode y pc = some (.putfield x, n)) (hf : x / 65536 / 4 = f) (hc : f / 256 = c) (ht : x / 65536 % 4 = 3) : vR d y (pc, ls, vi v :: vr a :: st, M) r ↔ ((18 ≤ a ∧ vsub (gK M a) c = true ∧ (w32 v = 0 ∨ w32 v = 1)) ∧ vR d y (pc + n, ls, st, sI M a f v) r) := by
  subst hf; subst hc
  have e := vif (d := d) (r := r) (ls := ls) (st := vi v :: vr a :: st) (M := M) h rfl
  simpa [ht, v01] using e
theorem r_putL {f c x a : Nat} {v : Int} (h : vcode y pc = some (.putfield x, n)) (hf : x / 65536 / 4 = f) (hc : f / 256 = c) (ht : x / 65536 % 4 = 1) : vR d y (pc, ls, vl v :: vr a :: st, M) r ↔ ((18 ≤ a ∧ vsub (gK M a) c = true) ∧ vR d y (pc + n, ls, st, sI M a f v) r) := by
  subst hf; subst hc
  have e := vif (d := d) (r := r) (ls := ls) (st := vl v :: vr a :: st) (M := M) h rfl
  simpa [ht] using e
theorem r_putP {f c x a b : Nat} (h : vcode y pc = some (.putfield x, n)) (hf : x / 65536 / 4 = f) (hc : f / 256 = c) (ht : x / 65536 % 4 = 2) : vR d y (pc, ls, vr b :: vr a :: st, M) r ↔ ((18 ≤ a ∧ vsub (gK M a) c = true) ∧ vR d y (pc + n, ls, st, sP M a f b) r) := by
  subst hf; subst hc
  have e := vif (d := d) (r := r) (ls := ls) (st := vr b :: vr a :: st) (M := M) h rfl
  simpa [ht] using e
theorem r_new {x k s : Nat} (h : vcode y pc = some (.new x, n)) (hk : x / 65536 / 256 = k) (hs : x / 65536 % 256 = s) : vR d y (pc, ls, st, M) r ↔ vR d y (pc + n, ls, vr (gZ M) :: st, nC M k 0 s) r := by subst hk; subst hs; exact vR_step h rfl
theorem r_newarray {x : Int} {t : ArrayType} {k : Nat} (h : vcode y pc = some (.newarray t, n)) (hk : vakind t = k) (h0 : k ≠ 0) : vR d y (pc, ls, vi x :: st, M) r ↔ ((0 ≤ w32 x ∧ w32 x ≤ 1000000) ∧ vR d y (pc + n, ls, vr (gZ M) :: st, nC M k (vat x) (vat x)) r) := by
  subst hk
  have e := vif (d := d) (r := r) (ls := ls) (st := vi x :: st) (M := M) h rfl
  simpa [h0] using e
theorem r_anewarray {x : Int} {m k : Nat} (h : vcode y pc = some (.anewarray m, n)) (hk : m / 65536 = k) : vR d y (pc, ls, vi x :: st, M) r ↔ ((0 ≤ w32 x ∧ w32 x ≤ 1000000) ∧ vR d y (pc + n, ls, vr (gZ M) :: st, nC M k (vat x) (vat x)) r) := by subst hk; exact vif h rfl
theorem r_multi {x z : Int} {m : Nat} (h : vcode y pc = some (.multianewarray m 2, n)) (hk : m / 65536 = 115) : vR d y (pc, ls, vi z :: vi x :: st, M) r ↔ ((0 ≤ w32 x ∧ w32 x ≤ 16 ∧ 0 ≤ w32 z ∧ w32 z ≤ 1000) ∧ vR d y (pc + n, ls, vr (gZ M) :: st, vrow (nC M 115 (vat x) (vat x)) (gZ M) (vat z) 0 (vat x)) r) := by
  have e := vif (d := d) (r := r) (ls := ls) (st := vi z :: vi x :: st) (M := M) h rfl
  simpa [hk] using e
theorem r_checkcast {m k a : Nat} (h : vcode y pc = some (.checkcast m, n)) (hk : m / 65536 = k) : vR d y (pc, ls, vr a :: st, M) r ↔ ((vcst (gK M a) k = true ∧ (k < 100 ∨ 18 ≤ a)) ∧ vR d y (pc + n, ls, vr a :: st, M) r) := by subst hk; exact vif h rfl
theorem r_instanceof {m k a : Nat} (h : vcode y pc = some (.instanceof m, n)) (hk : m / 65536 = k) : vR d y (pc, ls, vr a :: st, M) r ↔ (a ≠ 0 ∧ ∃ b, vins (gK M a) k = some b ∧ vR d y (pc + n, ls, vi (if b = true then 1 else 0) :: st, M) r) := by
  subst hk
  by_cases q : a = 0
  · rw [vR_none h (by show (if a = 0 then none else _) = _; rw [if_pos q])]
    exact ⟨fun z => z.elim, fun z => z.1 q⟩
  · cases hv : vins (gK M a) (m / 65536) with
    | none =>
      rw [vR_none h (by show (if a = 0 then none else (match vins (gK M a) (m / 65536) with | some b => _ | none => none)) = _; rw [if_neg q, hv])]
      exact ⟨fun z => z.elim, fun ⟨_, b, z, _⟩ => by cases z⟩
    | some b =>
      rw [vR_step h (by show (if a = 0 then none else (match vins (gK M a) (m / 65536) with | some b => vgo (pc + n) ls (vi (if b = true then 1 else 0) :: st) M | none => none)) = _; rw [if_neg q, hv]; rfl)]
      exact ⟨fun z => ⟨q, b, rfl, z⟩, fun ⟨_, b', z, w⟩ => by cases z; exact w⟩
theorem r_ireturn {x : Int} (h : vcode y pc = some (.ireturn, n)) : vR d y (pc, ls, [vi x], M) r ↔ (vrk (vret y) x = true ∧ r = (.inl (some (vi x)), M)) := by
  by_cases q : vrk (vret y) x = true
  · rw [vR_ret h (by show (if vrk (vret y) x = true then some (.inr (.inl (.inl (some (vi x)), M))) else none : Option vO) = _; rw [if_pos q])]
    exact ⟨fun z => ⟨q, z⟩, fun z => z.2⟩
  · rw [vR_none h (by show (if vrk (vret y) x = true then some (.inr (.inl (.inl (some (vi x)), M))) else none : Option vO) = _; rw [if_neg q])]
    exact ⟨fun z => z.elim, fun z => q z.1⟩
theorem r_lreturn {x : Int} (h : vcode y pc = some (.lreturn, n)) (q : vret y = 2) : vR d y (pc, ls, [vl x], M) r ↔ r = (.inl (some (vl x)), M) := vR_ret h (by show (if vret y = 2 then some (.inr (.inl (.inl (some (vl x)), M))) else none : Option vO) = _; rw [if_pos q])
theorem r_areturn {a : Nat} (h : vcode y pc = some (.areturn, n)) (q : vret y = 3) : vR d y (pc, ls, [vr a], M) r ↔ r = (.inl (some (vr a)), M) := vR_ret h (by show (if vret y = 3 then some (.inr (.inl (.inl (some (vr a)), M))) else none : Option vO) = _; rw [if_pos q])
theorem r_return (h : vcode y pc = some (.return_, n)) (q : vret y = 0) : vR d y (pc, ls, [], M) r ↔ r = (.inl none, M) := vR_ret h (by show (if vret y = 0 then some (.inr (.inl (.inl none, M))) else none : Option vO) = _; rw [if_pos q])
theorem r_athrow {a : Nat} (h : vcode y pc = some (.athrow, n)) : vR d y (pc, ls, vr a :: st, M) r ↔ ((a ≠ 0 ∧ (gK M a = 4 ∨ gK M a = 33)) ∧ vRX d y pc ls a M r) := by
  by_cases q : a ≠ 0 ∧ (gK M a = 4 ∨ gK M a = 33)
  · rw [vR_thr h (by show (if a ≠ 0 ∧ (gK M a = 4 ∨ gK M a = 33) then some (.inr (.inl (.inr a, M))) else none : Option vO) = _; rw [if_pos q])]
    exact ⟨fun z => ⟨q, z⟩, fun z => z.2⟩
  · rw [vR_none h (by show (if a ≠ 0 ∧ (gK M a = 4 ∨ gK M a = 33) then some (.inr (.inl (.inr a, M))) else none : Option vO) = _; rw [if_neg q])]
    exact ⟨fun z => z.elim, fun z => q z.1⟩
theorem vR_vcall {z k : Nat} (h : vcode y pc = some (i, n)) (hs : vstep (vret y) i n pc ls st M = vcall z k ls st M) {la s1 : List vV} (hk : k ≤ st.length) (h1 : st.drop k = s1) (h2 : vlen (st.take k) ≤ vmax z) (h3 : vent (st.take k).reverse (vmax z) = la) : vR (d + 1) y (pc, ls, st, M) r ↔ (vfit s1 = true ∧ ∃ q, vR d z (0, la, [], M) q ∧ vRC (d + 1) y pc n ls s1 r q) := by
  subst h1; subst h3
  unfold vcall at hs
  by_cases q : vfit (st.drop k) = true
  · rw [if_pos ⟨hk, q, h2⟩] at hs
    rw [vR_call h hs]
    exact ⟨fun z => ⟨q, z⟩, fun z => z.2⟩
  · rw [if_neg (fun z => q z.2.1)] at hs
    rw [vR_none h hs]
    exact ⟨fun z => z.elim, fun z => q z.1⟩
/-- invokestatic -/
theorem r_static {x z k : Nat} {la s1 : List vV} (h : vcode y pc = some (.invokestatic x, n)) (hz : x / 65536 / 16 = z) (h0 : z ≠ 1000) (hn : x / 65536 % 16 = k) (hk : k ≤ st.length) (h1 : st.drop k = s1) (h2 : vlen (st.take k) ≤ vmax z) (h3 : vent (st.take k).reverse (vmax z) = la) : vR (d + 1) y (pc, ls, st, M) r ↔ (vfit s1 = true ∧ ∃ q, vR d z (0, la, [], M) q ∧ vRC (d + 1) y pc n ls s1 r q) := by
  subst hz; subst hn
  exact vR_vcall h (by show (if x / 65536 / 16 = 1000 then _ else vcall (x / 65536 / 16) (x / 65536 % 16) ls st M) = _; rw [if_neg h0]) hk h1 h2 h3
/-- invokespecial: a constructor -/
theorem r_special {x z k a : Nat} {la s1 : List vV} (h : vcode y pc = some (.invokespecial x, n)) (hz : x / 65536 / 16 = z) (hn : x / 65536 % 16 = k) (ha : st[k]? = some (vr a)) (hk : k + 1 ≤ st.length) (h1 : st.drop (k + 1) = s1) (h2 : vlen (st.take (k + 1)) ≤ vmax z) (h3 : vent (st.take (k + 1)).reverse (vmax z) = la) : vR (d + 1) y (pc, ls, st, M) r ↔ (18 ≤ a ∧ vfit s1 = true ∧ ∃ q, vR d z (0, la, [], M) q ∧ vRC (d + 1) y pc n ls s1 r q) := by
  subst hz; subst hn
  by_cases q : ¬ 18 ≤ a
  · rw [vR_none h (by show (if (match st[x / 65536 % 16]? with | some (.inr (.inr (.inl a))) => decide (18 ≤ a) | _ => false) = true then _ else none) = _; rw [ha]; simp only [decide_eq_true_eq, if_neg q])]
    exact ⟨fun z => z.elim, fun z => q z.1⟩
  · rw [vR_vcall h (by show (if (match st[x / 65536 % 16]? with | some (.inr (.inr (.inl a))) => decide (18 ≤ a) | _ => false) = true then vcall (x / 65536 / 16) (x / 65536 % 16 + 1) ls st M else none) = _; rw [ha]; simp only [decide_eq_true_eq, if_pos (Decidable.not_not.mp q)]) hk h1 h2 h3]
    exact ⟨fun z => ⟨Decidable.not_not.mp q, z⟩, fun z => z.2⟩
/-- invokevirtual of a method that one class has -/
theorem r_virt {x z k c a : Nat} {la s1 : List vV} (h : vcode y pc = some (.invokevirtual x, n)) (hc : x / 65536 / 16 / 4096 = c) (hz : x / 65536 / 16 % 4096 = z) (h4 : 4096 ≤ x / 65536 / 16) (hn : x / 65536 % 16 = k) (ha : st[k]? = some (vr a)) (hk : k + 1 ≤ st.length) (h1 : st.drop (k + 1) = s1) (h2 : vlen (st.take (k + 1)) ≤ vmax z) (h3 : vent (st.take (k + 1)).reverse (vmax z) = la) : vR (d + 1) y (pc, ls, st, M) r ↔ ((a ≠ 0 ∧ gK M a = c) ∧ vfit s1 = true ∧ ∃ q, vR d z (0, la, [], M) q ∧ vRC (d + 1) y pc n ls s1 r q) := by
  subst hc; subst hz; subst hn
  have e : vstep (vret y) (.invokevirtual x) n pc ls st M = vvirt x (pc + n) ls st M := rfl
  unfold vvirt at e
  have e2 : vrec (x / 65536 % 16) st M = if a = 0 then none else some (gK M a) := by unfold vrec; rw [ha]
  by_cases q : a = 0
  · rw [vR_none h (by rw [e, e2, if_pos q])]
    exact ⟨fun z => z.elim, fun z => z.1.1 q⟩
  · rw [e2, if_neg q] at e
    simp only at e
    rw [if_neg (by omega), if_pos h4] at e
    by_cases w : gK M a = x / 65536 / 16 / 4096
    · rw [if_pos w] at e
      rw [vR_vcall h e hk h1 h2 h3]
      exact ⟨fun z => ⟨⟨q, w⟩, z⟩, fun z => z.2⟩
    · rw [if_neg w] at e
      rw [vR_none h e]
      exact ⟨fun z => z.elim, fun z => w z.1.2⟩
/-- invokevirtual of a method that several classes have, the object's kind being known -/
theorem r_poly {x z k c a m : Nat} {la s1 : List vV} (h : vcode y pc = some (.invokevirtual x, n)) (hx : x / 65536 / 16 = m) (h4 : m < 1000) (hn : x / 65536 % 16 = k) (ha : st[k]? = some (vr a)) (h0 : a ≠ 0) (hc : gK M a = c) (hz : vsel c m = some z) (hk : k + 1 ≤ st.length) (h1 : st.drop (k + 1) = s1) (h2 : vlen (st.take (k + 1)) ≤ vmax z) (h3 : vent (st.take (k + 1)).reverse (vmax z) = la) : vR (d + 1) y (pc, ls, st, M) r ↔ (vfit s1 = true ∧ ∃ q, vR d z (0, la, [], M) q ∧ vRC (d + 1) y pc n ls s1 r q) := by
  subst hx; subst hn; subst hc
  have e : vstep (vret y) (.invokevirtual x) n pc ls st M = vvirt x (pc + n) ls st M := rfl
  unfold vvirt at e
  have e2 : vrec (x / 65536 % 16) st M = if a = 0 then none else some (gK M a) := by unfold vrec; rw [ha]
  rw [e2, if_neg h0] at e
  simp only at e
  rw [if_neg (by omega), if_neg (by omega), hz] at e
  exact vR_vcall h e hk h1 h2 h3
theorem r_getClass {x a : Nat} (h : vcode y pc = some (.invokevirtual x, n)) (hx : x / 65536 / 16 = 1001) (hn : x / 65536 % 16 = 0) : vR d y (pc, ls, vr a :: st, M) r ↔ ((a ≠ 0 ∧ gK M a = 110 ∧ vfit st = true ∧ 18 ≤ a) ∧ vR d y (pc + n, ls, vr 16 :: st, M) r) := by
  have e : vstep (vret y) (.invokevirtual x) n pc ls (vr a :: st) M = vvirt x (pc + n) ls (vr a :: st) M := rfl
  unfold vvirt at e
  have e2 : vrec (x / 65536 % 16) (vr a :: st) M = if a = 0 then none else some (gK M a) := by unfold vrec; rw [hn]; rfl
  by_cases q : a = 0
  · rw [vR_none h (by rw [e, e2, if_pos q])]
    exact ⟨fun z => z.elim, fun z => z.1.1 q⟩
  · rw [e2, if_neg q] at e
    simp only at e
    rw [if_pos hx] at e
    rw [vif h e]
    exact ⟨fun z => ⟨⟨q, z.1⟩, z.2⟩, fun z => ⟨z.1.2, z.2⟩⟩
theorem r_copyI {x : Nat} {j i k : Int} {a b : Nat} (h : vcode y pc = some (.invokestatic x, n)) (hx : x / 65536 / 16 = 1000) (hk : gK M a = 100 ∨ gK M a = 101 ∨ gK M a = 102) : vR d y (pc, ls, vi k :: vi j :: vr b :: vi i :: vr a :: st, M) r ↔ ((gK M a = gK M b ∧ (18 ≤ a ∧ 18 ≤ b) ∧ a ≠ b ∧ vcok M a i b j k ∧ vfit st = true) ∧ vR d y (pc + n, ls, st, cI M a (vat i) b (vat j) (vat k)) r) := by
  have e := vif (c := gK M a = gK M b ∧ (18 ≤ a ∧ 18 ≤ b) ∧ a ≠ b ∧ vcokb M a i b j k = true ∧ vfit st = true) (F1 := (pc + n, ls, st, cI M a (vat i) b (vat j) (vat k))) (d := d) (r := r) (ls := ls) (st := vi k :: vi j :: vr b :: vi i :: vr a :: st) (M := M) h (by
    show (if x / 65536 / 16 = 1000 then (if gK M a = gK M b ∧ (18 ≤ a ∧ 18 ≤ b) ∧ a ≠ b ∧ vcokb M a i b j k = true ∧ vfit st = true then (if gK M a = 100 ∨ gK M a = 101 ∨ gK M a = 102 then vgo (pc + n) ls st (cI M a (vat i) b (vat j) (vat k)) else if 110 ≤ gK M a ∧ gK M a < 115 then vgo (pc + n) ls st (cP M a (vat i) b (vat j) (vat k)) else none) else none) else _) = _
    rw [if_pos hx, if_pos hk]; rfl)
  simpa [vcokb, vcok] using e
theorem r_copyP {x : Nat} {j i k : Int} {a b : Nat} (h : vcode y pc = some (.invokestatic x, n)) (hx : x / 65536 / 16 = 1000) (hk : 110 ≤ gK M a ∧ gK M a < 115) : vR d y (pc, ls, vi k :: vi j :: vr b :: vi i :: vr a :: st, M) r ↔ ((gK M a = gK M b ∧ (18 ≤ a ∧ 18 ≤ b) ∧ a ≠ b ∧ vcok M a i b j k ∧ vfit st = true) ∧ vR d y (pc + n, ls, st, cP M a (vat i) b (vat j) (vat k)) r) := by
  have e := vif (c := gK M a = gK M b ∧ (18 ≤ a ∧ 18 ≤ b) ∧ a ≠ b ∧ vcokb M a i b j k = true ∧ vfit st = true) (F1 := (pc + n, ls, st, cP M a (vat i) b (vat j) (vat k))) (d := d) (r := r) (ls := ls) (st := vi k :: vi j :: vr b :: vi i :: vr a :: st) (M := M) h (by
    show (if x / 65536 / 16 = 1000 then (if gK M a = gK M b ∧ (18 ≤ a ∧ 18 ≤ b) ∧ a ≠ b ∧ vcokb M a i b j k = true ∧ vfit st = true then (if gK M a = 100 ∨ gK M a = 101 ∨ gK M a = 102 then vgo (pc + n) ls st (cI M a (vat i) b (vat j) (vat k)) else if 110 ≤ gK M a ∧ gK M a < 115 then vgo (pc + n) ls st (cP M a (vat i) b (vat j) (vat k)) else none) else none) else _) = _
    rw [if_pos hx, if_neg (show ¬ (gK M a = 100 ∨ gK M a = 101 ∨ gK M a = 102) by omega), if_pos hk]; rfl)
  simpa [vcokb, vcok] using e
/-- locals -/
theorem r_ldI {k : Nat} {x : Int} {ins : Instr} (h : vcode y pc = some (ins, n)) (hi : ins = .iload k ∨ ∃ f : Fin 4, ins = .iload_n f ∧ f.val = k) (hl : ls[k]? = some (vi x)) : vR d y (pc, ls, st, M) r ↔ vR d y (pc + n, ls, vi x :: st, M) r := by
  refine vR_step h ?_
  rcases hi with rfl | ⟨f, rfl, rfl⟩
  · show vld 0 k (pc + n) ls st M = _; unfold vld vget; rw [hl]; rfl
  · show vld 0 f.val (pc + n) ls st M = _; unfold vld vget; rw [hl]; rfl
theorem r_ldL {k : Nat} {x : Int} {ins : Instr} (h : vcode y pc = some (ins, n)) (hi : ins = .lload k ∨ ∃ f : Fin 4, ins = .lload_n f ∧ f.val = k) (hl : ls[k]? = some (vl x)) : vR d y (pc, ls, st, M) r ↔ vR d y (pc + n, ls, vl x :: st, M) r := by
  refine vR_step h ?_
  rcases hi with rfl | ⟨f, rfl, rfl⟩
  · show vld 1 k (pc + n) ls st M = _; unfold vld vget; rw [hl]; rfl
  · show vld 1 f.val (pc + n) ls st M = _; unfold vld vget; rw [hl]; rfl
theorem r_ldA {k a : Nat} {ins : Instr} (h : vcode y pc = some (ins, n)) (hi : ins = .aload k ∨ ∃ f : Fin 4, ins = .aload_n f ∧ f.val = k) (hl : ls[k]? = some (vr a)) : vR d y (pc, ls, st, M) r ↔ vR d y (pc + n, ls, vr a :: st, M) r := by
  refine vR_step h ?_
  rcases hi with rfl | ⟨f, rfl, rfl⟩
  · show vld 2 k (pc + n) ls st M = _; unfold vld vget; rw [hl]; rfl
  · show vld 2 f.val (pc + n) ls st M = _; unfold vld vget; rw [hl]; rfl
theorem vst_aux {k t : Nat} {v : vV} (hv : vtag v = t) (hk : k < ls.length) {c : Prop} [Decidable c] (hc : vok ls k = true ↔ c) : vst1 t k pc ls (v :: st) M = if c then some (.inl (pc, ls.set k v, st, M)) else none := by
  unfold vst1 vput1
  simp only
  rw [if_pos hv]
  by_cases q : vok ls k = true
  · rw [if_pos ⟨hk, q⟩, if_pos (hc.mp q)]; rfl
  · rw [if_neg (fun z => q z.2), if_neg (fun z => q (hc.mpr z))]
theorem r_stI {k : Nat} {x : Int} {ins : Instr} (h : vcode y pc = some (ins, n)) (hi : ins = .istore k ∨ ∃ f : Fin 4, ins = .istore_n f ∧ f.val = k) (hk : k < ls.length) {l1 : List vV} (hl : ls.set k (vi x) = l1) : vR d y (pc, ls, vi x :: st, M) r ↔ (vok ls k = true ∧ vR d y (pc + n, l1, st, M) r) := by
  subst hl
  refine vif h ?_
  rcases hi with rfl | ⟨f, rfl, rfl⟩
  · exact vst_aux (t := 0) (k := k) (v := vi x) rfl hk Iff.rfl
  · exact vst_aux (t := 0) (k := f.val) (v := vi x) rfl hk Iff.rfl
theorem r_stA {k a : Nat} {ins : Instr} (h : vcode y pc = some (ins, n)) (hi : ins = .astore k ∨ ∃ f : Fin 4, ins = .astore_n f ∧ f.val = k) (hk : k < ls.length) {l1 : List vV} (hl : ls.set k (vr a) = l1) : vR d y (pc, ls, vr a :: st, M) r ↔ (vok ls k = true ∧ vR d y (pc + n, l1, st, M) r) := by
  subst hl
  refine vif h ?_
  rcases hi with rfl | ⟨f, rfl, rfl⟩
  · exact vst_aux (t := 2) (k := k) (v := vr a) rfl hk Iff.rfl
  · exact vst_aux (t := 2) (k := f.val) (v := vr a) rfl hk Iff.rfl
theorem r_stL {k : Nat} {x : Int} {ins : Instr} (h : vcode y pc = some (ins, n)) (hi : ins = .lstore k ∨ ∃ f : Fin 4, ins = .lstore_n f ∧ f.val = k) (hk : k + 1 < ls.length) {l1 : List vV} (hl : (ls.set k (vl x)).set (k + 1) vu = l1) : vR d y (pc, ls, vl x :: st, M) r ↔ (vok ls k = true ∧ vR d y (pc + n, l1, st, M) r) := by
  subst hl
  have aux : ∀ j, j + 1 < ls.length → vst2 j (pc + n) ls (vl x :: st) M = if vok ls j = true then some (.inl (pc + n, (ls.set j (vl x)).set (j + 1) vu, st, M)) else none := by
    intro j hj
    unfold vst2 vput2
    by_cases q : vok ls j = true
    · rw [if_pos q]; simp only [hj, q, and_self, if_true]; rfl
    · rw [if_neg q]; simp [q]
  refine vif h ?_
  rcases hi with rfl | ⟨f, rfl, rfl⟩
  · exact aux k hk
  · exact aux f.val hk
theorem r_iinc {k : Nat} {x c : Int} (h : vcode y pc = some (.iinc k c, n)) (hx : ls[k]? = some (vi x)) {l1 : List vV} (hl : ls.set k (vi (x + c)) = l1) : vR d y (pc, ls, st, M) r ↔ (vok ls k = true ∧ vR d y (pc + n, l1, st, M) r) := by
  subst hl
  refine vif h ?_
  show (match vget 0 ls k with | some (.inl x) => (match vput1 ls k (vi (x + c)) with | some l => vgo (pc + n) l st M | none => none) | _ => none) = _
  have hk : k < ls.length := (List.getElem?_eq_some_iff.mp hx).1
  unfold vget vput1
  rw [hx]
  by_cases q : vok ls k = true
  · simp [vtag, hk, q, vgo]
  · simp [vtag, hk, q]
theorem r_iret {x : Int} (h : vcode y pc = some (.ireturn, n)) (q : vret y = 1) : vR d y (pc, ls, [vi x], M) r ↔ r = (.inl (some (vi x)), M) := by
  rw [r_ireturn h, q]; exact and_iff_right rfl
theorem r_zret {x : Int} (h : vcode y pc = some (.ireturn, n)) (q : vret y = 4) : vR d y (pc, ls, [vi x], M) r ↔ ((w32 x = 0 ∨ w32 x = 1) ∧ r = (.inl (some (vi x)), M)) := by
  rw [r_ireturn h, q]; simp [vrk, v01]
theorem r_cret {x : Int} (h : vcode y pc = some (.ireturn, n)) (q : vret y = 5) : vR d y (pc, ls, [vi x], M) r ↔ ((0 ≤ w32 x ∧ w32 x < 65536) ∧ r = (.inl (some (vi x)), M)) := by
  rw [r_ireturn h, q]; simp [vrk]
theorem r_bret {x : Int} (h : vcode y pc = some (.ireturn, n)) (q : vret y = 6) : vR d y (pc, ls, [vi x], M) r ↔ ((-128 ≤ w32 x ∧ w32 x < 128) ∧ r = (.inl (some (vi x)), M)) := by
  rw [r_ireturn h, q]; simp [vrk]
theorem vRC_n {d y pc n : Nat} {ls st : List vV} {r : vE} {M : vM} : vRC d y pc n ls st r (.inl none, M) ↔ vR d y (pc + n, ls, st, M) r := Iff.rfl
theorem vRC_s {d y pc n : Nat} {ls st : List vV} {r : vE} {M : vM} {v : vV} : vRC d y pc n ls st r (.inl (some v), M) ↔ vR d y (pc + n, ls, v :: st, M) r := Iff.rfl
theorem vRC_x {d y pc n : Nat} {ls st : List vV} {r : vE} {M : vM} {a : Nat} : vRC d y pc n ls st r (.inr a, M) ↔ vRX d y pc ls a M r := Iff.rfl
/-- switches: by cases -/
def vswP (k : Int) (P : Nat → Prop) : List Nat → Nat → Int → Prop
  | [], dt, _ => P dt
  | t :: ts, dt, lo => if k = lo then P t else vswP k P ts dt (lo + 1)
theorem vswP_get {P : Nat → Prop} {k : Int} : ∀ (ts : List Nat) (dt : Nat) (lo : Int), vswP k P ts dt lo ↔ P (if k < lo ∨ lo + ts.length ≤ k then dt else ts.getD (k - lo).toNat dt) := by
  intro ts
  induction ts with
  | nil =>
    intro dt lo
    have e : (if k < lo ∨ lo + (([] : List Nat).length : Int) ≤ k then dt else ([] : List Nat).getD (k - lo).toNat dt) = dt := by
      split <;> simp
    rw [e]; rfl
  | cons t ts ih =>
    intro dt lo
    unfold vswP
    by_cases q : k = lo
    · rw [if_pos q, if_neg (by simp; omega)]
      have : (k - lo).toNat = 0 := by omega
      rw [this]; rfl
    · rw [if_neg q, ih]
      by_cases w : k < lo + 1
      · rw [if_pos (Or.inl w), if_pos (Or.inl (by omega))]
      · by_cases z : lo + 1 + (ts.length : Int) ≤ k
        · rw [if_pos (Or.inr z), if_pos (Or.inr (by simp; omega))]
        · rw [if_neg (by omega), if_neg (by simp; omega)]
          have : (k - lo).toNat = (k - (lo + 1)).toNat + 1 := by omega
          rw [this]; rfl
theorem vget_map (f : Int → Nat) (os : List Int) (j : Nat) (dd : Int) : (os.map f).getD j (f dd) = f (os.getD j dd) := by
  simp [List.getD_eq_getElem?_getD, List.getElem?_map]
theorem r_tswL {d y pc n : Nat} {ls st : List vV} {M : vM} {r : vE} {x dd lo hi : Int} {os : Array Int} {ts : List Nat} {dt : Nat} (h : vcode y pc = some (.tableswitch dd lo hi os, n)) (hts : os.toList.map (vtg pc) = ts) (hd : vtg pc dd = dt) (hh : hi + 1 = lo + (os.toList.length : Int)) : vR d y (pc, ls, vi x :: st, M) r ↔ vswP (w32 x) (fun t => vR d y (t, ls, st, M) r) ts dt lo := by
  subst hts; subst hd
  rw [r_tsw h, vswP_get]
  have e : vtg pc (if w32 x < lo ∨ hi < w32 x then dd else os.getD (w32 x - lo).toNat dd) = (if w32 x < lo ∨ lo + ((os.toList.map (vtg pc)).length : Int) ≤ w32 x then vtg pc dd else (os.toList.map (vtg pc)).getD (w32 x - lo).toNat (vtg pc dd)) := by
    rw [List.length_map]
    by_cases q : w32 x < lo ∨ hi < w32 x
    · rw [if_pos q, if_pos (by omega)]
    · rw [if_neg q, if_neg (by omega), vget_map]
      congr 1
      simp [Array.getD_eq_getD_getElem?, List.getD_eq_getElem?_getD]
  rw [e]
def vlsP (k : Int) (P : Nat → Prop) (pc : Nat) : List (Int × Int) → Nat → Prop
  | [], dt => P dt
  | q :: qs, dt => if k = q.1 then P (vtg pc q.2) else vlsP k P pc qs dt
theorem r_lswL {d y pc n : Nat} {ls st : List vV} {M : vM} {r : vE} {x dd : Int} {ps : Array (Int × Int)} {dt : Nat} (h : vcode y pc = some (.lookupswitch dd ps, n)) (hd : vtg pc dd = dt) : vR d y (pc, ls, vi x :: st, M) r ↔ vlsP (w32 x) (fun t => vR d y (t, ls, st, M) r) pc ps.toList dt := by
  subst hd
  rw [r_lsw h]
  generalize ps.toList = qs
  induction qs with
  | nil => rfl
  | cons q qs ih =>
    unfold vlsP
    by_cases w : w32 x = q.1
    · rw [if_pos w]
      have : Op.lookupswitch.offset (q :: qs) dd (w32 x) = q.2 := by
        obtain ⟨q1, q2⟩ := q
        simp [Op.lookupswitch.offset, w]
      rw [this]
    · rw [if_neg w, ← ih]
      have : Op.lookupswitch.offset (q :: qs) dd (w32 x) = Op.lookupswitch.offset qs dd (w32 x) := by
        obtain ⟨q1, q2⟩ := q
        simp [Op.lookupswitch.offset]
        intro e
        exact absurd e.symm (by simpa using fun z => w z)
      rw [this]
end
