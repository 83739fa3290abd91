/-! ===== THE V MACHINE, steps ===== -/
/-- goes on | ends (with an answer, or by a thrown cell) | calls -/
abbrev vF : Type := Nat × List vV × List vV × vM
abbrev vE : Type := (Option vV ⊕ Nat) × vM
abbrev vO : Type := vF ⊕ vE ⊕ (Nat × List vV × List vV × vM)
def vgo (pc : Nat) (ls st : List vV) (M : vM) : Option vO := some (.inl (pc, ls, st, M))
def vtg (pc : Nat) (o : Int) : Nat := ((pc : Int) + o).toNat
def vcmp (c : Jvm.ClassFile.Cond) (x y : Int) : Bool := match c with
  | .eq => decide (x = y) | .ne => decide (x ≠ y) | .lt => decide (x < y) | .ge => decide (y ≤ x) | .gt => decide (y < x) | .le => decide (x ≤ y)
def vfv (M : vM) (a f t : Nat) : vV := if t = 1 then vl (gI M a f) else if t = 2 then vr (gP M a f) else vi (gI M a f)
def v01 (x : Int) : Bool := decide (w32 x = 0 ∨ w32 x = 1)
def vixb (M : vM) (a : Nat) (j : Int) : Bool := decide (0 ≤ w32 j ∧ w32 j < (gN M a : Int))
def vcokb (M : vM) (a : Nat) (i : Int) (b : Nat) (j n : Int) : Bool := decide (0 ≤ w32 i ∧ 0 ≤ w32 j ∧ 0 ≤ w32 n ∧ w32 i + w32 n ≤ (gN M a : Int) ∧ w32 j + w32 n ≤ (gN M b : Int))
/-- rows of a new table of ints: n of them are there, m more are made, of y places each -/
def vrow (M : vM) (a y : Nat) : Nat → Nat → vM
  | _, 0 => M
  | n, m + 1 => vrow (sP (nC M 100 y y) a n (gZ M)) a y (n + 1) m
def vakind (t : ArrayType) : Nat := match t with | .int => 100 | .long => 101 | .byte => 102 | .boolean => 103 | _ => 0
/-- what a method's answer may be: 1 int, 4 boolean, 5 char, 6 byte -/
def vrk (rt : Nat) (x : Int) : Bool := if rt = 1 then true else if rt = 4 then v01 x else if rt = 5 then decide (0 ≤ w32 x ∧ w32 x < 65536) else if rt = 6 then decide (-128 ≤ w32 x ∧ w32 x < 128) else false
def vbin (f : Int → Int → Int) (pc : Nat) (ls st : List vV) (M : vM) : Option vO := match st with
  | .inl y :: .inl x :: r => vgo pc ls (vi (f x y) :: r) M
  | _ => none
def vbil (f : Int → Int → Int) (pc : Nat) (ls st : List vV) (M : vM) : Option vO := match st with
  | .inr (.inl y) :: .inr (.inl x) :: r => vgo pc ls (vl (f x y) :: r) M
  | _ => none
def vshl (f : Int → Int → Int) (pc : Nat) (ls st : List vV) (M : vM) : Option vO := match st with
  | .inl y :: .inr (.inl x) :: r => vgo pc ls (vl (f x y) :: r) M
  | _ => none
def vld (t k pc : Nat) (ls st : List vV) (M : vM) : Option vO := match vget t ls k with
  | some v => vgo pc ls (v :: st) M
  | none => none
def vst1 (t k pc : Nat) (ls st : List vV) (M : vM) : Option vO := match st with
  | v :: r => if vtag v = t then (match vput1 ls k v with | some l => vgo pc l r M | none => none) else none
  | _ => none
def vst2 (k pc : Nat) (ls st : List vV) (M : vM) : Option vO := match st with
  | .inr (.inl x) :: r => (match vput2 ls k (vl x) with | some l => vgo pc l r M | none => none)
  | _ => none
/-- a call of z with the n values on top of the stack, and one more below them for an object -/
def vcall (z n : Nat) (ls st : List vV) (M : vM) : Option vO := if n ≤ st.length ∧ vfit (st.drop n) = true ∧ vlen (st.take n) ≤ vmax z then some (.inr (.inr (z, vent (st.take n).reverse (vmax z), st.drop n, M))) else none
/-- the kind of the object below n values -/
def vrec (n : Nat) (st : List vV) (M : vM) : Option Nat := match st[n]? with
  | some (.inr (.inr (.inl a))) => if a = 0 then none else some (gK M a)
  | _ => none
def vldc (n pc : Nat) (ls st : List vV) (M : vM) : Option vO := match vcons (n / 65536) with
  | some v => vgo pc ls (v :: st) M
  | none => none
def vacmp (a b : Nat) : Bool := decide (a = b) || (decide (18 ≤ a) && decide (18 ≤ b)) || (decide (a = 12) && decide (18 ≤ b)) || (decide (18 ≤ a) && decide (b = 12))
/-- a call through an object: of a class known by the row, or chosen by the object's kind -/
def vvirt (n pc : Nat) (ls st : List vV) (M : vM) : Option vO := match vrec (n / 65536 % 16) st M with
  | none => none
  | some k => if n / 65536 / 16 = 1001 then (match st with
      | .inr (.inr (.inl a)) :: r => if k = 110 ∧ vfit r = true ∧ 18 ≤ a then vgo pc ls (vr 16 :: r) M else none
      | _ => none)
    else if 4096 ≤ n / 65536 / 16 then (if k = n / 65536 / 16 / 4096 then vcall (n / 65536 / 16 % 4096) (n / 65536 % 16 + 1) ls st M else none)
    else (match vsel k (n / 65536 / 16) with
      | some z => vcall z (n / 65536 % 16 + 1) ls st M
      | none => none)
def vstep (rt : Nat) (i : Instr) (len pc : Nat) (ls st : List vV) (M : vM) : Option vO := match i with
  | .aaload => (match st with
    | .inl j :: .inr (.inr (.inl a)) :: r => if 110 ≤ gK M a ∧ vixb M a j = true then vgo (pc + len) ls (vr (gP M a (vat j)) :: r) M else none
    | _ => none)
  | .aastore => (match st with
    | .inr (.inr (.inl b)) :: .inl j :: .inr (.inr (.inl a)) :: r => if (110 ≤ gK M a ∧ gK M a < 115) ∧ 18 ≤ a ∧ vixb M a j = true ∧ (b = 0 ∨ vasg (gK M b) (gK M a) = true) then vgo (pc + len) ls r (sP M a (vat j) b) else none
    | _ => none)
  | .aconst_null => vgo (pc + len) ls (vr 0 :: st) M
  | .aload k => vld 2 k (pc + len) ls st M
  | .aload_n k => vld 2 k.val (pc + len) ls st M
  | .anewarray n => (match st with
    | .inl x :: r => if 0 ≤ w32 x ∧ w32 x ≤ 1000000 then vgo (pc + len) ls (vr (gZ M) :: r) (nC M (n / 65536) (vat x) (vat x)) else none
    | _ => none)
  | .areturn => (match st with
    | [.inr (.inr (.inl a))] => if rt = 3 then some (.inr (.inl (.inl (some (vr a)), M))) else none
    | _ => none)
  | .arraylength => (match st with
    | .inr (.inr (.inl a)) :: r => if 100 ≤ gK M a then vgo (pc + len) ls (vi (gN M a) :: r) M else none
    | _ => none)
  | .astore k => vst1 2 k (pc + len) ls st M
  | .astore_n k => vst1 2 k.val (pc + len) ls st M
  | .athrow => (match st with
    | .inr (.inr (.inl a)) :: _ => if a ≠ 0 ∧ (gK M a = 4 ∨ gK M a = 33) then some (.inr (.inl (.inr a, M))) else none
    | _ => none)
  | .baload => (match st with
    | .inl j :: .inr (.inr (.inl a)) :: r => if (gK M a = 102 ∨ gK M a = 103) ∧ vixb M a j = true then vgo (pc + len) ls (vi (gI M a (vat j)) :: r) M else none
    | _ => none)
  | .bastore => (match st with
    | .inl x :: .inl j :: .inr (.inr (.inl a)) :: r => if 18 ≤ a ∧ vixb M a j = true then (if gK M a = 102 then vgo (pc + len) ls r (sI M a (vat j) (w8 x)) else if gK M a = 103 ∧ v01 x = true then vgo (pc + len) ls r (sI M a (vat j) x) else none) else none
    | _ => none)
  | .bipush x => vgo (pc + len) ls (vi (w8 x) :: st) M
  | .checkcast n => (match st with
    | .inr (.inr (.inl a)) :: r => if vcst (gK M a) (n / 65536) = true ∧ (n / 65536 < 100 ∨ 18 ≤ a) then vgo (pc + len) ls (vr a :: r) M else none
    | _ => none)
  | .dup => (match st with
    | v :: r => if vnl v = true then vgo (pc + len) ls (v :: v :: r) M else none
    | _ => none)
  | .dup_x1 => (match st with
    | v :: w :: r => if vnl v = true ∧ vnl w = true then vgo (pc + len) ls (v :: w :: v :: r) M else none
    | _ => none)
  | .dup2 => (match st with
    | v :: w :: r => if vnl v = true ∧ vnl w = true then vgo (pc + len) ls (v :: w :: v :: w :: r) M else none
    | _ => none)
  | .getfield n => (match st with
    | .inr (.inr (.inl a)) :: r => if a ≠ 0 ∧ vsub (gK M a) (n / 65536 / 4 / 256) = true then vgo (pc + len) ls (vfv M a (n / 65536 / 4) (n / 65536 % 4) :: r) M else none
    | _ => none)
  | .getstatic n => (match vstat (n / 65536) with
    | some v => vgo (pc + len) ls (v :: st) M
    | none => none)
  | .goto o => vgo (vtg pc o) ls st M
  | .i2b => (match st with
    | .inl x :: r => vgo (pc + len) ls (vi (w8 x) :: r) M
    | _ => none)
  | .i2c => (match st with
    | .inl x :: r => vgo (pc + len) ls (vi (x % 65536) :: r) M
    | _ => none)
  | .i2l => (match st with
    | .inl x :: r => vgo (pc + len) ls (vl (w32 x) :: r) M
    | _ => none)
  | .iadd => vbin (· + ·) (pc + len) ls st M
  | .iaload => (match st with
    | .inl j :: .inr (.inr (.inl a)) :: r => if gK M a = 100 ∧ vixb M a j = true then vgo (pc + len) ls (vi (gI M a (vat j)) :: r) M else none
    | _ => none)
  | .iand => vbin (b32 (· &&& ·)) (pc + len) ls st M
  | .iastore => (match st with
    | .inl x :: .inl j :: .inr (.inr (.inl a)) :: r => if gK M a = 100 ∧ 18 ≤ a ∧ vixb M a j = true then vgo (pc + len) ls r (sI M a (vat j) x) else none
    | _ => none)
  | .iconst x => vgo (pc + len) ls (vi x :: st) M
  | .idiv => (match st with
    | .inl y :: .inl x :: r => if w32 y ≠ 0 then vgo (pc + len) ls (vi ((w32 x).tdiv (w32 y)) :: r) M else none
    | _ => none)
  | .if_acmp c o => (match st with
    | .inr (.inr (.inl b)) :: .inr (.inr (.inl a)) :: r => if vacmp a b = true then vgo (if (match c with | .eq => decide (a = b) | .ne => decide (a ≠ b)) = true then vtg pc o else pc + len) ls r M else none
    | _ => none)
  | .if_icmp c o => (match st with
    | .inl y :: .inl x :: r => vgo (if vcmp c (w32 x) (w32 y) = true then vtg pc o else pc + len) ls r M
    | _ => none)
  | .ifCond c o => (match st with
    | .inl x :: r => vgo (if vcmp c (w32 x) 0 = true then vtg pc o else pc + len) ls r M
    | _ => none)
  | .ifnonnull o => (match st with
    | .inr (.inr (.inl a)) :: r => if a = 0 then vgo (pc + len) ls r M else if gK M a = 0 then none else vgo (vtg pc o) ls r M
    | _ => none)
  | .ifnull o => (match st with
    | .inr (.inr (.inl a)) :: r => if a = 0 then vgo (vtg pc o) ls r M else if gK M a = 0 then none else vgo (pc + len) ls r M
    | _ => none)
  | .iinc k n => (match vget 0 ls k with
    | some (.inl x) => (match vput1 ls k (vi (x + n)) with | some l => vgo (pc + len) l st M | none => none)
    | _ => none)
  | .iload k => vld 0 k (pc + len) ls st M
  | .iload_n k => vld 0 k.val (pc + len) ls st M
  | .imul => vbin (· * ·) (pc + len) ls st M
  | .ineg => (match st with
    | .inl x :: r => vgo (pc + len) ls (vi (-x) :: r) M
    | _ => none)
  | .instanceof n => (match st with
    | .inr (.inr (.inl a)) :: r => if a = 0 then none else (match vins (gK M a) (n / 65536) with | some b => vgo (pc + len) ls (vi (if b = true then 1 else 0) :: r) M | none => none)
    | _ => none)
  | .invokespecial n => if (match st[n / 65536 % 16]? with | some (.inr (.inr (.inl a))) => decide (18 ≤ a) | _ => false) = true then vcall (n / 65536 / 16) (n / 65536 % 16 + 1) ls st M else none
  | .invokestatic n => if n / 65536 / 16 = 1000 then (match st with
      | .inl n :: .inl j :: .inr (.inr (.inl b)) :: .inl i :: .inr (.inr (.inl a)) :: r =>
        if gK M a = gK M b ∧ (18 ≤ a ∧ 18 ≤ b) ∧ a ≠ b ∧ vcokb M a i b j n = true ∧ vfit r = true then (if gK M a = 100 ∨ gK M a = 101 ∨ gK M a = 102 then vgo (pc + len) ls r (cI M a (vat i) b (vat j) (vat n)) else if 110 ≤ gK M a ∧ gK M a < 115 then vgo (pc + len) ls r (cP M a (vat i) b (vat j) (vat n)) else none) else none
      | _ => none)
    else vcall (n / 65536 / 16) (n / 65536 % 16) ls st M
  | .invokevirtual n => vvirt n (pc + len) ls st M
  | .ior => vbin (b32 (· ||| ·)) (pc + len) ls st M
  | .irem => (match st with
    | .inl y :: .inl x :: r => if w32 y ≠ 0 then vgo (pc + len) ls (vi ((w32 x).tmod (w32 y)) :: r) M else none
    | _ => none)
  | .ireturn => (match st with
    | [.inl x] => if vrk rt x = true then some (.inr (.inl (.inl (some (vi x)), M))) else none
    | _ => none)
  | .ishl => vbin (b32 (fun x y => x <<< (y &&& 31))) (pc + len) ls st M
  | .ishr => vbin (b32 (fun x y => x >>> (y &&& 31))) (pc + len) ls st M
  | .istore k => vst1 0 k (pc + len) ls st M
  | .istore_n k => vst1 0 k.val (pc + len) ls st M
  | .isub => vbin (· - ·) (pc + len) ls st M
  | .iushr => vbin (b32 (fun x y => (x.toUInt32 >>> (y.toUInt32 &&& Int32.toUInt32 31)).toInt32)) (pc + len) ls st M
  | .ixor => vbin (b32 (· ^^^ ·)) (pc + len) ls st M
  | .l2i => (match st with
    | .inr (.inl x) :: r => vgo (pc + len) ls (vi x :: r) M
    | _ => none)
  | .ladd => vbil (· + ·) (pc + len) ls st M
  | .laload => (match st with
    | .inl j :: .inr (.inr (.inl a)) :: r => if gK M a = 101 ∧ vixb M a j = true then vgo (pc + len) ls (vl (gI M a (vat j)) :: r) M else none
    | _ => none)
  | .land => vbil (b64 (· &&& ·)) (pc + len) ls st M
  | .lastore => (match st with
    | .inr (.inl x) :: .inl j :: .inr (.inr (.inl a)) :: r => if gK M a = 101 ∧ 18 ≤ a ∧ vixb M a j = true then vgo (pc + len) ls r (sI M a (vat j) x) else none
    | _ => none)
  | .lcmp => (match st with
    | .inr (.inl y) :: .inr (.inl x) :: r => vgo (pc + len) ls (vi (if w64 x < w64 y then -1 else if w64 x = w64 y then 0 else 1) :: r) M
    | _ => none)
  | .lconst x => vgo (pc + len) ls (vl x.val :: st) M
  | .ldc n => vldc n (pc + len) ls st M
  | .ldc_w n => vldc n (pc + len) ls st M
  | .ldc2_w n => vldc n (pc + len) ls st M
  | .ldiv => (match st with
    | .inr (.inl y) :: .inr (.inl x) :: r => if w64 y ≠ 0 then vgo (pc + len) ls (vl ((w64 x).tdiv (w64 y)) :: r) M else none
    | _ => none)
  | .lload k => vld 1 k (pc + len) ls st M
  | .lload_n k => vld 1 k.val (pc + len) ls st M
  | .lmul => vbil (· * ·) (pc + len) ls st M
  | .lneg => (match st with
    | .inr (.inl x) :: r => vgo (pc + len) ls (vl (-x) :: r) M
    | _ => none)
  | .lookupswitch d ps => (match st with
    | .inl x :: r => vgo (vtg pc (Op.lookupswitch.offset ps.toList d (w32 x))) ls r M
    | _ => none)
  | .lrem => (match st with
    | .inr (.inl y) :: .inr (.inl x) :: r => if w64 y ≠ 0 then vgo (pc + len) ls (vl ((w64 x).tmod (w64 y)) :: r) M else none
    | _ => none)
  | .lreturn => (match st with
    | [.inr (.inl x)] => if rt = 2 then some (.inr (.inl (.inl (some (vl x)), M))) else none
    | _ => none)
  | .lshl => vshl (fun x y => (Int64.ofInt x <<< ((Int32.ofInt y).toInt64 &&& 63)).toInt) (pc + len) ls st M
  | .lshr => vshl (fun x y => (Int64.ofInt x >>> ((Int32.ofInt y).toInt64 &&& 63)).toInt) (pc + len) ls st M
  | .lstore k => vst2 k (pc + len) ls st M
  | .lstore_n k => vst2 k.val (pc + len) ls st M
  | .lsub => vbil (· - ·) (pc + len) ls st M
  | .lushr => vshl (fun x y => ((Int64.ofInt x).toUInt64 >>> ((Int32.ofInt y).toInt64.toUInt64 &&& Int64.toUInt64 63)).toInt64.toInt) (pc + len) ls st M
  | .lxor => vbil (b64 (· ^^^ ·)) (pc + len) ls st M
  | .multianewarray n d => (match st with
    | .inl y :: .inl x :: r => if d = 2 ∧ n / 65536 = 115 ∧ 0 ≤ w32 x ∧ w32 x ≤ 16 ∧ 0 ≤ w32 y ∧ w32 y ≤ 1000 then vgo (pc + len) ls (vr (gZ M) :: r) (vrow (nC M 115 (vat x) (vat x)) (gZ M) (vat y) 0 (vat x)) else none
    | _ => none)
  | .new n => vgo (pc + len) ls (vr (gZ M) :: st) (nC M (n / 65536 / 256) 0 (n / 65536 % 256))
  | .newarray t => (match st with
    | .inl x :: r => if vakind t ≠ 0 ∧ 0 ≤ w32 x ∧ w32 x ≤ 1000000 then vgo (pc + len) ls (vr (gZ M) :: r) (nC M (vakind t) (vat x) (vat x)) else none
    | _ => none)
  | .pop => (match st with
    | v :: r => if vnl v = true then vgo (pc + len) ls r M else none
    | _ => none)
  | .putfield n => (match st with
    | .inl x :: .inr (.inr (.inl a)) :: r => if 18 ≤ a ∧ vsub (gK M a) (n / 65536 / 4 / 256) = true ∧ (n / 65536 % 4 = 0 ∨ n / 65536 % 4 = 3 ∧ v01 x = true) then vgo (pc + len) ls r (sI M a (n / 65536 / 4) x) else none
    | .inr (.inl x) :: .inr (.inr (.inl a)) :: r => if 18 ≤ a ∧ vsub (gK M a) (n / 65536 / 4 / 256) = true ∧ n / 65536 % 4 = 1 then vgo (pc + len) ls r (sI M a (n / 65536 / 4) x) else none
    | .inr (.inr (.inl b)) :: .inr (.inr (.inl a)) :: r => if 18 ≤ a ∧ vsub (gK M a) (n / 65536 / 4 / 256) = true ∧ n / 65536 % 4 = 2 then vgo (pc + len) ls r (sP M a (n / 65536 / 4) b) else none
    | _ => none)
  | .return_ => (match st with
    | [] => if rt = 0 then some (.inr (.inl (.inl none, M))) else none
    | _ => none)
  | .sipush x => vgo (pc + len) ls (vi (x.bmod 65536) :: st) M
  | .tableswitch d lo hi os => (match st with
    | .inl x :: r => vgo (vtg pc (if w32 x < lo ∨ hi < w32 x then d else os.getD (w32 x - lo).toNat d)) ls r M
    | _ => none)
  | _ => none
/-- so many steps; so many frames above; the method; its frame -/
def vexec : Nat → Nat → Nat → vF → Option vE
  | 0, _, _, _ => none
  | n + 1, d, y, (pc, ls, st, M) => match vcode y pc with
    | none => none
    | some (i, len) => match vstep (vret y) i len pc ls st M with
      | none => none
      | some (.inl F) => vexec n d y F
      | some (.inr (.inl (.inl v, M1))) => some (.inl v, M1)
      | some (.inr (.inl (.inr a, M1))) => (match vhan y pc (gK M1 a) with
        | none => none
        | some none => some (.inr a, M1)
        | some (some h) => vexec n d y (h, ls, [vr a], M1))
      | some (.inr (.inr (z, la, r, M1))) => match d with
        | 0 => none
        | d' + 1 => match vexec n d' z (0, la, [], M1) with
          | none => none
          | some (.inl v, M2) => vexec n d y (pc + len, ls, v.toList ++ r, M2)
          | some (.inr a, M2) => (match vhan y pc (gK M2 a) with
            | none => none
            | some none => some (.inr a, M2)
            | some (some h) => vexec n d y (h, ls, [vr a], M2))
