/-! ===== worst: a formula with numbers put in ===== -/
set_option maxRecDepth 20000
set_option maxHeartbeats 4000000
/-- a product that stays below a limit; powers; a term; the sum -/
def mW (v y : Int) : Int := if y = 0 then 0 else if v ≤ 1000000000000000 / y then v * y else 1000000000000000
def pW (v y : Int) : Nat → Int
  | 0 => v
  | n + 1 => mW (pW v y n) y
def trW (g : Nat → Int) (p : Nat → Nat) (v : Int) : Nat → Int
  | 0 => v
  | x + 1 => pW (trW g p v x) (g x) (p x)
def smW (c g : Nat → Int) (p : Nat → Nat → Nat) : Nat → Int
  | 0 => 0
  | k + 1 => if smW c g p k + trW g (p k) (c k) 4 < 1000000000000000 then smW c g p k + trW g (p k) (c k) 4 else 1000000000000000
theorem mW_le {v y : Int} (hv : 0 ≤ v) (hy : 0 ≤ y) (y0 : y ≠ 0) (h : v ≤ 1000000000000000 / y) : 0 ≤ v * y ∧ v * y ≤ 1000000000000000 :=
  ⟨Int.mul_nonneg hv hy, Int.le_trans (Int.mul_le_mul_of_nonneg_right h hy) (Int.ediv_mul_le _ y0)⟩
theorem mW_b {v y : Int} (hv : 0 ≤ v) (hy : 0 ≤ y) : 0 ≤ mW v y ∧ mW v y ≤ 1000000000000000 := by
  unfold mW
  split
  · decide
  · split
    · exact mW_le hv hy (by assumption) (by assumption)
    · decide
theorem mW_0 {y : Int} (hy : 0 ≤ y) : mW 0 y = 0 := by
  unfold mW
  split
  · rfl
  · rw [if_pos (Int.ediv_nonneg (by decide) hy)]; exact Int.zero_mul _
theorem pW_b {v y : Int} (hv : 0 ≤ v ∧ v ≤ 1000000000000000) (hy : 0 ≤ y) : ∀ n, 0 ≤ pW v y n ∧ pW v y n ≤ 1000000000000000 := by
  intro n
  induction n with
  | zero => exact hv
  | succ n ih => exact mW_b ih.1 hy
theorem pW_0 {y : Int} (hy : 0 ≤ y) : ∀ n, pW 0 y n = 0 := by
  intro n
  induction n with
  | zero => rfl
  | succ n ih => show mW (pW 0 y n) y = 0; rw [ih]; exact mW_0 hy
theorem trW_b {g : Nat → Int} {p : Nat → Nat} {v : Int} (hv : 0 ≤ v ∧ v ≤ 1000000000000000) (hg : ∀ x, 0 ≤ g x) : ∀ x, 0 ≤ trW g p v x ∧ trW g p v x ≤ 1000000000000000 := by
  intro x
  induction x with
  | zero => exact hv
  | succ x ih => exact pW_b ih (hg x) _
theorem trW_0 {g : Nat → Int} {p : Nat → Nat} (hg : ∀ x, 0 ≤ g x) : ∀ x, trW g p 0 x = 0 := by
  intro x
  induction x with
  | zero => rfl
  | succ x ih => show pW (trW g p 0 x) (g x) (p x) = 0; rw [ih]; exact pW_0 (hg x) _
theorem smW_b {c g : Nat → Int} {p : Nat → Nat → Nat} (hc : ∀ k, k < 70 → 0 ≤ c k ∧ c k ≤ 1000000000000) (hg : ∀ x, 0 ≤ g x) : ∀ k, k ≤ 70 → 0 ≤ smW c g p k ∧ smW c g p k ≤ 1000000000000000 := by
  intro k
  induction k with
  | zero => intro _; show (0 : Int) ≤ 0 ∧ (0 : Int) ≤ _; decide
  | succ k ih =>
    intro hk
    have a := ih (by omega)
    have cc := hc k (by omega)
    have t := trW_b (g := g) (p := p k) (v := c k) ⟨cc.1, by omega⟩ hg 4
    unfold smW
    split <;> omega
/-- the number put in for a letter -/
def gA (a2 a3 a4 a5 : Int) (x : Nat) : Int := w32 (if w32 0 < w32 (if x = 0 then a2 else if x = 1 then a3 else if x = 2 then a4 else a5) then (if x = 0 then a2 else if x = 1 then a3 else if x = 2 then a4 else a5) else 0)
theorem gA_nn {a2 a3 a4 a5 : Int} (x : Nat) : 0 ≤ gA a2 a3 a4 a5 x ∧ gA a2 a3 a4 a5 x < 2147483648 := by
  unfold gA
  generalize (if x = 0 then a2 else if x = 1 then a3 else if x = 2 then a4 else a5) = y
  split
  · have h : w32 0 < w32 y := by assumption
    exact ⟨by rw [show w32 0 = 0 from by decide] at h; omega, w32_hi y⟩
  · decide
section
variable {d : Nat} {Y : vY} {I : vJ} {P : vE → Prop} {m f k : Nat} {a2 a3 a4 a5 : Int} {p : Nat → Nat → Nat} {c : Nat → Int}
/-- the house: a power -/
theorem c_pw {v y all : Int} {x n : Nat} (hL : vL Y) (hk : k < 70) (hx : x < 4) (hn : I 71 (4 * k + x) = n ∧ n ≤ 4) (hv : 0 ≤ v ∧ v ≤ 1000000000000000) (hy : 0 ≤ y ∧ y < 2147483648)
    (hQ : ∀ x15 : vV, vW (d + 1) 45 (78, [vr 18, vi (m : Int), vi a2, vi a3, vi a4, vi a5, vr f, vl all, vu, vi (k : Int), vl (pW v y n), vu, vi ((x + 1 : Nat) : Int), vl y, vu, x15], [], (I, Y)) P) :
    ∀ (s i : Nat), i + s = n → vW (d + 1) 45 (126, [vr 18, vi (m : Int), vi a2, vi a3, vi a4, vi a5, vr f, vl all, vu, vi (k : Int), vl (pW v y i), vu, vi (x : Int), vl y, vu, vi (i : Int)], [], (I, Y)) P := by
  have e4 : ((4 : Int) * (k : Int) + (x : Int)).toNat = 4 * k + x := by omega
  intro s
  induction s with
  | zero =>
    intro i hi
    have e : i = n := by omega
    subst e
    rw [b45_126 hL (by omega) (by omega), e4, hn.1, if_pos (Int.le_refl _), b45_191, show (x : Int) + 1 = ((x + 1 : Nat) : Int) by omega]
    exact hQ _
  | succ s ih =>
    intro i hi
    have vb := pW_b hv hy.1 i
    have ei : (i : Int) + 1 = ((i + 1 : Nat) : Int) := by omega
    have st : pW v y (i + 1) = mW (pW v y i) y := rfl
    rw [b45_126 hL (by omega) (by omega), e4, hn.1, if_neg (by rw [w32_id (by omega) (by omega), w32_id (by omega) (by omega)]; omega), b45_149, show w64 0 = 0 from by decide, w64_id (x := y) (by omega) (by omega)]
    have nx := ih (i + 1) (by omega)
    rw [st] at nx
    unfold mW at nx
    by_cases z : y = 0
    · rw [if_neg (fun q => q z), b45_156, b45_183, ei]
      rw [if_pos z] at nx
      exact nx
    · rw [if_neg z] at nx
      have wf : w64 1000000000000000 = 1000000000000000 := by decide
      rw [if_pos z, b45_160 (by rw [w64_id (by omega) (by omega)]; exact z), wf, w64_id (x := y) (by omega) (by omega), Int.tdiv_eq_ediv_of_nonneg (by decide), w64_id (x := pW v y i) (by omega) (by omega), w64_id (x := 1000000000000000 / y) (by have := Int.ediv_nonneg (a := 1000000000000000) (b := y) (by decide) hy.1; omega) (by have := Int.ediv_le_self (a := 1000000000000000) y (by decide); omega)]
      by_cases t : pW v y i ≤ 1000000000000000 / y
      · rw [if_pos t, b45_178, b45_183, ei]
        rw [if_pos t] at nx
        exact nx
      · rw [if_neg t, b45_172, b45_183, ei]
        rw [if_neg t] at nx
        exact nx
/-- the house: a term -/
theorem c_tm {v all : Int} (hL : vL Y) (hk : k < 70) (hp : ∀ x, x < 4 → I 71 (4 * k + x) = (p k x : Int) ∧ p k x ≤ 4) (hv : 0 ≤ v ∧ v ≤ 1000000000000000)
    (hQ : ∀ x13 x14 x15 : vV, vW (d + 1) 45 (197, [vr 18, vi (m : Int), vi a2, vi a3, vi a4, vi a5, vr f, vl all, vu, vi (k : Int), vl (trW (gA a2 a3 a4 a5) (p k) v 4), vu, vi ((4 : Nat) : Int), x13, x14, x15], [], (I, Y)) P) :
    ∀ (s x : Nat) (x13 x14 x15 : vV), x + s = 4 → vW (d + 1) 45 (78, [vr 18, vi (m : Int), vi a2, vi a3, vi a4, vi a5, vr f, vl all, vu, vi (k : Int), vl (trW (gA a2 a3 a4 a5) (p k) v x), vu, vi (x : Int), x13, x14, x15], [], (I, Y)) P := by
  intro s
  induction s with
  | zero =>
    intro x x13 x14 x15 hx
    have e : x = 4 := by omega
    subst e
    rw [b45_78, if_pos (by decide)]
    exact hQ x13 x14 x15
  | succ s ih =>
    intro x x13 x14 x15 hx
    have tb := trW_b (g := gA a2 a3 a4 a5) (p := p k) hv (fun x => (gA_nn x).1) x
    have wx : w32 (x : Int) = x := w32_id (by omega) (by omega)
    rw [b45_78, if_neg (by rw [wx, show w32 4 = 4 from by decide]; omega), b45_84, wx]
    have pick : vW (d + 1) 45 (117, [vr 18, vi (m : Int), vi a2, vi a3, vi a4, vi a5, vr f, vl all, vu, vi (k : Int), vl (trW (gA a2 a3 a4 a5) (p k) v x), vu, vi (x : Int), x13, x14, x15], [vi (if x = 0 then a2 else if x = 1 then a3 else if x = 2 then a4 else a5), vi 0], (I, Y)) P := by
      rw [b45_117, m503_0, b503_10]
      simp only [vWC_s, Nat.reduceAdd]
      rw [b45_120]
      exact c_pw (d := d) (v := trW (gA a2 a3 a4 a5) (p k) v x) (y := gA a2 a3 a4 a5 x) (n := p k x) hL hk (by omega) (hp x (by omega)) tb (gA_nn x) (fun x15' => ih (x + 1) _ _ x15' (by omega)) (p k x) 0 (by omega)
    clear wx
    by_cases z0 : x = 0
    · rw [if_neg (fun q => q (by omega)), b45_90]
      rw [if_pos z0] at pick
      exact pick
    · rw [if_neg z0] at pick
      rw [if_pos (show (x : Int) ≠ 0 by omega), b45_94, w32_id (by omega) (by omega)]
      by_cases z1 : x = 1
      · rw [if_neg (fun q => q (by rw [z1]; decide)), b45_100]
        rw [if_pos z1] at pick
        exact pick
      · rw [if_neg z1] at pick
        rw [if_pos (show (x : Int) ≠ w32 1 by rw [show w32 1 = 1 from by decide]; omega), b45_104, w32_id (by omega) (by omega)]
        by_cases z2 : x = 2
        · rw [if_neg (fun q => q (by rw [z2]; decide)), b45_110]
          rw [if_pos z2] at pick
          exact pick
        · rw [if_neg z2] at pick
          rw [if_pos (show (x : Int) ≠ w32 2 by rw [show w32 2 = 2 from by decide]; omega), b45_115]
          exact pick
/-- the house: the whole sum -/
theorem c_worst (hL : vL Y) (hf : vreg Y 80 2 f) (h0 : ∀ k, k < 70 → 0 ≤ I (f + 1) k ∧ I (f + 1) k ≤ 1000000000000) (hp : ∀ k x, k < 70 → x < 4 → I 71 (4 * k + x) = (p k x : Int) ∧ p k x ≤ 4)
    (hQ : P (.inl (some (vl (smW (I (f + 1)) (gA a2 a3 a4 a5) p 70))), (I, Y))) :
    ∀ (s k : Nat) (x10 x11 x12 x13 x14 x15 : vV), k + s = 70 → vW (d + 1) 45 (42, [vr 18, vi (m : Int), vi a2, vi a3, vi a4, vi a5, vr f, vl (smW (I (f + 1)) (gA a2 a3 a4 a5) p k), vu, vi (k : Int), x10, x11, x12, x13, x14, x15], [], (I, Y)) P := by
  intro s
  induction s with
  | zero =>
    intro k x10 x11 x12 x13 x14 x15 hk
    have e : k = 70 := by omega
    subst e
    rw [b45_42, if_pos (by decide), b45_216]
    exact hQ
  | succ s ih =>
    intro k x10 x11 x12 x13 x14 x15 hk
    have cb := h0 k (by omega)
    have gn : ∀ x, 0 ≤ gA a2 a3 a4 a5 x := fun x => (gA_nn x).1
    have ab := smW_b (p := p) h0 gn k (by omega)
    have ek : (k : Int) + 1 = ((k + 1 : Nat) : Int) := by omega
    have st : smW (I (f + 1)) (gA a2 a3 a4 a5) p (k + 1) = if smW (I (f + 1)) (gA a2 a3 a4 a5) p k + trW (gA a2 a3 a4 a5) (p k) (I (f + 1) k) 4 < 1000000000000000 then smW (I (f + 1)) (gA a2 a3 a4 a5) p k + trW (gA a2 a3 a4 a5) (p k) (I (f + 1) k) 4 else 1000000000000000 := rfl
    rw [b45_42, if_neg (by rw [w32_id (by omega) (by omega), w32_id (by omega) (by omega)]; omega), b45_49 hf (by omega) (by omega), tn0, show w64 0 = 0 from by decide, w64_id (x := I (f + 1) k) (by omega) (by omega)]
    by_cases z : I (f + 1) k = 0
    · rw [if_neg (fun q => q z), b45_62, b45_210, ek]
      have e : smW (I (f + 1)) (gA a2 a3 a4 a5) p k = smW (I (f + 1)) (gA a2 a3 a4 a5) p (k + 1) := by
        rw [st, z, trW_0 gn]
        split <;> omega
      rw [e]
      exact ih (k + 1) x10 x11 x12 x13 x14 x15 (by omega)
    · have tb := trW_b (g := gA a2 a3 a4 a5) (p := p k) (v := I (f + 1) k) ⟨cb.1, by omega⟩ gn 4
      rw [if_pos z, b45_65 hf (by omega) (by omega), tn0]
      refine c_tm (d := d) (v := I (f + 1) k) hL (by omega) (fun x hx => hp k x (by omega) hx) ⟨cb.1, by omega⟩ (fun y13 y14 y15 => ?_) 4 0 x13 x14 x15 (by omega)
      rw [b45_197, m507_0, b507_11]
      simp only [vWC_s, Nat.reduceAdd]
      rw [b45_208, b45_210, ek, show w64 1000000000000000 = 1000000000000000 from by decide, w64_id (x := smW (I (f + 1)) (gA a2 a3 a4 a5) p k + trW (gA a2 a3 a4 a5) (p k) (I (f + 1) k) 4) (by omega) (by omega), ← st]
      exact ih (k + 1) _ _ _ _ _ _ (by omega)
/-- the model: a product -/
theorem t_mul {v y : Int} (hv : 0 ≤ v ∧ v ≤ 1000000000000000) (hy : 0 ≤ y ∧ y < 2147483648) : vW (d + 1) 480 (0, [vl v, vu, vl y, vu], [], (I, Y)) P ↔ P (.inl (some (vl (mW v y))), (I, Y)) := by
  have w0 : w64 0 = 0 := by decide
  have wv : w64 v = v := w64_id (by omega) (by omega)
  have wy : w64 y = y := w64_id (by omega) (by omega)
  by_cases z : v = 0
  · rw [b480_0, wv, w0, if_pos z, b480_12, b480_41, z, mW_0 hy.1]
  · rw [b480_0, wv, w0, if_neg z, b480_6, wy, w0]
    unfold mW
    by_cases t : y = 0
    · rw [if_neg (fun q => q t), b480_12, b480_41, if_pos t]
    · rw [if_pos t, if_neg t, b480_16 (by rw [wy]; exact t), wv, wy, show w64 1000000000000000 = 1000000000000000 from by decide, Int.tdiv_eq_ediv_of_nonneg (by decide), w64_id (x := 1000000000000000 / y) (by have := Int.ediv_nonneg (a := 1000000000000000) (b := y) (by decide) hy.1; omega) (by have := Int.ediv_le_self (a := 1000000000000000) y (by decide); omega)]
      by_cases s : v ≤ 1000000000000000 / y
      · have b := mW_le hv.1 hy.1 t s
        rw [if_pos s, if_pos s, b480_32, m507_0, b507_11]
        simp only [vWC_s, Nat.reduceAdd]
        rw [b480_41, show w64 1000000000000000 = 1000000000000000 from by decide, w64_id (x := v * y) (by omega) (by omega)]
        by_cases r : v * y < 1000000000000000
        · rw [if_pos r]
        · rw [if_neg r, show v * y = 1000000000000000 by omega]
      · rw [if_neg s, if_neg s, b480_26, b480_41]
theorem t_pw {v y all : Int} {x n : Nat} (hL : vL Y) (hk : k < 70) (hx : x < 4) (hn : I 2280 (4 * k + x) = n ∧ n ≤ 4) (hv : 0 ≤ v ∧ v ≤ 1000000000000000) (hy : 0 ≤ y ∧ y < 2147483648)
    (hQ : ∀ x14 : vV, vW (d + 2) 479 (52, [vr 2075, vi (m : Int), vi a2, vi a3, vi a4, vi a5, vl all, vu, vi (k : Int), vl (pW v y n), vu, vi ((x + 1 : Nat) : Int), vl y, vu, x14], [], (I, Y)) P) :
    ∀ (s i : Nat), i + s = n → vW (d + 2) 479 (100, [vr 2075, vi (m : Int), vi a2, vi a3, vi a4, vi a5, vl all, vu, vi (k : Int), vl (pW v y i), vu, vi (x : Int), vl y, vu, vi (i : Int)], [], (I, Y)) P := by
  have e4 : ((4 : Int) * (k : Int) + (x : Int)).toNat = 4 * k + x := by omega
  intro s
  induction s with
  | zero =>
    intro i hi
    have e : i = n := by omega
    subst e
    rw [b479_100 hL (by omega) (by omega), e4, hn.1, if_pos (Int.le_refl _), b479_132, show (x : Int) + 1 = ((x + 1 : Nat) : Int) by omega]
    exact hQ _
  | succ s ih =>
    intro i hi
    have vb := pW_b hv hy.1 i
    rw [b479_100 hL (by omega) (by omega), e4, hn.1, if_neg (by rw [w32_id (by omega) (by omega), w32_id (by omega) (by omega)]; omega), b479_117, t_mul vb hy]
    simp only [vWC_s, Nat.reduceAdd]
    rw [b479_124, show (i : Int) + 1 = ((i + 1 : Nat) : Int) by omega]
    exact ih (i + 1) (by omega)
theorem t_tm {v all : Int} (hL : vL Y) (hk : k < 70) (hp : ∀ x, x < 4 → I 2280 (4 * k + x) = (p k x : Int) ∧ p k x ≤ 4) (hv : 0 ≤ v ∧ v ≤ 1000000000000000)
    (hQ : ∀ x12 x13 x14 : vV, vW (d + 2) 479 (138, [vr 2075, vi (m : Int), vi a2, vi a3, vi a4, vi a5, vl all, vu, vi (k : Int), vl (trW (gA a2 a3 a4 a5) (p k) v 4), vu, vi ((4 : Nat) : Int), x12, x13, x14], [], (I, Y)) P) :
    ∀ (s x : Nat) (x12 x13 x14 : vV), x + s = 4 → vW (d + 2) 479 (52, [vr 2075, vi (m : Int), vi a2, vi a3, vi a4, vi a5, vl all, vu, vi (k : Int), vl (trW (gA a2 a3 a4 a5) (p k) v x), vu, vi (x : Int), x12, x13, x14], [], (I, Y)) P := by
  intro s
  induction s with
  | zero =>
    intro x x12 x13 x14 hx
    have e : x = 4 := by omega
    subst e
    rw [b479_52, if_pos (by decide)]
    exact hQ x12 x13 x14
  | succ s ih =>
    intro x x12 x13 x14 hx
    have tb := trW_b (g := gA a2 a3 a4 a5) (p := p k) hv (fun x => (gA_nn x).1) x
    have wx : w32 (x : Int) = x := w32_id (by omega) (by omega)
    rw [b479_52, if_neg (by rw [wx, show w32 4 = 4 from by decide]; omega), b479_58, wx]
    have pick : vW (d + 2) 479 (91, [vr 2075, vi (m : Int), vi a2, vi a3, vi a4, vi a5, vl all, vu, vi (k : Int), vl (trW (gA a2 a3 a4 a5) (p k) v x), vu, vi (x : Int), x12, x13, x14], [vi (if x = 0 then a2 else if x = 1 then a3 else if x = 2 then a4 else a5), vi 0], (I, Y)) P := by
      rw [b479_91, m503_0, b503_10]
      simp only [vWC_s, Nat.reduceAdd]
      rw [b479_94]
      exact t_pw (d := d) (v := trW (gA a2 a3 a4 a5) (p k) v x) (y := gA a2 a3 a4 a5 x) (n := p k x) hL hk (by omega) (hp x (by omega)) tb (gA_nn x) (fun x14' => ih (x + 1) _ _ x14' (by omega)) (p k x) 0 (by omega)
    clear wx
    by_cases z0 : x = 0
    · rw [if_neg (fun q => q (by omega)), b479_64]
      rw [if_pos z0] at pick
      exact pick
    · rw [if_neg z0] at pick
      rw [if_pos (show (x : Int) ≠ 0 by omega), b479_68, w32_id (by omega) (by omega)]
      by_cases z1 : x = 1
      · rw [if_neg (fun q => q (by rw [z1]; decide)), b479_74]
        rw [if_pos z1] at pick
        exact pick
      · rw [if_neg z1] at pick
        rw [if_pos (show (x : Int) ≠ w32 1 by rw [show w32 1 = 1 from by decide]; omega), b479_78, w32_id (by omega) (by omega)]
        by_cases z2 : x = 2
        · rw [if_neg (fun q => q (by rw [z2]; decide)), b479_84]
          rw [if_pos z2] at pick
          exact pick
        · rw [if_neg z2] at pick
          rw [if_pos (show (x : Int) ≠ w32 2 by rw [show w32 2 = 2 from by decide]; omega), b479_89]
          exact pick
theorem t_worst (hL : vL Y) (hm : m < 24) (h0 : ∀ k, k < 70 → I 2282 (70 * m + k) = c k ∧ 0 ≤ c k ∧ c k ≤ 1000000000000) (hp : ∀ k x, k < 70 → x < 4 → I 2280 (4 * k + x) = (p k x : Int) ∧ p k x ≤ 4)
    (hQ : P (.inl (some (vl (smW c (gA a2 a3 a4 a5) p 70))), (I, Y))) :
    ∀ (s k : Nat) (x9 x10 x11 x12 x13 x14 : vV), k + s = 70 → vW (d + 2) 479 (28, [vr 2075, vi (m : Int), vi a2, vi a3, vi a4, vi a5, vl (smW c (gA a2 a3 a4 a5) p k), vu, vi (k : Int), x9, x10, x11, x12, x13, x14], [], (I, Y)) P := by
  intro s
  induction s with
  | zero =>
    intro k x9 x10 x11 x12 x13 x14 hk
    have e : k = 70 := by omega
    subst e
    rw [b479_28, if_pos (by decide), b479_157]
    exact hQ
  | succ s ih =>
    intro k x9 x10 x11 x12 x13 x14 hk
    obtain ⟨c1, c2, c3⟩ := h0 k (by omega)
    have gn : ∀ x, 0 ≤ gA a2 a3 a4 a5 x := fun x => (gA_nn x).1
    have ab := smW_b (p := p) (fun k hk => (h0 k hk).2) gn k (by omega)
    have ek : (k : Int) + 1 = ((k + 1 : Nat) : Int) := by omega
    have st : smW c (gA a2 a3 a4 a5) p (k + 1) = if smW c (gA a2 a3 a4 a5) p k + trW (gA a2 a3 a4 a5) (p k) (c k) 4 < 1000000000000000 then smW c (gA a2 a3 a4 a5) p k + trW (gA a2 a3 a4 a5) (p k) (c k) 4 else 1000000000000000 := rfl
    have tb := trW_b (g := gA a2 a3 a4 a5) (p := p k) (v := c k) ⟨c2, by omega⟩ gn 4
    rw [b479_28, if_neg (by rw [w32_id (by omega) (by omega), w32_id (by omega) (by omega)]; omega), b479_35 hL (by omega) (by omega), show ((70 : Int) * (m : Int) + (k : Int)).toNat = 70 * m + k by omega, c1]
    refine t_tm (d := d) (v := c k) hL (by omega) (fun x hx => hp k x (by omega) hx) ⟨c2, by omega⟩ (fun y12 y13 y14 => ?_) 4 0 x12 x13 x14 (by omega)
    rw [b479_138, m507_0, b507_11]
    simp only [vWC_s, Nat.reduceAdd]
    rw [b479_149, ek, show w64 1000000000000000 = 1000000000000000 from by decide, w64_id (x := smW c (gA a2 a3 a4 a5) p k + trW (gA a2 a3 a4 a5) (p k) (c k) 4) (by omega) (by omega), ← st]
    exact ih (k + 1) _ _ _ _ _ _ (by omega)
end
section
variable {d d' : Nat} {Y : vY} {I I' : vJ} {mm X : Nat}
theorem q_worst {a a2 a3 a4 a5 : Int} (ha : inI a) (hL : vL Y) (hM : isM I I' Y mm) (hS : mm ≠ 0 → pwR I I' ∧ ∀ m, m < mm → bdM I I' Y X m) : ∃ v, AnL (d + 2) 45 [vr 18, vi a, vi a2, vi a3, vi a4, vi a5, vu, vu, vu, vu, vu, vu, vu, vu, vu, vu] I Y v ∧ AnL (d' + 2) 479 [vr 2075, vi a, vi a2, vi a3, vi a4, vi a5, vu, vu, vu, vu, vu, vu, vu, vu, vu] I' Y v := by
  have cm := fun P => c_mem (d := d) hL ha hM P
  have tm := fun P => t_mem (d' := d') hL ha hM P
  have mm24 := hM.2.1
  by_cases z : 0 ≤ a ∧ a ≤ (mm : Int) - 1
  · obtain ⟨m, hm⟩ : ∃ m : Nat, a = m := ⟨a.toNat, by omega⟩
    subst hm
    have m1 : m < mm := by omega
    rw [if_pos z] at cm tm
    obtain ⟨pw, hB⟩ := hS (by omega)
    rcases hB m m1 with ⟨s1, s2, s3, f, f1, ⟨f2, _⟩, f3⟩ | ⟨s0, s1, s2, s3, _⟩
    · obtain ⟨p, hp⟩ : ∃ p : Nat → Nat → Nat, p = fun k x => (I 71 (4 * k + x)).toNat := ⟨_, rfl⟩
      have p1 : ∀ k x, k < 70 → x < 4 → I 71 (4 * k + x) = (p k x : Int) ∧ p k x ≤ 4 := fun k x hk hx => by
        have q := pw (4 * k + x) (by omega)
        rw [hp]
        show I 71 (4 * k + x) = ((I 71 (4 * k + x)).toNat : Int) ∧ (I 71 (4 * k + x)).toNat ≤ 4
        omega
      have p2 : ∀ k x, k < 70 → x < 4 → I' 2280 (4 * k + x) = (p k x : Int) ∧ p k x ≤ 4 := fun k x hk hx => by
        rw [← (pw (4 * k + x) (by omega)).1]; exact p1 k x hk hx
      refine ⟨smW (I (f + 1)) (gA a2 a3 a4 a5) p 70, anl_of (fun P hP => ?_), anl_of (fun P hP => ?_)⟩
      · rw [b45_0 hL, cm]
        simp only [vWC_s, Nat.reduceAdd]
        rw [b45_5, if_neg (by decide), b45_8 hL (by omega) (by omega), tn0, s1, if_pos rfl, b45_25 hL (by omega) (by omega), tn0, f1]
        exact c_worst (d := d + 1) hL f2 (fun k hk => by rw [(f3 k hk).1]; exact (f3 k hk).2) p1 hP 70 0 vu vu vu vu vu vu (by omega)
      · rw [b479_0 hL, tm]
        simp only [vWC_s, Nat.reduceAdd]
        rw [b479_5, if_neg (by decide), b479_8 hL (by omega) (by omega), tn0, s2, if_pos rfl, b479_22]
        exact t_worst (d := d') (c := I (f + 1)) hL (by omega) (fun k hk => ⟨(f3 k hk).1.symm, by rw [(f3 k hk).1]; exact (f3 k hk).2⟩) p2 hP 70 0 vu vu vu vu vu vu (by omega)
    · refine ⟨-1, fun P => ?_, fun P => ?_⟩
      · rw [b45_0 hL, cm]
        simp only [vWC_s, Nat.reduceAdd]
        rw [b45_5, if_neg (by decide), b45_8 hL (by omega) (by omega), tn0, w32_id s0.1 s0.2, if_neg (show ¬ I 76 m = w32 2 from s1), b45_21]
      · rw [b479_0 hL, tm]
        simp only [vWC_s, Nat.reduceAdd]
        rw [b479_5, if_neg (by decide), b479_8 hL (by omega) (by omega), tn0, w32_id s2.1 s2.2, if_neg (show ¬ I' 2283 m = w32 1 from s3), b479_18]
  · rw [if_neg z] at cm tm
    refine ⟨-1, fun P => ?_, fun P => ?_⟩
    · rw [b45_0 hL, cm]
      simp only [vWC_s, Nat.reduceAdd]
      rw [b45_5, if_pos (by decide), b45_21]
    · rw [b479_0 hL, tm]
      simp only [vWC_s, Nat.reduceAdd]
      rw [b479_5, if_pos (by decide), b479_18]
end
section
variable {L : Nat} {x : Nat → Int} {SX : vJ → vJ → vY → Nat → Nat → Nat → Prop}
theorem d_worst (hX : sxK SX) (hB : sxB SX) : oD33 (fun k I Y => LW L x SX k I I Y) := fun k _ a1 a2 a3 a4 a5 ha1 ha2 ha3 ha4 ha5 => o_askL hX (sL_c sG_18 (sL_c (sG_i _) (sL_c (sG_i _) (sL_c (sG_i _) (sL_c (sG_i _) (sL_c (sG_i _) (sL_c sG_u (sL_c sG_u (sL_c sG_u (sL_c sG_u (sL_c sG_u (sL_c sG_u (sL_c sG_u (sL_c sG_u (sL_c sG_u (sL_c sG_u (sL_nil _))))))))))))))))) (fun Y _ => (sL_c sG_m (sL_c (sG_i _) (sL_c (sG_i _) (sL_c (sG_i _) (sL_c (sG_i _) (sL_c (sG_i _) (sL_c sG_u (sL_c sG_u (sL_c sG_u (sL_c sG_u (sL_c sG_u (sL_c sG_u (sL_c sG_u (sL_c sG_u (sL_c sG_u (sL_nil _))))))))))))))))) (fun I I' Y h => by
  obtain ⟨⟨v1, _⟩, _, _, _, mm, X, Nn, Lp, C, nm, pr, ht, m1, m2, _⟩ := h
  exact q_worst (d := 1998) (d' := 1998) (X := X) ha1 v1 m1 (fun z => ⟨(hB _ _ _ _ _ _ m2 z).2.2.1, (hB _ _ _ _ _ _ m2 z).2.2.2⟩))
end
