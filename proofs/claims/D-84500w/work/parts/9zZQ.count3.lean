/-! ===== count: the start of Plan.solve ===== -/
set_option maxRecDepth 20000
set_option maxHeartbeats 4000000
/-- what activations under way bring to a node, when those of nodes below n are told -/
def bsA (ac : Nat → Int) (a n i : Nat) : Int := (if i < n then - ac i else 0) + (if i = a then sW (fun k => ac (a + k)) (n - a) else 0)
/-- ways up to w without a probe, with one; all ways -/
def uB (f : Nat → Int) (p w : Nat) : Nat → Bool := fun e => decide (p ≤ e ∧ e < w ∧ f e = 0)
def kB (f : Nat → Int) (p w : Nat) : Nat → Bool := fun e => decide (p ≤ e ∧ e < w ∧ f e ≠ 0)
def aB (p q : Nat) : Nat → Bool := fun e => decide (isE p q e)
def u9 (f : Nat → Int) (p q : Nat) : Nat → Bool := uUp (uUp (uB f p q) 2100) 2101
theorem uB_0 {f : Nat → Int} {p w : Nat} (hp : p ≤ w) (h : f w = 0) : uB f p (w + 1) = uUp (uB f p w) w := by
  funext e
  unfold uB uUp
  by_cases z : e = w
  · rw [if_pos z, z]; exact decide_eq_true ⟨hp, by omega, h⟩
  · rw [if_neg z]
    have : (p ≤ e ∧ e < w + 1 ∧ f e = 0) ↔ (p ≤ e ∧ e < w ∧ f e = 0) := ⟨fun t => ⟨t.1, by omega, t.2.2⟩, fun t => ⟨t.1, by omega, t.2.2⟩⟩
    exact decide_eq_decide.mpr this
theorem uB_1 {f : Nat → Int} {p w : Nat} (h : f w ≠ 0) : uB f p (w + 1) = uB f p w := by
  funext e
  unfold uB
  have : (p ≤ e ∧ e < w + 1 ∧ f e = 0) ↔ (p ≤ e ∧ e < w ∧ f e = 0) := ⟨fun t => ⟨t.1, by
    by_cases z : e = w
    · rw [z] at t; exact absurd t.2.2 h
    · omega, t.2.2⟩, fun t => ⟨t.1, by omega, t.2.2⟩⟩
  exact decide_eq_decide.mpr this
theorem kB_0 {f : Nat → Int} {p w : Nat} (hp : p ≤ w) (h : f w ≠ 0) : kB f p (w + 1) = uUp (kB f p w) w := by
  funext e
  unfold kB uUp
  by_cases z : e = w
  · rw [if_pos z, z]; exact decide_eq_true ⟨hp, by omega, h⟩
  · rw [if_neg z]
    have : (p ≤ e ∧ e < w + 1 ∧ f e ≠ 0) ↔ (p ≤ e ∧ e < w ∧ f e ≠ 0) := ⟨fun t => ⟨t.1, by omega, t.2.2⟩, fun t => ⟨t.1, by omega, t.2.2⟩⟩
    exact decide_eq_decide.mpr this
theorem kB_1 {f : Nat → Int} {p w : Nat} (h : f w = 0) : kB f p (w + 1) = kB f p w := by
  funext e
  unfold kB
  have : (p ≤ e ∧ e < w + 1 ∧ f e ≠ 0) ↔ (p ≤ e ∧ e < w ∧ f e ≠ 0) := ⟨fun t => ⟨t.1, by
    by_cases z : e = w
    · rw [z] at t; exact absurd h t.2.2
    · omega, t.2.2⟩, fun t => ⟨t.1, by omega, t.2.2⟩⟩
  exact decide_eq_decide.mpr this
section
variable {d : Nat} {Y : vY} {I : vJ} {P : vE → Prop} {c ac : Nat → Int} {a b p q o : Nat}
/-- rows of the member's nodes are cleared -/
theorem c_l1 (hL : vL Y) (hS : slF I Y c a b p q o) (hQ : ∀ J : vJ, fr [67, 68] [] I J → (∀ i, a ≤ i → i < b → J 67 i = 0 ∧ J 68 i = 0) → vW (d + 2) 118 (38, [vr 57, vr o, vr 2066, vi (b : Int), vu], [], (J, Y)) P) :
    ∀ (k n : Nat) (J : vJ), n + k = b → a ≤ n → fr [67, 68] [] I J → (∀ i, a ≤ i → i < n → J 67 i = 0 ∧ J 68 i = 0) → vW (d + 2) 118 (5, [vr 57, vr o, vr 2066, vi (n : Int), vu], [], (J, Y)) P := by
  intro k
  induction k with
  | zero =>
    intro n J hk ha F h
    have e : n = b := by omega
    subst e
    obtain ⟨⟨h1, h2, h3, h4, h5, h6⟩, _⟩ := slF_fr hS (fr_sub F (by rfl) (by rfl))
    rw [b118_5 (by omega) h2, h3, h4, if_pos (by rw [show (a : Int) + ((n : Int) - a) = n by omega]; exact Int.le_refl _)]
    exact hQ J F h
  | succ k ih =>
    intro n J hk ha F h
    obtain ⟨⟨h1, h2, h3, h4, h5, h6⟩, ⟨g1, g2, g3, g4⟩, _⟩ := slF_fr hS (fr_sub F (by rfl) (by rfl))
    rw [b118_5 (by omega) h2, h3, h4, if_neg (by rw [show (a : Int) + ((b : Int) - a) = b by omega, w32_id (by omega) (by omega), w32_id (by omega) (by omega)]; omega), b118_18 hL (by omega) (by omega), tn0, show (n : Int) + 1 = ((n + 1 : Nat) : Int) by omega]
    refine ih (n + 1) _ (by omega) (by omega) (fr_upL (fr_upL F rfl _ _) rfl _ _) (fun i i1 i2 => ?_)
    rw [up_cell _ (by decide), up_at, up_at, up_cell _ (by decide)]
    by_cases z : i = n
    · rw [if_pos z, if_pos z]; exact ⟨rfl, rfl⟩
    · rw [if_neg z, if_neg z]; exact h i i1 (by omega)
/-- activations under way: they go on to ENTRY in thought -/
theorem c_l2 (hL : vL Y) (hS : slF I Y c a b p q o) (hat : ∀ i, a ≤ i → i < b → I 2066 i = ac i) (hQ : ∀ J : vJ, fr [67, 68] [] I J → (∀ i, a ≤ i → i < b → J 67 i = bsA ac a b i ∧ J 68 i = 0) → vW (d + 2) 118 (74, [vr 57, vr o, vr 2066, vi (b : Int), vu], [], (J, Y)) P) :
    ∀ (k n : Nat) (J : vJ), n + k = b → a ≤ n → fr [67, 68] [] I J → (∀ i, a ≤ i → i < b → J 67 i = bsA ac a n i ∧ J 68 i = 0) → vW (d + 2) 118 (43, [vr 57, vr o, vr 2066, vi (n : Int), vu], [], (J, Y)) P := by
  intro k
  induction k with
  | zero =>
    intro n J hk ha F h
    have e : n = b := by omega
    subst e
    obtain ⟨⟨h1, h2, h3, h4, h5, h6⟩, _⟩ := slF_fr hS (fr_sub F (by rfl) (by rfl))
    rw [b118_43 (by omega) h2, h3, h4, if_pos (by rw [show (a : Int) + ((n : Int) - a) = n by omega]; exact Int.le_refl _)]
    exact hQ J F h
  | succ k ih =>
    intro n J hk ha F h
    obtain ⟨⟨h1, h2, h3, h4, h5, h6⟩, ⟨g1, g2, g3, g4⟩, _⟩ := slF_fr hS (fr_sub F (by rfl) (by rfl))
    have e66 : J 2066 n = ac n := by rw [F 2066 _ rfl]; exact hat n ha (by omega)
    rw [b118_43 (by omega) h2, h3, h4, if_neg (by rw [show (a : Int) + ((b : Int) - a) = b by omega, w32_id (by omega) (by omega), w32_id (by omega) (by omega)]; omega), b118_56 hL (by omega) h2 (by omega) (by rw [lLn hL 2066 700 rfl]; omega) (by omega) (lK hL 2066 100 rfl), h3, tn0, e66, b119_0 hL (by omega) (by omega) (by omega) (by omega)]
    simp only [vWC_n, Nat.reduceAdd, tn0]
    rw [b118_68, show (n : Int) + 1 = ((n + 1 : Nat) : Int) by omega]
    refine ih (n + 1) _ (by omega) (by omega) (fr_upL (fr_upL F rfl _ _) rfl _ _) (fun i i1 i2 => ?_)
    obtain ⟨q1, q2⟩ := h i i1 i2
    obtain ⟨r1, _⟩ := h a (Nat.le_refl _) (by omega)
    obtain ⟨t1, _⟩ := h n ha (by omega)
    refine ⟨?_, by rw [up_cell _ (by decide), up_cell _ (by decide)]; exact q2⟩
    have es : sW (fun k => ac (a + k)) (n + 1 - a) = sW (fun k => ac (a + k)) (n - a) + ac n := by
      rw [show n + 1 - a = (n - a) + 1 by omega]
      show sW (fun k => ac (a + k)) (n - a) + ac (a + (n - a)) = _
      rw [show a + (n - a) = n by omega]
    rw [up_at, up_at, up_at]
    unfold bsA at *
    rw [es]
    by_cases z : i = a
    · subst z
      rw [if_pos rfl] at q1 ⊢
      by_cases y : i = n
      · subst y
        rw [if_pos rfl, if_pos rfl, if_pos (by omega)]
        rw [if_neg (by omega)] at q1
        omega
      · rw [if_neg y, if_pos (by omega), if_pos rfl]
        rw [if_pos (by omega)] at q1
        omega
    · rw [if_neg z, if_neg z] at *
      by_cases y : i = n
      · subst y
        rw [if_pos rfl, if_pos (by omega)]
        rw [if_neg (by omega)] at q1
        omega
      · rw [if_neg y, q1]
        by_cases w : i < n
        · rw [if_pos w, if_pos (by omega)]
        · rw [if_neg w, if_neg (by omega)]
/-- the member's ways: those with a probe are known -/
theorem c_l3 (hL : vL Y) (hS : slF I Y c a b p q o) (hQ : ∀ J : vJ, fr [66, 67, 68] [] I J → (∀ e, p ≤ e → e < q → J 66 e = if I 61 e = 0 then -1 else c e) → (∀ e, ¬ (p ≤ e ∧ e < q) → J 66 e = I 66 e) → (∀ i : Nat, a ≤ i → i < b → J 67 i = bsA ac a b i + ntU (frF I a) (toF I a) c (kB (I 61) p q) i ∧ J 68 i = dgU (frF I a) (toF I a) (uB (I 61) p q) i) → vW (d + 2) 118 (199, [vr 57, vr o, vr 2066, vi (q : Int), vu], [], (J, Y)) P) :
    ∀ (k w : Nat) (J : vJ), w + k = q → p ≤ w → fr [66, 67, 68] [] I J → (∀ e, p ≤ e → e < w → J 66 e = if I 61 e = 0 then -1 else c e) → (∀ e, ¬ (p ≤ e ∧ e < w) → J 66 e = I 66 e) → (∀ i : Nat, a ≤ i → i < b → J 67 i = bsA ac a b i + ntU (frF I a) (toF I a) c (kB (I 61) p w) i ∧ J 68 i = dgU (frF I a) (toF I a) (uB (I 61) p w) i) → vW (d + 2) 118 (79, [vr 57, vr o, vr 2066, vi (w : Int), vu], [], (J, Y)) P := by
  intro k
  induction k with
  | zero =>
    intro w J hk hp F h66 h67 h
    have e : w = q := by omega
    subst e
    obtain ⟨⟨h1, h2, h3, h4, h5, h6⟩, _⟩ := slF_fr hS F
    rw [b118_79 (by omega) h2, h5, h6, if_pos (by rw [show (p : Int) + ((w : Int) - p) = w by omega]; exact Int.le_refl _)]
    exact hQ J F h66 h67 h
  | succ k ih =>
    intro w J hk hp F h66 h67 h
    obtain ⟨⟨h1, h2, h3, h4, h5, h6⟩, ⟨g1, g2, g3, g4⟩, g5, _⟩ := slF_fr hS F
    obtain ⟨⟨x, y, x1, y1, x2, y2⟩, pr⟩ := g5 w hp (by omega)
    have j61 : J 61 = I 61 := fr_row F 61 (fun _ => rfl)
    have e1 : (w : Int) + 1 = ((w + 1 : Nat) : Int) := by omega
    have fx : frF I a w = x := by unfold frF; rw [if_neg (by omega), if_neg (by omega), ← fr_row F 50 (fun _ => rfl)]; exact x1
    have ty : toF I a w = y := by unfold toF; rw [if_neg (by omega), ← fr_row F 51 (fun _ => rfl)]; exact y1
    have k61 : ∀ v : Int, up J 66 w v 61 w = J 61 w := fun v => up_cell _ (by decide) _ _ _
    have k50 : ∀ v : Int, up J 66 w v 50 w = x := fun v => by rw [up_cell _ (by decide)]; exact x1
    have k51 : ∀ v : Int, up J 66 w v 51 w = y := fun v => by rw [up_cell _ (by decide)]; exact y1
    have k65 : ∀ v : Int, up J 66 w v 65 w = J 65 w := fun v => up_cell _ (by decide) _ _ _
    rw [b118_79 (by omega) h2, h5, h6, if_neg (by rw [show (p : Int) + ((q : Int) - p) = q by omega, w32_id (by omega) (by omega), w32_id (by omega) (by omega)]; omega), b118_92 hL (by omega) (by omega), tn0]
    rcases pr with z | ⟨z, z5⟩
    · have uw : uB (I 61) p w w = false := decide_eq_false (fun t => by have := t.2.1; omega)
      have f0 : I 61 w = 0 := by rw [← j61]; exact z
      rw [z, if_pos (by decide), b118_115, b118_116 hL (by omega) (by omega), b118_117 hL (by omega) (by omega), tn0, k61, z, if_pos (by decide), b118_157 hL (by omega) (by omega) (by rw [tn0, k50]; omega) (by rw [tn0, k50]; omega) (by rw [tn0, k51]; omega) (by rw [tn0, k51]; omega), b118_193, tn0, k50, k51, tn0, tn0, e1]
      refine ih (w + 1) _ (by omega) (by omega) (fr_upL (fr_upL (fr_upL F rfl _ _) rfl _ _) rfl _ _) (fun e e2 e3 => ?_) (fun e e2 => by rw [up_cell _ (by decide), up_cell _ (by decide), up_at, if_neg (by omega)]; exact h67 e (by omega)) (fun i i1 i2 => ?_)
      · rw [up_cell _ (by decide), up_cell _ (by decide), up_at]
        by_cases y : e = w
        · rw [if_pos y, y, if_pos f0]
        · rw [if_neg y]; exact h66 e e2 (by omega)
      · obtain ⟨q1, q2⟩ := h i i1 i2
        rw [uB_0 hp f0, kB_1 f0, dg_more (by omega) uw, fx, ty]
        have t1 : ((x : Int) = (i : Int)) ↔ i = x := by omega
        have t2 : ((y : Int) = (i : Int)) ↔ i = y := by omega
        simp only [t1, t2, up_at, up_cell _ (show (67 : Nat) ≠ 68 by decide), up_cell _ (show (67 : Nat) ≠ 66 by decide), up_cell _ (show (68 : Nat) ≠ 66 by decide)]
        refine ⟨q1, ?_⟩
        by_cases s1 : i = y
        · subst s1
          by_cases s2 : i = x
          · subst s2
            simp only [if_true]; omega
          · simp only [s2, if_true, if_false]; omega
        · by_cases s2 : i = x
          · subst s2
            simp only [s1, if_true, if_false]; omega
          · simp only [s1, s2, if_false]; omega
    · have uw : kB (I 61) p w w = false := decide_eq_false (fun t => by have := t.2.1; omega)
      have f0 : I 61 w ≠ 0 := by rw [← j61, z]; decide
      rw [z, if_neg (by decide), b118_106 hL (by omega) (by omega), b118_116 hL (by omega) (by omega), b118_117 hL (by omega) (by omega), tn0, k61, z, if_neg (by decide), b118_126 hL (by omega) (by omega), tn0, k50, k51, k65, z5, b119_0 hL (by omega) (by omega) (by omega) (by omega)]
      simp only [vWC_n, Nat.reduceAdd, tn0]
      rw [b118_154, b118_193, e1]
      refine ih (w + 1) _ (by omega) (by omega) (fr_upL (fr_upL (fr_upL F rfl _ _) rfl _ _) rfl _ _) (fun e e2 e3 => ?_) (fun e e2 => by rw [up_cell _ (by decide), up_cell _ (by decide), up_at, if_neg (by omega)]; exact h67 e (by omega)) (fun i i1 i2 => ?_)
      · rw [up_cell _ (by decide), up_cell _ (by decide), up_at]
        by_cases y : e = w
        · rw [if_pos y, y, if_neg f0]
        · rw [if_neg y]; exact h66 e e2 (by omega)
      · obtain ⟨q1, q2⟩ := h i i1 i2
        rw [uB_1 f0, kB_0 hp f0, nt_more (by omega) uw, fx, ty]
        have t1 : ((x : Int) = (i : Int)) ↔ i = x := by omega
        have t2 : ((y : Int) = (i : Int)) ↔ i = y := by omega
        simp only [t1, t2, up_at, up_cell _ (show (68 : Nat) ≠ 67 by decide), up_cell _ (show (67 : Nat) ≠ 66 by decide), up_cell _ (show (68 : Nat) ≠ 66 by decide)]
        refine ⟨?_, q2⟩
        by_cases s1 : i = y
        · subst s1
          by_cases s2 : i = x
          · subst s2
            simp only [if_true]; omega
          · simp only [s2, if_true, if_false]; omega
        · by_cases s2 : i = x
          · subst s2
            simp only [s1, if_true, if_false]; omega
          · simp only [s1, s2, if_false]; omega
/-- one of the two ways that are thought -/
theorem c_th {J : vJ} {x3 : Nat} (hL : vL Y) (h1 : 2297 ≤ o) (h2 : Y.2.1 o = 15) (h3 : J o 3850 = a) (ha : a + 3 ≤ 700) (hx : x3 < 2) : vW d 118 (206, [vr 57, vr o, vr 2066, vi (x3 : Int), vu], [], (J, Y)) P ↔ vW d 118 (201, [vr 57, vr o, vr 2066, vi ((x3 + 1 : Nat) : Int), vu], [], (up (up (up J 66 (2100 + x3) (-1)) 68 (a + 1 + x3) (J 68 (a + 1 + x3) + 1)) 68 a ((up (up J 66 (2100 + x3) (-1)) 68 (a + 1 + x3) (J 68 (a + 1 + x3) + 1)) 68 a + 1), Y)) P := by
  have n6 : o ≠ 66 := by omega
  have n8 : o ≠ 68 := by omega
  have e0 : ((2100 : Int) + (x3 : Int)).toNat = 2100 + x3 := by omega
  have e1 : ∀ (k : Nat) (v : Int), up J 66 k v o 3850 = a := fun k v => by rw [up_cell _ n6]; exact h3
  have e2 : ∀ (k k2 : Nat) (v v2 : Int), up (up J 66 k v) 68 k2 v2 o 3850 = a := fun k k2 v v2 => by rw [up_cell _ n8]; exact e1 k v
  have e3 : ((a : Int) + 1 + (x3 : Int)).toNat = a + 1 + x3 := by omega
  rw [b118_206 hL (by omega) (by omega) (by omega) h2 (by rw [e1]; omega) (by rw [e1]; omega) (by rw [e2]; omega) (by rw [e2]; omega)]
  simp only [e1, e2, e0, e3, tn0]
  rw [show (x3 : Int) + 1 = ((x3 + 1 : Nat) : Int) by omega]
/-- all counts of a member are worked out -/
theorem c_solve (hL : vL Y) (hS : slF I Y c a b p q o) (hat : ∀ i, a ≤ i → i < b → I 2066 i = ac i) (hz : ∀ n : Nat, a ≤ n → n < b → bsA ac a b n + ntU (frF I a) (toF I a) c (aB p q) n = 0) (hF : fstR (frF I a) (toF I a) (u9 (I 61) p q)) (hc9 : ∀ e, ¬ isE p q e → I 66 e = c e)
    (hQ : ∀ J : vJ, fr [66, 67, 68] [] I J → (∀ e, J 66 e = c e) → P (.inl none, (J, Y))) :
    vW (d + 2) 118 (0, [vr 57, vr o, vr 2066, vu, vu], [], (I, Y)) P := by
  have hS0 := hS
  obtain ⟨⟨h1, h2, h3, h4, h5, h6⟩, ⟨g1, g2, g3, g4⟩, g5, g6⟩ := hS
  rw [b118_0 (by omega) h2, h3]
  refine c_l1 (d := d) hL hS0 (fun J1 F1 z1 => ?_) (b - a) a I (by omega) (Nat.le_refl _) (fr_refl _ _ _) (fun i i1 i2 => by omega)
  have o1 : J1 o = I o := fr_ge F1 2297 (by rfl) h1
  rw [b118_38 (by omega) h2, o1, h3]
  refine c_l2 (d := d) (ac := ac) hL hS0 hat (fun J2 F2 z2 => ?_) (b - a) a J1 (by omega) (Nat.le_refl _) F1 (fun i i1 i2 => ⟨?_, (z1 i i1 i2).2⟩)
  rotate_left
  · rw [(z1 i i1 i2).1]
    unfold bsA
    rw [if_neg (by omega), Nat.sub_self]
    split <;> rfl
  have o2 : J2 o = I o := fr_ge F2 2297 (by rfl) h1
  rw [b118_74 (by omega) h2, o2, h5]
  have no0 : ∀ e, e < 2102 → uB (I 61) p p e = false := fun e _ => decide_eq_false (fun t => by have := t.1; have := t.2.1; omega)
  have no1 : ∀ e, e < 2102 → kB (I 61) p p e = false := fun e _ => decide_eq_false (fun t => by have := t.1; have := t.2.1; omega)
  refine c_l3 (d := d) (ac := ac) hL hS0 (fun J3 F3 k66 k67 z3 => ?_) (q - p) p J2 (by omega) (Nat.le_refl _) (fr_sub F2 (by rfl) (by rfl)) (fun e e2 e3 => by omega) (fun e _ => by rw [fr_row F2 66 (fun _ => rfl)]) (fun i i1 i2 => ⟨by rw [(z2 i i1 i2).1, nt_none no1]; omega, by rw [(z2 i i1 i2).2, dg_none no0]⟩)
  have o3 : J3 o = I o := fr_ge F3 2297 (by rfl) h1
  rw [b118_199, b118_201, if_neg (by decide)]
  refine (c_th (x3 := 0) (a := a) hL h1 h2 (by rw [o3]; exact h3) (by omega) (by decide)).mpr ?_
  generalize hJ4 : up (up (up J3 66 (2100 + 0) (-1)) 68 (a + 1 + 0) (J3 68 (a + 1 + 0) + 1)) 68 a ((up (up J3 66 (2100 + 0) (-1)) 68 (a + 1 + 0) (J3 68 (a + 1 + 0) + 1)) 68 a + 1) = J4
  have F4 : fr [66, 68] [] J3 J4 := by rw [← hJ4]; exact fr_upL (fr_upL (fr_upL (fr_refl _ _ _) rfl _ _) rfl _ _) rfl _ _
  have v4 : ∀ i, J4 68 i = if i = a then J3 68 i + 1 else if i = a + 1 then J3 68 i + 1 else J3 68 i := fun i => by
    rw [← hJ4]
    simp only [up_at, up_cell _ (show (68 : Nat) ≠ 66 by decide), Nat.add_zero]
    by_cases z : i = a
    · subst z; rw [if_pos rfl, if_pos rfl, if_neg (by omega)]
    · rw [if_neg z, if_neg z]
      by_cases y : i = a + 1
      · rw [if_pos y, if_pos y, y]
      · rw [if_neg y, if_neg y]
  have s4 : ∀ e, J4 66 e = if e = 2100 then -1 else J3 66 e := fun e => by
    rw [← hJ4, up_cell _ (by decide), up_cell _ (by decide), up_at]
  clear hJ4
  have o4 : J4 o = I o := by rw [fr_ge F4 2297 (by rfl) h1]; exact o3
  rw [b118_201, if_neg (by decide), c_th (x3 := 0 + 1) (a := a) hL h1 h2 (by rw [o4]; exact h3) (by omega) (by decide)]
  generalize hJ5 : up (up (up J4 66 (2100 + (0 + 1)) (-1)) 68 (a + 1 + (0 + 1)) (J4 68 (a + 1 + (0 + 1)) + 1)) 68 a ((up (up J4 66 (2100 + (0 + 1)) (-1)) 68 (a + 1 + (0 + 1)) (J4 68 (a + 1 + (0 + 1)) + 1)) 68 a + 1) = J5
  have F5 : fr [66, 68] [] J4 J5 := by rw [← hJ5]; exact fr_upL (fr_upL (fr_upL (fr_refl _ _ _) rfl _ _) rfl _ _) rfl _ _
  have v5 : ∀ i, J5 68 i = if i = a then J4 68 i + 1 else if i = a + 2 then J4 68 i + 1 else J4 68 i := fun i => by
    rw [← hJ5]
    simp only [up_at, up_cell _ (show (68 : Nat) ≠ 66 by decide), show a + 1 + (0 + 1) = a + 2 by omega]
    by_cases z : i = a
    · subst z; rw [if_pos rfl, if_pos rfl, if_neg (by omega)]
    · rw [if_neg z, if_neg z]
      by_cases y : i = a + 2
      · rw [if_pos y, if_pos y, y]
      · rw [if_neg y, if_neg y]
  have s5 : ∀ e, J5 66 e = if e = 2101 then -1 else J4 66 e := fun e => by
    rw [← hJ5, up_cell _ (by decide), up_cell _ (by decide), up_at]
  clear hJ5
  rw [b118_201, if_pos (by decide), b118_253]
  have FJ : fr [66, 67, 68] [] I J5 := fr_trans F3 (fr_trans (fr_sub F4 (by rfl) (by rfl)) (fr_sub F5 (by rfl) (by rfl)))
  have n0 : uB (I 61) p q 2100 = false := decide_eq_false (fun t => by have := t.2.1; omega)
  have n1 : uUp (uB (I 61) p q) 2100 2101 = false := by unfold uUp; rw [if_neg (by decide)]; exact decide_eq_false (fun t => by have := t.2.1; omega)
  refine c_passes (d := d) (u9 := u9 (I 61) p q) hL hS0 hF hQ (muU (u9 (I 61) p q)).toNat (u9 (I 61) p q) J5 vu (by have := mu_nn (u := u9 (I 61) p q); omega) (fun _ t => t) FJ ⟨fun e he => ?_, fun e hf => ?_, fun n a1 a2 => ?_⟩
  · rw [s5, s4]
    by_cases y : e = 2101
    · exact ⟨Or.inr (Or.inr y), if_pos y⟩
    · rw [if_neg y]
      by_cases w : e = 2100
      · exact ⟨Or.inr (Or.inl w), if_pos w⟩
      · rw [if_neg w]
        unfold u9 uUp at he
        rw [if_neg y, if_neg w] at he
        have t := of_decide_eq_true he
        refine ⟨Or.inl ⟨t.1, t.2.1⟩, ?_⟩
        rw [k66 e t.1 t.2.1, if_pos t.2.2]
  · unfold u9 uUp at hf
    by_cases y : e = 2101
    · rw [if_pos y] at hf; exact absurd hf (by decide)
    · rw [if_neg y] at hf
      by_cases w : e = 2100
      · rw [if_pos w] at hf; exact absurd hf (by decide)
      · rw [if_neg w] at hf
        have t := of_decide_eq_false hf
        rw [s5, s4, if_neg y, if_neg w]
        by_cases e2 : p ≤ e ∧ e < q
        · rw [k66 e e2.1 e2.2, if_neg (fun s => t ⟨e2.1, e2.2, s⟩)]
        · rw [k67 e e2]
          exact hc9 e (fun r => by unfold isE at r; omega)
  · obtain ⟨q1, q2⟩ := z3 n a1 a2
    refine ⟨?_, ?_⟩
    · unfold u9
      rw [dg_more (by decide) n1, dg_more (by decide) n0, v5, v4, q2]
      have r0 : frF I a 2100 = (a : Int) + 1 := rfl
      have r1 : frF I a 2101 = (a : Int) + 2 := rfl
      have r2 : toF I a 2100 = (a : Int) := rfl
      have r3 : toF I a 2101 = (a : Int) := rfl
      rw [r0, r1, r2, r3]
      have t0 : ((a : Int) = (n : Int)) ↔ n = a := by omega
      have t1 : ((a : Int) + 1 = (n : Int)) ↔ n = a + 1 := by omega
      have t2 : ((a : Int) + 2 = (n : Int)) ↔ n = a + 2 := by omega
      simp only [t0, t1, t2]
      by_cases y0 : n = a
      · subst y0
        simp only [if_true, show ¬ n = n + 1 by omega, show ¬ n = n + 2 by omega, if_false]; omega
      · by_cases y1 : n = a + 1
        · subst y1
          simp only [y0, if_true, show ¬ a + 1 = a + 2 by omega, if_false]; omega
        · by_cases y2 : n = a + 2
          · subst y2
            simp only [y0, y1, if_true, if_false]; omega
          · simp only [y0, y1, y2, if_false]; omega
    · have f67 : J5 67 n = J3 67 n := by rw [F5 67 _ rfl, F4 67 _ rfl]
      have nb := nt_both (fo := frF I a) (to := toF I a) (c := c) (n := (n : Int)) (u := u9 (I 61) p q) (k := kB (I 61) p q) (v := aB p q) (fun e he => ?_) (fun e he t => ?_)
      · have := hz n a1 a2
        rw [f67, q1]
        omega
      · unfold aB u9 uUp kB uB
        by_cases y : e = 2101
        · rw [if_pos y]
          exact ⟨fun _ => Or.inl rfl, fun _ => decide_eq_true (Or.inr (Or.inr y))⟩
        · rw [if_neg y]
          by_cases w : e = 2100
          · rw [if_pos w]
            exact ⟨fun _ => Or.inl rfl, fun _ => decide_eq_true (Or.inr (Or.inl w))⟩
          · rw [if_neg w, decide_eq_true_iff, decide_eq_true_iff, decide_eq_true_iff]
            constructor
            · intro t
              have e2 : p ≤ e ∧ e < q := by unfold isE at t; omega
              by_cases s : I 61 e = 0
              · exact Or.inl ⟨e2.1, e2.2, s⟩
              · exact Or.inr ⟨e2.1, e2.2, s⟩
            · intro t
              rcases t with t | t
              · exact Or.inl ⟨t.1, t.2.1⟩
              · exact Or.inl ⟨t.1, t.2.1⟩
      · have t2 := of_decide_eq_true t.2
        have t1 := t.1
        unfold u9 uUp uB at t1
        rw [if_neg (by omega), if_neg (by omega)] at t1
        exact t2.2.2 (of_decide_eq_true t1).2.2
end
