/-! ===== probes: the order of ways; roots and labels ===== -/
set_option maxRecDepth 20000
set_option maxHeartbeats 4000000
abbrev cst (i : Nat) : Int := (i : Int)
/-- ways p .. p + n in the order of their weights, the greater first; those alike by their numbers -/
def sE (wt : Nat → Int) (p n : Nat) (a : Nat → Int) : Prop := (∀ i, i < n → ∃ v : Nat, a i = v ∧ p ≤ v ∧ v < p + n) ∧ (∀ i i', i < i' → i' < n → prc wt cst (a i).toNat (a i').toNat) ∧ ∀ v : Nat, p ≤ v → v < p + n → ∃ i, i < n ∧ a i = v
section
variable {d : Nat} {Y : vY} {I : vJ} {P : vE → Prop} {wt : Nat → Int} {p q k o : Nat} {x2 : Int}
/-- the house puts one more way where it belongs -/
theorem c_ins (hL : vL Y) (hw : ∀ v, p ≤ v → v < q → I 58 v = wt v ∧ 0 ≤ wt v ∧ wt v < 2147483648) (hk : p + k < q) (hq : q ≤ 2100)
    (hQ : ∀ (J : vJ) (x4 x5 : vV), fr [59] [] I J → sE wt p (k + 1) (J 59) → vW (d + 2) 112 (63, [vr 57, vr o, vi x2, vi ((k + 1 : Nat) : Int), x4, x5], [], (J, Y)) P) :
    ∀ (s j : Nat) (J : vJ), j ≤ s → j ≤ k → fr [59] [] I J → (∀ i, i ≤ k → i ≠ j → ∃ v : Nat, J 59 i = v ∧ p ≤ v ∧ v < p + k) → (∀ i i', i < i' → i' ≤ k → i ≠ j → i' ≠ j → prc wt cst (J 59 i).toNat (J 59 i').toNat) → (∀ i, j < i → i ≤ k → wt (J 59 i).toNat < wt (p + k)) → (∀ v : Nat, p ≤ v → v < p + k → ∃ i, i ≤ k ∧ i ≠ j ∧ J 59 i = v) → vW (d + 2) 112 (82, [vr 57, vr o, vi x2, vi (k : Int), vi ((p + k : Nat) : Int), vi (j : Int)], [], (J, Y)) P := by
  have fin : ∀ (j : Nat) (J : vJ), j ≤ k → fr [59] [] I J → (∀ i, i ≤ k → i ≠ j → ∃ v : Nat, J 59 i = v ∧ p ≤ v ∧ v < p + k) → (∀ i i', i < i' → i' ≤ k → i ≠ j → i' ≠ j → prc wt cst (J 59 i).toNat (J 59 i').toNat) → (∀ i, j < i → i ≤ k → wt (J 59 i).toNat < wt (p + k)) → (∀ v : Nat, p ≤ v → v < p + k → ∃ i, i ≤ k ∧ i ≠ j ∧ J 59 i = v) → (∀ i, i < j → wt (p + k) ≤ wt (J 59 i).toNat) → vW (d + 2) 112 (133, [vr 57, vr o, vi x2, vi (k : Int), vi ((p + k : Nat) : Int), vi (j : Int)], [], (J, Y)) P := by
    intro j J hj F h1 h2 h3 h4 h5
    rw [b112_133 hL (by omega) (by omega), tn0, show (k : Int) + 1 = ((k + 1 : Nat) : Int) by omega]
    refine hQ _ _ _ (fr_upL F rfl _ _) ⟨fun i hi => ?_, fun i i' h6 h7 => ?_, fun v v1 v2 => ?_⟩
    · rw [up_at]
      by_cases z : i = j
      · rw [if_pos z]; exact ⟨p + k, rfl, by omega, by omega⟩
      · obtain ⟨v, e1, e2, e3⟩ := h1 i (by omega) z
        rw [if_neg z]; exact ⟨v, e1, e2, by omega⟩
    · rw [up_at, up_at]
      by_cases z : i = j
      · have z2 : ¬ i' = j := by omega
        have w := h3 i' (by omega) (by omega)
        rw [if_pos z, if_neg z2, tn0]
        exact Or.inl w
      · rw [if_neg z]
        by_cases y : i' = j
        · obtain ⟨v, e1, e2, e3⟩ := h1 i (by omega) z
          have w := h5 i (by omega)
          rw [if_pos y, tn0, e1, tn0]
          rw [e1, tn0] at w
          show wt (p + k) < wt v ∨ wt v = wt (p + k) ∧ (v : Int) < ((p + k : Nat) : Int)
          omega
        · rw [if_neg y]; exact h2 i i' h6 (by omega) z y
    · by_cases z : v = p + k
      · exact ⟨j, by omega, by rw [up_same, z]⟩
      · obtain ⟨i, i1, i2, i3⟩ := h4 v v1 (by omega)
        exact ⟨i, by omega, by rw [up_at, if_neg i2]; exact i3⟩
  intro s
  induction s with
  | zero =>
    intro j J hs hj F h1 h2 h3 h4
    have e : j = 0 := by omega
    subst e
    rw [b112_82, if_pos (by decide)]
    exact fin 0 J hj F h1 h2 h3 h4 (fun i hi => absurd hi (Nat.not_lt_zero _))
  | succ s ih =>
    intro j J hs hj F h1 h2 h3 h4
    by_cases j0 : j = 0
    · subst j0
      rw [b112_82, if_pos (by decide)]
      exact fin 0 J hj F h1 h2 h3 h4 (fun i hi => absurd hi (Nat.not_lt_zero _))
    · have ej : (j : Int) - 1 = ((j - 1 : Nat) : Int) := by omega
      obtain ⟨v, e1, e2, e3⟩ := h1 (j - 1) (by omega) (by omega)
      have wv := hw v e2 (by omega)
      have wk := hw (p + k) (by omega) hk
      have f58 : J 58 = I 58 := fr_row F 58 (fun _ => rfl)
      rw [b112_82, if_neg (by rw [w32_id (by omega) (by omega)]; omega), b112_87 hL (by omega) (by omega) (by rw [ej, tn0, e1]; omega) (by rw [ej, tn0, e1]; omega) (by omega) (by omega), ej, tn0, tn0, e1, tn0, f58, wv.1, wk.1, w32_id (by omega) (by omega), w32_id (by omega) (by omega)]
      by_cases z : wt (p + k) ≤ wt v
      · rw [if_pos z]
        refine fin j J hj F h1 h2 h3 h4 (fun i hi => ?_)
        by_cases y : i = j - 1
        · rw [y, e1, tn0]; exact z
        · have w := h2 i (j - 1) (by omega) (by omega) (by omega) (by omega)
          rw [e1, tn0] at w
          unfold prc at w
          omega
      · rw [if_neg z, b112_111 hL (by omega) (by omega) (by omega) (by omega), ej, tn0, tn0, e1, show (j : Int) + -1 = ((j - 1 : Nat) : Int) by omega]
        refine ih (j - 1) _ (by omega) (by omega) (fr_upL F rfl _ _) (fun i i1 i2 => ?_) (fun i i' i1 i2 i3 i4 => ?_) (fun i i1 i2 => ?_) (fun u u1 u2 => ?_)
        · rw [up_at]
          by_cases y : i = j
          · rw [if_pos y]; exact ⟨v, rfl, e2, e3⟩
          · rw [if_neg y]; exact h1 i i1 y
        · rw [up_at, up_at]
          by_cases y : i' = j
          · rw [if_pos y, if_neg (by omega), tn0]
            have w := h2 i (j - 1) (by omega) (by omega) (by omega) (by omega)
            rw [e1, tn0] at w
            exact w
          · rw [if_neg y]
            by_cases t : i = j
            · rw [if_pos t, tn0]
              have w := h2 (j - 1) i' (by omega) i2 (by omega) y
              rw [e1, tn0] at w
              exact w
            · rw [if_neg t]; exact h2 i i' i1 i2 t y
        · rw [up_at]
          by_cases y : i = j
          · rw [if_pos y, tn0]; omega
          · rw [if_neg y]; exact h3 i (by omega) i2
        · obtain ⟨i, i1, i2, i3⟩ := h4 u u1 u2
          by_cases y : i = j - 1
          · refine ⟨j, hj, by omega, ?_⟩
            rw [up_same, ← e1, ← y]; exact i3
          · exact ⟨i, i1, y, by rw [up_at, if_neg i2]; exact i3⟩
/-- the house puts all ways of a member in order -/
theorem c_order (hL : vL Y) (ho : 2297 ≤ o ∧ Y.2.1 o = 15 ∧ I o 3852 = p ∧ I o 3853 = (q : Int) - p) (hpq : p ≤ q ∧ q ≤ 2100) (hw : ∀ v, p ≤ v → v < q → I 58 v = wt v ∧ 0 ≤ wt v ∧ wt v < 2147483648)
    (hQ : ∀ (J : vJ) (x4 x5 : vV), fr [59] [] I J → sE wt p (q - p) (J 59) → vW (d + 2) 112 (148, [vr 57, vr o, vi x2, vi ((q - p : Nat) : Int), x4, x5], [], (J, Y)) P) :
    ∀ (s k : Nat) (J : vJ) (x4 x5 : vV), k + s = q - p → fr [59] [] I J → sE wt p k (J 59) → vW (d + 2) 112 (63, [vr 57, vr o, vi x2, vi (k : Int), x4, x5], [], (J, Y)) P := by
  intro s
  induction s with
  | zero =>
    intro k J x4 x5 hk F h
    have e : k = q - p := by omega
    subst e
    rw [b112_63 (by omega) ho.2.1, fr_ge F 2297 (by rfl) ho.1, ho.2.2.2, if_pos (by rw [show (q : Int) - p = ((q - p : Nat) : Int) by omega]; exact Int.le_refl _)]
    exact hQ J x4 x5 F h
  | succ s ih =>
    intro k J x4 x5 hk F h
    rw [b112_63 (by omega) ho.2.1, fr_ge F 2297 (by rfl) ho.1, ho.2.2.2, if_neg (by rw [w32_id (by omega) (by omega), w32_id (by omega) (by omega)]; omega), b112_71 (by omega) ho.2.1, fr_ge F 2297 (by rfl) ho.1, ho.2.2.1, show (p : Int) + (k : Int) = ((p + k : Nat) : Int) by omega]
    refine c_ins (d := d) (wt := wt) (p := p) (q := q) (k := k) hL hw (by omega) hpq.2 (fun J2 y4 y5 F2 h2 => ih (k + 1) J2 y4 y5 (by omega) F2 h2) k k J (Nat.le_refl _) (Nat.le_refl _) F (fun i i1 i2 => h.1 i (by omega)) (fun i i' i1 i2 i3 i4 => h.2.1 i i' i1 (by omega)) (fun i i1 i2 => by omega) (fun v v1 v2 => ?_)
    obtain ⟨i, i1, i2⟩ := h.2.2 v v1 v2
    exact ⟨i, by omega, by omega, i2⟩
end
/-- rows of roots: lb tells each node's root, dp how far it is -/
def ufR (g : Nat → Int) (a b : Nat) (lb dp : Nat → Nat) : Prop := ∀ n, a ≤ n → n < b → (a ≤ lb n ∧ lb n < b ∧ lb (lb n) = lb n) ∧ ∃ h : Nat, g n = h ∧ (a ≤ h ∧ h < b) ∧ (h = n ↔ lb n = n) ∧ lb h = lb n ∧ (h ≠ n → dp h < dp n)
section
variable {d : Nat} {Y : vY} {J : vJ} {P : vE → Prop} {a b : Nat} {lb dp : Nat → Nat}
theorem c_root {x : Int} (hL : vL Y) (hb : b ≤ 700) (h : ufR (J 60) a b lb dp) : ∀ (s n : Nat), dp n ≤ s → a ≤ n → n < b → (vW d 114 (2, [vr 57, vi x, vi (n : Int)], [], (J, Y)) P ↔ P (.inl (some (vi (lb n : Int))), (J, Y))) := by
  intro s
  induction s with
  | zero =>
    intro n hs n1 n2
    obtain ⟨l, g, g1, g2, g3, g4, g5⟩ := h n n1 n2
    have e : g = n := Classical.byContradiction (fun q => by have := g5 q; omega)
    rw [b114_2 hL (by omega) (by omega), tn0, g1, if_pos (by rw [e]), b114_22, g3.mp e]
  | succ s ih =>
    intro n hs n1 n2
    obtain ⟨l, g, g1, g2, g3, g4, g5⟩ := h n n1 n2
    by_cases e : g = n
    · rw [b114_2 hL (by omega) (by omega), tn0, g1, if_pos (by rw [e]), b114_22, g3.mp e]
    · rw [b114_2 hL (by omega) (by omega), tn0, g1, if_neg (by rw [w32_id (by omega) (by omega), w32_id (by omega) (by omega)]; omega), b114_12 hL (by omega) (by omega), tn0, g1, ih g (by have := g5 e; omega) g2.1 g2.2, g4]
theorem uf_join {g g' : Nat → Int} {x y : Nat} (h : ufR g a b lb dp) (hx : a ≤ x ∧ x < b) (hy : a ≤ y ∧ y < b) (hne : lb x ≠ lb y) (hg : ∀ n, g' n = if n = lb x then (lb y : Int) else g n) : ufR g' a b (fun n => if lb n = lb x then lb y else lb n) (fun n => if lb n = lb x then dp n + dp (lb y) + 1 else dp n) := by
  intro n n1 n2
  obtain ⟨⟨x1, x2, x3⟩, _⟩ := h x hx.1 hx.2
  obtain ⟨⟨y1, y2, y3⟩, _⟩ := h y hy.1 hy.2
  obtain ⟨⟨l1, l2, l3⟩, q, q1, q2, q3, q4, q5⟩ := h n n1 n2
  have lyx : ¬ lb (lb y) = lb x := by rw [y3]; exact fun t => hne t.symm
  refine ⟨?_, ?_⟩
  · show a ≤ (if lb n = lb x then lb y else lb n) ∧ (if lb n = lb x then lb y else lb n) < b ∧ (if lb (if lb n = lb x then lb y else lb n) = lb x then lb y else lb (if lb n = lb x then lb y else lb n)) = if lb n = lb x then lb y else lb n
    by_cases z : lb n = lb x
    · rw [if_pos z, if_neg lyx]; exact ⟨y1, y2, y3⟩
    · rw [if_neg z, if_neg (by rw [l3]; exact z)]; exact ⟨l1, l2, l3⟩
  · by_cases z : n = lb x
    · refine ⟨lb y, by rw [hg, if_pos z], ⟨y1, y2⟩, ?_, ?_, fun _ => ?_⟩
      · show lb y = n ↔ (if lb n = lb x then lb y else lb n) = n
        rw [if_pos (by rw [z]; exact x3)]
      · show (if lb (lb y) = lb x then lb y else lb (lb y)) = if lb n = lb x then lb y else lb n
        rw [if_neg lyx, if_pos (by rw [z]; exact x3), y3]
      · show (if lb (lb y) = lb x then dp (lb y) + dp (lb y) + 1 else dp (lb y)) < if lb n = lb x then dp n + dp (lb y) + 1 else dp n
        rw [if_neg lyx, if_pos (by rw [z]; exact x3)]; omega
    · refine ⟨q, by rw [hg, if_neg z]; exact q1, q2, ?_, ?_, fun t => ?_⟩
      · show q = n ↔ (if lb n = lb x then lb y else lb n) = n
        by_cases w : lb n = lb x
        · rw [if_pos w]
          constructor
          · intro t; exact absurd ((q3.mp t).symm.trans w) z
          · intro t
            rw [← t, y3] at w
            exact absurd w (fun s => hne s.symm)
        · rw [if_neg w]; exact q3
      · show (if lb q = lb x then lb y else lb q) = if lb n = lb x then lb y else lb n
        rw [q4]
      · show (if lb q = lb x then dp q + dp (lb y) + 1 else dp q) < if lb n = lb x then dp n + dp (lb y) + 1 else dp n
        rw [q4]
        have := q5 t
        split <;> omega
/-- the house joins two nodes -/
theorem c_join {x y : Nat} (hL : vL Y) (hb : b ≤ 700) (h : ufR (J 60) a b lb dp) (hx : a ≤ x ∧ x < b) (hy : a ≤ y ∧ y < b) : vW (d + 1) 113 (0, [vr 57, vi (x : Int), vi (y : Int), vu, vu], [], (J, Y)) P ↔ if lb x = lb y then P (.inl (some (vi 0)), (J, Y)) else P (.inl (some (vi 1)), (up J 60 (lb x) (lb y), Y)) := by
  obtain ⟨⟨x1, x2, x3⟩, _⟩ := h x hx.1 hx.2
  obtain ⟨⟨y1, y2, y3⟩, _⟩ := h y hy.1 hy.2
  rw [b113_0 hL, b114_0, c_root hL hb h (dp x) x (Nat.le_refl _) hx.1 hx.2]
  simp only [vWC_s, Nat.reduceAdd]
  rw [b113_5 hL, b114_0, c_root hL hb h (dp y) y (Nat.le_refl _) hy.1 hy.2]
  simp only [vWC_s, Nat.reduceAdd]
  by_cases z : lb x = lb y
  · rw [b113_11, b113_13, if_neg (by rw [z]; exact fun q => q rfl), b113_19, if_pos z]
  · rw [b113_11, b113_13, if_pos (by rw [w32_id (by omega) (by omega), w32_id (by omega) (by omega)]; omega), b113_21 hL (by omega) (by omega), tn0, if_neg z]
end
/-- the labels that come of joining ways one behind the other -/
def lb0 (a n : Nat) : Nat := if n = a + 1 ∨ n = a + 2 then a else n
def lbC (f t od : Nat → Nat) (a : Nat) : Nat → Nat → Nat
  | 0, n => lb0 a n
  | k + 1, n => if lbC f t od a k n = lbC f t od a k (t (od k)) then lbC f t od a k (f (od k)) else lbC f t od a k n
/-- two labellings tell the same nodes apart -/
def eqL (a b : Nat) (l m : Nat → Nat) : Prop := ∀ n n', a ≤ n → n < b → a ≤ n' → n' < b → (l n = l n' ↔ m n = m n')
theorem eq_same {f t od l : Nat → Nat} {a b k : Nat} (h : eqL a b l (lbC f t od a k)) (hf : a ≤ f (od k) ∧ f (od k) < b) (ht : a ≤ t (od k) ∧ t (od k) < b) (e : l (f (od k)) = l (t (od k))) : eqL a b l (lbC f t od a (k + 1)) := by
  have e2 := (h _ _ hf.1 hf.2 ht.1 ht.2).mp e
  have same : ∀ n, lbC f t od a (k + 1) n = lbC f t od a k n := fun n => by
    show (if lbC f t od a k n = lbC f t od a k (t (od k)) then lbC f t od a k (f (od k)) else lbC f t od a k n) = _
    by_cases z : lbC f t od a k n = lbC f t od a k (t (od k))
    · rw [if_pos z, z, e2]
    · rw [if_neg z]
  intro n n' a1 a2 a3 a4
  rw [same, same]; exact h n n' a1 a2 a3 a4
theorem eq_join {f t od l : Nat → Nat} {a b k : Nat} (h : eqL a b l (lbC f t od a k)) (hf : a ≤ f (od k) ∧ f (od k) < b) (ht : a ≤ t (od k) ∧ t (od k) < b) (e : l (f (od k)) ≠ l (t (od k))) : eqL a b (fun n => if l n = l (f (od k)) then l (t (od k)) else l n) (lbC f t od a (k + 1)) := by
  intro n n' a1 a2 a3 a4
  show (if l n = l (f (od k)) then l (t (od k)) else l n) = (if l n' = l (f (od k)) then l (t (od k)) else l n') ↔ (if lbC f t od a k n = lbC f t od a k (t (od k)) then lbC f t od a k (f (od k)) else lbC f t od a k n) = (if lbC f t od a k n' = lbC f t od a k (t (od k)) then lbC f t od a k (f (od k)) else lbC f t od a k n')
  have h1 := h n n' a1 a2 a3 a4
  have h2 := h n (f (od k)) a1 a2 hf.1 hf.2
  have h3 := h n' (f (od k)) a3 a4 hf.1 hf.2
  have h4 := h n (t (od k)) a1 a2 ht.1 ht.2
  have h5 := h n' (t (od k)) a3 a4 ht.1 ht.2
  have h6 := h (f (od k)) (t (od k)) hf.1 hf.2 ht.1 ht.2
  generalize lbC f t od a k n = m1 at *
  generalize lbC f t od a k n' = m2 at *
  generalize lbC f t od a k (f (od k)) = m3 at *
  generalize lbC f t od a k (t (od k)) = m4 at *
  generalize l n = l1 at *
  generalize l n' = l2 at *
  generalize l (f (od k)) = l3 at *
  generalize l (t (od k)) = l4 at *
  clear h hf ht a1 a2 a3 a4
  split <;> split <;> split <;> split <;> omega
