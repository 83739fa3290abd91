/-! ===== probes: the model's ===== -/
set_option maxRecDepth 20000
set_option maxHeartbeats 4000000
section
variable {d : Nat} {Y : vY} {I J : vJ} {P : vE → Prop} {wt : Nat → Int} {a b p q m mm X : Nat} {f t od : Nat → Nat} {L : Nat → Nat}
/-- the model joins two parts -/
theorem t_joins {x y : Nat} (hL : vL Y) (hb : b ≤ 1400) (h : ∀ n, a ≤ n → n < b → J 2175 n = L n ∧ L n < 1400) (hx : a ≤ x ∧ x < b) (hy : a ≤ y ∧ y < b)
    (hQ0 : L x = L y → P (.inl (some (vi 0)), (J, Y))) (hQ1 : L x ≠ L y → ∀ J2 : vJ, fr [2175] [] J J2 → (∀ n, a ≤ n → n < b → J2 2175 n = (if L n = L y then L x else L n : Nat)) → P (.inl (some (vi 1)), (J2, Y))) :
    vW d 356 (0, [vr 2075, vi (x : Int), vi (y : Int), vi (a : Int), vi (b : Int), vu, vu, vu], [], (J, Y)) P := by
  obtain ⟨x1, x2⟩ := h x hx.1 hx.2
  obtain ⟨y1, y2⟩ := h y hy.1 hy.2
  rw [b356_0 hL (by omega) (by omega) (by omega) (by omega), tn0, tn0, x1, y1, b356_16, w32_id (by omega) (by omega), w32_id (by omega) (by omega)]
  by_cases z : L x = L y
  · rw [if_neg (fun q => q (by rw [z])), b356_23]
    exact hQ0 z
  · rw [if_pos (by omega), b356_25]
    have key : ∀ (s n : Nat) (K : vJ), n + s = b → a ≤ n → fr [2175] [] J K → (∀ i, a ≤ i → i < n → K 2175 i = (if L i = L y then L x else L i : Nat)) → (∀ i, n ≤ i → i < b → K 2175 i = L i) → vW d 356 (28, [vr 2075, vi (x : Int), vi (y : Int), vi (a : Int), vi (b : Int), vi (L x : Int), vi (L y : Int), vi (n : Int)], [], (K, Y)) P := by
      intro s
      induction s with
      | zero =>
        intro n K hs hn F h1 h2
        have e : n = b := by omega
        subst e
        rw [b356_28, if_pos (Int.le_refl _), b356_62]
        exact hQ1 z K F h1
      | succ s ih =>
        intro n K hs hn F h1 h2
        have en : (n : Int) + 1 = ((n + 1 : Nat) : Int) := by omega
        have kn := h2 n (Nat.le_refl _) (by omega)
        have ln := (h n hn (by omega)).2
        rw [b356_28, if_neg (by rw [w32_id (by omega) (by omega), w32_id (by omega) (by omega)]; omega), b356_35 hL (by omega) (by omega), tn0, kn, w32_id (by omega) (by omega), w32_id (by omega) (by omega)]
        by_cases y' : L n = L y
        · rw [if_neg (fun q => q (by rw [y'])), b356_47 hL (by omega) (by omega), tn0, b356_56, en]
          refine ih (n + 1) _ (by omega) (by omega) (fr_upL F rfl _ _) (fun i i1 i2 => ?_) (fun i i1 i2 => ?_)
          · rw [up_at]
            by_cases w : i = n
            · rw [if_pos w, w, if_pos y']
            · rw [if_neg w]; exact h1 i i1 (by omega)
          · rw [up_at, if_neg (by omega)]; exact h2 i (by omega) i2
        · rw [if_pos (by omega), b356_56, en]
          refine ih (n + 1) K (by omega) (by omega) F (fun i i1 i2 => ?_) (fun i i1 i2 => h2 i (by omega) i2)
          by_cases w : i = n
          · rw [w, if_neg y']; exact kn
          · exact h1 i i1 (by omega)
    exact key (b - a) a J (by omega) (Nat.le_refl _) (fr_refl _ _ _) (fun i i1 i2 => by omega) (fun i i1 i2 => (h i i1 i2).1)
/-- the model looks for the first greatest way that was not looked at -/
theorem t_best {x4 x5 : Int} {k : Nat} (hL : vL Y) (hq : q ≤ 2100) (sO : sE wt p (q - p) (fun i => (od i : Int))) (hpq : p ≤ q) (hk : k < q - p) (hwt : ∀ w, p ≤ w → w < q → J 2172 w = wt w ∧ 0 ≤ wt w ∧ wt w < 2147483648) (hlk : ∀ w, p ≤ w → w < q → (J 2176 w = 0 ∧ (∀ i, i < k → od i ≠ w)) ∨ (J 2176 w = 1 ∧ ∃ i, i < k ∧ od i = w))
    (hQ : vW d 354 (182, [vr 2075, vi (m : Int), vi (a : Int), vi (b : Int), vi x4, vi x5, vi (p : Int), vi (q : Int), vi ((p + k : Nat) : Int), vi (od k : Int), vi (q : Int)], [], (J, Y)) P) :
    vW d 354 (132, [vr 2075, vi (m : Int), vi (a : Int), vi (b : Int), vi x4, vi x5, vi (p : Int), vi (q : Int), vi ((p + k : Nat) : Int), vi (-1), vi (p : Int)], [], (J, Y)) P := by
  have key : ∀ (s w : Nat) (x9 : Int), w + s = q → p ≤ w → ((x9 = -1 ∧ ∀ u, p ≤ u → u < w → ∃ i, i < k ∧ od i = u) ∨ ∃ v : Nat, x9 = v ∧ p ≤ v ∧ v < w ∧ (∀ i, i < k → od i ≠ v) ∧ ∀ u, p ≤ u → u < w → (∀ i, i < k → od i ≠ u) → u ≠ v → prc wt cst v u) → vW d 354 (132, [vr 2075, vi (m : Int), vi (a : Int), vi (b : Int), vi x4, vi x5, vi (p : Int), vi (q : Int), vi ((p + k : Nat) : Int), vi x9, vi (w : Int)], [], (J, Y)) P := by
    intro s
    induction s with
    | zero =>
      intro w x9 hs hw h
      have e : w = q := by omega
      subst e
      rw [b354_132, if_pos (Int.le_refl _)]
      obtain ⟨v0, o1, o2, o3⟩ := sO.1 k hk
      have o1 : (od k : Int) = v0 := o1
      have nk : ∀ i, i < k → od i ≠ od k := fun i hi q => by
        have := sE_inj sO (i := i) (j := k) (by omega) hk (by show (od i : Int) = (od k : Int); rw [q])
        omega
      have e9 : x9 = (od k : Int) := by
        rcases h with ⟨_, h2⟩ | ⟨v, v1, v2, v3, v4, v5⟩
        · obtain ⟨i, i1, i2⟩ := h2 (od k) (by omega) (by omega)
          exact absurd i2 (nk i i1)
        · obtain ⟨i, i1, i2⟩ := sO.2.2 v v2 (by omega)
          have i2 : (od i : Int) = v := i2
          have ik : k ≤ i := Classical.byContradiction (fun q => v4 i (by omega) (by omega))
          by_cases y : i = k
          · rw [v1, ← y]; exact i2.symm
          · have c1 := v5 (od k) (by omega) (by omega) nk (fun q => by
              have := sE_inj sO (i := i) (j := k) i1 hk (by show (od i : Int) = (od k : Int); omega)
              omega)
            have c2 := sO.2.1 k i (by omega) i1
            have c2 : prc wt cst (od k) (od i) := c2
            have ev : od i = v := by omega
            rw [ev] at c2
            unfold prc at c1 c2
            omega
      rw [e9]
      exact hQ
    | succ s ih =>
      intro w x9 hs hw h
      have ew : (w : Int) + 1 = ((w + 1 : Nat) : Int) := by omega
      obtain ⟨w1, w2, w3⟩ := hwt w hw (by omega)
      rw [b354_132, if_neg (by rw [w32_id (by omega) (by omega), w32_id (by omega) (by omega)]; omega), b354_139 hL (by omega) (by omega), tn0]
      rcases hlk w hw (by omega) with ⟨l1, l2⟩ | ⟨l1, i0, l2, l3⟩
      · rw [l1, if_neg (by decide), b354_149]
        rcases h with ⟨h1, h2⟩ | ⟨v, v1, v2, v3, v4, v5⟩
        · rw [h1, if_pos (by decide), b354_172, b354_176, ew]
          refine ih (w + 1) _ (by omega) (by omega) (Or.inr ⟨w, rfl, hw, by omega, l2, fun u u1 u2 u3 u4 => ?_⟩)
          obtain ⟨i, i1, i2⟩ := h2 u u1 (by omega)
          exact absurd i2 (u3 i i1)
        · obtain ⟨z1, z2, z3⟩ := hwt v v2 (by omega)
          rw [v1, if_neg (by rw [w32_id (by omega) (by omega)]; omega), b354_154 hL (by omega) (by omega) (by omega) (by omega), tn0, tn0, w1, z1, w64_id (by omega) (by omega), w64_id (by omega) (by omega)]
          by_cases y : wt w ≤ wt v
          · rw [if_pos y, b354_176, ew]
            refine ih (w + 1) _ (by omega) (by omega) (Or.inr ⟨v, rfl, v2, by omega, v4, fun u u1 u2 u3 u4 => ?_⟩)
            by_cases t : u = w
            · rw [t]
              show wt w < wt v ∨ wt v = wt w ∧ (v : Int) < (w : Int)
              omega
            · exact v5 u u1 (by omega) u3 u4
          · rw [if_neg y, b354_172, b354_176, ew]
            refine ih (w + 1) _ (by omega) (by omega) (Or.inr ⟨w, rfl, hw, by omega, l2, fun u u1 u2 u3 u4 => ?_⟩)
            by_cases t : u = v
            · rw [t]
              exact Or.inl (by omega)
            · have c := v5 u u1 (by omega) u3 t
              unfold prc at c
              exact Or.inl (by omega)
      · rw [l1, if_pos (by decide), b354_176, ew]
        refine ih (w + 1) _ (by omega) (by omega) ?_
        rcases h with ⟨h1, h2⟩ | ⟨v, v1, v2, v3, v4, v5⟩
        · refine Or.inl ⟨h1, fun u u1 u2 => ?_⟩
          by_cases t : u = w
          · exact ⟨i0, l2, by rw [t]; exact l3⟩
          · exact h2 u u1 (by omega)
        · refine Or.inr ⟨v, v1, v2, by omega, v4, fun u u1 u2 u3 u4 => ?_⟩
          by_cases t : u = w
          · rw [t] at u3; exact absurd l3 (u3 i0 l2)
          · exact v5 u u1 (by omega) u3 u4
  exact key (q - p) p (-1) (by omega) (Nat.le_refl _) (Or.inl ⟨rfl, fun u u1 u2 => by omega⟩)
/-- where a member's nodes and ways lie in the model -/
def mbT (I : vJ) (X mm m a b p q : Nat) : Prop := (I X 7936 = mm ∧ m < mm ∧ mm ≤ 24) ∧ (I (X + 4) m = a ∧ (if m + 1 < mm then I (X + 4) (m + 1) = b else I X 7938 = b)) ∧ I (X + 5) m = p ∧ (if m + 1 < mm then I (X + 5) (m + 1) = q else I X 7939 = q)
theorem mb_355 (hL : vL Y) (hX : Y.1 2075 7689 = X) (hV : vreg Y 2081 38 X) (h : mbT I X mm m a b p q) : An d 355 [vr 2075, vi (m : Int)] I Y b := fun P => by
  obtain ⟨⟨h1, h2, h3⟩, ⟨_, h5⟩, _⟩ := h
  have e1 : (m : Int) + 1 = ((m + 1 : Nat) : Int) := by omega
  rw [b355_0 hL (by rw [hX]; exact hV), hX, h1, e1, w32_id (by omega) (by omega), w32_id (by omega) (by omega)]
  by_cases z : m + 1 < mm
  · rw [if_pos z] at h5
    rw [if_neg (by omega), b355_13 hL (by rw [hX]; exact hV) (by omega) (by omega), hX, e1, tn0, h5, b355_34]
  · rw [if_neg z] at h5
    rw [if_pos (by omega), b355_27 hL (by rw [hX]; exact hV), hX, h5, b355_34]
theorem mb_357 (hL : vL Y) (hX : Y.1 2075 7689 = X) (hV : vreg Y 2081 38 X) (h : mbT I X mm m a b p q) : An d 357 [vr 2075, vi (m : Int)] I Y q := fun P => by
  obtain ⟨⟨h1, h2, h3⟩, _, _, h5⟩ := h
  have e1 : (m : Int) + 1 = ((m + 1 : Nat) : Int) := by omega
  rw [b357_0 hL (by rw [hX]; exact hV), hX, h1, e1, w32_id (by omega) (by omega), w32_id (by omega) (by omega)]
  by_cases z : m + 1 < mm
  · rw [if_pos z] at h5
    rw [if_neg (by omega), b357_13 hL (by rw [hX]; exact hV) (by omega) (by omega), hX, e1, tn0, h5, b357_34]
  · rw [if_neg z] at h5
    rw [if_pos (by omega), b357_27 hL (by rw [hX]; exact hV), hX, h5, b357_34]
theorem mb_fr (h : mbT I X mm m a b p q) (hX2 : X = 2081 ∨ X = 2119) (F : fr [2173, 2174, 2175, 2176] [] I J) : mbT J X mm m a b p q := by
  unfold mbT at *
  rw [fr_out F 2081 2173 (by rfl) (show 2081 ≤ X by omega) (by omega), fr_out F 2081 2173 (by rfl) (show 2081 ≤ X + 4 by omega) (by omega), fr_out F 2081 2173 (by rfl) (show 2081 ≤ X + 5 by omega) (by omega)]
  exact h
theorem lbC_b (hft : ∀ i, i < q - p → (a ≤ f (od i) ∧ f (od i) < b) ∧ a ≤ t (od i) ∧ t (od i) < b) (hab : a + 3 ≤ b) : ∀ k, k ≤ q - p → ∀ n, a ≤ n → n < b → lbC f t od a k n < b := by
  intro k
  induction k with
  | zero => intro _ n n1 n2; show lb0 a n < b; unfold lb0; split <;> omega
  | succ k ih =>
    intro hk n n1 n2
    show (if lbC f t od a k n = lbC f t od a k (t (od k)) then lbC f t od a k (f (od k)) else lbC f t od a k n) < b
    obtain ⟨⟨f1, f2⟩, _⟩ := hft k (by omega)
    split
    · exact ih (by omega) _ f1 f2
    · exact ih (by omega) n n1 n2
end
