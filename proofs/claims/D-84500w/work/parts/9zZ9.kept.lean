/-! ===== kept: rows of a keeper, in order ===== -/
set_option maxRecDepth 20000
set_option maxHeartbeats 4000000
/-- row j comes ahead of row i -/
def bt (p q : Nat → Int) (i j : Nat) : Int := if p i < p j then 1 else if p j ≠ p i then 0 else if q i ≤ q j then 0 else 1
/-- how many of the first rows come ahead of row i -/
def rk (p q : Nat → Int) (i : Nat) : Nat → Int
  | 0 => 0
  | t + 1 => rk p q i t + bt p q i t
/-- the first row, from i on, that has x rows ahead -/
def fdR (g : Nat → Int) (x : Int) : Nat → Nat → Int
  | 0, _ => -1
  | r + 1, i => if g i = x then (i : Int) else fdR g x r (i + 1)
theorem bt_01 (p q : Nat → Int) (i j : Nat) : bt p q i j = 0 ∨ bt p q i j = 1 := by
  unfold bt
  split
  · exact Or.inr rfl
  · split
    · exact Or.inl rfl
    · split
      · exact Or.inl rfl
      · exact Or.inr rfl
theorem bt_self (p q : Nat → Int) (i : Nat) : bt p q i i = 0 := by
  unfold bt
  rw [if_neg (Int.lt_irrefl _), if_neg (fun w => w rfl), if_pos (Int.le_refl _)]
theorem rk_bd (p q : Nat → Int) (i : Nat) : ∀ t : Nat, 0 ≤ rk p q i t ∧ rk p q i t ≤ t ∧ (i < t → rk p q i t ≤ (t : Int) - 1)
  | 0 => ⟨Int.le_refl _, Int.le_refl _, fun h => absurd h (by omega)⟩
  | t + 1 => by
    have h := rk_bd p q i t
    have e : rk p q i (t + 1) = rk p q i t + bt p q i t := rfl
    rw [e]
    by_cases z : i = t
    · rw [z, bt_self]
      rw [z] at h
      exact ⟨by omega, by omega, fun _ => by omega⟩
    · rcases bt_01 p q i t with b | b
      · rw [b]; exact ⟨by omega, by omega, fun w => by have := h.2.2 (by omega); omega⟩
      · rw [b]; exact ⟨by omega, by omega, fun w => by have := h.2.2 (by omega); omega⟩
theorem fdR_out {g : Nat → Int} {x : Int} : ∀ r i, (∀ j, i ≤ j → j < i + r → g j ≠ x) → fdR g x r i = -1
  | 0, _, _ => rfl
  | r + 1, i, h => by
    show (if g i = x then (i : Int) else fdR g x r (i + 1)) = -1
    rw [if_neg (h i (Nat.le_refl _) (by omega))]
    exact fdR_out r (i + 1) (fun j a b => h j (by omega) (by omega))
theorem fdR_is (g : Nat → Int) (x : Int) : ∀ r i, fdR g x r i = -1 ∨ ∃ j : Nat, i ≤ j ∧ j < i + r ∧ fdR g x r i = j
  | 0, _ => Or.inl rfl
  | r + 1, i => by
    show (if g i = x then (i : Int) else fdR g x r (i + 1)) = -1 ∨ ∃ j : Nat, i ≤ j ∧ j < i + (r + 1) ∧ (if g i = x then (i : Int) else fdR g x r (i + 1)) = j
    by_cases z : g i = x
    · rw [if_pos z]; exact Or.inr ⟨i, Nat.le_refl _, by omega, rfl⟩
    · rw [if_neg z]
      rcases fdR_is g x r (i + 1) with w | ⟨j, a, b, c⟩
      · exact Or.inl w
      · exact Or.inr ⟨j, by omega, by omega, c⟩
def AnL (d z : Nat) (la : List vV) (I : vJ) (Y : vY) (v : Int) : Prop := ∀ P : vE → Prop, vW d z (0, la, [], (I, Y)) P ↔ P (.inl (some (vl v)), (I, Y))
section
variable {d d' a k n : Nat} {Y : vY} {I I' : vJ} {p q : Nat → Int}
theorem c_rank {P : vE → Prop} {x1 : Int} {i : Nat} (ha : vreg Y 2048 3 a) (hn : I a 3587 = n) (n8 : n ≤ 8) (hp : ∀ j, j < 8 → w32 (I (a + 2) j) = p j) (hq : ∀ j, j < 8 → w32 (I (a + 1) j) = q j) (hi : i < n) : vW d 202 (15, [vr a, vi x1, vi (i : Int), vi 0, vi 0], [], (I, Y)) P ↔ vW d 202 (86, [vr a, vi x1, vi (i : Int), vi (rk p q i n), vi (n : Int)], [], (I, Y)) P := by
  have key : ∀ r t : Nat, t + r = n → (vW d 202 (15, [vr a, vi x1, vi (i : Int), vi (rk p q i t), vi (t : Int)], [], (I, Y)) P ↔ vW d 202 (86, [vr a, vi x1, vi (i : Int), vi (rk p q i n), vi (n : Int)], [], (I, Y)) P) := by
    intro r
    induction r with
    | zero =>
      intro t ht
      have e : t = n := by omega
      subst e
      rw [b202_15 ha, hn, if_pos (Int.le_refl _)]
    | succ r ih =>
      intro t ht
      have ge : ¬ w32 (I a 3587) ≤ w32 (t : Int) := by
        rw [hn, w32_id (by omega) (by omega), w32_id (by omega) (by omega)]; omega
      have g := ih (t + 1) (by omega)
      have e : rk p q i (t + 1) = rk p q i t + bt p q i t := rfl
      rw [e] at g
      rw [b202_15 ha, if_neg ge, b202_24 ha (by omega) (by omega) (by omega) (by omega), tn0, tn0, hp i (by omega), hp t (by omega)]
      unfold bt at g
      by_cases z : p i < p t
      · rw [if_pos z] at g ⊢
        rw [b202_73, b202_78]; exact g
      · rw [if_neg z] at g ⊢
        rw [b202_41 ha (by omega) (by omega) (by omega) (by omega), tn0, tn0, hp i (by omega), hp t (by omega)]
        by_cases y : p t ≠ p i
        · rw [if_pos y] at g ⊢
          rw [b202_77, b202_78]; exact g
        · rw [if_neg y] at g ⊢
          rw [b202_57 ha (by omega) (by omega) (by omega) (by omega), tn0, tn0, hq i (by omega), hq t (by omega)]
          by_cases w : q i ≤ q t
          · rw [if_pos w] at g ⊢
            rw [b202_77, b202_78]; exact g
          · rw [if_neg w] at g ⊢
            rw [b202_73, b202_78]; exact g
  exact key n 0 (by omega)
theorem c_findr {P : vE → Prop} {x1 : Int} (hx : inI x1) (ha : vreg Y 2048 3 a) (hn : I a 3587 = n) (n8 : n ≤ 8) (hp : ∀ j, j < 8 → w32 (I (a + 2) j) = p j) (hq : ∀ j, j < 8 → w32 (I (a + 1) j) = q j) : vW d 202 (0, [vr a, vi x1, vu, vu, vu], [], (I, Y)) P ↔ P (.inl (some (vi (fdR (fun i => rk p q i n) x1 n 0))), (I, Y)) := by
  have key : ∀ (r i : Nat) (x3 x4 : vV), i + r = n → (vW d 202 (2, [vr a, vi x1, vi (i : Int), x3, x4], [], (I, Y)) P ↔ P (.inl (some (vi (fdR (fun i => rk p q i n) x1 r i))), (I, Y))) := by
    intro r
    induction r with
    | zero =>
      intro i x3 x4 hi
      have e : i = n := by omega
      subst e
      rw [b202_2 ha, hn, if_pos (Int.le_refl _), b202_99]; exact Iff.rfl
    | succ r ih =>
      intro i x3 x4 hi
      have ge : ¬ w32 (I a 3587) ≤ w32 (i : Int) := by
        rw [hn, w32_id (by omega) (by omega), w32_id (by omega) (by omega)]; omega
      rw [b202_2 ha, if_neg ge, b202_10, c_rank ha hn n8 hp hq (by omega), b202_86]
      have bd := rk_bd p q i n
      have w1 : w32 (rk p q i n) = rk p q i n := w32_id (by omega) (by omega)
      have w2 : w32 x1 = x1 := w32_id hx.1 hx.2
      rw [w1, w2]
      clear w1 w2
      by_cases z : rk p q i n = x1
      · rw [if_neg (fun w => w z), b202_91]
        show _ ↔ P (.inl (some (vi (if rk p q i n = x1 then (i : Int) else fdR (fun i => rk p q i n) x1 r (i + 1)))), (I, Y))
        rw [if_pos z]
      · rw [if_pos z, b202_93]
        show _ ↔ P (.inl (some (vi (if rk p q i n = x1 then (i : Int) else fdR (fun i => rk p q i n) x1 r (i + 1)))), (I, Y))
        rw [if_neg z]
        exact ih (i + 1) _ _ (by omega)
  rw [b202_0]
  exact key n 0 _ _ (by omega)
theorem t_rank {P : vE → Prop} {R : Prop} {x2 x3 : Int} {i : Nat} {x8 : vV} (hL : vL Y) (hk : k < 4) (hn : I' 2269 k = n) (n8 : n ≤ 8) (hp : ∀ j, j < 8 → w32 (I' 2276 (8 * k + j)) = p j) (hq : ∀ j, j < 8 → w64 (I' 2272 (8 * k + j)) = q j) (hi : i < n)
    (hQ : ∀ x8 : vV, vW d' 475 (240, [vr 2075, vi (k : Int), vi x2, vi x3, vi (i : Int), vi (rk p q i n), vi ((8 * k + i : Nat) : Int), vi (n : Int), x8], [], (I', Y)) P ↔ R) :
    vW d' 475 (159, [vr 2075, vi (k : Int), vi x2, vi x3, vi (i : Int), vi 0, vi ((8 * k + i : Nat) : Int), vi 0, x8], [], (I', Y)) P ↔ R := by
  have key : ∀ (r t : Nat) (x8 : vV), t + r = n → (vW d' 475 (159, [vr 2075, vi (k : Int), vi x2, vi x3, vi (i : Int), vi (rk p q i t), vi ((8 * k + i : Nat) : Int), vi (t : Int), x8], [], (I', Y)) P ↔ R) := by
    intro r
    induction r with
    | zero =>
      intro t x8 ht
      have e : t = n := by omega
      subst e
      rw [b475_159 hL (by omega) (by omega), tn0, hn, if_pos (Int.le_refl _)]
      exact hQ x8
    | succ r ih =>
      intro t x8 ht
      have ge : ¬ w32 (I' 2269 k) ≤ w32 (t : Int) := by
        rw [hn, w32_id (by omega) (by omega), w32_id (by omega) (by omega)]; omega
      have g := ih (t + 1) (vi ((8 * k + t : Nat) : Int)) (by omega)
      have e : rk p q i (t + 1) = rk p q i t + bt p q i t := rfl
      have e8 : 8 * (k : Int) + (t : Int) = ((8 * k + t : Nat) : Int) := by omega
      rw [e] at g
      rw [b475_159 hL (by omega) (by omega), tn0, if_neg ge, b475_170, e8, b475_179 hL (by omega) (by omega) (by omega) (by omega), tn0, tn0, hp i (by omega), hp t (by omega)]
      unfold bt at g
      by_cases z : p i < p t
      · rw [if_pos z] at g ⊢
        rw [b475_231, b475_234]; exact g
      · rw [if_neg z] at g ⊢
        rw [b475_196 hL (by omega) (by omega) (by omega) (by omega), tn0, tn0, hp i (by omega), hp t (by omega)]
        by_cases y : p t ≠ p i
        · rw [if_pos y] at g ⊢
          rw [Int.add_zero] at g
          rw [b475_234]; exact g
        · rw [if_neg y] at g ⊢
          rw [b475_213 hL (by omega) (by omega) (by omega) (by omega), tn0, tn0, hq i (by omega), hq t (by omega)]
          by_cases w : q i ≤ q t
          · rw [if_pos w] at g ⊢
            rw [Int.add_zero] at g
            rw [b475_234]; exact g
          · rw [if_neg w] at g ⊢
            rw [b475_231, b475_234]; exact g
  exact key n 0 x8 (by omega)
/-- what the model answers for a row -/
theorem t_findr {P : vE → Prop} {x2 x3 : Int} (hL : vL Y) (hx : inI x2) (h3 : x3 = 0 ∨ x3 = 1) (hk : k < 4) (hn : I' 2269 k = n) (n8 : n ≤ 8) (hp : ∀ j, j < 8 → w32 (I' 2276 (8 * k + j)) = p j) (hq : ∀ j, j < 8 → w64 (I' 2272 (8 * k + j)) = q j) (hq2 : ∀ j, j < 8 → I' 2272 (8 * k + j) = q j) :
    ∀ (r i : Nat) (x5 x6 x7 x8 : vV), i + r = n → (vW d' 475 (133, [vr 2075, vi (k : Int), vi x2, vi x3, vi (i : Int), x5, x6, x7, x8], [], (I', Y)) P ↔ P (.inl (some (vl (if fdR (fun i => rk p q i n) x2 r i = -1 then 0 else if x3 = 0 then q (fdR (fun i => rk p q i n) x2 r i).toNat else p (fdR (fun i => rk p q i n) x2 r i).toNat))), (I', Y))) := by
  intro r
  induction r with
  | zero =>
    intro i x5 x6 x7 x8 hi
    have e : i = n := by omega
    subst e
    rw [b475_133 hL (by omega) (by omega), tn0, hn, if_pos (Int.le_refl _), b475_275]
    show _ ↔ P (.inl (some (vl (if (-1 : Int) = -1 then 0 else _))), (I', Y))
    rw [if_pos rfl]
  | succ r ih =>
    intro i x5 x6 x7 x8 hi
    have ge : ¬ w32 (I' 2269 k) ≤ w32 (i : Int) := by
      rw [hn, w32_id (by omega) (by omega), w32_id (by omega) (by omega)]; omega
    have e8 : 8 * (k : Int) + (i : Int) = ((8 * k + i : Nat) : Int) := by omega
    have ef : fdR (fun i => rk p q i n) x2 (r + 1) i = if rk p q i n = x2 then (i : Int) else fdR (fun i => rk p q i n) x2 r (i + 1) := rfl
    rw [b475_133 hL (by omega) (by omega), tn0, if_neg ge, b475_144, e8]
    refine t_rank hL hk hn n8 hp hq (by omega) (fun y8 => ?_)
    rw [b475_240]
    have bd := rk_bd p q i n
    have w1 : w32 (rk p q i n) = rk p q i n := w32_id (by omega) (by omega)
    have w2 : w32 x2 = x2 := w32_id hx.1 hx.2
    rw [w1, w2, ef]
    clear w1 w2
    by_cases z : rk p q i n = x2
    · rw [if_neg (fun w => w z), if_pos z, if_neg (by omega), tn0, b475_246]
      rcases h3 with h3 | h3
      · rw [h3, if_neg (by decide), if_pos rfl, b475_250 hL (by omega) (by omega), tn0, b475_268, hq2 i (by omega)]
      · rw [h3, if_pos (by decide), if_neg (by decide), b475_260 hL (by omega) (by omega), tn0, b475_268, hp i (by omega)]
    · rw [if_pos z, if_neg z, b475_269]
      exact ih (i + 1) _ _ _ _ (by omega)
end
