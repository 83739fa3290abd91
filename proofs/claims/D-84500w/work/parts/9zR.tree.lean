/-! ===== the tree of calls: costs of whole branches ===== -/
set_option maxRecDepth 20000
set_option maxHeartbeats 4000000
/-- the first of a node and those above it that is at most m -/
def stF (par : Nat → Nat) (m : Nat) : Nat → Nat → Nat
  | 0, j => j
  | f + 1, j => if j ≤ m then j else stF par m f (par j)
def stP1 (par : Nat → Nat) (n : Nat) : Prop := ∀ i, 1 ≤ i → i < n → par i < i
theorem stF_low {par : Nat → Nat} {m j : Nat} (h : j ≤ m) : ∀ f, stF par m f j = j := by
  intro f
  cases f with
  | zero => rfl
  | succ f => exact if_pos h
theorem stF_le {par : Nat → Nat} {n m : Nat} (hp : stP1 par n) : ∀ (f j : Nat), j < n → j ≤ f → stF par m f j ≤ m := by
  intro f
  induction f with
  | zero => intro j _ h; show j ≤ m; omega
  | succ f ih =>
    intro j hj h
    show (if j ≤ m then j else stF par m f (par j)) ≤ m
    by_cases z : j ≤ m
    · rw [if_pos z]; exact z
    · rw [if_neg z]
      have := hp j (by omega) hj
      exact ih (par j) (by omega) (by omega)
theorem stF_more {par : Nat → Nat} {n m : Nat} (hp : stP1 par n) : ∀ (f j : Nat), j < n → j ≤ f → stF par m (f + 1) j = stF par m f j := by
  intro f
  induction f with
  | zero =>
    intro j _ h
    have : j = 0 := by omega
    subst this
    show (if 0 ≤ m then 0 else _) = 0
    rw [if_pos (Nat.zero_le _)]
  | succ f ih =>
    intro j hj h
    show (if j ≤ m then j else stF par m (f + 1) (par j)) = (if j ≤ m then j else stF par m f (par j))
    by_cases z : j ≤ m
    · rw [if_pos z, if_pos z]
    · rw [if_neg z, if_neg z]
      have := hp j (by omega) hj
      exact ih (par j) (by omega) (by omega)
theorem stF_eq {par : Nat → Nat} {n m : Nat} (hp : stP1 par n) {j : Nat} (hj : j < n) : ∀ k, stF par m (j + k) j = stF par m j j := by
  intro k
  induction k with
  | zero => rfl
  | succ k ih => rw [← Nat.add_assoc, stF_more hp (j + k) j hj (by omega), ih]
theorem stF_step {par : Nat → Nat} {n m : Nat} (hp : stP1 par n) {j : Nat} (hj : j < n) (h : m < j) : stF par m j j = stF par m (par j) (par j) := by
  have pj := hp j (by omega) hj
  obtain ⟨k, hk⟩ : ∃ k, j = k + 1 := ⟨j - 1, by omega⟩
  have e : stF par m j j = stF par m k (par j) := by
    have : stF par m (k + 1) j = if j ≤ m then j else stF par m k (par j) := rfl
    rw [if_neg (by omega)] at this
    rw [← this, ← hk]
  rw [e]
  have w := stF_eq (m := m) hp (show par j < n by omega) (k - par j)
  rw [show par j + (k - par j) = k by omega] at w
  exact w
/-- one bound less -/
theorem stF_pred {par : Nat → Nat} {n m : Nat} (hp : stP1 par n) (hm : 1 ≤ m) (mn : m < n) : ∀ i, m ≤ i → i < n → stF par (m - 1) i i = if stF par m i i = m then par m else stF par m i i := by
  have pm := hp m hm mn
  intro i
  induction i using Nat.strongRecOn with
  | _ i ih =>
    intro h1 h2
    by_cases z : i = m
    · subst z
      rw [stF_low (Nat.le_refl _), if_pos rfl, stF_step hp h2 (by omega), stF_low (by omega)]
    · have pi := hp i (by omega) h2
      rw [stF_step (m := m - 1) hp h2 (by omega), stF_step (m := m) hp h2 (by omega)]
      by_cases y : m ≤ par i
      · exact ih (par i) pi y (by omega)
      · rw [stF_low (show par i ≤ m - 1 by omega), stF_low (show par i ≤ m by omega), if_neg (by omega)]
/-- what hangs on v, up to m -/
def sT (own : Nat → Int) (par : Nat → Nat) (n v m : Nat) : Int := own v + smM own (fun i => if m < i ∧ stF par m i i = v then 1 else 0) n
theorem sT_step {own : Nat → Int} {par : Nat → Nat} {n m v : Nat} (hp : stP1 par n) (hm : 1 ≤ m) (mn : m < n) (hv : v < m) : sT own par n v (m - 1) = sT own par n v m + (if par m = v then sT own par n m m else 0) := by
  have key : ∀ k, k ≤ n → smM own (fun i => if m - 1 < i ∧ stF par (m - 1) i i = v then 1 else 0) k = smM own (fun i => if m < i ∧ stF par m i i = v then 1 else 0) k + (if par m = v then (if m < k then own m else 0) + smM own (fun i => if m < i ∧ stF par m i i = m then 1 else 0) k else 0) := by
    intro k
    induction k with
    | zero =>
      intro _
      show (0 : Int) = 0 + (if par m = v then (if m < 0 then own m else 0) + 0 else 0)
      rw [if_neg (show ¬ m < 0 by omega)]
      split <;> rfl
    | succ k ih =>
      intro hk
      have e := ih (by omega)
      show smM own (fun i => if m - 1 < i ∧ stF par (m - 1) i i = v then 1 else 0) k + (if (if m - 1 < k ∧ stF par (m - 1) k k = v then (1 : Int) else 0) = 1 then own k else 0) = smM own (fun i => if m < i ∧ stF par m i i = v then 1 else 0) k + (if (if m < k ∧ stF par m k k = v then (1 : Int) else 0) = 1 then own k else 0) + (if par m = v then (if m < k + 1 then own m else 0) + (smM own (fun i => if m < i ∧ stF par m i i = m then 1 else 0) k + (if (if m < k ∧ stF par m k k = m then (1 : Int) else 0) = 1 then own k else 0)) else 0)
      rw [e]
      have t1 : ∀ c : Prop, ∀ [Decidable c], (if (if c then (1 : Int) else 0) = 1 then own k else 0) = if c then own k else 0 := fun c _ => by
        by_cases z : c
        · rw [if_pos z, if_pos rfl, if_pos z]
        · rw [if_neg z, if_neg (by decide), if_neg z]
      rw [t1, t1, t1]
      generalize smM own (fun i => if m < i ∧ stF par m i i = v then 1 else 0) k = A
      generalize smM own (fun i => if m < i ∧ stF par m i i = m then 1 else 0) k = B
      by_cases z : k < m
      · rw [if_neg (show ¬ (m - 1 < k ∧ stF par (m - 1) k k = v) by omega), if_neg (show ¬ (m < k ∧ stF par m k k = v) by omega), if_neg (show ¬ (m < k ∧ stF par m k k = m) by omega), if_neg (show ¬ m < k by omega), if_neg (show ¬ m < k + 1 by omega)]
        split <;> omega
      · by_cases y : k = m
        · subst y
          have w : stF par (k - 1) k k = par k := by rw [stF_pred hp hm mn k (Nat.le_refl _) mn, stF_low (Nat.le_refl _), if_pos rfl]
          rw [w, if_neg (show ¬ (k < k ∧ stF par k k k = v) by omega), if_neg (show ¬ (k < k ∧ stF par k k k = k) by omega), if_neg (show ¬ k < k by omega), if_pos (show k < k + 1 by omega)]
          by_cases x : par k = v
          · rw [if_pos (show k - 1 < k ∧ par k = v from ⟨by omega, x⟩), if_pos x, if_pos x]; omega
          · rw [if_neg (show ¬ (k - 1 < k ∧ par k = v) from fun q => x q.2), if_neg x, if_neg x]
        · have w := stF_pred hp hm mn k (by omega) (by omega)
          rw [if_pos (show m < k by omega), if_pos (show m < k + 1 by omega)]
          by_cases x : stF par m k k = m
          · rw [if_pos x] at w
            rw [w, x, if_neg (show ¬ (m < k ∧ m = v) by omega), if_pos (show m < k ∧ m = m from ⟨by omega, rfl⟩)]
            by_cases u : par m = v
            · rw [if_pos (show m - 1 < k ∧ par m = v from ⟨by omega, u⟩), if_pos u, if_pos u]; omega
            · rw [if_neg (show ¬ (m - 1 < k ∧ par m = v) from fun q => u q.2), if_neg u, if_neg u]
          · rw [if_neg x] at w
            rw [w, if_neg (show ¬ (m < k ∧ stF par m k k = m) from fun q => x q.2)]
            by_cases u : stF par m k k = v
            · rw [if_pos (show m - 1 < k ∧ stF par m k k = v from ⟨by omega, u⟩), if_pos (show m < k ∧ stF par m k k = v from ⟨by omega, u⟩)]
              split <;> omega
            · rw [if_neg (show ¬ (m - 1 < k ∧ stF par m k k = v) from fun q => u q.2), if_neg (show ¬ (m < k ∧ stF par m k k = v) from fun q => u q.2)]
              split <;> omega
  unfold sT
  rw [key n (Nat.le_refl _), if_pos mn]
  by_cases x : par m = v
  · rw [if_pos x]; omega
  · rw [if_neg x]; omega
theorem sT_top {own : Nat → Int} {par : Nat → Nat} {n v m : Nat} (h : n ≤ m + 1) : sT own par n v m = own v := by
  unfold sT
  have key : ∀ k, k ≤ n → smM own (fun i => if m < i ∧ stF par m i i = v then 1 else 0) k = 0 := by
    intro k
    induction k with
    | zero => intro _; rfl
    | succ k ih =>
      intro hk
      show smM own (fun i => if m < i ∧ stF par m i i = v then 1 else 0) k + (if (if m < k ∧ stF par m k k = v then (1 : Int) else 0) = 1 then own k else 0) = 0
      rw [ih (by omega), if_neg (show ¬ (m < k ∧ stF par m k k = v) by omega), if_neg (by decide)]
      rfl
  rw [key n (Nat.le_refl _), Int.add_zero]
