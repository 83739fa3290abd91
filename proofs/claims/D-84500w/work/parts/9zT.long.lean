/-! ===== the longest chain of steps: plain part ===== -/
set_option maxRecDepth 20000
set_option maxHeartbeats 4000000
/-- where the links of steps up to s end -/
def cE (eo : Nat → Int) (s : Int) : Nat → Nat
  | 0 => 0
  | e + 1 => if eo e ≤ s then e + 1 else cE eo s e
theorem cE_le (eo : Nat → Int) (s : Int) : ∀ E, cE eo s E ≤ E := by
  intro E
  induction E with
  | zero => exact Nat.le_refl _
  | succ E ih =>
    show (if eo E ≤ s then E + 1 else cE eo s E) ≤ E + 1
    split <;> omega
theorem mono_le {eo : Nat → Int} {E : Nat} (hm : ∀ e, e + 1 < E → eo e ≤ eo (e + 1)) : ∀ (k i : Nat), i + k < E → eo i ≤ eo (i + k) := by
  intro k
  induction k with
  | zero => intro i _; exact Int.le_refl _
  | succ k ih => intro i h; exact Int.le_trans (ih i (by omega)) (hm (i + k) (by omega))
theorem cE_in {eo : Nat → Int} {s : Int} : ∀ {E : Nat}, (∀ e, e + 1 < E → eo e ≤ eo (e + 1)) → ∀ e, e < E → (e < cE eo s E ↔ eo e ≤ s) := by
  intro E
  induction E with
  | zero => intro _ e h; omega
  | succ E ih =>
    intro hm e he
    show (e < (if eo E ≤ s then E + 1 else cE eo s E)) ↔ eo e ≤ s
    by_cases z : eo E ≤ s
    · rw [if_pos z]
      have := mono_le hm (E - e) e (by omega)
      rw [show e + (E - e) = E by omega] at this
      exact ⟨fun _ => Int.le_trans this z, fun _ => he⟩
    · rw [if_neg z]
      by_cases y : e = E
      · subst y
        have := cE_le eo s e
        exact ⟨fun q => absurd q (by omega), fun q => absurd q z⟩
      · exact ih (fun e h => hm e (by omega)) e (by omega)
theorem cE_mono {eo : Nat → Int} {s t : Int} (h : s ≤ t) : ∀ E, cE eo s E ≤ cE eo t E := by
  intro E
  induction E with
  | zero => exact Nat.le_refl _
  | succ E ih =>
    show (if eo E ≤ s then E + 1 else cE eo s E) ≤ (if eo E ≤ t then E + 1 else cE eo t E)
    have := cE_le eo s E
    by_cases z : eo E ≤ s
    · rw [if_pos z, if_pos (Int.le_trans z h)]; exact Nat.le_refl _
    · rw [if_neg z]
      split <;> omega
theorem hd_cE {eo : Nat → Int} {s : Int} : ∀ {E : Nat}, (∀ e, e + 1 < E → eo e ≤ eo (e + 1)) → hd eo s E = if cE eo (s - 1) E < cE eo s E then (cE eo s E : Int) else 0 := by
  intro E
  induction E with
  | zero => intro _; rfl
  | succ E ih =>
    intro hm
    have k := ih (fun e h => hm e (by omega))
    show (if eo E = s then (E : Int) + 1 else hd eo s E) = if (if eo E ≤ s - 1 then E + 1 else cE eo (s - 1) E) < (if eo E ≤ s then E + 1 else cE eo s E) then ((if eo E ≤ s then E + 1 else cE eo s E : Nat) : Int) else 0
    have l1 := cE_le eo (s - 1) E
    by_cases z : eo E = s
    · rw [if_pos z, if_pos (show eo E ≤ s by omega), if_neg (show ¬ eo E ≤ s - 1 by omega), if_pos (by omega)]
      rfl
    · rw [if_neg z]
      by_cases y : eo E ≤ s - 1
      · rw [if_pos y, if_pos (show eo E ≤ s by omega), if_neg (by omega), k]
        have a : cE eo (s - 1) E = E := by
          cases E with
          | zero => rfl
          | succ E => show (if eo E ≤ s - 1 then E + 1 else cE eo (s - 1) E) = E + 1; rw [if_pos (by have := hm E (by omega); omega)]
        have b := cE_le eo s E
        rw [if_neg (by omega)]
      · rw [if_neg y, if_neg (show ¬ eo E ≤ s by omega)]
        exact k
/-- greatest of a row, from below and from above -/
def fa (c : Int) (g : Nat → Int) (lo : Nat) : Nat → Int
  | 0 => c
  | k + 1 => max (fa c g lo k) (g (lo + k))
def fd (g : Nat → Int) (lo : Nat) : Nat → Int → Int
  | 0, c => c
  | k + 1, c => fd g lo k (max c (g (lo + k)))
theorem fd_max {g : Nat → Int} {lo : Nat} : ∀ (k : Nat) (c x : Int), fd g lo k (max c x) = max (fd g lo k c) x := by
  intro k
  induction k with
  | zero => intro c x; rfl
  | succ k ih =>
    intro c x
    show fd g lo k (max (max c x) (g (lo + k))) = max (fd g lo k (max c (g (lo + k)))) x
    rw [ih, ih, ih]
    omega
theorem fa_fd {g : Nat → Int} {lo : Nat} {c : Int} : ∀ k, fa c g lo k = fd g lo k c := by
  intro k
  induction k with
  | zero => rfl
  | succ k ih =>
    show max (fa c g lo k) (g (lo + k)) = fd g lo k (max c (g (lo + k)))
    rw [ih, fd_max]
theorem fa_congr {c : Int} {g g' : Nat → Int} {lo : Nat} : ∀ {k : Nat}, (∀ j, j < k → g (lo + j) = g' (lo + j)) → fa c g lo k = fa c g' lo k := by
  intro k
  induction k with
  | zero => intro _; rfl
  | succ k ih =>
    intro h
    show max (fa c g lo k) (g (lo + k)) = max (fa c g' lo k) (g' (lo + k))
    rw [ih (fun j hj => h j (by omega)), h k (by omega)]
theorem w32_max {a b : Int} : w32 (if w32 a < w32 b then b else a) = max (w32 a) (w32 b) := by
  by_cases z : w32 a < w32 b
  · rw [if_pos z]; omega
  · rw [if_neg z]; omega
theorem w32_addc {a b c : Int} (h : w32 a = w32 b) : w32 (a + c) = w32 (b + c) := by
  unfold w32 at *
  rw [Int.bmod_def, Int.bmod_def] at h
  rw [Int.bmod_def, Int.bmod_def]
  split at h <;> split at h <;> split <;> split <;> omega
