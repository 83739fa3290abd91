/-! ===== whose turn is next: how many threads go, how many have ended ===== -/
set_option maxRecDepth 20000
set_option maxHeartbeats 4000000
def cg (st : Nat → Int) : Nat → Nat
  | 0 => 0
  | n + 1 => cg st n + (if st n = 0 then 1 else 0)
def ce (st : Nat → Int) : Nat → Nat
  | 0 => 0
  | n + 1 => ce st n + (if 3 ≤ st n then 1 else 0)
theorem cg_le (st : Nat → Int) : ∀ n, cg st n ≤ n := by
  intro n
  induction n with
  | zero => exact Nat.le_refl _
  | succ n ih =>
    have e : cg st (n + 1) = cg st n + (if st n = 0 then 1 else 0) := rfl
    rw [e]
    by_cases z : st n = 0
    · rw [if_pos z]; omega
    · rw [if_neg z]; omega
theorem ce_le (st : Nat → Int) : ∀ n, ce st n ≤ n := by
  intro n
  induction n with
  | zero => exact Nat.le_refl _
  | succ n ih =>
    have e : ce st (n + 1) = ce st n + (if 3 ≤ st n then 1 else 0) := rfl
    rw [e]
    by_cases z : 3 ≤ st n
    · rw [if_pos z]; omega
    · rw [if_neg z]; omega
theorem cg_mono (st : Nat → Int) : ∀ {n m : Nat}, n ≤ m → cg st n ≤ cg st m := by
  intro n m h
  induction m with
  | zero => have : n = 0 := by omega
            subst this; exact Nat.le_refl _
  | succ m ih =>
    by_cases z : n = m + 1
    · subst z; exact Nat.le_refl _
    · have e : cg st (m + 1) = cg st m + (if st m = 0 then 1 else 0) := rfl
      have := ih (by omega)
      omega
theorem cg_congr {st st' : Nat → Int} : ∀ {n : Nat}, (∀ u, u < n → st' u = st u) → cg st' n = cg st n := by
  intro n
  induction n with
  | zero => intro _; rfl
  | succ n ih =>
    intro h
    show cg st' n + (if st' n = 0 then 1 else 0) = cg st n + (if st n = 0 then 1 else 0)
    rw [ih (fun u hu => h u (by omega)), h n (by omega)]
theorem ce_congr {st st' : Nat → Int} : ∀ {n : Nat}, (∀ u, u < n → st' u = st u) → ce st' n = ce st n := by
  intro n
  induction n with
  | zero => intro _; rfl
  | succ n ih =>
    intro h
    show ce st' n + (if 3 ≤ st' n then 1 else 0) = ce st n + (if 3 ≤ st n then 1 else 0)
    rw [ih (fun u hu => h u (by omega)), h n (by omega)]
/-- none goes, all have ended: as status says it -/
theorem any_cg (st : Nat → Int) : ∀ n, anyG st n = 1 ↔ 0 < cg st n := by
  intro n
  induction n with
  | zero => exact ⟨fun q => absurd (show (0 : Int) = 1 from q) (by decide), fun q => absurd q (Nat.lt_irrefl _)⟩
  | succ n ih =>
    have e : cg st (n + 1) = cg st n + (if st n = 0 then 1 else 0) := rfl
    have e2 : anyG st (n + 1) = if anyG st n = 1 ∨ st n = 0 then 1 else 0 := rfl
    rw [e, e2]
    by_cases z : st n = 0
    · rw [if_pos (Or.inr z), if_pos z]; omega
    · rw [if_neg z]
      by_cases y : anyG st n = 1
      · rw [if_pos (Or.inl y)]; have := ih.mp y; omega
      · rw [if_neg (fun q => q.elim y z)]
        have := fun q => y (ih.mpr q)
        omega
theorem all_ce (st : Nat → Int) : ∀ n, allE st n = 1 ↔ ce st n = n := by
  intro n
  induction n with
  | zero => exact ⟨fun _ => rfl, fun _ => rfl⟩
  | succ n ih =>
    have e : ce st (n + 1) = ce st n + (if 3 ≤ st n then 1 else 0) := rfl
    have e2 : allE st (n + 1) = if allE st n = 1 ∧ 3 ≤ st n then 1 else 0 := rfl
    have le := ce_le st n
    rw [e, e2]
    by_cases z : 3 ≤ st n
    · rw [if_pos z]
      by_cases y : allE st n = 1
      · rw [if_pos ⟨y, z⟩]; have := ih.mp y; omega
      · rw [if_neg (fun q => y q.1)]
        have := fun q => y (ih.mpr q)
        omega
    · rw [if_neg z, if_neg (fun q => z q.2)]; omega
section
variable {d : Nat} {Y : vY} {I : vJ} {Q : vE → Prop}
theorem c_cnt {th : Nat} (hL : vL Y) (hth : I 1990 3390 = th) (h8 : th ≤ 8) (hst : ∀ u, u < th → 0 ≤ I 1996 u ∧ I 1996 u ≤ 4) : vW d 196 (0, [vr 1990, vu, vu, vu], [], (I, Y)) Q ↔ vW d 196 (37, [vr 1990, vi ((cg (I 1996) th : Nat) : Int), vi 0, vu], [], (I, Y)) Q := by
  have loop : ∀ m i : Nat, i + m = th → (vW d 196 (4, [vr 1990, vi ((cg (I 1996) i : Nat) : Int), vi i, vu], [], (I, Y)) Q ↔ vW d 196 (37, [vr 1990, vi ((cg (I 1996) th : Nat) : Int), vi 0, vu], [], (I, Y)) Q) := by
    intro m
    induction m with
    | zero =>
      intro i hi
      have : i = th := by omega
      subst this
      rw [b196_4 hL, hth, if_pos (Int.le_refl _), b196_35]
    | succ m ih =>
      intro i hi
      have b := hst i (by omega)
      rw [b196_4 hL, hth, if_neg (by rw [w32_id (by omega) (by omega), w32_id (by omega) (by omega)]; omega), b196_12 hL (by omega) (by omega), tn0, w32_id (by omega) (by omega), ← ih (i + 1) (by omega)]
      have e : cg (I 1996) (i + 1) = cg (I 1996) i + (if I 1996 i = 0 then 1 else 0) := rfl
      by_cases z : I 1996 i = 0
      · rw [if_neg (fun q => q z), b196_22, b196_27, e, if_pos z]
        rfl
      · rw [if_pos z, b196_26, b196_27, e, if_neg z]
        rfl
  rw [b196_0]
  exact loop th 0 (by omega)
theorem t_rdy {u : Nat} (hL : vL Y) (hu : u < 8) (hst : 0 ≤ I 2187 u ∧ I 2187 u ≤ 4) : vW d 410 (0, [vr 2075, vi u], [], (I, Y)) Q ↔ Q (.inl (some (vi (if I 2187 u = 0 then 1 else 0))), (I, Y)) := by
  rw [b410_0 hL (by omega) (by omega), tn0, w32_id (by omega) (by omega)]
  by_cases z : I 2187 u = 0
  · rw [if_neg (fun q => q z), b410_9, b410_14 (Or.inr rfl), if_pos z]
  · rw [if_pos z, b410_13, b410_14 (Or.inl rfl), if_neg z]
theorem t_cnt {th : Nat} {x1 : Int} (hL : vL Y) (hth : I 2075 7731 = th) (h8 : th ≤ 8) (hst : ∀ u, u < th → 0 ≤ I 2187 u ∧ I 2187 u ≤ 4) : vW (d + 1) 409 (0, [vr 2075, vi x1, vu, vu, vu, vu], [], (I, Y)) Q ↔ vW (d + 1) 409 (58, [vr 2075, vi x1, vi ((cg (I 2187) th : Nat) : Int), vi ((ce (I 2187) th : Nat) : Int), vi th, vu], [], (I, Y)) Q := by
  have loop : ∀ m i : Nat, i + m = th → (vW (d + 1) 409 (7, [vr 2075, vi x1, vi ((cg (I 2187) i : Nat) : Int), vi ((ce (I 2187) i : Nat) : Int), vi i, vu], [], (I, Y)) Q ↔ vW (d + 1) 409 (58, [vr 2075, vi x1, vi ((cg (I 2187) th : Nat) : Int), vi ((ce (I 2187) th : Nat) : Int), vi th, vu], [], (I, Y)) Q) := by
    intro m
    induction m with
    | zero =>
      intro i hi
      have : i = th := by omega
      subst this
      rw [b409_7 hL, hth, if_pos (Int.le_refl _)]
    | succ m ih =>
      intro i hi
      have b := hst i (by omega)
      rw [b409_7 hL, hth, if_neg (by rw [w32_id (by omega) (by omega), w32_id (by omega) (by omega)]; omega), b409_16 hL, t_rdy hL (by omega) b, ← ih (i + 1) (by omega)]
      simp only [vWC_s, Nat.reduceAdd]
      have e : cg (I 2187) (i + 1) = cg (I 2187) i + (if I 2187 i = 0 then 1 else 0) := rfl
      have e2 : ce (I 2187) (i + 1) = ce (I 2187) i + (if 3 ≤ I 2187 i then 1 else 0) := rfl
      by_cases z : I 2187 i = 0
      · rw [if_pos z, m409_23, if_neg (by decide), b409_31, b409_33 hL (by omega) (by omega), tn0, w32_id (x := I 2187 i) (by omega) (by omega), if_pos (by rw [w32_id (by decide) (by decide)]; omega), b409_49, b409_50, e, if_pos z, e2, if_neg (by omega)]
        rw [show ((cg (I 2187) i + 1 : Nat) : Int) = (cg (I 2187) i : Int) + 1 by omega, Nat.add_zero, Int.add_zero, show ((i + 1 : Nat) : Int) = (i : Int) + 1 by omega]
        exact Iff.rfl
      · rw [if_neg z, m409_23, if_pos (by decide), b409_31, b409_33 hL (by omega) (by omega), tn0, w32_id (x := I 2187 i) (by omega) (by omega)]
        by_cases y : 3 ≤ I 2187 i
        · rw [if_neg (by rw [w32_id (by decide) (by decide)]; omega), b409_45, b409_50, e, if_neg z, e2, if_pos y]
          rw [show ((ce (I 2187) i + 1 : Nat) : Int) = (ce (I 2187) i : Int) + 1 by omega, Nat.add_zero, Int.add_zero, show ((i + 1 : Nat) : Int) = (i : Int) + 1 by omega]
          exact Iff.rfl
        · rw [if_pos (by rw [w32_id (by decide) (by decide)]; omega), b409_49, b409_50, e, if_neg z, e2, if_neg y]
          rw [Nat.add_zero, Int.add_zero, Nat.add_zero, Int.add_zero, show ((i + 1 : Nat) : Int) = (i : Int) + 1 by omega]
          exact Iff.rfl
  rw [b409_0]
  exact loop th 0 (by omega)
end
