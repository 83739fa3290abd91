/-! ===== whose turn is next: the thread that is picked ===== -/
set_option maxRecDepth 20000
set_option maxHeartbeats 4000000
theorem cg_s (st : Nat → Int) (n : Nat) : cg st (n + 1) = cg st n + (if st n = 0 then 1 else 0) := rfl
theorem cg_at {st : Nat → Int} {x : Nat} : ∀ {n : Nat}, x < cg st n → ∃ u, u < n ∧ st u = 0 ∧ cg st u = x := by
  intro n
  induction n with
  | zero => intro h; exact absurd h (Nat.not_lt_zero _)
  | succ n ih =>
    intro h
    rw [cg_s] at h
    by_cases z : st n = 0
    · rw [if_pos z] at h
      by_cases y : x < cg st n
      · obtain ⟨u, u1, u2⟩ := ih y
        exact ⟨u, by omega, u2⟩
      · exact ⟨n, by omega, z, by omega⟩
    · rw [if_neg z, Nat.add_zero] at h
      obtain ⟨u, u1, u2⟩ := ih h
      exact ⟨u, by omega, u2⟩
section
variable {d : Nat} {Y : vY} {I : vJ} {Q : vE → Prop}
theorem c_pick {th x u : Nat} {n : Int} (hL : vL Y) (hth : I 1990 3390 = th) (h8 : th ≤ 8) (hst : ∀ u, u < th → 0 ≤ I 1996 u ∧ I 1996 u ≤ 4) (hu : u < th) (h0 : I 1996 u = 0) (hx : cg (I 1996) u = x) (hm : I 1990 3389 = -1) : ∀ m i : Nat, i + m = u → (vW d 196 (96, [vr 1990, vi n, vi ((x : Int) - (cg (I 1996) i : Nat)), vi i], [], (I, Y)) Q ↔ Q (.inl none, (up I 1990 3389 (u : Int), Y))) := by
  intro m
  induction m with
  | zero =>
    intro i hi
    have : i = u := by omega
    subst this
    have e0 : (x : Int) - (cg (I 1996) i : Nat) = 0 := by omega
    have xb := cg_le (I 1996) i
    rw [m196_96 hL, hth, hm, if_neg (fun q => q.elim (fun a => by rw [w32_id (by omega) (by omega), w32_id (by omega) (by omega)] at a; omega) (fun b => b rfl)), b196_112 hL (by omega) (by omega), tn0, h0, if_pos (by decide), e0, b196_124, if_neg (by decide), b196_128 hL, b196_133, b196_136, m196_96 hL, up_same, if_pos (Or.inr (by rw [w32_id (by omega) (by omega), w32_id (by decide) (by decide)]; omega)), b196_142]
  | succ m ih =>
    intro i hi
    have b := hst i (by omega)
    have xb := cg_le (I 1996) i
    have ub := cg_le (I 1996) u
    have mo := cg_mono (I 1996) (show i + 1 ≤ u by omega)
    rw [cg_s] at mo
    rw [← ih (i + 1) (by omega), cg_s, m196_96 hL, hth, hm, if_neg (fun q => q.elim (fun a => by rw [w32_id (by omega) (by omega), w32_id (by omega) (by omega)] at a; omega) (fun b => b rfl)), b196_112 hL (by omega) (by omega), tn0, w32_id (x := I 1996 i) (by omega) (by omega)]
    by_cases z : I 1996 i = 0
    · rw [if_pos z] at mo ⊢
      rw [if_pos z, b196_124, if_pos (by rw [w32_id (by omega) (by omega)]; omega), b196_133, b196_136, show (x : Int) - (cg (I 1996) i : Nat) + -1 = (x : Int) - ((cg (I 1996) i + 1 : Nat) : Int) by omega, show ((i + 1 : Nat) : Int) = (i : Int) + 1 by omega]
    · rw [if_neg z, if_neg z, b196_121, b196_136, Nat.add_zero, show ((i + 1 : Nat) : Int) = (i : Int) + 1 by omega]
/-- the model: the same, by a loop over all threads -/
theorem t_pick2 {th x u : Nat} {x1 n e : Int} (hL : vL Y) (hth : I 2075 7731 = th) (h8 : th ≤ 8) (hst : ∀ u, u < th → 0 ≤ I 2187 u ∧ I 2187 u ≤ 4) (hu : u < th) (h0 : I 2187 u = 0) (hx : cg (I 2187) u = x) : ∀ m i : Nat, u < i → i + m = th → (vW (d + 1) 409 (145, [vr 2075, vi x1, vi n, vi e, vi ((x : Int) - (cg (I 2187) i : Nat)), vi i], [], (I, Y)) Q ↔ vW (d + 1) 409 (241, [vr 2075, vi x1, vi n, vi e, vi ((x : Int) - (cg (I 2187) th : Nat)), vi th], [], (I, Y)) Q) := by
  intro m
  induction m with
  | zero =>
    intro i _ hi
    have : i = th := by omega
    subst this
    rw [b409_145 hL, hth, if_pos (Int.le_refl _), b409_186]
  | succ m ih =>
    intro i ui hi
    have b := hst i (by omega)
    have xb := cg_le (I 2187) i
    have mo := cg_mono (I 2187) (show u + 1 ≤ i by omega)
    rw [cg_s, if_pos h0] at mo
    rw [← ih (i + 1) (by omega) (by omega), cg_s, b409_145 hL, hth, if_neg (by rw [w32_id (by omega) (by omega), w32_id (by omega) (by omega)]; omega), b409_154 hL, t_rdy hL (by omega) b]
    simp only [vWC_s, Nat.reduceAdd]
    by_cases z : I 2187 i = 0
    · rw [if_pos z, if_pos z, b409_160, if_pos (by decide), b409_166, if_pos (by rw [w32_id (by omega) (by omega)]; omega), b409_177, b409_180, show (x : Int) - (cg (I 2187) i : Nat) + -1 = (x : Int) - ((cg (I 2187) i + 1 : Nat) : Int) by omega, show ((i + 1 : Nat) : Int) = (i : Int) + 1 by omega]
    · rw [if_neg z, if_neg z, b409_160, if_neg (by decide), b409_163, b409_180, Nat.add_zero, show ((i + 1 : Nat) : Int) = (i : Int) + 1 by omega]
      exact Iff.rfl
theorem t_pick1 {th x u : Nat} {x1 n e : Int} (hL : vL Y) (hth : I 2075 7731 = th) (h8 : th ≤ 8) (hst : ∀ u, u < th → 0 ≤ I 2187 u ∧ I 2187 u ≤ 4) (hu : u < th) (h0 : I 2187 u = 0) (hx : cg (I 2187) u = x) : ∀ m i : Nat, i + m = u → (vW (d + 1) 409 (145, [vr 2075, vi x1, vi n, vi e, vi ((x : Int) - (cg (I 2187) i : Nat)), vi i], [], (I, Y)) Q ↔ vW (d + 1) 409 (241, [vr 2075, vi x1, vi n, vi e, vi ((x : Int) - (cg (I 2187) th : Nat)), vi th], [], (up I 2075 7730 (u : Int), Y)) Q) := by
  intro m
  induction m with
  | zero =>
    intro i hi
    have : i = u := by omega
    subst this
    have e0 : (x : Int) - (cg (I 2187) i : Nat) = 0 := by omega
    have b := hst i hu
    have r87 : up I 2075 7730 (i : Int) 2187 = I 2187 := up_row _ (by decide) _ _
    have p2 := t_pick2 (d := d) (I := up I 2075 7730 (i : Int)) (Q := Q) (x := x) (u := i) (th := th) (x1 := x1) (n := n) (e := e) hL (by rw [up_place _ _ (by decide)]; exact hth) h8 (fun v hv => by rw [r87]; exact hst v hv) hu (by rw [r87]; exact h0) (by rw [r87]; exact hx) (th - (i + 1)) (i + 1) (by omega) (by omega)
    rw [r87] at p2
    rw [← p2, cg_s, if_pos h0, e0, b409_145 hL, hth, if_neg (by rw [w32_id (by omega) (by omega), w32_id (by omega) (by omega)]; omega), b409_154 hL, t_rdy hL (by omega) b]
    simp only [vWC_s, Nat.reduceAdd]
    rw [if_pos h0, b409_160, if_pos (by decide), b409_166, if_neg (by decide), b409_171 hL, b409_177, b409_180, show (x : Int) - ((cg (I 2187) i + 1 : Nat) : Int) = 0 + -1 by omega, show ((i + 1 : Nat) : Int) = (i : Int) + 1 by omega]
  | succ m ih =>
    intro i hi
    have b := hst i (by omega)
    have xb := cg_le (I 2187) i
    have ub := cg_le (I 2187) u
    have mo := cg_mono (I 2187) (show i + 1 ≤ u by omega)
    rw [cg_s] at mo
    rw [← ih (i + 1) (by omega), cg_s, b409_145 hL, hth, if_neg (by rw [w32_id (by omega) (by omega), w32_id (by omega) (by omega)]; omega), b409_154 hL, t_rdy hL (by omega) b]
    simp only [vWC_s, Nat.reduceAdd]
    by_cases z : I 2187 i = 0
    · rw [if_pos z] at mo
      rw [if_pos z, if_pos z, b409_160, if_pos (by decide), b409_166, if_pos (by rw [w32_id (by omega) (by omega)]; omega), b409_177, b409_180, show (x : Int) - (cg (I 2187) i : Nat) + -1 = (x : Int) - ((cg (I 2187) i + 1 : Nat) : Int) by omega, show ((i + 1 : Nat) : Int) = (i : Int) + 1 by omega]
    · rw [if_neg z, if_neg z, b409_160, if_neg (by decide), b409_163, b409_180, Nat.add_zero, show ((i + 1 : Nat) : Int) = (i : Int) + 1 by omega]
      exact Iff.rfl
/-- the model: the least one, from the last down -/
theorem t_down {th u : Nat} {x1 n e : Int} (hL : vL Y) (h8 : th ≤ 8) (hst : ∀ u, u < th → 0 ≤ I 2187 u ∧ I 2187 u ≤ 4) (hu : u < th) (h0 : I 2187 u = 0) (hx : ∀ v, v < u → I 2187 v ≠ 0) : ∀ (j : Nat) (v : Int), j ≤ th → (j ≤ u → v = u) → (vW (d + 1) 409 (208, [vr 2075, vi x1, vi n, vi e, vi ((j : Int) - 1), vu], [], (up I 2075 7730 v, Y)) Q ↔ vW (d + 1) 409 (241, [vr 2075, vi x1, vi n, vi e, vi (-1), vu], [], (up I 2075 7730 (u : Int), Y)) Q) := by
  intro j
  induction j with
  | zero =>
    intro v _ hv
    rw [hv (Nat.zero_le _), b409_208, show ((0 : Nat) : Int) - 1 = -1 by decide, if_pos (by decide)]
  | succ j ih =>
    intro v hj hv
    have b := hst j (by omega)
    have r87 : up I 2075 7730 v 2187 = I 2187 := up_row _ (by decide) _ _
    rw [show ((j + 1 : Nat) : Int) - 1 = (j : Int) by omega, b409_208, if_neg (by rw [w32_id (by omega) (by omega)]; omega), b409_213 hL, t_rdy hL (by omega) (by rw [r87]; exact b)]
    simp only [vWC_s, Nat.reduceAdd, r87]
    by_cases z : I 2187 j = 0
    · rw [if_pos z, m409_220 hL, if_neg (by decide), b409_232 hL, up_up]
      exact ih (j : Int) (by omega) (fun q => by
        by_cases y : j = u
        · rw [y]
        · exact absurd z (hx j (by omega)))
    · rw [if_neg z, m409_220 hL, if_pos (by decide), b409_232 hL, up_same, up_up]
      exact ih v (by omega) (fun q => hv (by
        by_cases y : j = u
        · rw [y] at z; exact absurd h0 z
        · omega))
end
