/-! ===== path: ways that end a path ===== -/
set_option maxRecDepth 20000
set_option maxHeartbeats 4000000
/-- a way ends a path: it goes back, or to END or FAILED -/
def enD (I : vJ) (w : Nat) : Int := if I 53 w = 1 ∨ I 38 (I 51 w).toNat = 1 ∨ I 38 (I 51 w).toNat = 2 then 1 else 0
section
variable {d d' : Nat} {Y : vY} {I I' : vJ}
theorem c_end7 {w : Nat} {K : Int} (hL : vL Y) (h1 : w < 2100) (h2 : I 53 w = 0 ∨ I 53 w = 1) (h3 : 0 ≤ I 51 w ∧ I 51 w < 700) (hK : I 38 (I 51 w).toNat = K) (h4 : 0 ≤ K ∧ K ≤ 16) : An d 117 [vr 57, vi (w : Int)] I Y (enD I w) := fun P => by
  have c1 : (0 : Int) ≤ (w : Int) := by omega
  have c2 : (w : Int) < 2100 := by omega
  have wk : w32 K = K := w32_id (by omega) (by omega)
  unfold enD
  rw [hK, b117_0 hL c1 c2, tn0]
  rcases h2 with q | q
  · rw [q, if_neg (by decide), b117_12 hL c1 c2 (by rw [tn0]; exact h3.1) (by rw [tn0]; exact h3.2), tn0, hK, wk]
    by_cases z : K = 1
    · rw [if_pos (show K = w32 1 from z), if_pos (Or.inr (Or.inl z)), b117_54, b117_59 (Or.inr rfl)]
    · rw [if_neg (show ¬ K = w32 1 from z), b117_33 hL c1 c2 (by rw [tn0]; exact h3.1) (by rw [tn0]; exact h3.2), tn0, hK, wk]
      by_cases y : K = 2
      · rw [if_neg (show ¬ K ≠ w32 2 from fun e => e y), if_pos (Or.inr (Or.inr y)), b117_54, b117_59 (Or.inr rfl)]
      · rw [if_pos (show K ≠ w32 2 from y), if_neg (show ¬ ((0 : Int) = 1 ∨ K = 1 ∨ K = 2) from fun e => e.elim (fun a => absurd a (by decide)) (fun a => a.elim z y)), b117_58, b117_59 (Or.inl rfl)]
  · rw [q, if_pos (by decide), if_pos (Or.inl rfl), b117_54, b117_59 (Or.inr rfl)]
theorem t_end9 {w X : Nat} {K : Int} (hL : vL Y) (t1 : Y.1 2075 7689 = X) (t3 : vreg Y 2081 38 X) (h1 : w < 2100) (h2 : I 53 w = 0 ∨ I 53 w = 1) (h3 : 0 ≤ I 51 w ∧ I 51 w < 700) (hK : I 38 (I 51 w).toNat = K) (h4 : 0 ≤ K ∧ K ≤ 16) (e53 : I' (X + 25) w = I 53 w) (e51 : I' (X + 23) w = I 51 w) (e38 : I' (X + 9) (I 51 w).toNat = K) : An d 359 [vr 2075, vi (w : Int)] I' Y (enD I w) := fun P => by
  have r3 : vreg Y 2081 38 (Y.1 2075 7689) := by rw [t1]; exact t3
  have c1 : (0 : Int) ≤ (w : Int) := by omega
  have c2 : (w : Int) < 3200 := by omega
  have wk : w32 K = K := w32_id (by omega) (by omega)
  have c3 : 0 ≤ I' (Y.1 2075 7689 + 23) ((w : Int)).toNat := by rw [t1, tn0, e51]; exact h3.1
  have c4 : I' (Y.1 2075 7689 + 23) ((w : Int)).toNat < 1400 := by rw [t1, tn0, e51]; omega
  unfold enD
  rw [hK, b359_0 hL r3 c1 c2, t1, tn0, e53]
  rcases h2 with q | q
  · rw [q, if_neg (by decide), b359_12 hL r3 c1 c2 c3 c4, t1, tn0, e51, e38, wk]
    by_cases z : K = 1
    · rw [if_pos (show K = w32 1 from z), if_pos (Or.inr (Or.inl z)), b359_54, b359_59 (Or.inr rfl)]
    · rw [if_neg (show ¬ K = w32 1 from z), b359_33 hL r3 c1 c2 c3 c4, t1, tn0, e51, e38, wk]
      by_cases y : K = 2
      · rw [if_neg (show ¬ K ≠ w32 2 from fun e => e y), if_pos (Or.inr (Or.inr y)), b359_54, b359_59 (Or.inr rfl)]
      · rw [if_pos (show K ≠ w32 2 from y), if_neg (show ¬ ((0 : Int) = 1 ∨ K = 1 ∨ K = 2) from fun e => e.elim (fun a => absurd a (by decide)) (fun a => a.elim z y)), b359_58, b359_59 (Or.inl rfl)]
  · rw [q, if_pos (by decide), if_pos (Or.inl rfl), b359_54, b359_59 (Or.inr rfl)]
end
