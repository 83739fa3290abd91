/-! ===== path: which way out of a node ===== -/
set_option maxRecDepth 20000
set_option maxHeartbeats 4000000
/-- the last way, from w on and below E, whose paths begin at or below R -/
def pwS (o63 : Nat → Int) (R : Int) (E : Nat) : Nat → Nat → Nat
  | 0, w => w
  | s + 1, w => if w + 1 < E ∧ o63 (w + 1) ≤ R then pwS o63 R E s (w + 1) else w
theorem pwS_bd (o63 : Nat → Int) (R : Int) (E : Nat) : ∀ s w, w + s + 1 = E → w ≤ pwS o63 R E s w ∧ pwS o63 R E s w < E
  | 0, w, h => ⟨Nat.le_refl _, by show w < E; omega⟩
  | s + 1, w, h => by
    show w ≤ (if w + 1 < E ∧ o63 (w + 1) ≤ R then pwS o63 R E s (w + 1) else w) ∧ (if w + 1 < E ∧ o63 (w + 1) ≤ R then pwS o63 R E s (w + 1) else w) < E
    have ih := pwS_bd o63 R E s (w + 1) (by omega)
    split
    · exact ⟨by omega, ih.2⟩
    · exact ⟨Nat.le_refl _, by omega⟩
theorem pwS_le {o63 : Nat → Int} {R : Int} {E : Nat} : ∀ s w, o63 w ≤ R → o63 (pwS o63 R E s w) ≤ R
  | 0, _, h => h
  | s + 1, w, h => by
    show o63 (if w + 1 < E ∧ o63 (w + 1) ≤ R then pwS o63 R E s (w + 1) else w) ≤ R
    split
    · rename_i q; exact pwS_le s (w + 1) q.2
    · exact h
/-- what is left is less than the way's paths -/
theorem pwS_lt {o63 pt : Nat → Int} {R : Int} {B E : Nat} (hs : ∀ w : Nat, B ≤ w → w + 1 < E → o63 (w + 1) = o63 w + pt w) (hl : ∀ w : Nat, B ≤ w → w + 1 = E → R < o63 w + pt w) : ∀ s w, B ≤ w → w + s + 1 = E → R < o63 (pwS o63 R E s w) + pt (pwS o63 R E s w)
  | 0, w, hB, h => hl w hB (by omega)
  | s + 1, w, hB, h => by
    have es : pwS o63 R E (s + 1) w = if w + 1 < E ∧ o63 (w + 1) ≤ R then pwS o63 R E s (w + 1) else w := rfl
    rw [es]
    by_cases z : w + 1 < E ∧ o63 (w + 1) ≤ R
    · rw [if_pos z]
      exact pwS_lt hs hl s (w + 1) (by omega) (by omega)
    · rw [if_neg z]
      have q := hs w hB (by omega)
      have : ¬ o63 (w + 1) ≤ R := fun y => z ⟨by omega, y⟩
      omega
section
variable {d d' : Nat} {Y : vY} {I I' : vJ}
theorem c_pwS {P : vE → Prop} {o n B E : Nat} {p x3 x4 R x7 x8 : Int} (hL : vL Y) (hR : inI R) (n7 : n < 700) (hE : I 48 (n + 1) = E) (E2 : E ≤ 2100) (h63 : ∀ w, B ≤ w → w < E → inI (I 63 w)) : ∀ (s w : Nat), B ≤ w → w + s + 1 = E → (vW d 124 (113, [vr 57, vr o, vi p, vi x3, vi x4, vi R, vi (n : Int), vi x7, vi x8, vi (w : Int)], [], (I, Y)) P ↔ vW d 124 (152, [vr 57, vr o, vi p, vi x3, vi x4, vi R, vi (n : Int), vi x7, vi x8, vi (pwS (I 63) R E s w : Int)], [], (I, Y)) P) := by
  intro s
  induction s with
  | zero =>
    intro w hB hw
    have e : ((n : Int) + 1).toNat = n + 1 := by omega
    have gp : w32 (I 48 (n + 1)) ≤ w32 ((w : Int) + 1) := by
      rw [hE, w32_id (by omega) (by omega), w32_id (by omega) (by omega)]; omega
    rw [b124_113 hL (by omega) (by omega), e, if_pos gp]
    exact Iff.rfl
  | succ s ih =>
    intro w hB hw
    have e : ((n : Int) + 1).toNat = n + 1 := by omega
    have e2 : ((w : Int) + 1).toNat = w + 1 := by omega
    have e3 : (w : Int) + 1 = ((w + 1 : Nat) : Int) := by omega
    have gp : ¬ w32 (I 48 (n + 1)) ≤ w32 ((w : Int) + 1) := by
      rw [hE, w32_id (by omega) (by omega), w32_id (by omega) (by omega)]; omega
    have b := h63 (w + 1) (by omega) (by omega)
    have w1 : w32 R = R := w32_id hR.1 hR.2
    have w2 : w32 (I 63 (w + 1)) = I 63 (w + 1) := w32_id b.1 b.2
    have es : pwS (I 63) R E (s + 1) w = if w + 1 < E ∧ I 63 (w + 1) ≤ R then pwS (I 63) R E s (w + 1) else w := rfl
    rw [b124_113 hL (by omega) (by omega), e, if_neg gp, b124_132 hL (by omega) (by omega), e2, w1, w2, es]
    clear w1 w2 gp
    by_cases z : R < I 63 (w + 1)
    · rw [if_pos z, if_neg (fun q => by omega)]
    · rw [if_neg z, if_pos ⟨by omega, by omega⟩, b124_146, e3]
      exact ih (w + 1) (by omega) (by omega)
end
section
variable {d d' : Nat} {Y : vY} {I I' : vJ}
theorem t_pwS {P : vE → Prop} {X B E : Nat} {m p x3 x4 R x6 x7 : Int} {en pt o63 : Nat → Int} (hL : vL Y) (t1 : Y.1 2075 7689 = X) (t3 : vreg Y 2081 38 X) (hR : 0 ≤ R ∧ R ≤ 1000000) (E2 : E ≤ 2100)
    (hA : ∀ w : Nat, B ≤ w → w < E → An d 359 [vr 2075, vi (w : Int)] I' Y (en w))
    (he : ∀ w : Nat, B ≤ w → w < E → (en w = 1 ∧ pt w = 1) ∨ (en w = 0 ∧ (0 ≤ I' (X + 23) w ∧ I' (X + 23) w < 1400) ∧ I' 2177 (I' (X + 23) w).toNat = pt w))
    (hb : ∀ w : Nat, B ≤ w → w < E → (0 ≤ pt w ∧ pt w ≤ 1000000) ∧ 0 ≤ o63 w ∧ o63 w ≤ 1000000)
    (hs : ∀ w : Nat, B ≤ w → w + 1 < E → o63 (w + 1) = o63 w + pt w) (hl : ∀ w : Nat, B ≤ w → w + 1 = E → R < o63 w + pt w) :
    ∀ (s w : Nat), B ≤ w → w + s + 1 = E → (vW (d + 1) 387 (128, [vr 2075, vi m, vi p, vi x3, vi x4, vi (R - o63 w), vi x6, vi x7, vi (w : Int)], [], (I', Y)) P ↔ vW (d + 1) 387 (200, [vr 2075, vi m, vi p, vi x3, vi x4, vi (R - o63 (pwS o63 R E s w)), vi x6, vi x7, vi (pwS o63 R E s w : Int)], [], (I', Y)) P) := by
  have r3 : vreg Y 2081 38 (Y.1 2075 7689) := by rw [t1]; exact t3
  have st : ∀ (w : Nat) (x5 : Int), B ≤ w → w < E → -1000000 ≤ x5 → x5 ≤ 1000000 → (vW (d + 1) 387 (128, [vr 2075, vi m, vi p, vi x3, vi x4, vi x5, vi x6, vi x7, vi (w : Int)], [], (I', Y)) P ↔ if x5 < pt w then vW (d + 1) 387 (200, [vr 2075, vi m, vi p, vi x3, vi x4, vi x5, vi x6, vi x7, vi (w : Int)], [], (I', Y)) P else vW (d + 1) 387 (128, [vr 2075, vi m, vi p, vi x3, vi x4, vi (x5 - pt w), vi x6, vi x7, vi ((w : Int) + 1)], [], (I', Y)) P) := fun w x5 h1 h2 h3 h4 => by
    have A := hA w h1 h2
    have b := (hb w h1 h2).1
    have w1 : w32 x5 = x5 := w32_id (by omega) (by omega)
    have w2 : w32 (pt w) = pt w := w32_id (by omega) (by omega)
    rw [b387_128 hL, A]
    simp only [vWC_s, Nat.reduceAdd]
    rw [b387_136]
    rcases he w h1 h2 with ⟨q1, q2⟩ | ⟨q1, q2, q3⟩
    · rw [q1, if_neg (by decide), b387_139, b387_158, ← q2, w1, w2]
      clear w1 w2
      by_cases z : x5 < pt w
      · rw [if_pos z, if_pos z]
      · rw [if_neg z, if_neg z, b387_161 hL, A]
        simp only [vWC_s, Nat.reduceAdd]
        rw [b387_169, q1, if_neg (by decide), b387_172, b387_191, ← q2]
    · have c1 : (0 : Int) ≤ (w : Int) := by omega
      have c2 : (w : Int) < 3200 := by omega
      rw [q1, if_pos (by decide), b387_143 hL r3 c1 c2 (by rw [t1, tn0]; exact q2.1) (by rw [t1, tn0]; exact q2.2), b387_158, t1, tn0, q3, w1, w2]
      clear w1 w2
      by_cases z : x5 < pt w
      · rw [if_pos z, if_pos z]
      · rw [if_neg z, if_neg z, b387_161 hL, A]
        simp only [vWC_s, Nat.reduceAdd]
        rw [b387_169, q1, if_pos (by decide), b387_176 hL r3 c1 c2 (by rw [t1, tn0]; exact q2.1) (by rw [t1, tn0]; exact q2.2), b387_191, t1, tn0, q3]
  intro s
  induction s with
  | zero =>
    intro w h1 hw
    have b := (hb w h1 (by omega)).2
    have l := hl w h1 (by omega)
    rw [st w _ h1 (by omega) (by omega) (by omega), if_pos (by omega)]
    exact Iff.rfl
  | succ s ih =>
    intro w h1 hw
    have b := (hb w h1 (by omega)).2
    have l := hs w h1 (by omega)
    have es : pwS o63 R E (s + 1) w = if w + 1 < E ∧ o63 (w + 1) ≤ R then pwS o63 R E s (w + 1) else w := rfl
    rw [st w _ h1 (by omega) (by omega) (by omega), es]
    by_cases z : R - o63 w < pt w
    · rw [if_pos z, if_neg (fun q => by omega)]
    · rw [if_neg z, if_pos ⟨by omega, by omega⟩]
      have e1 : R - o63 w - pt w = R - o63 (w + 1) := by omega
      have e2 : (w : Int) + 1 = ((w + 1 : Nat) : Int) := by omega
      rw [e1, e2]
      exact ih (w + 1) (by omega) (by omega)
end
