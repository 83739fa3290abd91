/-! ===== questions about a run (partly printed) ===== -/
set_option maxRecDepth 20000
set_option maxHeartbeats 4000000
/-- a call answers x and leaves all as it was -/
def An (d y : Nat) (ls : List vV) (I : vJ) (Y : vY) (x : Int) : Prop := ∀ P : vE → Prop, vW d y (0, ls, [], (I, Y)) P ↔ P (.inl (some (vi x)), (I, Y))
theorem c_in {d : Nat} {I : vJ} {Y : vY} {P : vE → Prop} {a b c : Int} (ha : inI a) (hb : inI b) (hc : inI c) : vW d 4 (0, [vi a, vi b, vi c], [], (I, Y)) P ↔ P (.inl (some (vi (if b ≤ a ∧ a ≤ c then 1 else 0))), (I, Y)) := by
  unfold inI at ha hb hc
  by_cases z : b ≤ a ∧ a ≤ c
  · rw [m4_0, if_pos z, b4_15 (by split; exact Or.inr rfl; exact Or.inl rfl), if_pos (by rw [w32_id ha.1 ha.2, w32_id hb.1 hb.2, w32_id hc.1 hc.2]; omega)]
  · rw [m4_0, if_neg z, b4_15 (by split; exact Or.inr rfl; exact Or.inl rfl), if_neg (by rw [w32_id ha.1 ha.2, w32_id hb.1 hb.2, w32_id hc.1 hc.2]; omega)]
theorem t_in {d : Nat} {I : vJ} {Y : vY} {P : vE → Prop} {a b c : Int} (ha : inI a) (hb : inI b) (hc : inI c) : vW d 290 (0, [vi a, vi b, vi c], [], (I, Y)) P ↔ P (.inl (some (vi (if b ≤ a ∧ a ≤ c then 1 else 0))), (I, Y)) := by
  unfold inI at ha hb hc
  by_cases z : b ≤ a ∧ a ≤ c
  · rw [m290_0, if_pos z, b290_15 (by split; exact Or.inr rfl; exact Or.inl rfl), if_pos (by rw [w32_id ha.1 ha.2, w32_id hb.1 hb.2, w32_id hc.1 hc.2]; omega)]
  · rw [m290_0, if_neg z, b290_15 (by split; exact Or.inr rfl; exact Or.inl rfl), if_neg (by rw [w32_id ha.1 ha.2, w32_id hb.1 hb.2, w32_id hc.1 hc.2]; omega)]
theorem in0 : inI 0 := by unfold inI; omega
section
variable {d d' : Nat} {Y Y' : vY} {X mm Nn Lp : Nat} {nm pr ht : Nat → Nat} {I I' : vJ} {th W N : Nat}
theorem RQ_status {P : vE → Prop} (hL : vL Y) (h : RQ Y Y' X mm Nn Lp nm pr ht I I' th W N) : (vW d 173 (0, [vr 1990, vu, vu, vu], [], (I, Y)) P ↔ P (.inl (some (vi (I' 2075 7728))), (I, Y))) ∧ 1 ≤ I' 2075 7728 ∧ I' 2075 7728 ≤ 4 := by
  obtain ⟨_, s2, _, _, ⟨n1, _, n3, _⟩, _, sv, _⟩ := h
  rw [c_status hL s2.1.1.1 s2.1.1.2.2 n1 n3 (fun u hu => (s2.1.2 u hu).1.2), sv]
  exact ⟨Iff.rfl, stv_bd _ _ _⟩
theorem q_state {a : Int} (hL : vL Y) (hL' : vL Y') (ha : inI a) (h : RQ Y Y' X mm Nn Lp nm pr ht I I' th W N) (hi : I 1990 3398 = 1) : ∃ x, An (d + 1) 20 [vr 18, vi a] I Y x ∧ An d' 456 [vr 2075, vi a] I' Y' x := by
  have st := fun P => (RQ_status (d := d) (P := P) hL h).1
  have sb := (RQ_status (d := 0) (P := fun _ => True) hL h).2
  obtain ⟨_, s2, ⟨q1, q2, q3, q4, q5, q6, q7, q8, q9, q10, q11, q12, _⟩, _, ⟨n1, n2, _⟩, _, _, tu⟩ := h
  have c0 : ∀ P : vE → Prop, vW (d + 1) 20 (0, [vr 18, vi a], [], (I, Y)) P ↔ vW (d + 1) 20 (20, [vr 18, vi a], [], (I, Y)) P := fun P => by
    rw [b20_0 hL, hi, if_pos (by decide)]
  have t0 : w32 a ≠ 0 → ∀ P : vE → Prop, vW d' 456 (0, [vr 2075, vi a], [], (I', Y')) P ↔ vW d' 456 (18, [vr 2075, vi a], [], (I', Y')) P := fun z P => by
    rw [b456_0, if_pos z, b456_9 hL', if_pos (by rw [w32_id (by omega) (by omega)]; omega)]
  have cs : a = 0 ∨ a = 1 ∨ a = 2 ∨ a = 3 ∨ a = 4 ∨ a = 5 ∨ a = 6 ∨ a = 7 ∨ a = 8 ∨ a = 9 ∨ (a < 0 ∨ 9 < a) := by omega
  rcases cs with rfl | rfl | rfl | rfl | rfl | rfl | rfl | rfl | rfl | rfl | z
  · refine ⟨I' 2075 7728, fun P => ?_, fun P => ?_⟩
    · rw [c0, b20_20, if_pos (by decide), b20_76 hL, st]
      simp only [vWC_s, Nat.reduceAdd]
      rw [b20_83]
    · rw [b456_0, if_neg (by decide), b456_4 hL']
  · have e : I 1990 3388 = I' 2075 7729 := by rw [n1, n2]
    exact ⟨I 1990 3388, fun P => by rw [c0, b20_20, if_neg (by decide), if_pos (by decide), b20_84 hL], fun P => by rw [t0 (by decide), b456_18, if_pos (by decide), b456_68 hL', e]⟩
  · refine ⟨if I' 2075 7728 = 1 then I' 2075 7730 else -1, fun P => ?_, fun P => ?_⟩
    · rw [c0, b20_20, if_neg (by decide), if_neg (by decide), if_pos (by decide), b20_92 hL, st]
      simp only [vWC_s, Nat.reduceAdd]
      rw [m20_99 hL, b20_114, w32_id (x := I' 2075 7728) (by omega) (by omega), w32_id (x := 1) (by decide) (by decide)]
      by_cases z : I' 2075 7728 = 1
      · rw [if_neg (fun q => q z), if_pos z, tu z]
      · rw [if_pos z, if_neg z]
    · rw [t0 (by decide), b456_18, if_neg (by decide), if_pos (by decide), m456_73 hL', b456_89, w32_id (x := I' 2075 7728) (by omega) (by omega), w32_id (x := 1) (by decide) (by decide)]
      by_cases z : I' 2075 7728 = 1
      · rw [if_neg (fun q => q z), if_pos z]
      · rw [if_pos z, if_neg z]
  · have e : I 1990 3390 = I' 2075 7731 := by rw [s2.1.1.1, s2.1.1.2.1]
    exact ⟨I 1990 3390, fun P => by rw [c0, b20_20, if_neg (by decide), if_neg (by decide), if_neg (by decide), if_pos (by decide), b20_115 hL], fun P => by rw [t0 (by decide), b456_18, if_neg (by decide), if_neg (by decide), if_pos (by decide), b456_90 hL', e]⟩
  · have e : I 1990 3379 = I' 2075 7739 := q10.1.1
    exact ⟨I 1990 3379, fun P => by rw [c0, b20_20, if_neg (by decide), if_neg (by decide), if_neg (by decide), if_neg (by decide), if_pos (by decide), b20_123 hL], fun P => by rw [t0 (by decide), b456_18, if_neg (by decide), if_neg (by decide), if_neg (by decide), if_pos (by decide), b456_95 hL', e]⟩
  · have e : I 1990 3391 = I' 2075 7735 := q7.1
    exact ⟨I 1990 3391, fun P => by rw [c0, b20_20, if_neg (by decide), if_neg (by decide), if_neg (by decide), if_neg (by decide), if_neg (by decide), if_pos (by decide), b20_131 hL], fun P => by rw [t0 (by decide), b456_18, if_neg (by decide), if_neg (by decide), if_neg (by decide), if_neg (by decide), if_pos (by decide), b456_100 hL', e]⟩
  · have e : I 1990 3392 = I' 2075 7736 := q9.1
    exact ⟨I 1990 3392, fun P => by rw [c0, b20_20, if_neg (by decide), if_neg (by decide), if_neg (by decide), if_neg (by decide), if_neg (by decide), if_neg (by decide), if_pos (by decide), b20_139 hL], fun P => by rw [t0 (by decide), b456_18, if_neg (by decide), if_neg (by decide), if_neg (by decide), if_neg (by decide), if_neg (by decide), if_pos (by decide), b456_105 hL', e]⟩
  · have e : I 1990 3376 = I' 2075 7737 := (by obtain ⟨n, E, w, _⟩ := q4; rw [w.1, w.2])
    exact ⟨I 1990 3376, fun P => by rw [c0, b20_20, if_neg (by decide), if_neg (by decide), if_neg (by decide), if_neg (by decide), if_neg (by decide), if_neg (by decide), if_neg (by decide), if_pos (by decide), b20_147 hL], fun P => by rw [t0 (by decide), b456_18, if_neg (by decide), if_neg (by decide), if_neg (by decide), if_neg (by decide), if_neg (by decide), if_neg (by decide), if_pos (by decide), b456_110 hL', e]⟩
  · have e : I 1960 3094 = I' 2075 7734 := q12.1.1
    exact ⟨I 1960 3094, fun P => by rw [c0, b20_20, if_neg (by decide), if_neg (by decide), if_neg (by decide), if_neg (by decide), if_neg (by decide), if_neg (by decide), if_neg (by decide), if_neg (by decide), if_pos (by decide), b20_155 hL], fun P => by rw [t0 (by decide), b456_18, if_neg (by decide), if_neg (by decide), if_neg (by decide), if_neg (by decide), if_neg (by decide), if_neg (by decide), if_neg (by decide), if_pos (by decide), b456_115 hL', e]⟩
  · have e : I 1960 3079 = I' 2075 7799 := (by obtain ⟨n, _, w1, w2, _⟩ := q1; rw [w1, w2])
    exact ⟨I 1960 3079, fun P => by rw [c0, b20_20, if_neg (by decide), if_neg (by decide), if_neg (by decide), if_neg (by decide), if_neg (by decide), if_neg (by decide), if_neg (by decide), if_neg (by decide), if_neg (by decide), if_pos (by decide), b20_163 hL], fun P => by rw [t0 (by decide), b456_18, if_neg (by decide), if_neg (by decide), if_neg (by decide), if_neg (by decide), if_neg (by decide), if_neg (by decide), if_neg (by decide), if_neg (by decide), if_pos (by decide), b456_120 hL', e]⟩
  · unfold inI at ha
    have w : w32 a = a := w32_id ha.1 ha.2
    refine ⟨-1, fun P => ?_, fun P => ?_⟩
    · rw [c0, b20_20, w, if_neg (show ¬ a = 0 by omega), if_neg (show ¬ a = 1 by omega), if_neg (show ¬ a = 2 by omega), if_neg (show ¬ a = 3 by omega), if_neg (show ¬ a = 4 by omega), if_neg (show ¬ a = 5 by omega), if_neg (show ¬ a = 6 by omega), if_neg (show ¬ a = 7 by omega), if_neg (show ¬ a = 8 by omega), if_neg (show ¬ a = 9 by omega), b20_171]
    · rw [t0 (by rw [w]; omega), b456_18, w, if_neg (show ¬ a = 1 by omega), if_neg (show ¬ a = 2 by omega), if_neg (show ¬ a = 3 by omega), if_neg (show ¬ a = 4 by omega), if_neg (show ¬ a = 5 by omega), if_neg (show ¬ a = 6 by omega), if_neg (show ¬ a = 7 by omega), if_neg (show ¬ a = 8 by omega), if_neg (show ¬ a = 9 by omega), b456_125]
theorem q_printed {a : Int} (hL : vL Y) (hL' : vL Y') (ha : inI a) (h : RQ Y Y' X mm Nn Lp nm pr ht I I' th W N) (hi : I 1990 3398 = 1) : ∃ x, An (d + 1) 21 [vr 18, vi a] I Y x ∧ An (d' + 1) 457 [vr 2075, vi a] I' Y' x := by
  have sb := (RQ_status (d := 0) (P := fun _ => True) hL h).2
  obtain ⟨_, _, ⟨_, _, _, _, _, _, _, _, _, ⟨⟨e1, e2, e3⟩, e4⟩, _⟩, _⟩ := h
  have ha2 := ha
  unfold inI at ha
  have hp : inI (I 1990 3379 - 1) := by unfold inI; omega
  have hp' : inI (I' 2075 7739 - 1) := by unfold inI; omega
  refine ⟨if 0 ≤ a ∧ a ≤ I 1990 3379 - 1 then I 2035 a.toNat else 0, fun P => ?_, fun P => ?_⟩
  · rw [b21_0 hL, hi, if_neg (by decide), b21_10 hL, c_in ha2 in0 hp]
    simp only [vWC_s, Nat.reduceAdd]
    rw [b21_24]
    by_cases z : 0 ≤ a ∧ a ≤ I 1990 3379 - 1
    · rw [if_pos z, if_neg (by decide), if_pos z, b21_27 hL (by omega) (by omega), b21_40]
    · rw [if_neg z, if_pos (by decide), if_neg z, b21_39, b21_40]
  · rw [b457_0 hL', if_neg (by rw [w32_id (by omega) (by omega)]; omega), b457_7 hL', t_in ha2 in0 hp', ← e1]
    simp only [vWC_s, Nat.reduceAdd]
    rw [b457_18]
    by_cases z : 0 ≤ a ∧ a ≤ I 1990 3379 - 1
    · rw [if_pos z, if_neg (by decide), if_pos z, b457_21 hL' (by omega) (by omega), b457_31, e4 a.toNat (by omega)]
    · rw [if_neg z, if_pos (by decide), if_neg z, b457_30, b457_31]
end
