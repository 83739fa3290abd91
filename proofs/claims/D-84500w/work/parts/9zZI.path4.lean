/-! ===== path: from node to node ===== -/
set_option maxRecDepth 20000
set_option maxHeartbeats 4000000
/-- how many paths go by a way -/
def ptD (I : vJ) (w : Nat) : Int := if enD I w = 1 then 1 else I 62 (I 51 w).toNat
theorem enD_01 (I : vJ) (w : Nat) : enD I w = 0 ∨ enD I w = 1 := by
  unfold enD
  split
  · exact Or.inr rfl
  · exact Or.inl rfl
/-- a node out of which paths go -/
def spN (I I' : vJ) (X n : Nat) : Prop := ∃ B E : Nat, (B < E ∧ E ≤ 2100 ∧ I 48 n = B ∧ I 48 (n + 1) = E ∧ I' (X + 20) n = B ∧ I 63 B = 0) ∧ ∀ w, B ≤ w → w < E → ((I 53 w = 0 ∨ I 53 w = 1) ∧ (0 ≤ I 51 w ∧ I 51 w < 700) ∧ (0 ≤ I 38 (I 51 w).toNat ∧ I 38 (I 51 w).toNat ≤ 16) ∧ I' (X + 25) w = I 53 w ∧ I' (X + 23) w = I 51 w ∧ I' (X + 9) (I 51 w).toNat = I 38 (I 51 w).toNat) ∧ ((0 ≤ ptD I w ∧ ptD I w ≤ 1000000) ∧ 0 ≤ I 63 w ∧ I 63 w ≤ 1000000) ∧ (w + 1 < E → I 63 (w + 1) = I 63 w + ptD I w) ∧ (w + 1 = E → I 62 n = I 63 w + ptD I w) ∧ (enD I w = 0 → I' 2177 (I 51 w).toNat = I 62 (I 51 w).toNat ∧ (n : Int) < I 51 w)
section
variable {d d' : Nat} {Y : vY} {I I' : vJ}
theorem p_walk {G : Nat → Prop} {X o m : Nat} {p x3 x4 : Int} (hL : vL Y) (t1 : Y.1 2075 7689 = X) (t3 : vreg Y 2081 38 X) (o0 : o ≠ 0) (o4 : Y.2.1 o = 15) (m24 : m < 24) (hW : I o 3852 = I' (X + 5) m) (hG : ∀ n, G n → n < 700 ∧ spN I I' X n) (hC : ∀ n w : Nat, G n → I 48 n ≤ w → (w : Int) < I 48 (n + 1) → enD I w = 0 → G (I 51 w).toNat) :
    ∀ (f n : Nat) (R c : Int), 700 ≤ n + f → G n → 0 ≤ R → R < I 62 n → R ≤ 1000000 → 0 ≤ c → c + f ≤ 1000 → ∃ v : Int, (inI x3 → x3 < -1 → v = -1) ∧ (∀ (x9 : vV) (P : vE → Prop), vW (d + 1) 124 (96, [vr 57, vr o, vi p, vi x3, vi x4, vi R, vi (n : Int), vi c, vi 1, x9], [], (I, Y)) P ↔ P (.inl (some (vi v)), (I, Y))) ∧ (∀ (x8 : vV) (P : vE → Prop), vW (d' + 1) 387 (111, [vr 2075, vi (m : Int), vi p, vi x3, vi (n : Int), vi R, vi c, vi 1, x8], [], (I', Y)) P ↔ P (.inl (some (vi v)), (I', Y))) := by
  have r3 : vreg Y 2081 38 (Y.1 2075 7689) := by rw [t1]; exact t3
  intro f
  induction f with
  | zero => intro n R c h1 h2; have := (hG n h2).1; omega
  | succ f ih =>
    intro n R c h1 h2 h3 h4 h5 h6 h7
    obtain ⟨n7, B, E, ⟨b1, b2, b3, b4, b5, b6⟩, hw⟩ := hG n h2
    have hs : ∀ w : Nat, B ≤ w → w + 1 < E → I 63 (w + 1) = I 63 w + ptD I w := fun w a b => (hw w a (by omega)).2.2.1 b
    have hl : ∀ w : Nat, B ≤ w → w + 1 = E → R < I 63 w + ptD I w := fun w a b => by rw [← (hw w a (by omega)).2.2.2.1 b]; exact h4
    have cS := fun (x7 x8 : Int) (P : vE → Prop) => c_pwS (d := d + 1) (P := P) (o := o) (n := n) (B := B) (E := E) (p := p) (x3 := x3) (x4 := x4) (R := R) (x7 := x7) (x8 := x8) hL (by unfold inI; omega) n7 b4 b2 (fun w a b => by have q := (hw w a b).2.1.2; unfold inI; omega) (E - 1 - B) B (Nat.le_refl _) (by omega)
    have tS := fun (x6 x7 : Int) (P : vE → Prop) => t_pwS (d := d') (P := P) (X := X) (B := B) (E := E) (m := (m : Int)) (p := p) (x3 := x3) (x4 := (n : Int)) (R := R) (x6 := x6) (x7 := x7) (en := enD I) (pt := ptD I) (o63 := I 63) hL t1 t3 ⟨h3, h5⟩ b2 (fun w a b => by
      obtain ⟨⟨q1, q2, q3, q4, q5, q6⟩, _⟩ := hw w a b
      exact t_end9 hL t1 t3 (by omega) q1 q2 rfl q3 q4 q5 q6) (fun w a b => by
      obtain ⟨⟨q1, q2, q3, q4, q5, q6⟩, _, _, _, q7⟩ := hw w a b
      rcases enD_01 I w with e | e
      · refine Or.inr ⟨e, by rw [q5]; omega, ?_⟩
        unfold ptD
        rw [q5, if_neg (by rw [e]; decide)]
        exact (q7 e).1
      · refine Or.inl ⟨e, ?_⟩
        unfold ptD
        rw [if_pos e]) (fun w a b => (hw w a b).2.1) hs hl (E - 1 - B) B (Nat.le_refl _) (by omega)
    have bd := pwS_bd (I 63) R E (E - 1 - B) B (by omega)
    have le := pwS_le (o63 := I 63) (R := R) (E := E) (E - 1 - B) B (by rw [b6]; exact h3)
    have lt := pwS_lt hs hl (E - 1 - B) B (Nat.le_refl _) (by omega)
    generalize pwS (I 63) R E (E - 1 - B) B = w at *
    obtain ⟨⟨q1, q2, q3, q4, q5, q6⟩, qb, _, _, q7⟩ := hw w bd.1 bd.2
    have w2 : w < 2100 := by omega
    have c1 : (0 : Int) ≤ (w : Int) := by omega
    have c2 : (w : Int) < 2100 := by omega
    have c3 : (w : Int) < 3200 := by omega
    have hH : ∀ (x9 : vV) (P : vE → Prop), vW (d + 1) 124 (96, [vr 57, vr o, vi p, vi x3, vi x4, vi R, vi (n : Int), vi c, vi 1, x9], [], (I, Y)) P ↔ vW (d + 1) 124 (152, [vr 57, vr o, vi p, vi x3, vi x4, vi R, vi (n : Int), vi c, vi 1, vi (w : Int)], [], (I, Y)) P := fun x9 P => by
      rw [b124_96, if_neg (by decide), b124_101 hL (by omega) (by omega), tn0, b3, cS]
    have hT : ∀ (x8 : vV) (P : vE → Prop), vW (d' + 1) 387 (111, [vr 2075, vi (m : Int), vi p, vi x3, vi (n : Int), vi R, vi c, vi 1, x8], [], (I', Y)) P ↔ vW (d' + 1) 387 (200, [vr 2075, vi (m : Int), vi p, vi x3, vi (n : Int), vi (R - I 63 w), vi c, vi 1, vi (w : Int)], [], (I', Y)) P := fun x8 P => by
      have g := tS c 1 P
      rw [b6, Int.sub_zero] at g
      rw [b387_111, if_neg (by decide), b387_116 hL r3 (by omega) (by omega), t1, tn0, b5, g]
    clear cS tS
    by_cases z : w32 c ≠ w32 x3
    · have e7 := c_end7 (d := d) hL w2 q1 q2 rfl q3
      have e9 := t_end9 (d := d') hL t1 t3 w2 q1 q2 rfl q3 q4 q5 q6
      rcases enD_01 I w with e | e
      · rw [e] at e7 e9
        obtain ⟨g1, g2⟩ := q7 e
        obtain ⟨y, hy⟩ : ∃ y : Nat, I 51 w = y := ⟨(I 51 w).toNat, by omega⟩
        have ey : (I 51 w).toNat = y := by rw [hy, tn0]
        have pw : ptD I w = I 62 y := by unfold ptD; rw [if_neg (by rw [e]; decide), ey]
        have gy := hC n w h2 (by rw [b3]; omega) (by rw [b4]; omega) e
        rw [ey] at gy
        have y7 := (hG y gy).1
        obtain ⟨v, v0, v1, v2⟩ := ih y (R - I 63 w) (c + 1) (by omega) gy (by omega) (by omega) (by omega) (by omega) (by omega)
        refine ⟨v, v0, fun x9 P => ?_, fun x8 P => ?_⟩
        · rw [hH, b124_152, if_pos z, b124_166 hL c1 c2, e7]
          simp only [vWC_s, Nat.reduceAdd]
          rw [b124_187, if_neg (by decide), b124_190, b124_195 hL c1 c2, tn0, hy]
          exact v1 _ P
        · rw [hT, b387_200, if_pos z, b387_219 hL, e9]
          simp only [vWC_s, Nat.reduceAdd]
          rw [b387_228, if_neg (by decide), b387_231, b387_236 hL r3 c1 c3, t1, tn0, q5, hy]
          exact v2 _ P
      · rw [e] at e7 e9
        refine ⟨if w32 x3 ≠ w32 (-1) then -1 else c + 1, fun i3 l3 => if_pos (by rw [w32_id i3.1 i3.2]; exact fun e => absurd (show x3 = -1 from e) (by omega)), fun x9 P => ?_, fun x8 P => ?_⟩
        · rw [hH, b124_152, if_pos z, b124_166 hL c1 c2, e7]
          simp only [vWC_s, Nat.reduceAdd]
          rw [b124_187, if_pos (by decide), b124_194, b124_195 hL c1 c2, b124_96, if_pos (by decide), m124_212, b124_223]
        · rw [hT, b387_200, if_pos z, b387_219 hL, e9]
          simp only [vWC_s, Nat.reduceAdd]
          rw [b387_228, if_pos (by decide), b387_235, b387_236 hL r3 c1 c3, b387_111, if_pos (by decide), m387_253, b387_264]
    · refine ⟨(w : Int) - I' (X + 5) m, fun i3 l3 => absurd (show w32 c ≠ w32 x3 by rw [w32_id i3.1 i3.2, w32_id (by omega) (by omega)]; omega) z, fun x9 P => ?_, fun x8 P => ?_⟩
      · rw [hH, b124_152, if_neg z, b124_158 o0 o4, hW]
      · rw [hT, b387_200, if_neg z, b387_206 hL r3 (by omega) (by omega), t1, tn0]
end
