/-! ===== parts: what the kept runs differ by ===== -/
set_option maxRecDepth 20000
set_option maxHeartbeats 4000000
/-- Math.floorDiv, whatever it answers -/
theorem fl_div {A B : Int} (h : w64 B ≠ 0) : ∃ v : Int, ∀ (d : Nat) (I : vJ) (Y : vY) (P : vE → Prop), vW d 506 (0, [vl A, vu, vl B, vu, vu, vu], [], (I, Y)) P ↔ P (.inl (some (vl v)), (I, Y)) := by
  by_cases z : (w64 0 ≤ w64 (b64 (· ^^^ ·) A B)) ∨ (w64 (((w64 A).tdiv (w64 B)) * B) = w64 A)
  · exact ⟨_, fun d I Y P => by rw [b506_0 h, m506_5, if_pos z, b506_27]⟩
  · exact ⟨_, fun d I Y P => by rw [b506_0 h, m506_5, if_neg z, b506_22]⟩
section
variable {d d' : Nat} {Y : vY} {I I' : vJ} {mm : Nat}
theorem q_parts {a b : Int} (ha : inI a) (hb : inI b) (hL : vL Y) (hM : isM I I' Y mm) (hK : kp I I') : ∃ v, AnL (d + 2) 42 [vr 18, vi a, vi b, vu, vu, vu, vu, vu, vu, vu, vu, vu, vu, vu, vu] I Y v ∧ AnL (d' + 2) 477 [vr 2075, vi a, vi b, vu, vu, vu, vu, vu, vu, vu, vu, vu, vu] I' Y v := by
  have cm := fun P => c_mem (d := d) hL ha hM P
  have tm := fun P => t_mem (d' := d') hL ha hM P
  obtain ⟨⟨f0, _⟩, k0⟩ := hK 0 (by decide)
  obtain ⟨⟨f1, _⟩, k1⟩ := hK 1 (by decide)
  have i3 : inI 3 := by unfold inI; omega
  have mm24 := hM.2.1
  have hb2 := hb
  unfold inI at hb2
  have wb : w32 b = b := w32_id hb2.1 hb2.2
  by_cases z : (0 ≤ a ∧ a ≤ (mm : Int) - 1) ∧ w32 (I 2074 0) ≠ 0 ∧ w32 (I 2074 1) ≠ 0
  · obtain ⟨z1, z2, z3⟩ := z
    obtain ⟨m, hm⟩ : ∃ m : Nat, a = m := ⟨a.toNat, by omega⟩
    subst hm
    rw [if_pos z1] at cm tm
    obtain ⟨p1, p2⟩ := k0 m (by omega)
    obtain ⟨p3, p4⟩ := k1 m (by omega)
    have e24 : (24 + (m : Int)).toNat = 24 + m := by omega
    have p1 : I 2069 m = I' 2278 m := by rw [show 24 * 0 + m = m by omega] at p1; exact p1
    have p2 : I 2072 m = I' 2279 m := by rw [show 24 * 0 + m = m by omega] at p2; exact p2
    have p3 : I 2070 m = I' 2278 (24 + m) := p3
    have p4 : I 2073 m = I' 2279 (24 + m) := p4
    have hH : ∀ P : vE → Prop, vW (d + 2) 42 (0, [vr 18, vi (m : Int), vi b, vu, vu, vu, vu, vu, vu, vu, vu, vu, vu, vu, vu], [], (I, Y)) P ↔ vW (d + 2) 42 (76, [vr 18, vi (m : Int), vi b, vl (w32 (I 2069 m)), vu, vl (w32 (I 2072 m)), vu, vl ((w32 (I 2070 m)) - (w32 (I 2069 m))), vu, vl ((w32 (I 2073 m)) - (w32 (I 2072 m))), vu, vu, vu, vu, vu], [], (I, Y)) P := fun P => by
      rw [b42_0 hL, cm]
      simp only [vWC_s, Nat.reduceAdd]
      rw [m42_5 hL, if_neg (fun q => by
        rcases q with q | q | q
        · exact absurd q (by decide)
        · exact z2 q
        · exact q z3), b42_28 hL (by omega) (by omega)]
      simp only [tn0]
    have hT : ∀ P : vE → Prop, vW (d' + 2) 477 (0, [vr 2075, vi (m : Int), vi b, vu, vu, vu, vu, vu, vu, vu, vu, vu, vu], [], (I', Y)) P ↔ if 0 ≤ b ∧ b ≤ 3 then vW (d' + 2) 477 (66, [vr 2075, vi (m : Int), vi b, vl (w32 (I 2069 m)), vu, vl (w32 (I 2072 m)), vu, vl (w32 (I 2073 m)), vu, vu, vu, vu, vu], [], (I', Y)) P else P (.inl (some (vl 0)), (I', Y)) := fun P => by
      rw [b477_0 hL, tm]
      simp only [vWC_s, Nat.reduceAdd]
      rw [m477_5 hL, ← f0, ← f1, if_neg (fun q => by
        rcases q with q | q | q
        · exact absurd q (by decide)
        · exact z2 q
        · exact z3 q), b477_26, t_in hb in0 i3]
      simp only [vWC_s, Nat.reduceAdd]
      rw [b477_32]
      by_cases y : 0 ≤ b ∧ b ≤ 3
      · rw [if_pos y, if_pos y, if_pos (by decide), b477_37 hL (by omega) (by omega) (by omega) (by omega), e24, tn0, p1, p2, p4]
      · rw [if_neg y, if_neg y, if_neg (by decide), b477_35]
    have fin : ∀ (v1 v2 : Int), ∃ v : Int, (∀ P : vE → Prop, vW (d + 2) 42 (118, [vr 18, vi (m : Int), vi b, vl (w32 (I 2069 m)), vu, vl (w32 (I 2072 m)), vu, vl ((w32 (I 2070 m)) - (w32 (I 2069 m))), vu, vl ((w32 (I 2073 m)) - (w32 (I 2072 m))), vu, vl v1, vu, vl v2, vu], [], (I, Y)) P ↔ P (.inl (some (vl v)), (I, Y))) ∧ (0 ≤ b ∧ b ≤ 3 → ∀ P : vE → Prop, vW (d' + 2) 477 (111, [vr 2075, vi (m : Int), vi b, vl (w32 (I 2069 m)), vu, vl (w32 (I 2072 m)), vu, vl (w32 (I 2073 m)), vu, vl v1, vu, vl v2, vu], [], (I', Y)) P ↔ P (.inl (some (vl v)), (I', Y))) ∧ (¬ (0 ≤ b ∧ b ≤ 3) → v = 0) := fun v1 v2 => by
      by_cases b0 : b = 0
      · refine ⟨(w32 (I 2073 m)) - (w32 (I 2072 m)), fun P => ?_, fun _ P => ?_, fun q => absurd (by omega) q⟩
        · rw [b42_118, wb, if_neg (fun q => q b0), b42_122, b42_164]
        · rw [b477_111, wb, if_neg (fun q => q b0), b477_115, b477_154]
      · by_cases b1 : b = 1
        · refine ⟨v1, fun P => ?_, fun _ P => ?_, fun q => absurd (by omega) q⟩
          · rw [b42_118, wb, if_pos b0, b42_127, wb, if_neg (fun q => q b1), b42_132, b42_164]
          · rw [b477_111, wb, if_pos b0, b477_123, wb, if_neg (fun q => q b1), b477_128, b477_154]
        · by_cases b2 : b = 2
          · refine ⟨v2, fun P => ?_, fun _ P => ?_, fun q => absurd (by omega) q⟩
            · rw [b42_118, wb, if_pos b0, b42_127, wb, if_pos (show b ≠ w32 1 from b1), b42_137, wb, if_neg (fun q => q b2), b42_142, b42_164]
            · rw [b477_111, wb, if_pos b0, b477_123, wb, if_pos (show b ≠ w32 1 from b1), b477_133, wb, if_neg (fun q => q b2), b477_138, b477_154]
          · by_cases b3 : b = 3
            · refine ⟨(w32 (I 2073 m)) - (w32 (I 2072 m)) - v1 - v2, fun P => ?_, fun _ P => ?_, fun q => absurd (by omega) q⟩
              · rw [b42_118, wb, if_pos b0, b42_127, wb, if_pos (show b ≠ w32 1 from b1), b42_137, wb, if_pos (show b ≠ w32 2 from b2), b42_147, wb, if_neg (fun q => q b3), b42_152, b42_164]
              · rw [b477_111, wb, if_pos b0, b477_123, wb, if_pos (show b ≠ w32 1 from b1), b477_133, wb, if_pos (show b ≠ w32 2 from b2), b477_143, b477_154]
            · refine ⟨0, fun P => ?_, fun q => absurd q (by omega), fun _ => rfl⟩
              rw [b42_118, wb, if_pos b0, b42_127, wb, if_pos (show b ≠ w32 1 from b1), b42_137, wb, if_pos (show b ≠ w32 2 from b2), b42_147, wb, if_pos (show b ≠ w32 3 from b3), b42_163, b42_164]
    have key : ∃ (v1 v2 : Int), (∀ P : vE → Prop, vW (d + 2) 42 (76, [vr 18, vi (m : Int), vi b, vl (w32 (I 2069 m)), vu, vl (w32 (I 2072 m)), vu, vl ((w32 (I 2070 m)) - (w32 (I 2069 m))), vu, vl ((w32 (I 2073 m)) - (w32 (I 2072 m))), vu, vu, vu, vu, vu], [], (I, Y)) P ↔ vW (d + 2) 42 (118, [vr 18, vi (m : Int), vi b, vl (w32 (I 2069 m)), vu, vl (w32 (I 2072 m)), vu, vl ((w32 (I 2070 m)) - (w32 (I 2069 m))), vu, vl ((w32 (I 2073 m)) - (w32 (I 2072 m))), vu, vl v1, vu, vl v2, vu], [], (I, Y)) P) ∧ ∀ P : vE → Prop, vW (d' + 2) 477 (66, [vr 2075, vi (m : Int), vi b, vl (w32 (I 2069 m)), vu, vl (w32 (I 2072 m)), vu, vl (w32 (I 2073 m)), vu, vu, vu, vu, vu], [], (I', Y)) P ↔ vW (d' + 2) 477 (111, [vr 2075, vi (m : Int), vi b, vl (w32 (I 2069 m)), vu, vl (w32 (I 2072 m)), vu, vl (w32 (I 2073 m)), vu, vl v1, vu, vl v2, vu], [], (I', Y)) P := by
      by_cases y : w64 (w32 (I 2069 m)) = w64 0
      · refine ⟨0, w32 (I 2073 m), fun P => ?_, fun P => ?_⟩
        · rw [b42_76, if_neg (fun q => q y), b42_82, b42_95, b42_97, if_neg (fun q => q y), b42_103 hL (by omega) (by omega), tn0, b42_116]
        · rw [b477_66, if_neg (fun q => q y), b477_72, b477_95, b477_97, if_neg (fun q => q y), b477_103, b477_109]
      · obtain ⟨v, hv⟩ := fl_div (A := ((w32 (I 2070 m)) - (w32 (I 2069 m))) * w32 (I 2072 m)) (B := w32 (I 2069 m)) (fun q => y q)
        refine ⟨v, 0, fun P => ?_, fun P => ?_⟩
        · rw [b42_76, if_pos y, b42_86, hv]
          simp only [vWC_s, Nat.reduceAdd]
          rw [b42_95, b42_97, if_pos y, b42_115, b42_116]
        · rw [b477_66, if_pos y, b477_76 hL (by omega) (by omega), e24, ← p3, hv]
          simp only [vWC_s, Nat.reduceAdd]
          rw [b477_95, b477_97, if_pos y, b477_108, b477_109]
    obtain ⟨v1, v2, g1, g2⟩ := key
    obtain ⟨v, h1, h2, h3⟩ := fin v1 v2
    refine ⟨v, fun P => by rw [hH, g1, h1], fun P => ?_⟩
    rw [hT]
    by_cases y : 0 ≤ b ∧ b ≤ 3
    · rw [if_pos y, g2, h2 y]
    · rw [if_neg y, h3 y]
  · refine ⟨0, fun P => ?_, fun P => ?_⟩
    · rw [b42_0 hL, cm]
      simp only [vWC_s, Nat.reduceAdd]
      rw [m42_5 hL, if_pos, b42_26]
      by_cases z1 : 0 ≤ a ∧ a ≤ (mm : Int) - 1
      · rw [if_pos z1]
        refine Or.inr ?_
        by_cases z2 : w32 (I 2074 0) = 0
        · exact Or.inl z2
        · exact Or.inr (fun q => z ⟨z1, z2, q⟩)
      · rw [if_neg z1]; exact Or.inl (by decide)
    · rw [b477_0 hL, tm]
      simp only [vWC_s, Nat.reduceAdd]
      rw [m477_5 hL, ← f0, ← f1, if_pos, b477_35]
      by_cases z1 : 0 ≤ a ∧ a ≤ (mm : Int) - 1
      · rw [if_pos z1]
        refine Or.inr ?_
        by_cases z2 : w32 (I 2074 0) = 0
        · exact Or.inl z2
        · exact Or.inr (Classical.byContradiction (fun q => z ⟨z1, z2, q⟩))
      · rw [if_neg z1]; exact Or.inl (by decide)
end
section
variable {L : Nat} {x : Nat → Int} {SX : vJ → vJ → vY → Nat → Nat → Nat → Prop}
theorem d_parts (hX : sxK SX) : oD31 (fun k I Y => LW L x SX k I I Y) := fun k _ a1 a2 ha1 ha2 => o_askL hX (sL_c sG_18 (sL_c (sG_i _) (sL_c (sG_i _) (sL_c sG_u (sL_c sG_u (sL_c sG_u (sL_c sG_u (sL_c sG_u (sL_c sG_u (sL_c sG_u (sL_c sG_u (sL_c sG_u (sL_c sG_u (sL_c sG_u (sL_c sG_u (sL_nil _)))))))))))))))) (fun Y _ => (sL_c sG_m (sL_c (sG_i _) (sL_c (sG_i _) (sL_c sG_u (sL_c sG_u (sL_c sG_u (sL_c sG_u (sL_c sG_u (sL_c sG_u (sL_c sG_u (sL_c sG_u (sL_c sG_u (sL_c sG_u (sL_nil _))))))))))))))) (fun I I' Y h => by
  obtain ⟨⟨v1, _⟩, _, _, q1, mm, X, Nn, Lp, C, nm, pr, ht, m1, _⟩ := h
  exact q_parts (d := 1998) (d' := 1998) ha1 ha2 v1 m1 q1.2)
end
