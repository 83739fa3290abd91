/-! ===== node, way: questions about the text; fault, node, way as pairs of the law ===== -/
set_option maxRecDepth 20000
set_option maxHeartbeats 4000000
section
variable {d d' : Nat} {Y : vY} {I I' : vJ} {mm X Nn : Nat}
theorem q_node {a b c : Int} (ha : inI a) (hb : inI b) (hc : inI c) (hL : vL Y) (hM : isM I I' Y mm) (hS : mm ≠ 0 → ∃ (Wn : Nat) (ns ws ls : Nat → Nat), SDm I I' Y mm X Nn Wn ns ws ls) : ∃ v, An (d + 3) 10 [vr 18, vi a, vi b, vi c, vu] I Y v ∧ An (d' + 3) 390 [vr 2075, vi a, vi b, vi c, vu] I' Y v := by
  by_cases z : 0 ≤ a ∧ a ≤ (mm : Int) - 1
  · obtain ⟨m, hm⟩ : ∃ m : Nat, a = m := ⟨a.toNat, by omega⟩
    subst hm
    have m1 : m < mm := by omega
    obtain ⟨Wn, ns, ws, ls, S⟩ := hS (by omega)
    have cn := fun P => c_nod (d := d) hL hM S m1 hb P
    have tn := fun P => t_nod (d := d') hL hM S m1 hb P
    obtain ⟨⟨t1, _, t3⟩, ⟨_, s2, _, _, _, _, _, s8⟩, s9, s10, _⟩ := S
    obtain ⟨o, g1, g2, _⟩ := s9 m m1
    by_cases y : 0 ≤ b ∧ b ≤ (ns (m + 1) : Int) - ns m - 1
    · obtain ⟨j, hj⟩ : ∃ j : Nat, b = j := ⟨b.toNat, by omega⟩
      subst hj
      have e : (ns m : Int) + (j : Int) = ((ns m + j : Nat) : Int) := by omega
      have n1 : ns m + j < Nn := by omega
      obtain ⟨k1, k2, k3⟩ := s10 _ n1
      have e700 : ((ns m + j : Nat) : Int) < 700 := by omega
      have e0 : (0 : Int) ≤ ((ns m + j : Nat) : Int) := by omega
      have e1400 : ((ns m + j : Nat) : Int) < 1400 := by omega
      rw [if_pos y] at tn cn
      rw [e] at tn
      have hH : ∀ P : vE → Prop, vW (d + 3) 10 (0, [vr 18, vi (m : Int), vi (j : Int), vi c, vu], [], (I, Y)) P ↔ vW (d + 3) 10 (24, [vr 18, vi (m : Int), vi (j : Int), vi c, vi ((ns m + j : Nat) : Int)], [], (I, Y)) P := fun P => by
        rw [b10_0 hL, cn]
        simp only [vWC_s, Nat.reduceAdd]
        rw [b10_6, if_pos (by decide), b10_11 hL (by omega) (by omega) (by rw [tn0, g1.1]; omega) (by rw [tn0, g1.1]; exact g1.2.2.2), tn0, g1.1, g2.1, e]
      have hT : ∀ P : vE → Prop, vW (d' + 3) 390 (0, [vr 2075, vi (m : Int), vi (j : Int), vi c, vu], [], (I', Y)) P ↔ vW (d' + 3) 390 (15, [vr 2075, vi (m : Int), vi (j : Int), vi c, vi ((ns m + j : Nat) : Int)], [], (I', Y)) P := fun P => by
        rw [b390_0 hL, tn]
        simp only [vWC_s, Nat.reduceAdd]
        rw [b390_6, b390_8, if_pos (by rw [w32_id (by omega) (by omega)]; exact e0)]
      generalize ns m + j = n at *
      have r3 : vreg Y 2081 38 (Y.1 2075 7689) := by rw [t1]; exact t3
      by_cases c0 : c = 0
      · subst c0
        exact ⟨I 38 n, fun P => by rw [hH, b10_24, if_neg (by decide), b10_28 hL e0 e700, b10_74, tn0], fun P => by rw [hT, b390_15, if_neg (by decide), b390_19 hL r3 e0 e1400, b390_69, t1, tn0, k1]⟩
      · by_cases c1 : c = 1
        · subst c1
          exact ⟨I 2061 n, fun P => by rw [hH, b10_24, if_pos (by decide), b10_41, if_neg (by decide), b10_46 hL e0 e700, b10_74, tn0], fun P => by rw [hT, b390_15, if_pos (by decide), b390_32, if_neg (by decide), b390_37 hL r3 e0 e1400, b390_69, t1, tn0, k2]⟩
        · by_cases c2 : c = 2
          · subst c2
            refine ⟨I' (X + 14) n, fun P => ?_, fun P => by rw [hT, b390_15, if_pos (by decide), b390_32, if_pos (by decide), b390_50, if_neg (by decide), b390_55 hL r3 e0 e1400, b390_69, t1, tn0]⟩
            rw [hH, b10_24, if_pos (by decide), b10_41, if_pos (by decide), b10_56, if_neg (by decide), b10_61 hL, b106_0 hL e0 e700, tn0]
            rcases k3 with ⟨k4, k5⟩ | ⟨k4, k5, k6⟩
            · rw [k4, if_neg (by decide), b106_10, b106_25]
              simp only [vWC_s, Nat.reduceAdd]
              rw [b10_70, b10_74, k5]
            · rw [if_pos (by rw [w32_id (by omega) (by omega)]; exact fun q => absurd (show I 41 n = -1 from q) (by omega)), b106_14 hL e0 e700 (by rw [tn0]; exact k4) (by rw [tn0]; exact k5), b106_25, tn0]
              simp only [vWC_s, Nat.reduceAdd]
              rw [b10_70, b10_74, k6]
          · unfold inI at hc
            have wc : w32 c = c := w32_id hc.1 hc.2
            exact ⟨-1, fun P => by rw [hH, b10_24, wc, if_pos c0, b10_41, wc, if_pos (show c ≠ w32 1 from c1), b10_56, wc, if_pos (show c ≠ w32 2 from c2), b10_73, b10_74], fun P => by rw [hT, b390_15, wc, if_pos c0, b390_32, wc, if_pos (show c ≠ w32 1 from c1), b390_50, wc, if_pos (show c ≠ w32 2 from c2), b390_68, b390_69]⟩
    · rw [if_neg y] at tn cn
      refine ⟨-1, fun P => ?_, fun P => ?_⟩
      · rw [b10_0 hL, cn]
        simp only [vWC_s, Nat.reduceAdd]
        rw [b10_6, if_neg (by decide), b10_9]
      · rw [b390_0 hL, tn]
        simp only [vWC_s, Nat.reduceAdd]
        rw [b390_6, b390_8, if_neg (by decide), b390_13]
  · obtain ⟨cn, tn⟩ := n_nod (d := d) (d' := d') (b := b) hL ha hM z
    refine ⟨-1, fun P => ?_, fun P => ?_⟩
    · rw [b10_0 hL, cn]
      simp only [vWC_s, Nat.reduceAdd]
      rw [b10_6, if_neg (by decide), b10_9]
    · rw [b390_0 hL, tn]
      simp only [vWC_s, Nat.reduceAdd]
      rw [b390_6, b390_8, if_neg (by decide), b390_13]
theorem q_way {a b c : Int} (ha : inI a) (hb : inI b) (hc : inI c) (hL : vL Y) (hM : isM I I' Y mm) (hS : mm ≠ 0 → ∃ (Wn : Nat) (ns ws ls : Nat → Nat), SDm I I' Y mm X Nn Wn ns ws ls) : ∃ v, An (d + 3) 12 [vr 18, vi a, vi b, vi c, vu] I Y v ∧ An (d' + 3) 392 [vr 2075, vi a, vi b, vi c, vu] I' Y v := by
  by_cases z : 0 ≤ a ∧ a ≤ (mm : Int) - 1
  · obtain ⟨m, hm⟩ : ∃ m : Nat, a = m := ⟨a.toNat, by omega⟩
    subst hm
    have m1 : m < mm := by omega
    obtain ⟨Wn, ns, ws, ls, S⟩ := hS (by omega)
    have cn := fun P => c_wy (d := d) hL hM S m1 hb P
    have tn := fun P => t_wy (d := d') hL hM S m1 hb P
    obtain ⟨⟨t1, _, t3⟩, ⟨_, s2, _, s4, _, _, _, s8⟩, s9, _, s10, _⟩ := S
    obtain ⟨o, g1, g2, g3, _⟩ := s9 m m1
    by_cases y : 0 ≤ b ∧ b ≤ (ws (m + 1) : Int) - ws m - 1
    · obtain ⟨j, hj⟩ : ∃ j : Nat, b = j := ⟨b.toNat, by omega⟩
      subst hj
      have e : (ws m : Int) + (j : Int) = ((ws m + j : Nat) : Int) := by omega
      have n1 : ws m + j < Wn := by omega
      obtain ⟨⟨k1, k2, k3, k4⟩, k5, k6, _⟩ := s10 _ n1
      have e700 : ((ws m + j : Nat) : Int) < 2100 := by omega
      have e0 : (0 : Int) ≤ ((ws m + j : Nat) : Int) := by omega
      have e1400 : ((ws m + j : Nat) : Int) < 3200 := by omega
      rw [if_pos y] at tn cn
      rw [e] at tn
      have u1 : (0 : Int) ≤ (m : Int) := by omega
      have u2 : (m : Int) < 24 := by omega
      have u5 : (m : Int) < 25 := by omega
      have u3 : Y.1 1989 ((m : Int)).toNat ≠ 0 := by rw [tn0, g1.1]; omega
      have u4 : Y.2.1 (Y.1 1989 ((m : Int)).toNat) = 15 := by rw [tn0, g1.1]; exact g1.2.2.2
      have hH : ∀ P : vE → Prop, vW (d + 3) 12 (0, [vr 18, vi (m : Int), vi (j : Int), vi c, vu], [], (I, Y)) P ↔ vW (d + 3) 12 (11, [vr 18, vi (m : Int), vi (j : Int), vi c, vu], [], (I, Y)) P := fun P => by
        rw [b12_0 hL, cn]
        simp only [vWC_s, Nat.reduceAdd]
        rw [b12_6, if_pos (by decide)]
      have ex : I (Y.1 1989 ((m : Int)).toNat) 3852 + (j : Int) = ((ws m + j : Nat) : Int) := by rw [tn0, g1.1, g3.1, e]
      have hT : ∀ P : vE → Prop, vW (d' + 3) 392 (0, [vr 2075, vi (m : Int), vi (j : Int), vi c, vu], [], (I', Y)) P ↔ vW (d' + 3) 392 (15, [vr 2075, vi (m : Int), vi (j : Int), vi c, vi ((ws m + j : Nat) : Int)], [], (I', Y)) P := fun P => by
        rw [b392_0 hL, tn]
        simp only [vWC_s, Nat.reduceAdd]
        rw [b392_6, b392_8, if_pos (by rw [w32_id (by omega) (by omega)]; exact e0)]
      have no : I (Y.1 1989 ((m : Int)).toNat) 3850 = I' (X + 4) m := by rw [tn0, g1.1, g2.1, g2.2.2.1]
      generalize ws m + j = n at *
      have r3 : vreg Y 2081 38 (Y.1 2075 7689) := by rw [t1]; exact t3
      by_cases c0 : c = 0
      · subst c0
        exact ⟨I 50 n - I' (X + 4) m, fun P => by rw [hH, b12_11 hL u1 u2 u3 u4, if_pos (by decide), ex, b12_64 hL e0 e700 u1 u2 u3 u4, no, tn0], fun P => by rw [hT, b392_15, if_pos (by decide), b392_56 hL r3 e0 e1400 u1 u5, t1, tn0, tn0, k1]⟩
      by_cases c1 : c = 1
      · subst c1
        exact ⟨I 51 n - I' (X + 4) m, fun P => by rw [hH, b12_11 hL u1 u2 u3 u4, if_neg (by decide), if_pos (by decide), ex, b12_85 hL e0 e700 u1 u2 u3 u4, no, tn0], fun P => by rw [hT, b392_15, if_neg (by decide), if_pos (by decide), b392_77 hL r3 e0 e1400 u1 u5, t1, tn0, tn0, k2]⟩
      by_cases c2 : c = 2
      · subst c2
        exact ⟨I 52 n, fun P => by rw [hH, b12_11 hL u1 u2 u3 u4, if_neg (by decide), if_neg (by decide), if_pos (by decide), ex, b12_106 hL e0 e700, tn0], fun P => by rw [hT, b392_15, if_neg (by decide), if_neg (by decide), if_pos (by decide), b392_98 hL r3 e0 e1400, t1, tn0, k3]⟩
      by_cases c3 : c = 3
      · subst c3
        exact ⟨if w32 (I 53 n) = 0 then 0 else 1, fun P => by rw [hH, b12_11 hL u1 u2 u3 u4, if_neg (by decide), if_neg (by decide), if_neg (by decide), if_pos (by decide), ex, m12_117 hL e0 e700, tn0, b12_135], fun P => by rw [hT, b392_15, if_neg (by decide), if_neg (by decide), if_neg (by decide), if_pos (by decide), m392_109 hL r3 e0 e1400, t1, tn0, b392_127, k4]⟩
      by_cases c4 : c = 4
      · subst c4
        exact ⟨I 58 n, fun P => by rw [hH, b12_11 hL u1 u2 u3 u4, if_neg (by decide), if_neg (by decide), if_neg (by decide), if_neg (by decide), if_pos (by decide), ex, b12_136 hL e0 e700, tn0], fun P => by rw [hT, b392_15, if_neg (by decide), if_neg (by decide), if_neg (by decide), if_neg (by decide), if_pos (by decide), b392_128 hL e0 e1400, tn0, k5]⟩
      by_cases c5 : c = 5
      · subst c5
        exact ⟨if w32 (I 61 n) = 0 then 0 else 1, fun P => by rw [hH, b12_11 hL u1 u2 u3 u4, if_neg (by decide), if_neg (by decide), if_neg (by decide), if_neg (by decide), if_neg (by decide), if_pos (by decide), ex, m12_147 hL e0 e700, tn0, b12_165], fun P => by rw [hT, b392_15, if_neg (by decide), if_neg (by decide), if_neg (by decide), if_neg (by decide), if_neg (by decide), if_pos (by decide), m392_137 hL e0 e1400, tn0, b392_152, k6]⟩
      unfold inI at hc
      have wc : w32 c = c := w32_id hc.1 hc.2
      exact ⟨-1, fun P => by rw [hH, b12_11 hL u1 u2 u3 u4, wc, if_neg c0, if_neg c1, if_neg c2, if_neg c3, if_neg c4, if_neg c5, b12_166], fun P => by rw [hT, b392_15, wc, if_neg c0, if_neg c1, if_neg c2, if_neg c3, if_neg c4, if_neg c5, b392_153]⟩
    · rw [if_neg y] at tn cn
      refine ⟨-1, fun P => ?_, fun P => ?_⟩
      · rw [b12_0 hL, cn]
        simp only [vWC_s, Nat.reduceAdd]
        rw [b12_6, if_neg (by decide), b12_9]
      · rw [b392_0 hL, tn]
        simp only [vWC_s, Nat.reduceAdd]
        rw [b392_6, b392_8, if_neg (by decide), b392_13]
  · obtain ⟨cn, tn⟩ := n_wy (d := d) (d' := d') (b := b) hL ha hM z
    refine ⟨-1, fun P => ?_, fun P => ?_⟩
    · rw [b12_0 hL, cn]
      simp only [vWC_s, Nat.reduceAdd]
      rw [b12_6, if_neg (by decide), b12_9]
    · rw [b392_0 hL, tn]
      simp only [vWC_s, Nat.reduceAdd]
      rw [b392_6, b392_8, if_neg (by decide), b392_13]
end
section
variable {L : Nat} {x : Nat → Int} {SX : vJ → vJ → vY → Nat → Nat → Nat → Prop}
/-- SX tells SD -/
def sxD (SX : vJ → vJ → vY → Nat → Nat → Nat → Prop) : Prop := ∀ I I' Y mm X Nn, SX I I' Y mm X Nn → SD I I' Y mm X Nn
theorem d_fault (hX : sxK SX) (hD : sxD SX) : oD2 (fun k I Y => LW L x SX k I I Y) := fun k _ a1 ha1 => o_ask hX (sL_c sG_18 (sL_c (sG_i _) (sL_nil _))) (fun Y _ => (sL_c sG_m (sL_c (sG_i _) (sL_nil _)))) (fun I I' Y h => by
  obtain ⟨⟨v1, _⟩, _, _, _, mm, X, Nn, Lp, C, nm, pr, ht, m1, m2, _⟩ := h
  exact q_fault (d := 2000) (d' := 1999) ha1 v1 (hD _ _ _ _ _ _ m2).1)
theorem d_node (hX : sxK SX) (hD : sxD SX) : oD4 (fun k I Y => LW L x SX k I I Y) := fun k _ a1 a2 a3 ha1 ha2 ha3 => o_ask hX (sL_c sG_18 (sL_c (sG_i _) (sL_c (sG_i _) (sL_c (sG_i _) (sL_c sG_u (sL_nil _)))))) (fun Y _ => (sL_c sG_m (sL_c (sG_i _) (sL_c (sG_i _) (sL_c (sG_i _) (sL_c sG_u (sL_nil _))))))) (fun I I' Y h => by
  obtain ⟨⟨v1, _⟩, _, _, _, mm, X, Nn, Lp, C, nm, pr, ht, m1, m2, _⟩ := h
  exact q_node (d := 1997) (d' := 1997) ha1 ha2 ha3 v1 m1 (hD _ _ _ _ _ _ m2).2)
theorem d_way (hX : sxK SX) (hD : sxD SX) : oD5 (fun k I Y => LW L x SX k I I Y) := fun k _ a1 a2 a3 ha1 ha2 ha3 => o_ask hX (sL_c sG_18 (sL_c (sG_i _) (sL_c (sG_i _) (sL_c (sG_i _) (sL_c sG_u (sL_nil _)))))) (fun Y _ => (sL_c sG_m (sL_c (sG_i _) (sL_c (sG_i _) (sL_c (sG_i _) (sL_c sG_u (sL_nil _))))))) (fun I I' Y h => by
  obtain ⟨⟨v1, _⟩, _, _, _, mm, X, Nn, Lp, C, nm, pr, ht, m1, m2, _⟩ := h
  exact q_way (d := 1997) (d' := 1997) ha1 ha2 ha3 v1 m1 (hD _ _ _ _ _ _ m2).2)
end
