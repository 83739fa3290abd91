/-! ===== member: questions about the text ===== -/
set_option maxRecDepth 20000
set_option maxHeartbeats 4000000
section
variable {d d' : Nat} {Y : vY} {I I' : vJ} {mm X Nn : Nat}
/-- the house counts probes -/
theorem c_probes {P : vE → Prop} {m c : Int} {o a n : Nat} (hL : vL Y) (h1 : 2297 ≤ o) (h2 : Y.2.1 o = 15) (h3 : I o 3852 = a) (h4 : I o 3853 = n) (h5 : a + n ≤ 2100) (h6 : ∀ w, w < 2100 → a ≤ w → w < a + n → I 61 w = 0 ∨ I 61 w = 1) : vW d 8 (113, [vr 18, vi m, vi c, vr o, vi 0, vi (a : Int)], [], (I, Y)) P ↔ P (.inl (some (vi (prS (I 61) a n))), (I, Y)) := by
  have key : ∀ (r i : Nat), i + r = n → (vW d 8 (113, [vr 18, vi m, vi c, vr o, vi (prS (I 61) a i), vi ((a + i : Nat) : Int)], [], (I, Y)) P ↔ P (.inl (some (vi (prS (I 61) a n))), (I, Y))) := by
    intro r
    induction r with
    | zero =>
      intro i hi
      have hi : i = n := by omega
      subst hi
      rw [b8_113 (by omega) h2, if_pos (by rw [h3, h4, w32_id (by omega) (by omega), w32_id (by omega) (by omega)]; omega), b8_156]
    | succ r ih =>
      intro i hi
      rw [b8_113 (by omega) h2, if_neg (by rw [h3, h4, w32_id (by omega) (by omega), w32_id (by omega) (by omega)]; omega), b8_127 hL (by omega) (by omega), tn0]
      have e : ((a + i : Nat) : Int) + 1 = ((a + (i + 1) : Nat) : Int) := by omega
      rcases h6 (a + i) (by omega) (by omega) (by omega) with q | q
      · rw [q, if_pos (by decide), b8_146, b8_147, e]
        have g := ih (i + 1) (by omega)
        have s : prS (I 61) a (i + 1) = prS (I 61) a i + 0 := by
          show prS (I 61) a i + (if I 61 (a + i) = 0 then 0 else 1) = _
          rw [q, if_pos rfl]
        rw [s] at g
        exact g
      · rw [q, if_neg (by decide), b8_142, b8_147, e]
        have g := ih (i + 1) (by omega)
        have s : prS (I 61) a (i + 1) = prS (I 61) a i + 1 := by
          show prS (I 61) a i + (if I 61 (a + i) = 0 then 0 else 1) = _
          rw [q, if_neg (by decide)]
        rw [s] at g
        exact g
  exact key n 0 (by omega)
theorem q_member {a c : Int} (ha : inI a) (hc : inI c) (hL : vL Y) (hM : isM I I' Y mm) (hS : mm ≠ 0 → ∃ (Wn : Nat) (ns ws ls : Nat → Nat), SDm I I' Y mm X Nn Wn ns ws ls) : ∃ v, An (d + 2) 8 [vr 18, vi a, vi c, vu, vu, vu] I Y v ∧ An (d' + 2) 389 [vr 2075, vi a, vi c] I' Y v := by
  have cn := fun P => c_mem (d := d) hL ha hM P
  have tn := fun P => t_mem (d' := d') hL ha hM P
  by_cases z : 0 ≤ a ∧ a ≤ (mm : Int) - 1
  · rw [if_pos z] at cn tn
    obtain ⟨m, hm⟩ : ∃ m : Nat, a = m := ⟨a.toNat, by omega⟩
    subst hm
    have m1 : m < mm := by omega
    obtain ⟨Wn, ns, ws, ls, S⟩ := hS (by omega)
    have S0 := S
    obtain ⟨⟨t1, _, t3⟩, ⟨_, s2, _, s4, _, _, _, s8⟩, s9, s11, s10, _⟩ := S
    obtain ⟨o, ⟨o1, o2, o3, o4⟩, ⟨g1, g2, g3, g4, g5⟩, ⟨w1, w2, w3, w4, w5⟩, ⟨l1, l2, l3, l4, l5⟩, p1, p2, p3, p4, p5⟩ := s9 m m1
    have u1 : (0 : Int) ≤ (m : Int) := by omega
    have u2 : (m : Int) < 24 := by omega
    have u5 : (m : Int) < 25 := by omega
    have o0 : o ≠ 0 := by omega
    have r3 : vreg Y 2081 38 (Y.1 2075 7689) := by rw [t1]; exact t3
    have hH : ∀ P : vE → Prop, vW (d + 2) 8 (0, [vr 18, vi (m : Int), vi c, vu, vu, vu], [], (I, Y)) P ↔ vW (d + 2) 8 (10, [vr 18, vi (m : Int), vi c, vu, vu, vu], [], (I, Y)) P := fun P => by
      rw [b8_0 hL, cn]
      simp only [vWC_s, Nat.reduceAdd]
      rw [b8_5, if_pos (by decide)]
    have ex : Y.1 1989 ((m : Int)).toNat = o := by rw [tn0]; exact o1
    have hT : ∀ P : vE → Prop, vW (d' + 2) 389 (0, [vr 2075, vi (m : Int), vi c], [], (I', Y)) P ↔ vW (d' + 2) 389 (10, [vr 2075, vi (m : Int), vi c], [], (I', Y)) P := fun P => by
      rw [b389_0 hL, tn]
      simp only [vWC_s, Nat.reduceAdd]
      rw [b389_5, if_pos (by decide)]
    by_cases c0 : c = 0
    · subst c0
      exact ⟨I 2061 (ns m), fun P => by rw [hH, b8_10 hL u1 u2, if_pos (by decide), ex, b8_64 hL o0 o4 (by rw [g1]; omega) (by rw [g1]; omega), g1, tn0], fun P => by rw [hT, b389_10, if_pos (by decide), b389_56 hL r3 u1 u2, t1, tn0, p1]⟩
    by_cases c1 : c = 1
    · subst c1
      exact ⟨I o 3844, fun P => by rw [hH, b8_10 hL u1 u2, if_neg (by decide), if_pos (by decide), ex, b8_74 o0 o4], fun P => by rw [hT, b389_10, if_neg (by decide), if_pos (by decide), b389_66 hL r3 u1 u2, t1, tn0, p2]⟩
    by_cases c2 : c = 2
    · subst c2
      exact ⟨I o 3847, fun P => by rw [hH, b8_10 hL u1 u2, if_neg (by decide), if_neg (by decide), if_pos (by decide), ex, b8_79 o0 o4], fun P => by rw [hT, b389_10, if_neg (by decide), if_neg (by decide), if_pos (by decide), b389_76 hL r3 u1 u2, t1, tn0, p3]⟩
    by_cases c3 : c = 3
    · subst c3
      refine ⟨I o 3851, fun P => by rw [hH, b8_10 hL u1 u2, if_neg (by decide), if_neg (by decide), if_neg (by decide), if_pos (by decide), ex, b8_84 o0 o4], fun P => ?_⟩
      rw [hT, b389_10, if_neg (by decide), if_neg (by decide), if_neg (by decide), if_pos (by decide), b389_86 hL, t_endnod S0 hL m1]
      simp only [vWC_s, Nat.reduceAdd]
      rw [b389_91 hL r3 u1 u5, t1, tn0, g3, g2]
    by_cases c4 : c = 4
    · subst c4
      refine ⟨I o 3853, fun P => by rw [hH, b8_10 hL u1 u2, if_neg (by decide), if_neg (by decide), if_neg (by decide), if_neg (by decide), if_pos (by decide), ex, b8_89 o0 o4], fun P => ?_⟩
      rw [hT, b389_10, if_neg (by decide), if_neg (by decide), if_neg (by decide), if_neg (by decide), if_pos (by decide), b389_102 hL, t_endwy S0 hL m1]
      simp only [vWC_s, Nat.reduceAdd]
      rw [b389_107 hL r3 u1 u5, t1, tn0, w3, w2]
    by_cases c5 : c = 5
    · subst c5
      exact ⟨I o 3855, fun P => by rw [hH, b8_10 hL u1 u2, if_neg (by decide), if_neg (by decide), if_neg (by decide), if_neg (by decide), if_neg (by decide), if_pos (by decide), ex, b8_94 o0 o4], fun P => by rw [hT, b389_10, if_neg (by decide), if_neg (by decide), if_neg (by decide), if_neg (by decide), if_neg (by decide), if_pos (by decide), b389_118 hL r3 u1 u2, t1, tn0, l2, l3]⟩
    by_cases c6 : c = 6
    · subst c6
      exact ⟨I o 3856, fun P => by rw [hH, b8_10 hL u1 u2, if_neg (by decide), if_neg (by decide), if_neg (by decide), if_neg (by decide), if_neg (by decide), if_neg (by decide), if_pos (by decide), ex, b8_99 o0 o4], fun P => by rw [hT, b389_10, if_neg (by decide), if_neg (by decide), if_neg (by decide), if_neg (by decide), if_neg (by decide), if_neg (by decide), if_pos (by decide), b389_128 hL u1 u2, tn0, p4]⟩
    by_cases c7 : c = 7
    · subst c7
      refine ⟨prS (I 61) (ws m) (ws (m + 1) - ws m), fun P => ?_, fun P => by rw [hT, b389_10, if_neg (by decide), if_neg (by decide), if_neg (by decide), if_neg (by decide), if_neg (by decide), if_neg (by decide), if_neg (by decide), if_pos (by decide), b389_135 hL u1 u2, tn0, p5]⟩
      rw [hH, b8_10 hL u1 u2, if_neg (by decide), if_neg (by decide), if_neg (by decide), if_neg (by decide), if_neg (by decide), if_neg (by decide), if_neg (by decide), if_pos (by decide), ex, b8_104 o0 o4, w1]
      exact c_probes hL o2 o4 w1 (by rw [w2]; omega) (by omega) (fun w _ _ q => (s10 w (by omega)).2.2.2)
    unfold inI at hc
    have wc : w32 c = c := w32_id hc.1 hc.2
    exact ⟨-1, fun P => by rw [hH, b8_10 hL u1 u2, wc, if_neg c0, if_neg c1, if_neg c2, if_neg c3, if_neg c4, if_neg c5, if_neg c6, if_neg c7, b8_159], fun P => by rw [hT, b389_10, wc, if_neg c0, if_neg c1, if_neg c2, if_neg c3, if_neg c4, if_neg c5, if_neg c6, if_neg c7, b389_142]⟩
  · rw [if_neg z] at cn tn
    refine ⟨-1, fun P => ?_, fun P => ?_⟩
    · rw [b8_0 hL, cn]
      simp only [vWC_s, Nat.reduceAdd]
      rw [b8_5, if_neg (by decide), b8_8]
    · rw [b389_0 hL, tn]
      simp only [vWC_s, Nat.reduceAdd]
      rw [b389_5, if_neg (by decide), b389_8]
end
section
variable {L : Nat} {x : Nat → Int} {SX : vJ → vJ → vY → Nat → Nat → Nat → Prop}
theorem d_member (hX : sxK SX) (hD : sxD SX) : oD3 (fun k I Y => LW L x SX k I I Y) := fun k _ a1 a2 ha1 ha2 => o_ask hX (sL_c sG_18 (sL_c (sG_i _) (sL_c (sG_i _) (sL_c sG_u (sL_c sG_u (sL_c sG_u (sL_nil _))))))) (fun Y _ => (sL_c sG_m (sL_c (sG_i _) (sL_c (sG_i _) (sL_nil _))))) (fun I I' Y h => by
  obtain ⟨⟨v1, _⟩, _, _, _, mm, X, Nn, Lp, C, nm, pr, ht, m1, m2, _⟩ := h
  exact q_member (d := 1998) (d' := 1998) ha1 ha2 v1 m1 (hD _ _ _ _ _ _ m2).2)
end
