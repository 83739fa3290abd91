/-! ===== path: the whole question ===== -/
set_option maxRecDepth 20000
set_option maxHeartbeats 4000000
section
variable {d d' : Nat} {Y : vY} {I I' : vJ} {mm X Nn : Nat}
theorem q_path {a p x3 : Int} (ha : inI a) (hp : inI p) (h3 : inI x3) (hL : vL Y) (hM : isM I I' Y mm) (hS : mm ≠ 0 → ∃ (Wn : Nat) (ns ws ls : Nat → Nat), SDm I I' Y mm X Nn Wn ns ws ls ∧ ∀ m, m < mm → (-1 ≤ I' 2179 m ∧ I' 2179 m ≤ 1000000) ∧ (I' 2179 m ≠ -1 → spM I I' X m ns)) : ∃ v, An (d + 3) 26 [vr 18, vi a, vi p, vi x3] I Y v ∧ An (d' + 2) 387 [vr 2075, vi a, vi p, vi x3, vu, vu, vu, vu, vu] I' Y v := by
  have cn := fun P => c_mem (d := d) hL ha hM P
  have tn := fun P => t_mem (d' := d') hL ha hM P
  have w3 : w32 x3 = x3 := w32_id h3.1 h3.2
  by_cases z : 0 ≤ a ∧ a ≤ (mm : Int) - 1
  · rw [if_pos z] at cn tn
    obtain ⟨m, hm⟩ : ∃ m : Nat, a = m := ⟨a.toNat, by omega⟩
    subst hm
    have m1 : m < mm := by omega
    obtain ⟨Wn, ns, ws, ls, S, hP⟩ := hS (by omega)
    have S0 := S
    obtain ⟨_, ⟨_, _, _, _, _, _, _, s8⟩, s9, _⟩ := S
    obtain ⟨o, ⟨o1, o2, o3, o4⟩, _, _, _, _, _, _, p4, _⟩ := s9 m m1
    obtain ⟨b1, b2⟩ := hP m m1
    have u1 : (0 : Int) ≤ (m : Int) := by omega
    have u2 : (m : Int) < 24 := by omega
    have ex : Y.1 1989 ((m : Int)).toNat = o := by rw [tn0]; exact o1
    have hc : inI (I' 2179 m - 1) := by unfold inI; omega
    have wp : w32 (I' 2179 m) = I' 2179 m := w32_id (by omega) (by omega)
    have h25 : An (d + 2) 25 [vr 18, vi (m : Int), vi p] I Y (if 0 ≤ p ∧ p ≤ I' 2179 m - 1 then 1 else 0) := fun P => by
      rw [b25_0 hL, cn]
      simp only [vWC_s, Nat.reduceAdd]
      rw [b25_5, if_neg (by decide), b25_8 hL u1 u2 (by rw [ex]; omega) (by rw [ex]; exact o4), ex, p4, c_in hp in0 hc]
      simp only [vWC_s, Nat.reduceAdd]
      rw [b25_24]
      by_cases y : 0 ≤ p ∧ p ≤ I' 2179 m - 1
      · rw [if_pos y, if_neg (by decide), b25_27, b25_32 (Or.inr rfl)]
      · rw [if_neg y, if_pos (by decide), b25_31, b25_32 (Or.inl rfl)]
    have hT : ∀ P : vE → Prop, vW (d' + 2) 387 (0, [vr 2075, vi (m : Int), vi p, vi x3, vu, vu, vu, vu, vu], [], (I', Y)) P ↔ if 0 ≤ p ∧ p ≤ I' 2179 m - 1 then vW (d' + 2) 387 (35, [vr 2075, vi (m : Int), vi p, vi x3, vu, vu, vu, vu, vu], [], (I', Y)) P else P (.inl (some (vi (-1))), (I', Y)) := fun P => by
      rw [b387_0 hL, tn]
      simp only [vWC_s, Nat.reduceAdd]
      rw [b387_5, if_neg (by decide), b387_8 hL u1 u2, tn0, wp]
      by_cases q : I' 2179 m < 0
      · rw [if_pos q, if_neg (by omega), b387_33]
      · rw [if_neg q, b387_17 hL u1 u2, tn0, t_in hp in0 hc]
        simp only [vWC_s, Nat.reduceAdd]
        rw [b387_30]
        by_cases y : 0 ≤ p ∧ p ≤ I' 2179 m - 1
        · rw [if_pos y, if_pos y, if_pos (by decide)]
        · rw [if_neg y, if_neg y, if_neg (by decide), b387_33]
    clear wp
    by_cases y : 0 ≤ p ∧ p ≤ I' 2179 m - 1
    · obtain ⟨v, v0, v1, v2⟩ := q_path1 (d := d + 1) (d' := d' + 1) (p := p) (x3 := x3) hL S0 m1 (b2 (by omega)) y.1 (by omega)
      refine ⟨v, fun P => ?_, fun P => by rw [hT, if_pos y]; exact v2 P⟩
      rw [b26_0, w3]
      by_cases k : x3 < -1
      · rw [if_pos (show x3 < w32 (-1) from k), b26_32, b26_33, v0 h3 k]
      · rw [if_neg (show ¬ x3 < w32 (-1) from k), b26_5 hL, h25, if_pos y]
        simp only [vWC_s, Nat.reduceAdd]
        rw [b26_11, if_neg (by decide), b26_14 hL u1 u2, tn0, v1]
        simp only [vWC_s, Nat.reduceAdd]
        rw [b26_29, b26_33]
    · refine ⟨-1, fun P => ?_, fun P => by rw [hT, if_neg y]⟩
      rw [b26_0, w3]
      by_cases k : x3 < -1
      · rw [if_pos (show x3 < w32 (-1) from k), b26_32, b26_33]
      · rw [if_neg (show ¬ x3 < w32 (-1) from k), b26_5 hL, h25, if_neg y]
        simp only [vWC_s, Nat.reduceAdd]
        rw [b26_11, if_pos (by decide), b26_32, b26_33]
  · rw [if_neg z] at cn tn
    refine ⟨-1, fun P => ?_, fun P => ?_⟩
    · rw [b26_0, w3]
      by_cases k : x3 < -1
      · rw [if_pos (show x3 < w32 (-1) from k), b26_32, b26_33]
      · rw [if_neg (show ¬ x3 < w32 (-1) from k), b26_5 hL, b25_0 hL, cn]
        simp only [vWC_s, Nat.reduceAdd]
        rw [b25_5, if_pos (by decide), b25_31, b25_32 (Or.inl rfl)]
        simp only [vWC_s, Nat.reduceAdd]
        rw [b26_11, if_pos (by decide), b26_32, b26_33]
    · rw [b387_0 hL, tn]
      simp only [vWC_s, Nat.reduceAdd]
      rw [b387_5, if_pos (by decide), b387_33]
end
section
variable {L : Nat} {x : Nat → Int} {SX : vJ → vJ → vY → Nat → Nat → Nat → Prop}
/-- SX tells the paths -/
def sxP (SX : vJ → vJ → vY → Nat → Nat → Nat → Prop) : Prop := ∀ I I' Y mm X Nn, SX I I' Y mm X Nn → mm ≠ 0 → ∃ (Wn : Nat) (ns ws ls : Nat → Nat), SDm I I' Y mm X Nn Wn ns ws ls ∧ ∀ m, m < mm → (-1 ≤ I' 2179 m ∧ I' 2179 m ≤ 1000000) ∧ (I' 2179 m ≠ -1 → spM I I' X m ns)
theorem d_path (hX : sxK SX) (hP : sxP SX) : oD16 (fun k I Y => LW L x SX k I I Y) := fun k _ a1 a2 a3 ha1 ha2 ha3 => o_ask hX (sL_c sG_18 (sL_c (sG_i _) (sL_c (sG_i _) (sL_c (sG_i _) (sL_nil _))))) (fun Y _ => (sL_c sG_m (sL_c (sG_i _) (sL_c (sG_i _) (sL_c (sG_i _) (sL_c sG_u (sL_c sG_u (sL_c sG_u (sL_c sG_u (sL_c sG_u (sL_nil _))))))))))) (fun I I' Y h => by
  obtain ⟨⟨v1, _⟩, _, _, _, mm, X, Nn, Lp, C, nm, pr, ht, m1, m2, _⟩ := h
  exact q_path (d := 1997) (d' := 1998) ha1 ha2 ha3 v1 m1 (hP _ _ _ _ _ _ m2))
end
