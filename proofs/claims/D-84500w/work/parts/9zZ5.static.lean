/-! ===== what load settles for questions about the text (SD); fault, node, way, member (printed by gen/static1.py) ===== -/
set_option maxRecDepth 20000
set_option maxHeartbeats 4000000
/-- how many probes lie on n ways from a on -/
def prS (f : Nat → Int) (a : Nat) : Nat → Int
  | 0 => 0
  | n + 1 => prS f a n + (if f (a + n) = 0 then 0 else 1)
/-- how many heads of loops lie below n -/
def hdN (f : Nat → Int) : Nat → Nat
  | 0 => 0
  | n + 1 => hdN f n + (if f n = 0 then 0 else 1)
/-- the first fault of the text that was fed last -/
def fltR (I I' : vJ) : Prop := (I 18 270 = 0 ∧ I' 2075 7692 = 0) ∨ (I 18 270 = 1 ∧ I' 2075 7692 = 1 ∧ (I 18 268 = I' 2075 7693 ∧ inI (I 18 268)) ∧ I 18 269 = if I' 2075 7693 = 0 then -1 else I' 2075 7694)
/-- one member -/
def sdM (I I' : vJ) (Y : vY) (X m Nn Wn : Nat) (ns ws ls : Nat → Nat) : Prop := ∃ o : Nat, (Y.1 1989 m = o ∧ 2297 ≤ o ∧ o < Y.2.2.2.1 ∧ Y.2.1 o = 15) ∧ (I o 3850 = ns m ∧ I o 3851 = (ns (m + 1) : Int) - ns m ∧ I' (X + 4) m = ns m ∧ ns m < ns (m + 1) ∧ ns (m + 1) ≤ Nn) ∧ (I o 3852 = ws m ∧ I o 3853 = (ws (m + 1) : Int) - ws m ∧ I' (X + 5) m = ws m ∧ ws m ≤ ws (m + 1) ∧ ws (m + 1) ≤ Wn) ∧ (I o 3854 = ls m ∧ I o 3855 = (ls (m + 1) : Int) - ls m ∧ I' (X + 7) m = (ls (m + 1) : Int) - ls m ∧ ls m ≤ ls (m + 1) ∧ ls (m + 1) ≤ 260) ∧ I' (X + 1) m = I 2061 (ns m) ∧ I o 3844 = I' (X + 2) m ∧ I o 3847 = I' (X + 3) m ∧ I o 3856 = I' 2179 m ∧ I' 2174 m = prS (I 61) (ws m) (ws (m + 1) - ws m)
/-- a whole text -/
def SDm (I I' : vJ) (Y : vY) (mm X Nn Wn : Nat) (ns ws ls : Nat → Nat) : Prop := (Y.1 2075 7689 = X ∧ (X = 2081 ∨ X = 2119) ∧ vreg Y 2081 38 X) ∧ (ns mm = Nn ∧ Nn ≤ 700 ∧ ws mm = Wn ∧ Wn ≤ 2100 ∧ I' X 7938 = Nn ∧ I' X 7939 = Wn ∧ I' X 7936 = mm ∧ mm ≤ 24) ∧ (∀ m, m < mm → sdM I I' Y X m Nn Wn ns ws ls) ∧ (∀ n, n < Nn → I 38 n = I' (X + 9) n ∧ I 2061 n = I' (X + 10) n ∧ ((I 41 n = -1 ∧ I' (X + 14) n = 0) ∨ (0 ≤ I 41 n ∧ I 41 n < 260 ∧ I' (X + 14) n = I 56 (I 41 n).toNat))) ∧ (∀ w, w < Wn → (I 50 w = I' (X + 22) w ∧ I 51 w = I' (X + 23) w ∧ I 52 w = I' (X + 24) w ∧ I 53 w = I' (X + 25) w) ∧ I 58 w = I' 2172 w ∧ I 61 w = I' 2173 w ∧ (I 61 w = 0 ∨ I 61 w = 1)) ∧ (∀ n, n < Nn → (I' (X + 26) n = 0 ∨ I' (X + 26) n = 1) ∧ (I' (X + 26) n = 1 → I 54 (hdN (I' (X + 26)) n) = n ∧ I 41 n = hdN (I' (X + 26)) n)) ∧ ∀ m, m ≤ mm → ls m = hdN (I' (X + 26)) (ns m)
def SD (I I' : vJ) (Y : vY) (mm X Nn : Nat) : Prop := fltR I I' ∧ (mm ≠ 0 → ∃ (Wn : Nat) (ns ws ls : Nat → Nat), SDm I I' Y mm X Nn Wn ns ws ls)
theorem sdM_cong {I I' J J' : vJ} {Y : vY} {X m Nn Wn : Nat} {ns ws ls : Nat → Nat} (hx : X = 2081 ∨ X = 2119) (g : sxA Y I I' J J') (h : sdM I I' Y X m Nn Wn ns ws ls) : sdM J J' Y X m Nn Wn ns ws ls := by
  obtain ⟨a1, a2, a3, a4⟩ := g
  have t : ∀ k, k < 38 → J' (X + k) = I' (X + k) := fun k hk => a3 _ (by unfold stT; omega)
  obtain ⟨o, h1, h2, h3, h4, h5, h6, h7, h8, h9⟩ := h
  have e : J o = I o := a1 o (by unfold stC; omega)
  refine ⟨o, h1, ?_⟩
  rw [e, t 4 (by decide), t 5 (by decide), t 7 (by decide), t 1 (by decide), t 2 (by decide), t 3 (by decide), a1 2061 (by unfold stC; omega), a1 61 (by unfold stC; omega), a3 2179 (by unfold stT; omega), a3 2174 (by unfold stT; omega)]
  exact ⟨h2, h3, h4, h5, h6, h7, h8, h9⟩
theorem SD_keep : sxK SD := fun I I' J J' Y mm X Nn h g => by
  have g0 := g
  obtain ⟨a1, a2, a3, a4⟩ := g
  obtain ⟨f1, f2⟩ := h
  refine ⟨?_, fun z => ?_⟩
  · unfold fltR at *
    rw [a2 268 (by decide) (by decide), a2 269 (by decide) (by decide), a2 270 (by decide) (by decide), a4 7692 (by omega), a4 7693 (by omega), a4 7694 (by omega)]
    exact f1
  · obtain ⟨Wn, ns, ws, ls, ⟨h1, hx, h2⟩, h3, h4, h5, h6, h7, h8⟩ := f2 z
    have t : ∀ k, k < 38 → J' (X + k) = I' (X + k) := fun k hk => a3 _ (by unfold stT; omega)
    have t0 : J' X = I' X := t 0 (by decide)
    refine ⟨Wn, ns, ws, ls, ⟨h1, hx, h2⟩, by rw [t0]; exact h3, fun m hm => sdM_cong hx g0 (h4 m hm), fun n hn => ?_, fun w hw => ?_, fun n hn => ?_, fun m hm => ?_⟩
    · rw [a1 38 (by unfold stC; omega), a1 2061 (by unfold stC; omega), a1 41 (by unfold stC; omega), a1 56 (by unfold stC; omega), t 9 (by decide), t 10 (by decide), t 14 (by decide)]
      exact h5 n hn
    · rw [a1 50 (by unfold stC; omega), a1 51 (by unfold stC; omega), a1 52 (by unfold stC; omega), a1 53 (by unfold stC; omega), a1 58 (by unfold stC; omega), a1 61 (by unfold stC; omega), t 22 (by decide), t 23 (by decide), t 24 (by decide), t 25 (by decide), a3 2172 (by unfold stT; omega), a3 2173 (by unfold stT; omega)]
      exact h6 w hw
    · rw [a1 54 (by unfold stC; omega), a1 41 (by unfold stC; omega), t 26 (by decide)]
      exact h7 n hn
    · rw [t 26 (by decide)]
      exact h8 m hm
section
variable {d d' : Nat} {Y : vY} {I I' : vJ} {mm X Nn Wn : Nat} {ns ws ls : Nat → Nat}
theorem q_fault {a : Int} (ha : inI a) (hL : vL Y) (h : fltR I I') : ∃ v, An d 7 [vr 18, vi a] I Y v ∧ An (d' + 1) 289 [vr 2075, vi a] I' Y v := by
  have a2 := ha
  unfold inI at a2
  have wa : w32 a = a := w32_id a2.1 a2.2
  rcases h with ⟨h1, h2⟩ | ⟨h1, h2, ⟨h3, h4⟩, h5⟩
  · exact ⟨-1, fun P => by rw [b7_0 hL, h1, if_neg (by decide), b7_7, b7_35], fun P => by rw [b289_0 hL, h2, if_pos (by decide), b289_16, b289_46]⟩
  · have b3 := h4
    rw [h3] at b3
    unfold inI at b3
    have w3 : w32 (I' 2075 7693) = I' 2075 7693 := w32_id b3.1 b3.2
    have H : ∀ P : vE → Prop, vW (d' + 1) 289 (0, [vr 2075, vi a], [], (I', Y)) P ↔ if 0 ≤ a ∧ a ≤ 1 then vW (d' + 1) 289 (20, [vr 2075, vi a], [], (I', Y)) P else P (.inl (some (vi (-1))), (I', Y)) := fun P => by
      rw [b289_0 hL, h2, if_neg (by decide), b289_7, t_in ha in0 in1]
      simp only [vWC_s, Nat.reduceAdd]
      rw [b289_13]
      by_cases z : 0 ≤ a ∧ a ≤ 1
      · rw [if_pos z, if_pos z, if_pos (by decide)]
      · rw [if_neg z, if_neg z, if_neg (by decide), b289_16, b289_46]
    by_cases z0 : a = 0
    · subst z0
      exact ⟨I 18 268, fun P => by rw [b7_0 hL, h1, if_pos (by decide), b7_11, if_neg (by decide), b7_15 hL, b7_35], fun P => by rw [H, if_pos (by omega), b289_20, if_neg (by decide), b289_24 hL, b289_46, h3]⟩
    · by_cases z1 : a = 1
      · subst z1
        refine ⟨I 18 269, fun P => by rw [b7_0 hL, h1, if_pos (by decide), b7_11, if_pos (by decide), b7_22, if_neg (by decide), b7_27 hL, b7_35], fun P => ?_⟩
        rw [H, if_pos (by omega), b289_20, if_pos (by decide), b289_31 hL, w3, h5]
        by_cases y : I' 2075 7693 = 0
        · rw [if_neg (by omega), if_pos y, b289_38, b289_46]
        · rw [if_pos y, if_neg y, b289_42 hL, b289_46]
      · exact ⟨-1, fun P => by rw [b7_0 hL, h1, if_pos (by decide), b7_11, wa, if_pos z0, b7_22, wa, if_pos (show a ≠ w32 1 from z1), b7_34, b7_35], fun P => by rw [H, if_neg (by omega)]⟩

/-- where the member's rows end, in the model -/
theorem t_endnod {m : Nat} (hS : SDm I I' Y mm X Nn Wn ns ws ls) (hL : vL Y) (hm : m < mm) : An d 355 [vr 2075, vi (m : Int)] I' Y (ns (m + 1)) := fun P => by
  obtain ⟨⟨t1, _, t3⟩, ⟨s1, s2, s3, s4, s5, s6, s7, s8⟩, s9, _⟩ := hS
  have mw : w32 ((m : Int) + 1) = m + 1 := w32_id (by omega) (by omega)
  have m2 : w32 (mm : Int) = mm := w32_id (by omega) (by omega)
  rw [b355_0 hL (by rw [t1]; exact t3), t1, s7, mw, m2]
  clear mw m2
  by_cases z : m + 1 < mm
  · obtain ⟨o, g1, g2, g3, _⟩ := s9 (m + 1) z
    rw [if_neg (by omega), b355_13 hL (by rw [t1]; exact t3) (by omega) (by omega), t1, show ((m : Int) + 1).toNat = m + 1 by omega, g2.2.2.1, b355_34]
  · have e : m + 1 = mm := by omega
    rw [if_pos (by omega), b355_27 hL (by rw [t1]; exact t3), t1, s5, b355_34, e, s1]
theorem c_nod {m : Nat} {b : Int} (hL : vL Y) (hM : isM I I' Y mm) (hS : SDm I I' Y mm X Nn Wn ns ws ls) (hm : m < mm) (hb : inI b) : An (d + 2) 11 [vr 18, vi (m : Int), vi b] I Y (if 0 ≤ b ∧ b ≤ (ns (m + 1) : Int) - ns m - 1 then 1 else 0) := fun P => by
  obtain ⟨_, ⟨s1, s2, s3, s4, s5, s6, s7, s8⟩, s9, _⟩ := hS
  obtain ⟨o, g1, g2, g3, _⟩ := s9 m hm
  have hi : inI (m : Int) := by unfold inI; omega
  have hc : inI ((ns (m + 1) : Int) - ns m - 1) := by unfold inI; omega
  rw [b11_0 hL, c_mem hL hi hM, if_pos (by omega)]
  simp only [vWC_s, Nat.reduceAdd]
  rw [b11_5, if_neg (by decide), b11_8 hL (by omega) (by omega) (by rw [tn0, g1.1]; omega) (by rw [tn0, g1.1]; exact g1.2.2.2), tn0, g1.1, g2.2.1, c_in hb in0 hc]
  simp only [vWC_s, Nat.reduceAdd]
  rw [b11_24]
  by_cases z : 0 ≤ b ∧ b ≤ (ns (m + 1) : Int) - ns m - 1
  · rw [if_pos z, if_neg (by decide), b11_27, b11_32 (Or.inr rfl)]
  · rw [if_neg z, if_pos (by decide), b11_31, b11_32 (Or.inl rfl)]
theorem t_nod {m : Nat} {b : Int} (hL : vL Y) (hM : isM I I' Y mm) (hS : SDm I I' Y mm X Nn Wn ns ws ls) (hm : m < mm) (hb : inI b) : An (d + 2) 391 [vr 2075, vi (m : Int), vi b] I' Y (if 0 ≤ b ∧ b ≤ (ns (m + 1) : Int) - ns m - 1 then (ns m : Int) + b else -1) := fun P => by
  have hS0 := hS
  obtain ⟨⟨t1, _, t3⟩, ⟨s1, s2, s3, s4, s5, s6, s7, s8⟩, s9, _⟩ := hS
  obtain ⟨o, g1, g2, g3, _⟩ := s9 m hm
  have hi : inI (m : Int) := by unfold inI; omega
  have b2 := hb
  unfold inI at b2
  have wb : w32 b = b := w32_id b2.1 b2.2
  have wc : w32 ((ns (m + 1) : Int) - ns m) = (ns (m + 1) : Int) - ns m := w32_id (by omega) (by omega)
  rw [b391_0 hL, t_mem hL hi hM, if_pos (by omega)]
  simp only [vWC_s, Nat.reduceAdd]
  rw [b391_5, if_neg (by decide), b391_8, wb]
  by_cases z0 : b < 0
  · rw [if_pos z0, b391_45, b391_46, if_neg (by omega)]
  · rw [if_neg z0, b391_12 hL, t_endnod hS0 hL hm]
    simp only [vWC_s, Nat.reduceAdd]
    rw [b391_18 hL (by rw [t1]; exact t3) (by omega) (by omega), t1, tn0, g2.2.2.1, wb, wc]
    by_cases z : 0 ≤ b ∧ b ≤ (ns (m + 1) : Int) - ns m - 1
    · rw [if_neg (by omega), if_pos z, b391_31 hL (by rw [t1]; exact t3) (by omega) (by omega), t1, tn0, g2.2.2.1, b391_46]
    · rw [if_pos (by omega), if_neg z, b391_45, b391_46]
theorem n_nod {a b : Int} (hL : vL Y) (ha : inI a) (hM : isM I I' Y mm) (z : ¬ (0 ≤ a ∧ a ≤ (mm : Int) - 1)) : An (d + 2) 11 [vr 18, vi a, vi b] I Y 0 ∧ An (d' + 2) 391 [vr 2075, vi a, vi b] I' Y (-1) := by
  refine ⟨fun P => ?_, fun P => ?_⟩
  · rw [b11_0 hL, c_mem hL ha hM, if_neg z]
    simp only [vWC_s, Nat.reduceAdd]
    rw [b11_5, if_pos (by decide), b11_31, b11_32 (Or.inl rfl)]
  · rw [b391_0 hL, t_mem hL ha hM, if_neg z]
    simp only [vWC_s, Nat.reduceAdd]
    rw [b391_5, if_pos (by decide), b391_45, b391_46]

/-- where the member's rows end, in the model -/
theorem t_endwy {m : Nat} (hS : SDm I I' Y mm X Nn Wn ns ws ls) (hL : vL Y) (hm : m < mm) : An d 357 [vr 2075, vi (m : Int)] I' Y (ws (m + 1)) := fun P => by
  obtain ⟨⟨t1, _, t3⟩, ⟨s1, s2, s3, s4, s5, s6, s7, s8⟩, s9, _⟩ := hS
  have mw : w32 ((m : Int) + 1) = m + 1 := w32_id (by omega) (by omega)
  have m2 : w32 (mm : Int) = mm := w32_id (by omega) (by omega)
  rw [b357_0 hL (by rw [t1]; exact t3), t1, s7, mw, m2]
  clear mw m2
  by_cases z : m + 1 < mm
  · obtain ⟨o, g1, g2, g3, _⟩ := s9 (m + 1) z
    rw [if_neg (by omega), b357_13 hL (by rw [t1]; exact t3) (by omega) (by omega), t1, show ((m : Int) + 1).toNat = m + 1 by omega, g3.2.2.1, b357_34]
  · have e : m + 1 = mm := by omega
    rw [if_pos (by omega), b357_27 hL (by rw [t1]; exact t3), t1, s6, b357_34, e, s3]
theorem c_wy {m : Nat} {b : Int} (hL : vL Y) (hM : isM I I' Y mm) (hS : SDm I I' Y mm X Nn Wn ns ws ls) (hm : m < mm) (hb : inI b) : An (d + 2) 13 [vr 18, vi (m : Int), vi b] I Y (if 0 ≤ b ∧ b ≤ (ws (m + 1) : Int) - ws m - 1 then 1 else 0) := fun P => by
  obtain ⟨_, ⟨s1, s2, s3, s4, s5, s6, s7, s8⟩, s9, _⟩ := hS
  obtain ⟨o, g1, g2, g3, _⟩ := s9 m hm
  have hi : inI (m : Int) := by unfold inI; omega
  have hc : inI ((ws (m + 1) : Int) - ws m - 1) := by unfold inI; omega
  rw [b13_0 hL, c_mem hL hi hM, if_pos (by omega)]
  simp only [vWC_s, Nat.reduceAdd]
  rw [b13_5, if_neg (by decide), b13_8 hL (by omega) (by omega) (by rw [tn0, g1.1]; omega) (by rw [tn0, g1.1]; exact g1.2.2.2), tn0, g1.1, g3.2.1, c_in hb in0 hc]
  simp only [vWC_s, Nat.reduceAdd]
  rw [b13_24]
  by_cases z : 0 ≤ b ∧ b ≤ (ws (m + 1) : Int) - ws m - 1
  · rw [if_pos z, if_neg (by decide), b13_27, b13_32 (Or.inr rfl)]
  · rw [if_neg z, if_pos (by decide), b13_31, b13_32 (Or.inl rfl)]
theorem t_wy {m : Nat} {b : Int} (hL : vL Y) (hM : isM I I' Y mm) (hS : SDm I I' Y mm X Nn Wn ns ws ls) (hm : m < mm) (hb : inI b) : An (d + 2) 393 [vr 2075, vi (m : Int), vi b] I' Y (if 0 ≤ b ∧ b ≤ (ws (m + 1) : Int) - ws m - 1 then (ws m : Int) + b else -1) := fun P => by
  have hS0 := hS
  obtain ⟨⟨t1, _, t3⟩, ⟨s1, s2, s3, s4, s5, s6, s7, s8⟩, s9, _⟩ := hS
  obtain ⟨o, g1, g2, g3, _⟩ := s9 m hm
  have hi : inI (m : Int) := by unfold inI; omega
  have b2 := hb
  unfold inI at b2
  have wb : w32 b = b := w32_id b2.1 b2.2
  have wc : w32 ((ws (m + 1) : Int) - ws m) = (ws (m + 1) : Int) - ws m := w32_id (by omega) (by omega)
  rw [b393_0 hL, t_mem hL hi hM, if_pos (by omega)]
  simp only [vWC_s, Nat.reduceAdd]
  rw [b393_5, if_neg (by decide), b393_8, wb]
  by_cases z0 : b < 0
  · rw [if_pos z0, b393_45, b393_46, if_neg (by omega)]
  · rw [if_neg z0, b393_12 hL, t_endwy hS0 hL hm]
    simp only [vWC_s, Nat.reduceAdd]
    rw [b393_18 hL (by rw [t1]; exact t3) (by omega) (by omega), t1, tn0, g3.2.2.1, wb, wc]
    by_cases z : 0 ≤ b ∧ b ≤ (ws (m + 1) : Int) - ws m - 1
    · rw [if_neg (by omega), if_pos z, b393_31 hL (by rw [t1]; exact t3) (by omega) (by omega), t1, tn0, g3.2.2.1, b393_46]
    · rw [if_pos (by omega), if_neg z, b393_45, b393_46]
theorem n_wy {a b : Int} (hL : vL Y) (ha : inI a) (hM : isM I I' Y mm) (z : ¬ (0 ≤ a ∧ a ≤ (mm : Int) - 1)) : An (d + 2) 13 [vr 18, vi a, vi b] I Y 0 ∧ An (d' + 2) 393 [vr 2075, vi a, vi b] I' Y (-1) := by
  refine ⟨fun P => ?_, fun P => ?_⟩
  · rw [b13_0 hL, c_mem hL ha hM, if_neg z]
    simp only [vWC_s, Nat.reduceAdd]
    rw [b13_5, if_pos (by decide), b13_31, b13_32 (Or.inl rfl)]
  · rw [b393_0 hL, t_mem hL ha hM, if_neg z]
    simp only [vWC_s, Nat.reduceAdd]
    rw [b393_5, if_pos (by decide), b393_45, b393_46]

end
