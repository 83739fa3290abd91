/-! ===== questions about threads (partly printed) ===== -/
set_option maxRecDepth 20000
set_option maxHeartbeats 4000000
section
variable {d d' : Nat} {Y Y' : vY} {X mm Nn Lp : Nat} {nm pr ht : Nat → Nat} {I I' : vJ} {th W N : Nat}
theorem q_thread {a b : Int} (hL : vL Y) (hL' : vL Y') (ha : inI a) (hb : inI b) (h : RQ Y Y' X mm Nn Lp nm pr ht I I' th W N) (hi : I 1990 3398 = 1) : ∃ x, An (d + 1) 22 [vr 18, vi a, vi b, vu, vu, vu, vu] I Y x ∧ An (d' + 1) 458 [vr 2075, vi a, vi b, vu, vu] I' Y' x := by
  have sb := (RQ_status (d := 0) (P := fun _ => True) hL h).2
  obtain ⟨s1, s2, ⟨q1, q2, q3, q4, q5, q6, q7, q8, q9, q10, q11, q12, q13, q14, q15, _⟩, _, ⟨n1, n2, _⟩, s6, _⟩ := h
  obtain ⟨hX, hX2, hV⟩ := s1.1
  have mm24 : mm ≤ 24 := s1.2.1.1.1
  obtain ⟨th1, th2, th8⟩ := s2.1.1
  have hp : inI (I 1990 3390 - 1) := by unfold inI; omega
  have hp' : inI (I' 2075 7731 - 1) := by unfold inI; omega
  by_cases z : ¬ (0 ≤ a ∧ a ≤ (th : Int) - 1)
  · refine ⟨-1, fun P => ?_, fun P => ?_⟩
    · rw [b22_0 hL, hi, if_neg (by decide), b22_10 hL, c_in ha in0 hp, th1, if_neg z]
      simp only [vWC_s, Nat.reduceAdd]
      rw [b22_24, if_neg (by decide), b22_27]
    · rw [b458_0 hL', if_neg (by rw [w32_id (by omega) (by omega)]; omega), b458_7 hL', t_in ha in0 hp', th2, if_neg z]
      simp only [vWC_s, Nat.reduceAdd]
      rw [b458_18, if_neg (by decide), b458_21]
  · have z := Classical.not_not.mp z
    have z0 := z
    obtain ⟨u, hu⟩ : ∃ u : Nat, a = u := ⟨a.toNat, by omega⟩
    subst hu
    have ut : u < th := by omega
    have u8 : u < 8 := by omega
    obtain ⟨⟨e1, e2, e3⟩, w2, _, _, w5, _⟩ := s2.1.2 u ut
    obtain ⟨A, ⟨a1, a2, a3⟩, _⟩ := s2.2.2.2 u ut
    obtain ⟨A9, dl, ⟨a4, _⟩, _, ac, _⟩ := s6 u ut
    have eA : A9 = A := by omega
    subst eA
    obtain ⟨s, hs⟩ : ∃ s : Int, I 1996 u = s := ⟨_, rfl⟩
    have hs' : I' 2187 u = s := by rw [← e1]; exact hs
    rw [hs] at e2 e3 w2
    have x5 : (if w32 ((A9 : Nat) : Int) ≤ 0 then (0 : Int) else 1) = if A9 = 0 then 0 else 1 := by
      rw [w32_id (by omega) (by omega)]
      by_cases y : A9 = 0
      · rw [if_pos (by omega), if_pos y]
      · rw [if_neg (by omega), if_neg y]
    have x6 : (if ((w32 s = w32 1) ∨ ¬ (w32 s ≠ w32 2)) then (1 : Int) else 0) = if s = 1 ∨ s = 2 then 1 else 0 := by
      rw [w32_id (x := s) (by omega) (by omega), w32_id (x := 1) (by decide) (by decide), w32_id (x := 2) (by decide) (by decide)]
      by_cases y : s = 1 ∨ s = 2
      · rw [if_pos (y.imp id (fun q w => w q)), if_pos y]
      · rw [if_neg (fun q => y (q.imp id (fun w => Classical.byContradiction w))), if_neg y]
    have x4 : (u : Int) * 40 + (A9 : Int) - 1 = ((40 * u + A9 : Nat) : Int) - 1 := by omega
    have x4' : 40 * (u : Int) + (A9 : Int) - 1 = ((40 * u + A9 : Nat) : Int) - 1 := by omega
    obtain ⟨wt, hw⟩ : ∃ wt : Int, (if s = 1 ∨ s = 2 then 1 else 0) = wt := ⟨_, rfl⟩
    obtain ⟨xa, hx⟩ : ∃ xa : Int, (if A9 = 0 then 0 else 1) = xa := ⟨_, rfl⟩
    have c0 : ∀ P : vE → Prop, vW (d + 1) 22 (0, [vr 18, vi (u : Int), vi b, vu, vu, vu, vu], [], (I, Y)) P ↔ vW (d + 1) 22 (91, [vr 18, vi (u : Int), vi b, vi s, vi (((40 * u + A9 : Nat) : Int) - 1), vi xa, vu], [vi wt], (I, Y)) P := fun P => by
      rw [b22_0 hL, hi, if_neg (by decide), b22_10 hL, c_in ha in0 hp, th1, if_pos z0]
      simp only [vWC_s, Nat.reduceAdd]
      rw [b22_24, if_pos (by decide), b22_29 hL (by omega) (by omega), m22_57 hL (by omega) (by omega), b22_74, m22_76, tn0, hs, a1, x5, x6, x4, hw, hx]
    have t0 : ∀ P : vE → Prop, vW (d' + 1) 458 (0, [vr 2075, vi (u : Int), vi b, vu, vu], [], (I', Y')) P ↔ vW (d' + 1) 458 (48, [vr 2075, vi (u : Int), vi b, vu, vu], [vi wt], (I', Y')) P := fun P => by
      rw [b458_0 hL', if_neg (by rw [w32_id (by omega) (by omega)]; omega), b458_7 hL', t_in ha in0 hp', th2, if_pos z0]
      simp only [vWC_s, Nat.reduceAdd]
      rw [b458_18, if_pos (by decide), m458_23 hL' (by omega) (by omega), tn0, hs', x6, hw]
    have w48 : ∀ P : vE → Prop, vW (d' + 1) 458 (48, [vr 2075, vi (u : Int), vi b, vu, vu], [vi wt], (I', Y')) P ↔ _ := fun P => b458_48 hL' (by omega) (by omega)
    simp only [tn0, a2, x4'] at w48
    clear x5 x6 x4 x4' hp hp'
    have cs : b = 0 ∨ b = 1 ∨ b = 2 ∨ b = 3 ∨ b = 4 ∨ b = 5 ∨ b = 6 ∨ b = 7 ∨ b = 8 ∨ (b < 0 ∨ 8 < b) := by omega
    rcases cs with rfl | rfl | rfl | rfl | rfl | rfl | rfl | rfl | rfl | zb
    · exact ⟨s, fun P => by rw [c0, b22_91, if_pos (by decide), b22_144], fun P => by rw [t0, w48, if_pos (by decide), b458_116 hL' (by omega) (by omega), tn0, hs']⟩
    · exact ⟨A9, fun P => by rw [c0, b22_91, if_neg (by decide), if_pos (by decide), b22_146 hL (by omega) (by omega), tn0, a1], fun P => by rw [t0, w48, if_neg (by decide), if_pos (by decide), b458_123 hL' (by omega) (by omega), tn0, a2]⟩
    · by_cases y : A9 = 0
      · rw [if_pos y] at hx
        subst hx
        refine ⟨-1, fun P => ?_, fun P => ?_⟩
        · rw [c0, b22_91, if_neg (by decide), if_neg (by decide), if_pos (by decide), b22_156, if_pos (by decide), b22_174, b22_175]
        · rw [t0, w48, if_neg (by decide), if_neg (by decide), if_pos (by decide), b458_130 hL' (by omega) (by omega), tn0, a2, y, if_neg (by decide), b458_139, b458_150]
      · rw [if_neg y] at hx
        subst hx
        have k := ac (A9 - 1) (by omega)
        have ek : (((40 * u + A9 : Nat) : Int) - 1).toNat = 40 * u + (A9 - 1) := by omega
        refine ⟨I 2006 (40 * u + (A9 - 1)), fun P => ?_, fun P => ?_⟩
        · rw [c0, b22_91, if_neg (by decide), if_neg (by decide), if_pos (by decide), b22_156, if_neg (by decide), b22_161 hL (by omega) (by omega), b22_175, ek]
        · rw [t0, w48, if_neg (by decide), if_neg (by decide), if_pos (by decide), b458_130 hL' (by omega) (by omega), tn0, a2, if_pos (by rw [w32_id (by omega) (by omega)]; omega), b458_143 hL' (by omega) (by omega), b458_150, ek, k.1.1]
    · by_cases y : A9 = 0
      · rw [if_pos y] at hx
        subst hx
        refine ⟨-1, fun P => ?_, fun P => ?_⟩
        · rw [c0, b22_91, if_neg (by decide), if_neg (by decide), if_neg (by decide), if_pos (by decide), b22_176, if_pos (by decide), b22_213, b22_214]
        · rw [t0, w48, if_neg (by decide), if_neg (by decide), if_neg (by decide), if_pos (by decide), b458_151 hL' (by omega) (by omega), tn0, a2, y, if_neg (by decide), b458_160, b458_187]
      · rw [if_neg y] at hx
        subst hx
        have k := ac (A9 - 1) (by omega)
        have ek : (((40 * u + A9 : Nat) : Int) - 1).toNat = 40 * u + (A9 - 1) := by omega
        obtain ⟨mb, hmb⟩ : ∃ mb : Nat, I 2006 (40 * u + (A9 - 1)) = mb := ⟨(I 2006 (40 * u + (A9 - 1))).toNat, by have := k.1; omega⟩
        have mlt : mb < mm := by have := k.1; omega
        have hmb' : I' 2197 (40 * u + (A9 - 1)) = mb := by rw [← k.1.1]; exact hmb
        obtain ⟨o, p, nn, nd, ⟨o1, o2, o3⟩, _, _, ⟨d1, d2, _⟩, _⟩ := s1.2.2.2.2.2.2.1 mb mlt
        have kn := k.2.1.1
        refine ⟨I 2007 (40 * u + (A9 - 1)) - nd, fun P => ?_, fun P => ?_⟩
        · rw [c0, b22_91, if_neg (by decide), if_neg (by decide), if_neg (by decide), if_pos (by decide), b22_176, if_neg (by decide), b22_181 hL (by omega) (by omega) (by rw [ek, hmb]; omega) (by rw [ek, hmb]; omega) (by rw [ek, hmb, tn0, o1]; omega) (by rw [ek, hmb, tn0, o1]; exact o3), b22_214, ek, hmb, tn0, o1, d1]
        · rw [t0, w48, if_neg (by decide), if_neg (by decide), if_neg (by decide), if_pos (by decide), b458_151 hL' (by omega) (by omega), tn0, a2, if_pos (by rw [w32_id (by omega) (by omega)]; omega), b458_164 hL' (by omega) (by omega) hV (by rw [ek, hmb']; omega) (by rw [ek, hmb']; omega), b458_187, ek, hmb', tn0, hX, d2, kn]
    · by_cases y : s = 1 ∨ s = 2
      · rw [if_pos y] at hw
        subst hw
        exact ⟨I 1997 u, fun P => by rw [c0, b22_91, if_neg (by decide), if_neg (by decide), if_neg (by decide), if_neg (by decide), if_pos (by decide), b22_215, if_neg (by decide), b22_220 hL (by omega) (by omega), b22_233, tn0], fun P => by rw [t0, w48, if_neg (by decide), if_neg (by decide), if_neg (by decide), if_neg (by decide), if_pos (by decide), b458_188, if_neg (by decide), b458_192 hL' (by omega) (by omega), b458_202, tn0, (w2 y).1]⟩
      · rw [if_neg y] at hw
        subst hw
        exact ⟨-1, fun P => by rw [c0, b22_91, if_neg (by decide), if_neg (by decide), if_neg (by decide), if_neg (by decide), if_pos (by decide), b22_215, if_pos (by decide), b22_232, b22_233], fun P => by rw [t0, w48, if_neg (by decide), if_neg (by decide), if_neg (by decide), if_neg (by decide), if_pos (by decide), b458_188, if_pos (by decide), b458_201, b458_202]⟩
    · by_cases y : s = 1
      · have hw : wt = 1 := by rw [← hw, if_pos (Or.inl y)]
        subst hw
        have st := (s6 u ut)
        obtain ⟨A8, dl8, _, _, _, _, st⟩ := st
        have k8 := st.2.2.2.2.2.1 (by rw [hs]; exact y)
        have l97 : 0 ≤ I 1997 u ∧ I 1997 u < 8 := ⟨k8.2.2.2.1, k8.2.2.2.2⟩
        have e97 := (w2 (Or.inl y)).1
        obtain ⟨l, hl⟩ : ∃ l : Nat, I 1997 u = l := ⟨(I 1997 u).toNat, by omega⟩
        have hl' : I' 2188 u = l := by rw [← e97]; exact hl
        have hh := (s2.2.2.1 l (by omega)).1.1
        refine ⟨I 2017 l, fun P => ?_, fun P => ?_⟩
        · rw [c0, b22_91, if_neg (by decide), if_neg (by decide), if_neg (by decide), if_neg (by decide), if_neg (by decide), if_pos (by decide), b22_234, if_neg (by rw [y]; exact fun q => q rfl), b22_239 hL (by omega) (by omega) (by rw [tn0, hl]; omega) (by rw [tn0, hl]; omega), b22_277, tn0, hl, tn0]
        · rw [t0, w48, if_neg (by decide), if_neg (by decide), if_neg (by decide), if_neg (by decide), if_neg (by decide), if_pos (by decide), b458_203 hL' (by omega) (by omega), tn0, hs', if_neg (by rw [y]; exact fun q => q rfl), b458_213 hL' (by omega) (by omega) (by rw [tn0, hl']; omega) (by rw [tn0, hl']; omega), b458_247, tn0, hl', tn0, hh]
      · have y1 : w32 s ≠ w32 1 := by rw [w32_id (by omega) (by omega), w32_id (x := 1) (by decide) (by decide)]; exact y
        by_cases y2 : s = 2
        · have hw : wt = 1 := by rw [← hw, if_pos (Or.inr y2)]
          subst hw
          exact ⟨I 1997 u, fun P => by rw [c0, b22_91, if_neg (by decide), if_neg (by decide), if_neg (by decide), if_neg (by decide), if_neg (by decide), if_pos (by decide), b22_234, if_pos y1, b22_259, if_neg (by decide), b22_264 hL (by omega) (by omega), b22_277, tn0], fun P => by rw [t0, w48, if_neg (by decide), if_neg (by decide), if_neg (by decide), if_neg (by decide), if_neg (by decide), if_pos (by decide), b458_203 hL' (by omega) (by omega), tn0, hs', if_pos y1, b458_227 hL' (by omega) (by omega), tn0, hs', if_neg (by rw [y2]; exact fun q => q rfl), b458_237 hL' (by omega) (by omega), b458_247, tn0, (w2 (Or.inr y2)).1]⟩
        · have hw : wt = 0 := by rw [← hw, if_neg (fun q => q.elim y y2)]
          subst hw
          have y3 : w32 s ≠ w32 2 := by rw [w32_id (by omega) (by omega), w32_id (x := 2) (by decide) (by decide)]; exact y2
          exact ⟨-1, fun P => by rw [c0, b22_91, if_neg (by decide), if_neg (by decide), if_neg (by decide), if_neg (by decide), if_neg (by decide), if_pos (by decide), b22_234, if_pos y1, b22_259, if_pos (by decide), b22_276, b22_277], fun P => by rw [t0, w48, if_neg (by decide), if_neg (by decide), if_neg (by decide), if_neg (by decide), if_neg (by decide), if_pos (by decide), b458_203 hL' (by omega) (by omega), tn0, hs', if_pos y1, b458_227 hL' (by omega) (by omega), tn0, hs', if_pos y3, b458_246, b458_247]⟩
    · exact ⟨I 2001 u, fun P => by rw [c0, b22_91, if_neg (by decide), if_neg (by decide), if_neg (by decide), if_neg (by decide), if_neg (by decide), if_neg (by decide), if_pos (by decide), b22_278 hL (by omega) (by omega), tn0], fun P => by rw [t0, w48, if_neg (by decide), if_neg (by decide), if_neg (by decide), if_neg (by decide), if_neg (by decide), if_neg (by decide), if_pos (by decide), b458_248 hL' (by omega) (by omega), tn0, (q15 u u8).1]⟩
    · exact ⟨I 2003 u, fun P => by rw [c0, b22_91, if_neg (by decide), if_neg (by decide), if_neg (by decide), if_neg (by decide), if_neg (by decide), if_neg (by decide), if_neg (by decide), if_pos (by decide), b22_288 hL (by omega) (by omega), tn0], fun P => by rw [t0, w48, if_neg (by decide), if_neg (by decide), if_neg (by decide), if_neg (by decide), if_neg (by decide), if_neg (by decide), if_neg (by decide), if_pos (by decide), b458_255 hL' (by omega) (by omega), tn0, (q15 u u8).2.1]⟩
    · by_cases y : s = 1 ∨ s = 2
      · rw [if_pos y] at hw
        subst hw
        exact ⟨I 2000 u + ((N : Int) - I 1998 u), fun P => by rw [c0, b22_91, if_neg (by decide), if_neg (by decide), if_neg (by decide), if_neg (by decide), if_neg (by decide), if_neg (by decide), if_neg (by decide), if_neg (by decide), if_pos (by decide), b22_298 hL (by omega) (by omega), if_neg (by decide), b22_312 hL (by omega) (by omega), b22_333, tn0, n1], fun P => by rw [t0, w48, if_neg (by decide), if_neg (by decide), if_neg (by decide), if_neg (by decide), if_neg (by decide), if_neg (by decide), if_neg (by decide), if_neg (by decide), if_pos (by decide), b458_262 hL' (by omega) (by omega), if_neg (by decide), b458_272 hL' (by omega) (by omega), b458_287, tn0, n2, w5, (w2 y).2]⟩
      · rw [if_neg y] at hw
        subst hw
        exact ⟨I 2000 u + 0, fun P => by rw [c0, b22_91, if_neg (by decide), if_neg (by decide), if_neg (by decide), if_neg (by decide), if_neg (by decide), if_neg (by decide), if_neg (by decide), if_neg (by decide), if_pos (by decide), b22_298 hL (by omega) (by omega), if_pos (by decide), b22_332, b22_333, tn0], fun P => by rw [t0, w48, if_neg (by decide), if_neg (by decide), if_neg (by decide), if_neg (by decide), if_neg (by decide), if_neg (by decide), if_neg (by decide), if_neg (by decide), if_pos (by decide), b458_262 hL' (by omega) (by omega), if_pos (by decide), b458_286, b458_287, tn0, w5]⟩
    · unfold inI at hb
      have w : w32 b = b := w32_id hb.1 hb.2
      refine ⟨-1, fun P => ?_, fun P => ?_⟩
      · rw [c0, b22_91, w, if_neg (show ¬ b = 0 by omega), if_neg (show ¬ b = 1 by omega), if_neg (show ¬ b = 2 by omega), if_neg (show ¬ b = 3 by omega), if_neg (show ¬ b = 4 by omega), if_neg (show ¬ b = 5 by omega), if_neg (show ¬ b = 6 by omega), if_neg (show ¬ b = 7 by omega), if_neg (show ¬ b = 8 by omega), b22_335]
      · rw [t0, w48, w, if_neg (show ¬ b = 0 by omega), if_neg (show ¬ b = 1 by omega), if_neg (show ¬ b = 2 by omega), if_neg (show ¬ b = 3 by omega), if_neg (show ¬ b = 4 by omega), if_neg (show ¬ b = 5 by omega), if_neg (show ¬ b = 6 by omega), if_neg (show ¬ b = 7 by omega), if_neg (show ¬ b = 8 by omega), b458_289]
end
