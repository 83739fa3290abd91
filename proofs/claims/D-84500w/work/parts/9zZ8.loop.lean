/-! ===== loop: a question about a run's loops (printed by gen/static2.py) ===== -/
set_option maxRecDepth 20000
set_option maxHeartbeats 4000000
theorem hdN_le (f : Nat → Int) : ∀ n, hdN f n ≤ n
  | 0 => Nat.le_refl _
  | n + 1 => by
    have := hdN_le f n
    show hdN f n + (if f n = 0 then 0 else 1) ≤ n + 1
    split <;> omega
theorem hdN_0 {f : Nat → Int} {n : Nat} (h : f n = 0) : hdN f (n + 1) = hdN f n := by
  show hdN f n + (if f n = 0 then 0 else 1) = _
  rw [if_pos h]; rfl
theorem hdN_1 {f : Nat → Int} {n : Nat} (h : f n = 1) : hdN f (n + 1) = hdN f n + 1 := by
  show hdN f n + (if f n = 0 then 0 else 1) = _
  rw [if_neg (by omega)]
theorem hd_mono (f : Nat → Int) {a b : Nat} (h : a ≤ b) : hdN f a ≤ hdN f b := by
  induction b with
  | zero => rw [show a = 0 by omega]; exact Nat.le_refl _
  | succ b ih =>
    by_cases z : a = b + 1
    · rw [z]; exact Nat.le_refl _
    · exact Nat.le_trans (ih (by omega)) (Nat.le_add_right _ _)
/-- the head that has l heads below it -/
theorem hd_find {f : Nat → Int} {A l : Nat} (hA : hdN f A ≤ l) : ∀ r B, B = A + r → (∀ n, n < B → f n = 0 ∨ f n = 1) → l < hdN f B → ∃ n, A ≤ n ∧ n < B ∧ f n = 1 ∧ hdN f n = l := by
  intro r
  induction r with
  | zero =>
    intro B e _ h
    rw [e, Nat.add_zero] at h
    omega
  | succ r ih =>
    intro B e hf h
    have e2 : B = (A + r) + 1 := by omega
    subst e2
    by_cases z : l < hdN f (A + r)
    · obtain ⟨n, n1, n2, n3, n4⟩ := ih (A + r) rfl (fun n hn => hf n (by omega)) z
      exact ⟨n, n1, by omega, n3, n4⟩
    · rcases hf (A + r) (by omega) with q | q
      · rw [hdN_0 q] at h; exact absurd h z
      · rw [hdN_1 q] at h
        exact ⟨A + r, by omega, by omega, q, by omega⟩
section
variable {d d' : Nat} {Y : vY} {I I' : vJ} {mm X Nn Wn : Nat} {ns ws ls : Nat → Nat}
theorem t_loopf {P : vE → Prop} {R : Prop} {m j : Nat} {c : Int} (hL : vL Y) (S : SDm I I' Y mm X Nn Wn ns ws ls) (m1 : m < mm) (jb : (j : Int) < 2147483648)
    (hQ : ∀ x4 x5 x6 : Int, ((hdN (I' (X + 26)) (ns (m + 1)) ≤ ls m + j ∧ x5 = -1) ∨ ∃ n : Nat, ns m ≤ n ∧ n < ns (m + 1) ∧ I' (X + 26) n = 1 ∧ hdN (I' (X + 26)) n = ls m + j ∧ x5 = n) → (vW (d + 1) 463 (82, [vr 2075, vi (m : Int), vi (j : Int), vi c, vi x4, vi x5, vi x6], [], (I', Y)) P ↔ R)) :
    vW (d + 1) 463 (38, [vr 2075, vi (m : Int), vi (j : Int), vi c, vi (j : Int), vi (-1), vi (ns m : Int)], [], (I', Y)) P ↔ R := by
  have tE := fun P => t_endnod (d := d) S hL m1 P
  obtain ⟨⟨t1, _, t3⟩, ⟨_, s2, _, _, _, _, _, s8⟩, s9, _, _, s10, s11⟩ := S
  have r3 : vreg Y 2081 38 (Y.1 2075 7689) := by rw [t1]; exact t3
  obtain ⟨o, _, ⟨_, _, _, g4, g5⟩, _, ⟨_, _, _, _, l5⟩, _⟩ := s9 m m1
  have l0 := s11 m (by omega)
  have l1 := s11 (m + 1) (by omega)
  clear s11 s9
  generalize hf : I' (X + 26) = f at *
  have key : ∀ (r i : Nat) (x5 : Int), i + r = ns (m + 1) → ns m ≤ i → ls m ≤ hdN f i → ((hdN f i ≤ ls m + j ∧ x5 = -1) ∨ (ls m + j < hdN f i ∧ ∃ n : Nat, ns m ≤ n ∧ n < i ∧ f n = 1 ∧ hdN f n = ls m + j ∧ x5 = n)) → (vW (d + 1) 463 (38, [vr 2075, vi (m : Int), vi (j : Int), vi c, vi ((ls m : Int) + j - hdN f i), vi x5, vi (i : Int)], [], (I', Y)) P ↔ R) := by
    intro r
    induction r with
    | zero =>
      intro i x5 hi h1 h2 h3
      have hi : i = ns (m + 1) := by omega
      rw [b463_38 hL, tE]
      simp only [vWC_s, Nat.reduceAdd]
      rw [b463_45, if_pos (by rw [hi]; exact Int.le_refl _)]
      subst hi
      refine hQ _ x5 _ ?_
      rcases h3 with q | ⟨_, q⟩
      · exact Or.inl q
      · exact Or.inr q
    | succ r ih =>
      intro i x5 hi h1 h2 h3
      have hd := hdN_le f i
      have ge : ¬ w32 (ns (m + 1) : Int) ≤ w32 (i : Int) := by
        rw [w32_id (by omega) (by omega), w32_id (by omega) (by omega)]; omega
      rw [b463_38 hL, tE]
      simp only [vWC_s, Nat.reduceAdd]
      rw [b463_45, if_neg ge, b463_48 hL r3 (by omega) (by omega), t1, tn0, hf]
      have e1 : (i : Int) + 1 = ((i + 1 : Nat) : Int) := by omega
      rcases (s10 i (by omega)).1 with q | q
      · have g := ih (i + 1) x5 (by omega) (by omega) (by rw [hdN_0 q]; exact h2) (by
          rw [hdN_0 q]
          rcases h3 with w | ⟨w1, n, w2, w3, w4⟩
          · exact Or.inl w
          · exact Or.inr ⟨w1, n, w2, by omega, w4⟩)
        rw [q, if_neg (by decide), b463_61, b463_76, e1]
        rw [hdN_0 q] at g
        exact g
      · have e2 : (ls m : Int) + j - hdN f i + (-1) = (ls m : Int) + j - (hdN f (i + 1) : Nat) := by rw [hdN_1 q]; omega
        have wx : w32 ((ls m : Int) + j - hdN f i) = (ls m : Int) + j - hdN f i := w32_id (by omega) (by omega)
        rw [q, if_pos (by decide), b463_64, wx]
        clear wx
        by_cases z : (ls m : Int) + j - hdN f i = 0
        · rw [if_neg (fun w => w z), b463_69, b463_73, b463_76, e1, e2]
          exact ih (i + 1) (i : Int) (by omega) (by omega) (by rw [hdN_1 q]; omega) (Or.inr ⟨by rw [hdN_1 q]; omega, i, h1, by omega, q, by omega, rfl⟩)
        · rw [if_pos z, b463_73, b463_76, e1, e2]
          refine ih (i + 1) x5 (by omega) (by omega) (by rw [hdN_1 q]; omega) ?_
          rw [hdN_1 q]
          rcases h3 with ⟨w1, w2⟩ | ⟨w1, n, w2, w3, w4⟩
          · exact Or.inl ⟨by omega, w2⟩
          · exact Or.inr ⟨by omega, n, w2, by omega, w4⟩
  have e0 : (ls m : Int) + j - hdN f (ns m) = j := by rw [← l0]; omega
  have g := key (ns (m + 1) - ns m) (ns m) (-1) (by omega) (Nat.le_refl _) (by omega) (Or.inl ⟨by omega, rfl⟩)
  rw [e0] at g
  exact g
theorem q_loop {Lp : Nat} {nm pr ht : Nat → Nat} {th W N : Nat} {a b c : Int} (ha : inI a) (hb : inI b) (hc : inI c) (hL : vL Y) (h : RQ Y Y X mm Nn Lp nm pr ht I I' th W N) (hi : I 1990 3398 = 1) (hM : isM I I' Y mm) (hS : mm ≠ 0 → ∃ (Wn : Nat) (ns ws ls : Nat → Nat), SDm I I' Y mm X Nn Wn ns ws ls) : ∃ v, An (d + 2) 28 [vr 18, vi a, vi b, vi c, vu] I Y v ∧ An (d' + 2) 463 [vr 2075, vi a, vi b, vi c, vu, vu, vu] I' Y v := by
  have sb := (RQ_status (d := 0) (P := fun _ => True) hL h).2
  have ws0 : w32 (I' 2075 7728) ≠ 0 := by rw [w32_id (by omega) (by omega)]; omega
  clear sb
  have lo := h.2.2.1.2.2.1
  have gl := h.1.2.2.1
  clear h
  have cn := fun P => c_mem (d := d) hL ha hM P
  have tn := fun P => t_mem (d' := d') hL ha hM P
  have cc := hc
  unfold inI at cc
  have b2 := hb
  unfold inI at b2
  have wb : w32 b = b := w32_id b2.1 b2.2
  by_cases z : 0 ≤ a ∧ a ≤ (mm : Int) - 1
  · rw [if_pos z] at cn tn
    obtain ⟨m, hm⟩ : ∃ m : Nat, a = m := ⟨a.toNat, by omega⟩
    subst hm
    have m1 : m < mm := by omega
    obtain ⟨Wn, ns, ws, ls, S⟩ := hS (by omega)
    have S0 := S
    obtain ⟨⟨t1, _, t3⟩, ⟨_, s2, _, s4, _, _, _, s8⟩, s9, _, _, s10, s11⟩ := S
    obtain ⟨o, ⟨o1, o2, o3, o4⟩, ⟨g1, g2, g3, g4, g5⟩, _, ⟨l1, l2, l3, l4, l5⟩, _⟩ := s9 m m1
    have e0 := s11 m (by omega)
    have e1 := s11 (m + 1) (by omega)
    clear s11 s9
    have u1 : (0 : Int) ≤ (m : Int) := by omega
    have u2 : (m : Int) < 24 := by omega
    have u5 : (m : Int) < 25 := by omega
    have ex : Y.1 1989 ((m : Int)).toNat = o := by rw [tn0]; exact o1
    have u3 : Y.1 1989 ((m : Int)).toNat ≠ 0 := by rw [ex]; omega
    have u4 : Y.2.1 (Y.1 1989 ((m : Int)).toNat) = 15 := by rw [ex]; exact o4
    have hcr : inI ((ls (m + 1) : Int) - ls m - 1) := by unfold inI; omega
    have r3 : vreg Y 2081 38 (Y.1 2075 7689) := by rw [t1]; exact t3
    have hH : ∀ P : vE → Prop, vW (d + 2) 28 (0, [vr 18, vi (m : Int), vi b, vi c, vu], [], (I, Y)) P ↔ if 0 ≤ b ∧ b ≤ (ls (m + 1) : Int) - ls m - 1 then vW (d + 2) 28 (39, [vr 18, vi (m : Int), vi b, vi c, vu], [], (I, Y)) P else P (.inl (some (vi (-1))), (I, Y)) := fun P => by
      rw [b28_0 hL, hi, if_neg (by decide), b28_10 hL, cn]
      simp only [vWC_s, Nat.reduceAdd]
      rw [b28_15, if_neg (by decide), b28_18 hL u1 u2 u3 u4, ex, l2, c_in hb in0 hcr]
      simp only [vWC_s, Nat.reduceAdd]
      rw [b28_34]
      by_cases y : 0 ≤ b ∧ b ≤ (ls (m + 1) : Int) - ls m - 1
      · rw [if_pos y, if_pos y, if_pos (by decide)]
      · rw [if_neg y, if_neg y, if_neg (by decide), b28_37]
    have hT0 : ∀ P : vE → Prop, vW (d' + 2) 463 (0, [vr 2075, vi (m : Int), vi b, vi c, vu, vu, vu], [], (I', Y)) P ↔ if 0 ≤ b then vW (d' + 2) 463 (38, [vr 2075, vi (m : Int), vi b, vi c, vi b, vi (-1), vi (ns m : Int)], [], (I', Y)) P else P (.inl (some (vi (-1))), (I', Y)) := fun P => by
      rw [b463_0 hL, if_neg ws0, b463_7 hL, tn]
      simp only [vWC_s, Nat.reduceAdd]
      rw [b463_12, if_neg (by decide), b463_15, wb]
      by_cases y : 0 ≤ b
      · rw [if_pos y, if_pos y, b463_21 hL r3 u1 u5, t1, tn0, g3]
      · rw [if_neg y, if_neg y, b463_19]
    clear wb
    by_cases y0 : 0 ≤ b
    · obtain ⟨j, hj⟩ : ∃ j : Nat, b = j := ⟨b.toNat, by omega⟩
      subst hj
      by_cases y : 0 ≤ (j : Int) ∧ (j : Int) ≤ (ls (m + 1) : Int) - ls m - 1
      · obtain ⟨n, n1, n2, n3, n4⟩ := hd_find (f := I' (X + 26)) (A := ns m) (l := ls m + j) (by omega) (ns (m + 1) - ns m) (ns (m + 1)) (by omega) (fun n hn => (s10 n (by omega)).1) (by omega)
        have nN : n < Nn := by omega
        obtain ⟨k1, k2⟩ := (s10 n nN).2 n3
        rw [n4] at k1 k2
        obtain ⟨l, q1, q2⟩ := gl.2.2.2.2 n nN n3
        have q3 := (gl.2.2.1 l q1).2.2.2.1
        rw [q2, tn0, k2] at q3
        have q4 : l = ls m + j := by omega
        subst q4
        have lr := lo.2.2 _ q1
        have e54 : (I 54 (ls m + j)).toNat = n := by rw [k1, tn0]
        simp only [e54] at lr
        obtain ⟨lr1, lr2, ⟨lr3, _⟩, ⟨lr4, _⟩, lr5⟩ := lr
        have hT : ∀ (P : vE → Prop) (R : Prop), (∀ x4 x6 : Int, vW (d' + 2) 463 (89, [vr 2075, vi (m : Int), vi (j : Int), vi c, vi x4, vi (n : Int), vi x6], [], (I', Y)) P ↔ R) → (vW (d' + 2) 463 (0, [vr 2075, vi (m : Int), vi (j : Int), vi c, vu, vu, vu], [], (I', Y)) P ↔ R) := fun P R hR => by
          rw [hT0, if_pos y0]
          refine t_loopf hL S0 m1 (by omega) (fun x4 x5 x6 w => ?_)
          rcases w with ⟨w1, _⟩ | ⟨n', w1, w2, w3, w4, w5⟩
          · rw [← e1] at w1; omega
          · have k3 := ((s10 n' (by omega)).2 w3).1
            rw [w4, k1] at k3
            have : n' = n := by omega
            subst this
            subst w5
            rw [b463_82, if_pos (by rw [w32_id (by omega) (by omega)]; omega)]
            exact hR x4 x6
        have el : I (Y.1 1989 ((m : Int)).toNat) 3854 + (j : Int) = ((ls m + j : Nat) : Int) := by rw [ex, l1]; omega
        have p0 : (0 : Int) ≤ ((ls m + j : Nat) : Int) := by omega
        have p1 : ((ls m + j : Nat) : Int) < 260 := by omega
        have v0 : (0 : Int) ≤ (n : Int) := by omega
        have v1 : (n : Int) < 1400 := by omega
        have no : I (Y.1 1989 ((m : Int)).toNat) 3850 = I' (X + 4) m := by rw [ex, g1, g3]
        generalize ls m + j = l at *
        by_cases c0 : c = 0
        · subst c0
          exact ⟨I 54 l - I' (X + 4) m, fun P => by rw [hH, if_pos y, b28_39 hL u1 u2 u3 u4, if_pos (by decide), el, b28_88 hL p0 p1 u1 u2 u3 u4, no, tn0], fun P => hT P _ (fun x4 x6 => by rw [b463_89, if_pos (by decide), b463_140 hL r3 u1 u5, t1, tn0, k1])⟩
        by_cases c1 : c = 1
        · subst c1
          exact ⟨I 1970 l, fun P => by rw [hH, if_pos y, b28_39 hL u1 u2 u3 u4, if_neg (by decide), if_pos (by decide), el, b28_109 hL p0 p1, tn0], fun P => hT P _ (fun x4 x6 => by rw [b463_89, if_neg (by decide), if_pos (by decide), b463_153 hL v0 v1, tn0, lr1])⟩
        by_cases c2 : c = 2
        · subst c2
          exact ⟨I 1971 l, fun P => by rw [hH, if_pos y, b28_39 hL u1 u2 u3 u4, if_neg (by decide), if_neg (by decide), if_pos (by decide), el, b28_120 hL p0 p1, tn0], fun P => hT P _ (fun x4 x6 => by rw [b463_89, if_neg (by decide), if_neg (by decide), if_pos (by decide), b463_161 hL v0 v1, tn0, lr2])⟩
        by_cases c3 : c = 3
        · subst c3
          exact ⟨I 1972 l, fun P => by rw [hH, if_pos y, b28_39 hL u1 u2 u3 u4, if_neg (by decide), if_neg (by decide), if_neg (by decide), if_pos (by decide), el, b28_131 hL p0 p1, tn0], fun P => hT P _ (fun x4 x6 => by rw [b463_89, if_neg (by decide), if_neg (by decide), if_neg (by decide), if_pos (by decide), b463_169 hL v0 v1, tn0, lr3])⟩
        by_cases c4 : c = 4
        · subst c4
          exact ⟨I 1973 l, fun P => by rw [hH, if_pos y, b28_39 hL u1 u2 u3 u4, if_neg (by decide), if_neg (by decide), if_neg (by decide), if_neg (by decide), if_pos (by decide), el, b28_142 hL p0 p1, tn0], fun P => hT P _ (fun x4 x6 => by rw [b463_89, if_neg (by decide), if_neg (by decide), if_neg (by decide), if_neg (by decide), if_pos (by decide), b463_177 hL v0 v1, tn0, lr4])⟩
        by_cases c5 : c = 5
        · subst c5
          have yr : Y.1 1974 ((5 : Int) - 5).toNat = 1975 := lP hL 1974 0 1975 rfl
          have lr6 : I 1975 l = I' 2245 n := lr5 0 (by decide)
          refine ⟨I 1975 l, fun P => ?_, fun P => hT P _ (fun x4 x6 => by rw [b463_89, if_neg (by decide), if_neg (by decide), if_neg (by decide), if_neg (by decide), if_neg (by decide), if_pos (by decide), b463_185 hL v0 v1, tn0, lr6])⟩
          rw [hH, if_pos y, b28_39 hL u1 u2 u3 u4, if_neg (by decide), if_neg (by decide), if_neg (by decide), if_neg (by decide), if_neg (by decide), el, b28_153, c_in hc (by unfold inI; omega) (by unfold inI; omega), if_pos (by omega)]
          simp only [vWC_s, Nat.reduceAdd]
          rw [b28_160, if_neg (by decide), b28_163 hL (by omega) (by omega) p0 (by rw [yr, lLn hL 1975 260 rfl]; exact p1) (by omega) (by rw [yr]; exact lK hL 1975 100 rfl), b28_181, yr, tn0]
        by_cases c6 : c = 6
        · subst c6
          have yr : Y.1 1974 ((6 : Int) - 5).toNat = 1976 := lP hL 1974 1 1976 rfl
          have lr6 : I 1976 l = I' 2246 n := lr5 1 (by decide)
          refine ⟨I 1976 l, fun P => ?_, fun P => hT P _ (fun x4 x6 => by rw [b463_89, if_neg (by decide), if_neg (by decide), if_neg (by decide), if_neg (by decide), if_neg (by decide), if_neg (by decide), if_pos (by decide), b463_193 hL v0 v1, tn0, lr6])⟩
          rw [hH, if_pos y, b28_39 hL u1 u2 u3 u4, if_neg (by decide), if_neg (by decide), if_neg (by decide), if_neg (by decide), if_neg (by decide), el, b28_153, c_in hc (by unfold inI; omega) (by unfold inI; omega), if_pos (by omega)]
          simp only [vWC_s, Nat.reduceAdd]
          rw [b28_160, if_neg (by decide), b28_163 hL (by omega) (by omega) p0 (by rw [yr, lLn hL 1976 260 rfl]; exact p1) (by omega) (by rw [yr]; exact lK hL 1976 100 rfl), b28_181, yr, tn0]
        by_cases c7 : c = 7
        · subst c7
          have yr : Y.1 1974 ((7 : Int) - 5).toNat = 1977 := lP hL 1974 2 1977 rfl
          have lr6 : I 1977 l = I' 2247 n := lr5 2 (by decide)
          refine ⟨I 1977 l, fun P => ?_, fun P => hT P _ (fun x4 x6 => by rw [b463_89, if_neg (by decide), if_neg (by decide), if_neg (by decide), if_neg (by decide), if_neg (by decide), if_neg (by decide), if_neg (by decide), if_pos (by decide), b463_201 hL v0 v1, tn0, lr6])⟩
          rw [hH, if_pos y, b28_39 hL u1 u2 u3 u4, if_neg (by decide), if_neg (by decide), if_neg (by decide), if_neg (by decide), if_neg (by decide), el, b28_153, c_in hc (by unfold inI; omega) (by unfold inI; omega), if_pos (by omega)]
          simp only [vWC_s, Nat.reduceAdd]
          rw [b28_160, if_neg (by decide), b28_163 hL (by omega) (by omega) p0 (by rw [yr, lLn hL 1977 260 rfl]; exact p1) (by omega) (by rw [yr]; exact lK hL 1977 100 rfl), b28_181, yr, tn0]
        by_cases c8 : c = 8
        · subst c8
          have yr : Y.1 1974 ((8 : Int) - 5).toNat = 1978 := lP hL 1974 3 1978 rfl
          have lr6 : I 1978 l = I' 2248 n := lr5 3 (by decide)
          refine ⟨I 1978 l, fun P => ?_, fun P => hT P _ (fun x4 x6 => by rw [b463_89, if_neg (by decide), if_neg (by decide), if_neg (by decide), if_neg (by decide), if_neg (by decide), if_neg (by decide), if_neg (by decide), if_neg (by decide), if_pos (by decide), b463_209 hL v0 v1, tn0, lr6])⟩
          rw [hH, if_pos y, b28_39 hL u1 u2 u3 u4, if_neg (by decide), if_neg (by decide), if_neg (by decide), if_neg (by decide), if_neg (by decide), el, b28_153, c_in hc (by unfold inI; omega) (by unfold inI; omega), if_pos (by omega)]
          simp only [vWC_s, Nat.reduceAdd]
          rw [b28_160, if_neg (by decide), b28_163 hL (by omega) (by omega) p0 (by rw [yr, lLn hL 1978 260 rfl]; exact p1) (by omega) (by rw [yr]; exact lK hL 1978 100 rfl), b28_181, yr, tn0]
        have wc : w32 c = c := w32_id cc.1 cc.2
        refine ⟨-1, fun P => ?_, fun P => hT P _ (fun x4 x6 => by rw [b463_89, wc, if_neg c0, if_neg c1, if_neg c2, if_neg c3, if_neg c4, if_neg c5, if_neg c6, if_neg c7, if_neg c8, b463_217])⟩
        rw [hH, if_pos y, b28_39 hL u1 u2 u3 u4, wc, if_neg c0, if_neg c1, if_neg c2, if_neg c3, if_neg c4, el, b28_153, c_in hc (by unfold inI; omega) (by unfold inI; omega), if_neg (by omega)]
        simp only [vWC_s, Nat.reduceAdd]
        rw [b28_160, if_pos (by decide), b28_180, b28_181]
      · refine ⟨-1, fun P => by rw [hH, if_neg y], fun P => ?_⟩
        rw [hT0, if_pos y0]
        refine t_loopf hL S0 m1 (by omega) (fun x4 x5 x6 w => ?_)
        rcases w with ⟨_, w2⟩ | ⟨n', w1, w2, w3, w4, w5⟩
        · subst w2
          rw [b463_82, if_neg (by decide), b463_87]
        · have q := hd_mono (I' (X + 26)) (show n' + 1 ≤ ns (m + 1) by omega)
          rw [hdN_1 w3] at q
          omega
    · exact ⟨-1, fun P => by rw [hH, if_neg (by omega)], fun P => by rw [hT0, if_neg y0]⟩
  · rw [if_neg z] at cn tn
    refine ⟨-1, fun P => ?_, fun P => ?_⟩
    · rw [b28_0 hL, hi, if_neg (by decide), b28_10 hL, cn]
      simp only [vWC_s, Nat.reduceAdd]
      rw [b28_15, if_pos (by decide), b28_37]
    · rw [b463_0 hL, if_neg ws0, b463_7 hL, tn]
      simp only [vWC_s, Nat.reduceAdd]
      rw [b463_12, if_pos (by decide), b463_19]
end
section
variable {L : Nat} {x : Nat → Int} {SX : vJ → vJ → vY → Nat → Nat → Nat → Prop}
theorem d_loop (hX : sxK SX) (hD : sxD SX) : oD18 (fun k I Y => LW L x SX k I I Y) := fun k _ a1 a2 a3 ha1 ha2 ha3 => o_ask hX (sL_c sG_18 (sL_c (sG_i _) (sL_c (sG_i _) (sL_c (sG_i _) (sL_c sG_u (sL_nil _)))))) (fun Y _ => (sL_c sG_m (sL_c (sG_i _) (sL_c (sG_i _) (sL_c (sG_i _) (sL_c sG_u (sL_c sG_u (sL_c sG_u (sL_nil _))))))))) (fun I I' Y h => by
  obtain ⟨⟨v1, _⟩, _, _, _, mm, X, Nn, Lp, C, nm, pr, ht, m1, m2, _, _, m5⟩ := h
  rcases m5 with ⟨r1, r2, _⟩ | ⟨r1, _, th, W, N, r3, _⟩
  · exact ⟨_, n_loop (d := 2000) (d' := 2000) v1 v1 r1 r2⟩
  · exact q_loop (d := 1998) (d' := 1998) ha1 ha2 ha3 v1 (RS_open r3) r1 m1 (hD _ _ _ _ _ _ m2).2)
end
