/-! ===== questions about locks and failures; what is held (partly printed) ===== -/
set_option maxRecDepth 20000
set_option maxHeartbeats 4000000
theorem smL_congr {f g : Nat → Int} {l : Nat → Nat} : ∀ {k : Nat}, (∀ j, j < k → f (l j) = g (l j)) → smL f l k = smL g l k := by
  intro k
  induction k with
  | zero => intro _; rfl
  | succ k ih =>
    intro h
    show smL f l k + f (l k) = smL g l k + g (l k)
    rw [ih (fun j hj => h j (by omega)), h k (by omega)]
section
variable {d d' : Nat} {Y Y' : vY} {X mm Nn Lp : Nat} {nm pr ht : Nat → Nat} {I I' : vJ} {th W N : Nat} {Q : vE → vE → Prop}
theorem c_lw {P : vE → Prop} {b S0 : Int} {l : Nat} (hL : vL Y) (h8 : th ≤ 8) (l8 : l < 8) (t1 : I 1990 3390 = th) (n1 : I 1990 3388 = N) (hb : ∀ u, u < th → (0 ≤ I 1996 u ∧ I 1996 u ≤ 4) ∧ inI (I 1997 u)) : ∀ (m i : Nat), i + m = th → (vW d 35 (117, [vr 18, vi (l : Int), vi b, vi (S0 + smM (fun u => (N : Int) - I 1998 u) (fun u => if I 1996 u = 1 ∧ I 1997 u = l then 1 else 0) i), vi (i : Int)], [], (I, Y)) P ↔ P (.inl (some (vi (S0 + smM (fun u => (N : Int) - I 1998 u) (fun u => if I 1996 u = 1 ∧ I 1997 u = l then 1 else 0) th))), (I, Y))) := by
  intro m
  induction m with
  | zero =>
    intro i hi
    have hi : i = th := by omega
    rw [hi, b35_117 hL, t1, if_pos (Int.le_refl _), b35_188]
  | succ m ih =>
    intro i hi
    have q := hb i (by omega)
    have q2 := q.2
    unfold inI at q2
    have e : smM (fun u => (N : Int) - I 1998 u) (fun u => if I 1996 u = 1 ∧ I 1997 u = l then 1 else 0) (i + 1) = smM (fun u => (N : Int) - I 1998 u) (fun u => if I 1996 u = 1 ∧ I 1997 u = l then 1 else 0) i + (if (if I 1996 i = 1 ∧ I 1997 i = l then (1 : Int) else 0) = 1 then (N : Int) - I 1998 i else 0) := rfl
    have k := ih (i + 1) (by omega)
    rw [e] at k
    rw [b35_117 hL, t1, if_neg (by rw [w32_id (by omega) (by omega), w32_id (by omega) (by omega)]; omega), b35_129 hL (by omega) (by omega), tn0, w32_id (x := I 1996 i) (by omega) (by omega), w32_id (x := 1) (by decide) (by decide)]
    by_cases z : I 1996 i = 1
    · rw [if_neg (fun w => w z), b35_144 hL (by omega) (by omega), tn0, w32_id (x := I 1997 i) (by omega) (by omega), w32_id (x := (l : Int)) (by omega) (by omega)]
      by_cases y : I 1997 i = l
      · rw [if_neg (fun w => w y), b35_158 hL (by omega) (by omega), b35_180, tn0, n1]
        rw [if_pos (show (if I 1996 i = 1 ∧ I 1997 i = l then (1 : Int) else 0) = 1 from if_pos ⟨z, y⟩), ← Int.add_assoc] at k
        exact k
      · rw [if_pos y, b35_179, b35_180]
        rw [if_neg (show ¬ (if I 1996 i = 1 ∧ I 1997 i = l then (1 : Int) else 0) = 1 by rw [if_neg (fun w => y w.2)]; decide), ← Int.add_assoc] at k
        exact k
    · rw [if_pos z, b35_179, b35_180]
      rw [if_neg (show ¬ (if I 1996 i = 1 ∧ I 1997 i = l then (1 : Int) else 0) = 1 by rw [if_neg (fun w => z w.1)]; decide), ← Int.add_assoc] at k
      exact k
theorem t_lw {P : vE → Prop} {b S0 : Int} {l q : Nat} (hL' : vL Y') (l8 : l < 8) (q8 : q ≤ 8) (hq : I' 2222 l = q) (n2 : I' 2075 7729 = N) (hw : ∀ k, k < q → ∃ u : Nat, u < 8 ∧ I' 2221 (8 * l + k) = u) : ∀ (m i : Nat), i + m = q → (vW d' 469 (102, [vr 2075, vi (l : Int), vi b, vi (S0 + smL (fun u => (N : Int) - I' 2189 u) (fun k => (I' 2221 (8 * l + k)).toNat) i), vi (i : Int)], [], (I', Y')) P ↔ P (.inl (some (vi (S0 + smL (fun u => (N : Int) - I' 2189 u) (fun k => (I' 2221 (8 * l + k)).toNat) q))), (I', Y'))) := by
  intro m
  induction m with
  | zero =>
    intro i hi
    have hi : i = q := by omega
    rw [hi, b469_102 hL' (by omega) (by omega), tn0, hq, if_pos (Int.le_refl _), b469_144]
  | succ m ih =>
    intro i hi
    obtain ⟨u, u1, u2⟩ := hw i (by omega)
    have ei : ((8 * (l : Int)) + (i : Int)).toNat = 8 * l + i := by omega
    have e : smL (fun u => (N : Int) - I' 2189 u) (fun k => (I' 2221 (8 * l + k)).toNat) (i + 1) = smL (fun u => (N : Int) - I' 2189 u) (fun k => (I' 2221 (8 * l + k)).toNat) i + ((N : Int) - I' 2189 (I' 2221 (8 * l + i)).toNat) := rfl
    have k := ih (i + 1) (by omega)
    rw [e, ← Int.add_assoc] at k
    rw [b469_102 hL' (by omega) (by omega), tn0, hq, if_neg (by rw [w32_id (by omega) (by omega), w32_id (by omega) (by omega)]; omega), b469_113 hL' (by omega) (by omega) (by rw [ei, u2]; omega) (by rw [ei, u2]; omega), ei, n2]
    exact k
theorem q_lock {a b : Int} (hL : vL Y) (hL' : vL Y') (ha : inI a) (hb : inI b) (h : RQ Y Y' X mm Nn Lp nm pr ht I I' th W N) (hi : I 1990 3398 = 1) : ∃ x, An (d + 1) 35 [vr 18, vi a, vi b, vu, vu] I Y x ∧ An (d' + 1) 469 [vr 2075, vi a, vi b, vu, vu] I' Y' x := by
  have sb := (RQ_status (d := 0) (P := fun _ => True) hL h).2
  obtain ⟨_, s2, _, _, ⟨n1, n2, _⟩, _⟩ := h
  obtain ⟨th1, th2, th8⟩ := s2.1.1
  have hp : inI 7 := by unfold inI; omega
  have hb2 := hb
  unfold inI at hb2
  by_cases z : 0 ≤ a ∧ a ≤ 7
  · obtain ⟨l, hl⟩ : ∃ l : Nat, a = l := ⟨a.toNat, by omega⟩
    subst hl
    have l8 : l < 8 := by omega
    have r := s2.2.2.1 l l8
    have c0 : ∀ P : vE → Prop, vW (d + 1) 35 (0, [vr 18, vi (l : Int), vi b, vu, vu], [], (I, Y)) P ↔ vW (d + 1) 35 (22, [vr 18, vi (l : Int), vi b, vu, vu], [], (I, Y)) P := fun P => by
      rw [b35_0 hL, hi, if_neg (by decide), b35_10, c_in ha in0 hp, if_pos z]
      simp only [vWC_s, Nat.reduceAdd]
      rw [b35_17, if_pos (by decide)]
    have t0 : ∀ P : vE → Prop, vW (d' + 1) 469 (0, [vr 2075, vi (l : Int), vi b, vu, vu], [], (I', Y')) P ↔ vW (d' + 1) 469 (19, [vr 2075, vi (l : Int), vi b, vu, vu], [], (I', Y')) P := fun P => by
      rw [b469_0 hL', if_neg (by rw [w32_id (by omega) (by omega)]; omega), b469_7, t_in ha in0 hp, if_pos z]
      simp only [vWC_s, Nat.reduceAdd]
      rw [b469_14, if_pos (by decide)]
    have cs : b = 0 ∨ b = 1 ∨ b = 2 ∨ b = 3 ∨ b = 4 ∨ b = 5 ∨ b = 6 ∨ (b < 0 ∨ 6 < b) := by omega
    rcases cs with rfl | rfl | rfl | rfl | rfl | rfl | rfl | zb
    · exact ⟨I 2017 l, fun P => by rw [c0, b35_22, if_pos (by decide), b35_64 hL (by omega) (by omega), tn0], fun P => by rw [t0, b469_19, if_pos (by decide), b469_64 hL' (by omega) (by omega), tn0, r.1.1]⟩
    · exact ⟨I 2019 l, fun P => by rw [c0, b35_22, if_neg (by decide), if_pos (by decide), b35_74 hL (by omega) (by omega), tn0], fun P => by rw [t0, b469_19, if_neg (by decide), if_pos (by decide), b469_71 hL' (by omega) (by omega), tn0, r.2.2.1]⟩
    · exact ⟨I 2020 l, fun P => by rw [c0, b35_22, if_neg (by decide), if_neg (by decide), if_pos (by decide), b35_84 hL (by omega) (by omega), tn0], fun P => by rw [t0, b469_19, if_neg (by decide), if_neg (by decide), if_pos (by decide), b469_78 hL' (by omega) (by omega), tn0, r.2.2.2.1]⟩
    · exact ⟨I 2021 l, fun P => by rw [c0, b35_22, if_neg (by decide), if_neg (by decide), if_neg (by decide), if_pos (by decide), b35_94 hL (by omega) (by omega), tn0], fun P => by rw [t0, b469_19, if_neg (by decide), if_neg (by decide), if_neg (by decide), if_pos (by decide), b469_85 hL' (by omega) (by omega), tn0, r.2.2.2.2.1]⟩
    · obtain ⟨q, q1, q2, q3, q4, q5⟩ := s2.2.1 l l8
      refine ⟨I 2022 l + smM (fun u => (N : Int) - I 1998 u) (fun u => if I 1996 u = 1 ∧ I 1997 u = l then 1 else 0) th, fun P => ?_, fun P => ?_⟩
      · rw [c0, b35_22, if_neg (by decide), if_neg (by decide), if_neg (by decide), if_neg (by decide), if_pos (by decide), b35_104 hL (by omega) (by omega), tn0]
        have k := c_lw (d := d + 1) (Y := Y) (P := P) (b := 4) (S0 := I 2022 l) (th := th) (N := N) hL th8 l8 th1 n1 (fun u hu => ⟨(s2.1.2 u hu).1.2, (s2.1.2 u hu).2.2.1⟩) th 0 (by omega)
        rw [show smM (fun u => (N : Int) - I 1998 u) (fun u => if I 1996 u = 1 ∧ I 1997 u = l then 1 else 0) 0 = 0 from rfl, Int.add_zero] at k
        exact k
      · rw [t0, b469_19, if_neg (by decide), if_neg (by decide), if_neg (by decide), if_neg (by decide), if_pos (by decide), b469_92 hL' (by omega) (by omega), tn0]
        have k := t_lw (d' := d' + 1) (Y' := Y') (P := P) (b := 4) (S0 := I' 2217 l) (N := N) hL' l8 q1 q2 n2 (fun k hk => by obtain ⟨u, u1, u2, _⟩ := q3 k hk; exact ⟨u, by omega, u2⟩) q 0 (by omega)
        rw [show smL (fun u => (N : Int) - I' 2189 u) (fun k => (I' 2221 (8 * l + k)).toNat) 0 = 0 from rfl, Int.add_zero] at k
        have e : smL (fun u => (N : Int) - I' 2189 u) (fun k => (I' 2221 (8 * l + k)).toNat) q = smM (fun u => (N : Int) - I 1998 u) (fun u => if I 1996 u = 1 ∧ I 1997 u = l then 1 else 0) th := by
          rw [← smL_smM (f := fun u => (N : Int) - I 1998 u) (l := fun k => (I' 2221 (8 * l + k)).toNat) (k := q) (mk := fun u => if I 1996 u = 1 ∧ I 1997 u = l then 1 else 0) (n := th) (fun j hj => ?_) (fun i j hij hj => ?_) (fun x hx w => ?_)]
          · refine smL_congr (fun j hj => ?_)
            obtain ⟨u, u1, u2, u3⟩ := q3 j hj
            show (N : Int) - I' 2189 (I' 2221 (8 * l + j)).toNat = (N : Int) - I 1998 (I' 2221 (8 * l + j)).toNat
            rw [u2, tn0, ((s2.1.2 u u1).2.1 (Or.inl u3.1)).2]
          · obtain ⟨u, u1, u2, u3⟩ := q3 j hj
            show (I' 2221 (8 * l + j)).toNat < th ∧ (if I 1996 (I' 2221 (8 * l + j)).toNat = 1 ∧ I 1997 (I' 2221 (8 * l + j)).toNat = l then (1 : Int) else 0) = 1
            rw [u2, tn0]
            exact ⟨u1, if_pos u3⟩
          · obtain ⟨u, u1, u2, u3⟩ := q3 i (by omega)
            obtain ⟨v, v1, v2, v3⟩ := q3 j hj
            have w := q4 i j hij hj
            show (I' 2221 (8 * l + i)).toNat ≠ (I' 2221 (8 * l + j)).toNat
            intro e
            rw [e] at w
            omega
          · have w : (if I 1996 x = 1 ∧ I 1997 x = l then (1 : Int) else 0) = 1 := w
            by_cases y : I 1996 x = 1 ∧ I 1997 x = l
            · obtain ⟨k, k1, k2⟩ := q5 x hx y
              exact ⟨k, k1, by show (I' 2221 (8 * l + k)).toNat = x; rw [k2, tn0]⟩
            · rw [if_neg y] at w; exact absurd w (by decide)
        rw [e, ← r.2.2.2.2.2.1] at k
        exact (by rw [← r.2.2.2.2.2.1]; exact k)
    · by_cases y : I 2017 l = -1
      · have y' : I' 2211 l = -1 := by rw [← r.1.1]; exact y
        exact ⟨I 2023 l + 0, fun P => by rw [c0, b35_22, if_neg (by decide), if_neg (by decide), if_neg (by decide), if_neg (by decide), if_neg (by decide), if_pos (by decide), b35_190 hL (by omega) (by omega), tn0, y, if_neg (fun w => w rfl), b35_212, b35_233], fun P => by rw [t0, b469_19, if_neg (by decide), if_neg (by decide), if_neg (by decide), if_neg (by decide), if_neg (by decide), if_pos (by decide), b469_146 hL' (by omega) (by omega), tn0, y', if_pos (by decide), b469_175, b469_176, r.2.2.2.2.2.2.1]⟩
      · have y1 : 0 ≤ I' 2211 l ∧ I' 2211 l < 8 := by rw [← r.1.1]; have := r.1.2; omega
        exact ⟨I 2023 l + ((N : Int) - I 2024 l), fun P => by rw [c0, b35_22, if_neg (by decide), if_neg (by decide), if_neg (by decide), if_neg (by decide), if_neg (by decide), if_pos (by decide), b35_190 hL (by omega) (by omega), tn0, if_pos (by rw [w32_id (by have := r.1.2; omega) (by have := r.1.2; omega), w32_id (x := -1) (by decide) (by decide)]; exact y), b35_216 hL (by omega) (by omega), b35_233, tn0, n1], fun P => by rw [t0, b469_19, if_neg (by decide), if_neg (by decide), if_neg (by decide), if_neg (by decide), if_neg (by decide), if_pos (by decide), b469_146 hL' (by omega) (by omega), tn0, if_neg (by rw [w32_id (by omega) (by omega)]; omega), b469_161 hL' (by omega) (by omega), b469_176, tn0, n2, r.2.2.2.2.2.2.1, r.2.2.2.2.2.2.2.1 y]⟩
    · exact ⟨I 2026 l, fun P => by rw [c0, b35_22, if_neg (by decide), if_neg (by decide), if_neg (by decide), if_neg (by decide), if_neg (by decide), if_neg (by decide), if_pos (by decide), b35_235 hL (by omega) (by omega), tn0], fun P => by rw [t0, b469_19, if_neg (by decide), if_neg (by decide), if_neg (by decide), if_neg (by decide), if_neg (by decide), if_neg (by decide), if_pos (by decide), b469_178 hL' (by omega) (by omega), tn0, r.2.2.2.2.2.2.2.2.2]⟩
    · have w : w32 b = b := w32_id hb2.1 hb2.2
      exact ⟨-1, fun P => by rw [c0, b35_22, w, if_neg (show ¬ b = 0 by omega), if_neg (show ¬ b = 1 by omega), if_neg (show ¬ b = 2 by omega), if_neg (show ¬ b = 3 by omega), if_neg (show ¬ b = 4 by omega), if_neg (show ¬ b = 5 by omega), if_neg (show ¬ b = 6 by omega), b35_245], fun P => by rw [t0, b469_19, w, if_neg (show ¬ b = 0 by omega), if_neg (show ¬ b = 1 by omega), if_neg (show ¬ b = 2 by omega), if_neg (show ¬ b = 3 by omega), if_neg (show ¬ b = 4 by omega), if_neg (show ¬ b = 5 by omega), if_neg (show ¬ b = 6 by omega), b469_185]⟩
  · refine ⟨-1, fun P => ?_, fun P => ?_⟩
    · rw [b35_0 hL, hi, if_neg (by decide), b35_10, c_in ha in0 hp, if_neg z]
      simp only [vWC_s, Nat.reduceAdd]
      rw [b35_17, if_neg (by decide), b35_20]
    · rw [b469_0 hL', if_neg (by rw [w32_id (by omega) (by omega)]; omega), b469_7, t_in ha in0 hp, if_neg z]
      simp only [vWC_s, Nat.reduceAdd]
      rw [b469_14, if_neg (by decide), b469_17]
theorem q_thrown {a b : Int} (hL : vL Y) (hL' : vL Y') (ha : inI a) (hb : inI b) (h : RQ Y Y' X mm Nn Lp nm pr ht I I' th W N) (hi : I 1990 3398 = 1) : ∃ x, An (d + 1) 38 [vr 18, vi a, vi b] I Y x ∧ An (d' + 1) 473 [vr 2075, vi a, vi b] I' Y' x := by
  have sb := (RQ_status (d := 0) (P := fun _ => True) hL h).2
  obtain ⟨_, _, ⟨_, _, _, _, _, _, _, _, _, _, _, _, _, q14, _⟩, _⟩ := h
  have i9 : inI 9 := by unfold inI; omega
  have i3 : inI 3 := by unfold inI; omega
  have hb2 := hb
  unfold inI at hb2
  by_cases z : 0 ≤ a ∧ a ≤ 9
  · obtain ⟨u, hu⟩ : ∃ u : Nat, a = u := ⟨a.toNat, by omega⟩
    subst hu
    have r := q14 u (by omega)
    have c1 : ∀ P : vE → Prop, vW (d + 1) 38 (0, [vr 18, vi (u : Int), vi b], [], (I, Y)) P ↔ vW (d + 1) 38 (if 0 ≤ b ∧ b ≤ 3 then 29 else 43, [vr 18, vi (u : Int), vi b], [], (I, Y)) P := fun P => by
      rw [b38_0 hL, hi, if_neg (by decide), b38_10, c_in ha in0 i9, if_pos z]
      simp only [vWC_s, Nat.reduceAdd]
      rw [b38_17, if_neg (by decide), b38_20, c_in hb in0 i3]
      simp only [vWC_s, Nat.reduceAdd]
      rw [b38_26]
      by_cases y : 0 ≤ b ∧ b ≤ 3
      · rw [if_pos y, if_neg (by decide), if_pos y]
      · rw [if_neg y, if_pos (by decide), if_neg y]
    have c0 : 0 ≤ b → b ≤ 3 → ∀ P : vE → Prop, vW (d + 1) 38 (0, [vr 18, vi (u : Int), vi b], [], (I, Y)) P ↔ vW (d + 1) 38 (29, [vr 18, vi (u : Int), vi b], [], (I, Y)) P := fun y1 y2 P => by
      rw [c1, if_pos ⟨y1, y2⟩]
    have t0 : ∀ P : vE → Prop, vW (d' + 1) 473 (0, [vr 2075, vi (u : Int), vi b], [], (I', Y')) P ↔ vW (d' + 1) 473 (19, [vr 2075, vi (u : Int), vi b], [], (I', Y')) P := fun P => by
      rw [b473_0 hL', if_neg (by rw [w32_id (by omega) (by omega)]; omega), b473_7, t_in ha in0 i9, if_pos z]
      simp only [vWC_s, Nat.reduceAdd]
      rw [b473_14, if_pos (by decide)]
    have cs : b = 0 ∨ b = 1 ∨ b = 2 ∨ b = 3 ∨ (b < 0 ∨ 3 < b) := by omega
    rcases cs with rfl | rfl | rfl | rfl | zb
    · exact ⟨I 2037 u, fun P => by rw [c0 (by omega) (by omega), b38_29 hL (by decide) (by decide) (by omega) (by rw [show Y.1 2036 (Int.toNat 0) = 2037 from lP hL 2036 0 2037 rfl, lLn hL 2037 10 rfl]; omega) (by omega) (by rw [show Y.1 2036 (Int.toNat 0) = 2037 from lP hL 2036 0 2037 rfl]; exact lK hL 2037 100 rfl), b38_44, show Y.1 2036 (Int.toNat 0) = 2037 from lP hL 2036 0 2037 rfl, tn0], fun P => by rw [t0, b473_19, if_neg (by decide), b473_23 hL' (by omega) (by omega), b473_75, tn0, r.1]⟩
    · exact ⟨I 2038 u, fun P => by rw [c0 (by omega) (by omega), b38_29 hL (by decide) (by decide) (by omega) (by rw [show Y.1 2036 (Int.toNat 1) = 2038 from lP hL 2036 1 2038 rfl, lLn hL 2038 10 rfl]; omega) (by omega) (by rw [show Y.1 2036 (Int.toNat 1) = 2038 from lP hL 2036 1 2038 rfl]; exact lK hL 2038 100 rfl), b38_44, show Y.1 2036 (Int.toNat 1) = 2038 from lP hL 2036 1 2038 rfl, tn0], fun P => by rw [t0, b473_19, if_pos (by decide), b473_32, if_neg (by decide), b473_37 hL' (by omega) (by omega), b473_75, tn0, r.2.1]⟩
    · exact ⟨I 2039 u, fun P => by rw [c0 (by omega) (by omega), b38_29 hL (by decide) (by decide) (by omega) (by rw [show Y.1 2036 (Int.toNat 2) = 2039 from lP hL 2036 2 2039 rfl, lLn hL 2039 10 rfl]; omega) (by omega) (by rw [show Y.1 2036 (Int.toNat 2) = 2039 from lP hL 2036 2 2039 rfl]; exact lK hL 2039 100 rfl), b38_44, show Y.1 2036 (Int.toNat 2) = 2039 from lP hL 2036 2 2039 rfl, tn0], fun P => by rw [t0, b473_19, if_pos (by decide), b473_32, if_pos (by decide), b473_46, if_neg (by decide), b473_51 hL' (by omega) (by omega), b473_75, tn0, r.2.2.1]⟩
    · exact ⟨I 2040 u, fun P => by rw [c0 (by omega) (by omega), b38_29 hL (by decide) (by decide) (by omega) (by rw [show Y.1 2036 (Int.toNat 3) = 2040 from lP hL 2036 3 2040 rfl, lLn hL 2040 10 rfl]; omega) (by omega) (by rw [show Y.1 2036 (Int.toNat 3) = 2040 from lP hL 2036 3 2040 rfl]; exact lK hL 2040 100 rfl), b38_44, show Y.1 2036 (Int.toNat 3) = 2040 from lP hL 2036 3 2040 rfl, tn0], fun P => by rw [t0, b473_19, if_pos (by decide), b473_32, if_pos (by decide), b473_46, if_pos (by decide), b473_60, if_neg (by decide), b473_65 hL' (by omega) (by omega), b473_75, tn0, r.2.2.2]⟩
    · have w : w32 b = b := w32_id hb2.1 hb2.2
      exact ⟨-1, fun P => by rw [c1, if_neg (by omega), b38_43, b38_44], fun P => by rw [t0, b473_19, w, if_pos (show b ≠ 0 by omega), b473_32, w, if_pos (show b ≠ w32 1 by rw [show w32 1 = 1 from rfl]; omega), b473_46, w, if_pos (show b ≠ w32 2 by rw [show w32 2 = 2 from rfl]; omega), b473_60, w, if_pos (show b ≠ w32 3 by rw [show w32 3 = 3 from rfl]; omega), b473_74, b473_75]⟩
  · refine ⟨-1, fun P => ?_, fun P => ?_⟩
    · rw [b38_0 hL, hi, if_neg (by decide), b38_10, c_in ha in0 i9, if_neg z]
      simp only [vWC_s, Nat.reduceAdd]
      rw [b38_17, if_pos (by decide), b38_43, b38_44]
    · rw [b473_0 hL', if_neg (by rw [w32_id (by omega) (by omega)]; omega), b473_7, t_in ha in0 i9, if_neg z]
      simp only [vWC_s, Nat.reduceAdd]
      rw [b473_14, if_neg (by decide), b473_17]
/-- held: what is reached is worked out anew -/
theorem o_held {a : Int} (hL : vL Y) (hL' : vL Y') (ha : inI a) (h : RS Y Y' X mm Nn Lp nm pr ht I I' th W N) (hi : I 1990 3398 = 1) (hv : I 18 267 = nm 5000)
    (hQ : ∀ (J J' : vJ) (x : Int), fr [1986, 1987, 1988] [(1960, 3099)] I J → fr [2264, 2265, 2266] [(2075, 7830)] I' J' → Q (.inl (some (vi x)), (J, Y)) (.inl (some (vi x)), (J', Y'))) :
    vW (d + 2) 34 (0, [vr 18, vi a], [], (I, Y)) (fun r => vW (d' + 3) 468 (0, [vr 2075, vi a], [], (I', Y')) (fun r' => Q r r')) := by
  have sb := (RS_status (d := 0) (P := fun _ => True) hL h).2
  obtain ⟨s, tau, A1, sv, _⟩ := h
  obtain ⟨n, E, hB⟩ := AS_lkB A1
  have hB := lkB_keep hB (fr_sym (fr_seed I s tau)) (fr_sym (fr_stat I' 1))
  clear A1
  obtain ⟨⟨n1, n2⟩, n3, _⟩ := hB.2.2.2.2.2.1
  have hp : inI ((n : Int) - 1) := by unfold inI; omega
  by_cases z : 0 ≤ a ∧ a ≤ (n : Int) - 1
  · obtain ⟨u, hu⟩ : ∃ u : Nat, a = u := ⟨a.toNat, by omega⟩
    subst hu
    have hm : ∀ P : vE → Prop, vW (d' + 3) 468 (0, [vr 2075, vi (u : Int)], [], (I', Y')) P ↔ vW (d' + 2) 454 (0, [vr 2075, vu, vu, vu, vu], [], (I', Y')) (vWC (d' + 3) 468 24 3 [vr 2075, vi (u : Int)] [] P) := fun P => by
      rw [b468_0 hL', if_neg (by rw [w32_id (by omega) (by omega)]; omega), b468_7 hL', n2, t_in ha in0 hp, if_pos z]
      simp only [vWC_s, Nat.reduceAdd]
      rw [b468_18, if_pos (by decide), b468_23 hL']
    rw [b34_0 hL, hi, if_neg (by decide), b34_10 hL, n1, c_in ha in0 hp, if_pos z]
    simp only [vWC_s, Nat.reduceAdd]
    rw [b34_24, if_pos (by decide), b34_29 hL, hv, ← hB.2.2.1.1]
    apply vW_out
    simp only [hm]
    refine r_all hL hL' hB (fun J J' hJ => ?_)
    simp only [vWC_n, Nat.reduceAdd]
    refine vW_swap.mp ?_
    obtain ⟨⟨k, _, _, _, k5⟩, F1, F2⟩ := hJ
    have w := k5 u (by omega)
    rw [b34_44 hL (by omega) (by omega), tn0]
    have hm2 : ∀ P : vE → Prop, vW (d' + 3) 468 (27, [vr 2075, vi (u : Int)], [], (J', Y')) P ↔ P (.inl (some (vi (J 1987 u))), (J', Y')) := fun P => by
      rw [b468_27 hL' (by omega) (by omega), tn0, ← w.1.1]
      rcases w.1.2 with y | y
      · rw [y, if_pos (by decide), b468_45, b468_46, w.2.2 y]
      · rw [y, if_neg (by decide), b468_36 hL' (by omega) (by omega), b468_46, tn0, (w.2.1 y).1]
    simp only [hm2]
    exact hQ J J' _ F1 F2
  · have hm : ∀ P : vE → Prop, vW (d' + 3) 468 (0, [vr 2075, vi a], [], (I', Y')) P ↔ P (.inl (some (vi (-1))), (I', Y')) := fun P => by
      rw [b468_0 hL', if_neg (by rw [w32_id (by omega) (by omega)]; omega), b468_7 hL', n2, t_in ha in0 hp, if_neg z]
      simp only [vWC_s, Nat.reduceAdd]
      rw [b468_18, if_neg (by decide), b468_21]
    simp only [hm]
    rw [b34_0 hL, hi, if_neg (by decide), b34_10 hL, n1, c_in ha in0 hp, if_neg z]
    simp only [vWC_s, Nat.reduceAdd]
    rw [b34_24, if_neg (by decide), b34_27]
    exact hQ I I' _ (fr_refl _ _ _) (fr_refl _ _ _)
end
