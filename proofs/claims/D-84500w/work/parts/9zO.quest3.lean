/-! ===== questions about looks, arrays, failures (partly printed) ===== -/
set_option maxRecDepth 20000
set_option maxHeartbeats 4000000
/-- the first of the greatest -/
def bst (f : Nat → Int) : Nat → Nat
  | 0 => 0
  | i + 1 => if f i ≤ f (bst f i) then bst f i else i
theorem bst_le (f : Nat → Int) : ∀ n, 0 < n → bst f n < n := by
  intro n
  induction n with
  | zero => intro h; omega
  | succ n ih =>
    intro _
    show (if f n ≤ f (bst f n) then bst f n else n) < n + 1
    by_cases z : n = 0
    · subst z
      have e : bst f 0 = 0 := rfl
      rw [e, if_pos (Int.le_refl _)]; omega
    · have := ih (by omega)
      split <;> omega
theorem bst_congr {f g : Nat → Int} : ∀ {n : Nat}, (∀ i, i < n → f i = g i) → bst f n = bst g n := by
  intro n
  induction n with
  | zero => intro _; rfl
  | succ n ih =>
    intro h
    have e := ih (fun i hi => h i (by omega))
    show (if f n ≤ f (bst f n) then bst f n else n) = (if g n ≤ g (bst g n) then bst g n else n)
    rw [e, h n (by omega)]
    by_cases z : n = 0
    · subst z
      have e0 : bst g 0 = 0 := rfl
      rw [e0, h 0 (by omega)]
    · rw [h (bst g n) (by have := bst_le g n (by omega); omega)]
section
variable {d d' : Nat} {Y Y' : vY} {X mm Nn Lp : Nat} {nm pr ht : Nat → Nat} {I I' : vJ} {th W N : Nat}
theorem c_bst {P : vE → Prop} {a b : Int} {n : Nat} (hL : vL Y) (hn : I 1960 3094 = n) (n4 : n ≤ 400) (hb : ∀ j : Nat, j < 400 → 0 ≤ I 1984 j ∧ I 1984 j < 1000000) : ∀ (m i : Nat), 1 ≤ i → i + m = n → (vW d 32 (32, [vr 18, vi a, vi b, vi (bst (I 1984) i : Int), vi (i : Int)], [], (I, Y)) P ↔ vW d 32 (79, [vr 18, vi a, vi b, vi (bst (I 1984) n : Int), vi (n : Int)], [], (I, Y)) P) := by
  intro m
  induction m with
  | zero =>
    intro i h1 hi
    have hi : i = n := by omega
    rw [hi, b32_32 hL, hn, if_pos (Int.le_refl _)]
  | succ m ih =>
    intro i h1 hi
    have bl := bst_le (I 1984) i (by omega)
    have e : bst (I 1984) (i + 1) = if I 1984 i ≤ I 1984 (bst (I 1984) i) then bst (I 1984) i else i := rfl
    have q1 := hb i (by omega)
    have q2 := hb (bst (I 1984) i) (by omega)
    rw [b32_32 hL, hn, if_neg (by rw [w32_id (by omega) (by omega), w32_id (by omega) (by omega)]; omega), b32_44 hL (by omega) (by omega) (by omega) (by omega), tn0, tn0, w32_id (by omega) (by omega), w32_id (by omega) (by omega)]
    have k := ih (i + 1) (by omega) (by omega)
    rw [e] at k
    by_cases z : I 1984 i ≤ I 1984 (bst (I 1984) i)
    · rw [if_pos z] at k
      rw [if_pos z, b32_71, b32_72]
      exact k
    · rw [if_neg z] at k
      rw [if_neg z, b32_66, b32_72]
      exact k
theorem t_bst {P : vE → Prop} {a b : Int} {n : Nat} (hL' : vL Y') (hn : I' 2075 7734 = n) (n4 : n ≤ 400) (hb : ∀ j : Nat, j < 400 → 0 ≤ I' 2262 j ∧ I' 2262 j < 1000000) : ∀ (m i : Nat), 1 ≤ i → i + m = n → (vW d' 466 (32, [vr 2075, vi a, vi b, vi (bst (I' 2262) i : Int), vi (i : Int)], [], (I', Y')) P ↔ P (.inl (some (vi (bst (I' 2262) n : Int))), (I', Y'))) := by
  intro m
  induction m with
  | zero =>
    intro i h1 hi
    have hi : i = n := by omega
    rw [hi, b466_32 hL', hn, if_pos (Int.le_refl _), b466_66]
  | succ m ih =>
    intro i h1 hi
    have bl := bst_le (I' 2262) i (by omega)
    have e : bst (I' 2262) (i + 1) = if I' 2262 i ≤ I' 2262 (bst (I' 2262) i) then bst (I' 2262) i else i := rfl
    have q1 := hb i (by omega)
    have q2 := hb (bst (I' 2262) i) (by omega)
    rw [b466_32 hL', hn, if_neg (by rw [w32_id (by omega) (by omega), w32_id (by omega) (by omega)]; omega), b466_41 hL' (by omega) (by omega) (by omega) (by omega), tn0, tn0, w32_id (by omega) (by omega), w32_id (by omega) (by omega)]
    have k := ih (i + 1) (by omega) (by omega)
    rw [e] at k
    by_cases z : I' 2262 i ≤ I' 2262 (bst (I' 2262) i)
    · rw [if_pos z] at k
      rw [if_pos z, b466_60]
      exact k
    · rw [if_neg z] at k
      rw [if_neg z, b466_57, b466_60]
      exact k
theorem q_seen {a b : Int} (hL : vL Y) (hL' : vL Y') (ha : inI a) (hb : inI b) (h : RQ Y Y' X mm Nn Lp nm pr ht I I' th W N) (hi : I 1990 3398 = 1) : ∃ x, An (d + 1) 32 [vr 18, vi a, vi b, vu, vu] I Y x ∧ An (d' + 1) 466 [vr 2075, vi a, vi b, vu, vu] I' Y' x := by
  have sb := (RQ_status (d := 0) (P := fun _ => True) hL h).2
  obtain ⟨_, _, ⟨_, _, _, _, _, _, _, _, _, _, _, ⟨⟨e1, e2, e3⟩, e4⟩, _⟩, _⟩ := h
  obtain ⟨n, hn⟩ : ∃ n : Nat, I 1960 3094 = n := ⟨(I 1960 3094).toNat, by omega⟩
  have hn' : I' 2075 7734 = n := by rw [← e1]; exact hn
  have n4 : n ≤ 400 := by omega
  have hp : inI ((n : Int) - 1) := by unfold inI; omega
  have ha2 := ha
  have hb2 := hb
  unfold inI at ha2 hb2
  have t0 : ∀ P : vE → Prop, vW (d' + 1) 466 (0, [vr 2075, vi a, vi b, vu, vu], [], (I', Y')) P ↔ vW (d' + 1) 466 (9, [vr 2075, vi a, vi b, vu, vu], [], (I', Y')) P := fun P => by
    rw [b466_0 hL', if_pos (by rw [w32_id (by omega) (by omega)]; omega)]
  have c0 : ∀ P : vE → Prop, vW (d + 1) 32 (0, [vr 18, vi a, vi b, vu, vu], [], (I, Y)) P ↔ vW (d + 1) 32 (10, [vr 18, vi a, vi b, vu, vu], [], (I, Y)) P := fun P => by
    rw [b32_0 hL, hi, if_neg (by decide)]
  by_cases n0 : n = 0
  · refine ⟨-1, fun P => ?_, fun P => ?_⟩
    · rw [c0, b32_10 hL, hn, n0, if_neg (by decide), b32_20]
    · rw [t0, b466_9]
      by_cases z : a = -1
      · rw [if_neg (by rw [z]; exact fun q => q rfl), m466_14 hL', hn', n0, if_pos (Or.inr (by decide)), b466_25]
      · rw [if_pos (by rw [w32_id ha2.1 ha2.2, w32_id (x := -1) (by decide) (by decide)]; exact z), b466_68 hL', hn', t_in ha in0 hp, if_neg (by omega)]
        simp only [vWC_s, Nat.reduceAdd]
        rw [b466_79, if_neg (by decide), b466_82]
  · have c1 : ∀ P : vE → Prop, vW (d + 1) 32 (0, [vr 18, vi a, vi b, vu, vu], [], (I, Y)) P ↔ vW (d + 1) 32 (22, [vr 18, vi a, vi b, vu, vu], [], (I, Y)) P := fun P => by
      rw [c0, b32_10 hL, hn, if_pos (by rw [w32_id (by omega) (by omega)]; omega)]
    by_cases z : a = -1
    · have eb : bst (I 1984) n = bst (I' 2262) n := bst_congr (fun i hi => (e4 i (by omega)).2.2.1)
      have c2 := fun P : vE → Prop => c_bst (d := d + 1) (Y := Y) (P := P) (a := a) (b := b) hL hn n4 (fun j hj => (e4 j hj).2.2.2) (n - 1) 1 (by decide) (by omega)
      have b1 : bst (I 1984) 1 = 0 := by
        show (if I 1984 0 ≤ I 1984 (bst (I 1984) 0) then bst (I 1984) 0 else 0) = 0
        split <;> rfl
      have b1' : bst (I' 2262) 1 = 0 := by
        show (if I' 2262 0 ≤ I' 2262 (bst (I' 2262) 0) then bst (I' 2262) 0 else 0) = 0
        split <;> rfl
      have t2 := fun P : vE → Prop => t_bst (d' := d' + 1) (Y' := Y') (P := P) (a := a) (b := b) hL' hn' n4 (fun j hj => by rw [← (e4 j hj).2.2.1]; exact (e4 j hj).2.2.2) (n - 1) 1 (by decide) (by omega)
      rw [b1] at c2
      rw [b1'] at t2
      by_cases y : b = 0
      · refine ⟨(bst (I 1984) n : Int), fun P => ?_, fun P => ?_⟩
        · rw [c1, b32_22, if_neg (by rw [z]; exact fun q => q rfl), b32_27]
          refine (c2 P).trans ?_
          rw [b32_79, y, if_neg (by decide), b32_83, b32_88]
        · rw [t0, b466_9, if_neg (by rw [z]; exact fun q => q rfl), b466_14, y, if_neg (by decide), b466_18 hL', hn', if_pos (by rw [w32_id (by omega) (by omega)]; omega), b466_27, eb]
          rw [y] at t2
          exact t2 P
      · have y1 : w32 b ≠ 0 := by rw [w32_id hb2.1 hb2.2]; exact y
        refine ⟨-1, fun P => ?_, fun P => ?_⟩
        · rw [c1, b32_22, if_neg (by rw [z]; exact fun q => q rfl), b32_27]
          refine (c2 P).trans ?_
          rw [b32_79, if_pos y1, b32_87, b32_88]
        · rw [t0, b466_9, if_neg (by rw [z]; exact fun q => q rfl), b466_14, if_pos y1, b466_25]
    · have z1 : w32 a ≠ w32 (-1) := by rw [w32_id ha2.1 ha2.2, w32_id (x := -1) (by decide) (by decide)]; exact z
      by_cases y : 0 ≤ a ∧ a ≤ (n : Int) - 1
      · have c2 : ∀ P : vE → Prop, vW (d + 1) 32 (0, [vr 18, vi a, vi b, vu, vu], [], (I, Y)) P ↔ vW (d + 1) 32 (108, [vr 18, vi a, vi b, vu, vu], [], (I, Y)) P := fun P => by
          rw [c1, b32_22, if_pos z1, b32_89 hL, hn, c_in ha in0 hp, if_pos y]
          simp only [vWC_s, Nat.reduceAdd]
          rw [b32_103, if_pos (by decide)]
        have t2 : ∀ P : vE → Prop, vW (d' + 1) 466 (0, [vr 2075, vi a, vi b, vu, vu], [], (I', Y')) P ↔ vW (d' + 1) 466 (84, [vr 2075, vi a, vi b, vu, vu], [], (I', Y')) P := fun P => by
          rw [t0, b466_9, if_pos z1, b466_68 hL', hn', t_in ha in0 hp, if_pos y]
          simp only [vWC_s, Nat.reduceAdd]
          rw [b466_79, if_pos (by decide)]
        clear z1
        have q := e4 a.toNat (by omega)
        have cs : b = 0 ∨ b = 1 ∨ b = 2 ∨ (b < 0 ∨ 2 < b) := by omega
        rcases cs with rfl | rfl | rfl | zb
        · exact ⟨I 1982 a.toNat, fun P => by rw [c2, b32_108, if_neg (by decide), b32_112 hL (by omega) (by omega), b32_159], fun P => by rw [t2, b466_84, if_neg (by decide), b466_88 hL' (by omega) (by omega), b466_126, q.1]⟩
        · exact ⟨I 1983 a.toNat, fun P => by rw [c2, b32_108, if_pos (by decide), b32_124, if_neg (by decide), b32_129 hL (by omega) (by omega), b32_159], fun P => by rw [t2, b466_84, if_pos (by decide), b466_97, if_neg (by decide), b466_102 hL' (by omega) (by omega), b466_126, q.2.1]⟩
        · exact ⟨I 1984 a.toNat, fun P => by rw [c2, b32_108, if_pos (by decide), b32_124, if_pos (by decide), b32_141, if_neg (by decide), b32_146 hL (by omega) (by omega), b32_159], fun P => by rw [t2, b466_84, if_pos (by decide), b466_97, if_pos (by decide), b466_111, if_neg (by decide), b466_116 hL' (by omega) (by omega), b466_126, q.2.2.1]⟩
        · have w : w32 b = b := w32_id hb2.1 hb2.2
          exact ⟨-1, fun P => by rw [c2, b32_108, w, if_pos (show b ≠ 0 by omega), b32_124, w, if_pos (show b ≠ w32 1 by rw [show w32 1 = 1 from rfl]; omega), b32_141, w, if_pos (show b ≠ w32 2 by rw [show w32 2 = 2 from rfl]; omega), b32_158, b32_159], fun P => by rw [t2, b466_84, w, if_pos (show b ≠ 0 by omega), b466_97, w, if_pos (show b ≠ w32 1 by rw [show w32 1 = 1 from rfl]; omega), b466_111, w, if_pos (show b ≠ w32 2 by rw [show w32 2 = 2 from rfl]; omega), b466_125, b466_126]⟩
      · refine ⟨-1, fun P => ?_, fun P => ?_⟩
        · rw [c1, b32_22, if_pos z1, b32_89 hL, hn, c_in ha in0 hp, if_neg y]
          simp only [vWC_s, Nat.reduceAdd]
          rw [b32_103, if_neg (by decide), b32_106]
        · rw [t0, b466_9, if_pos z1, b466_68 hL', hn', t_in ha in0 hp, if_neg y]
          simp only [vWC_s, Nat.reduceAdd]
          rw [b466_79, if_neg (by decide), b466_82]
theorem q_made {a b : Int} (hL : vL Y) (hL' : vL Y') (ha : inI a) (hb : inI b) (h : RQ Y Y' X mm Nn Lp nm pr ht I I' th W N) (hi : I 1990 3398 = 1) : ∃ x, An (d + 1) 33 [vr 18, vi a, vi b] I Y x ∧ An (d' + 1) 467 [vr 2075, vi a, vi b] I' Y' x := by
  have sb := (RQ_status (d := 0) (P := fun _ => True) hL h).2
  obtain ⟨s1, _, ⟨_, _, _, ⟨n, E, ⟨a1, a2⟩, a3, _, _, a6, _⟩, _⟩, _⟩ := h
  obtain ⟨hX, hX2, hV⟩ := s1.1
  have mm24 : mm ≤ 24 := s1.2.1.1.1
  have hp : inI ((n : Int) - 1) := by unfold inI; omega
  have hb2 := hb
  unfold inI at hb2
  by_cases z : 0 ≤ a ∧ a ≤ (n : Int) - 1
  · obtain ⟨u, hu⟩ : ∃ u : Nat, a = u := ⟨a.toNat, by omega⟩
    subst hu
    have un : u < n := by omega
    have q := a6 u un
    have c0 : ∀ P : vE → Prop, vW (d + 1) 33 (0, [vr 18, vi (u : Int), vi b], [], (I, Y)) P ↔ vW (d + 1) 33 (29, [vr 18, vi (u : Int), vi b], [], (I, Y)) P := fun P => by
      rw [b33_0 hL, hi, if_neg (by decide), b33_10 hL, a1, c_in ha in0 hp, if_pos z]
      simp only [vWC_s, Nat.reduceAdd]
      rw [b33_24, if_pos (by decide)]
    have t0 : ∀ P : vE → Prop, vW (d' + 1) 467 (0, [vr 2075, vi (u : Int), vi b], [], (I', Y')) P ↔ vW (d' + 1) 467 (23, [vr 2075, vi (u : Int), vi b], [], (I', Y')) P := fun P => by
      rw [b467_0 hL', if_neg (by rw [w32_id (by omega) (by omega)]; omega), b467_7 hL', a2, t_in ha in0 hp, if_pos z]
      simp only [vWC_s, Nat.reduceAdd]
      rw [b467_18, if_pos (by decide)]
    have cs : b = 0 ∨ b = 1 ∨ b = 2 ∨ b = 3 ∨ b = 4 ∨ b = 5 ∨ b = 6 ∨ (b < 0 ∨ 6 < b) := by omega
    rcases cs with rfl | rfl | rfl | rfl | rfl | rfl | rfl | zb
    · exact ⟨I 2029 u, fun P => by rw [c0, b33_29, if_pos (by decide), b33_72 hL (by omega) (by omega), tn0], fun P => by rw [t0, b467_23, if_pos (by decide), b467_68 hL' (by omega) (by omega), tn0, q.1.2.2.1]⟩
    · obtain ⟨mb, hmb⟩ : ∃ mb : Nat, I 2029 u = mb := ⟨(I 2029 u).toNat, by have := q.2.2.2.2.2.1; omega⟩
      have hmb' : I' 2225 u = mb := by rw [← q.1.2.2.1]; exact hmb
      have mlt : mb < mm := by have w := q.2.2.2.2.2.1.2.2; have w2 := s1.2.1.1.2.2.2.2.1; omega
      obtain ⟨o, p, nn, nd, ⟨o1, o2, o3⟩, _, _, ⟨d1, d2, _⟩, _⟩ := s1.2.2.2.2.2.2.1 mb mlt
      exact ⟨I 2030 u - nd, fun P => by rw [c0, b33_29, if_neg (by decide), if_pos (by decide), b33_82 hL (by omega) (by omega) (by rw [tn0, hmb]; omega) (by rw [tn0, hmb]; omega) (by rw [tn0, hmb, tn0, o1]; omega) (by rw [tn0, hmb, tn0, o1]; exact o3), tn0, hmb, tn0, o1, d1], fun P => by rw [t0, b467_23, if_neg (by decide), if_pos (by decide), b467_75 hL' (by omega) (by omega) hV (by rw [tn0, hmb']; omega) (by rw [tn0, hmb']; omega), tn0, hmb', tn0, hX, d2, q.1.2.2.2.1]⟩
    · exact ⟨I 2028 u, fun P => by rw [c0, b33_29, if_neg (by decide), if_neg (by decide), if_pos (by decide), b33_110 hL (by omega) (by omega), tn0], fun P => by rw [t0, b467_23, if_neg (by decide), if_neg (by decide), if_pos (by decide), b467_97 hL' (by omega) (by omega), tn0, q.1.2.1]⟩
    · exact ⟨16 + 8 * I 2028 u, fun P => by rw [c0, b33_29, if_neg (by decide), if_neg (by decide), if_neg (by decide), if_pos (by decide), b33_120 hL (by omega) (by omega), tn0], fun P => by rw [t0, b467_23, if_neg (by decide), if_neg (by decide), if_neg (by decide), if_pos (by decide), b467_104 hL' (by omega) (by omega), tn0, q.1.2.1]⟩
    · exact ⟨I 2031 u, fun P => by rw [c0, b33_29, if_neg (by decide), if_neg (by decide), if_neg (by decide), if_neg (by decide), if_pos (by decide), b33_136 hL (by omega) (by omega), tn0], fun P => by rw [t0, b467_23, if_neg (by decide), if_neg (by decide), if_neg (by decide), if_neg (by decide), if_pos (by decide), b467_117 hL' (by omega) (by omega), tn0, q.1.2.2.2.2.1]⟩
    · exact ⟨I 2032 u, fun P => by rw [c0, b33_29, if_neg (by decide), if_neg (by decide), if_neg (by decide), if_neg (by decide), if_neg (by decide), if_pos (by decide), b33_146 hL (by omega) (by omega), tn0], fun P => by rw [t0, b467_23, if_neg (by decide), if_neg (by decide), if_neg (by decide), if_neg (by decide), if_neg (by decide), if_pos (by decide), b467_124 hL' (by omega) (by omega), tn0, q.1.2.2.2.2.2.1]⟩
    · exact ⟨I 1985 u, fun P => by rw [c0, b33_29, if_neg (by decide), if_neg (by decide), if_neg (by decide), if_neg (by decide), if_neg (by decide), if_neg (by decide), if_pos (by decide), b33_156 hL (by omega) (by omega), tn0], fun P => by rw [t0, b467_23, if_neg (by decide), if_neg (by decide), if_neg (by decide), if_neg (by decide), if_neg (by decide), if_neg (by decide), if_pos (by decide), b467_131 hL' (by omega) (by omega), tn0, q.1.2.2.2.2.2.2]⟩
    · have w : w32 b = b := w32_id hb2.1 hb2.2
      exact ⟨-1, fun P => by rw [c0, b33_29, w, if_neg (show ¬ b = 0 by omega), if_neg (show ¬ b = 1 by omega), if_neg (show ¬ b = 2 by omega), if_neg (show ¬ b = 3 by omega), if_neg (show ¬ b = 4 by omega), if_neg (show ¬ b = 5 by omega), if_neg (show ¬ b = 6 by omega), b33_166], fun P => by rw [t0, b467_23, w, if_neg (show ¬ b = 0 by omega), if_neg (show ¬ b = 1 by omega), if_neg (show ¬ b = 2 by omega), if_neg (show ¬ b = 3 by omega), if_neg (show ¬ b = 4 by omega), if_neg (show ¬ b = 5 by omega), if_neg (show ¬ b = 6 by omega), b467_138]⟩
  · refine ⟨-1, fun P => ?_, fun P => ?_⟩
    · rw [b33_0 hL, hi, if_neg (by decide), b33_10 hL, a1, c_in ha in0 hp, if_neg z]
      simp only [vWC_s, Nat.reduceAdd]
      rw [b33_24, if_neg (by decide), b33_27]
    · rw [b467_0 hL', if_neg (by rw [w32_id (by omega) (by omega)]; omega), b467_7 hL', a2, t_in ha in0 hp, if_neg z]
      simp only [vWC_s, Nat.reduceAdd]
      rw [b467_18, if_neg (by decide), b467_21]
end
