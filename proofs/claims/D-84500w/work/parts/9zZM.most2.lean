/-! ===== most: the model sorts; the pair of calls ===== -/
set_option maxRecDepth 20000
set_option maxHeartbeats 4000000
theorem sW_swap {f g : Nat → Int} {p q : Nat} (c : Nat) (hp : p < c) (hq : q < c) (pq : p ≠ q) (h1 : g p = f q) (h2 : g q = f p) (h3 : ∀ i, i < c → i ≠ p → i ≠ q → g i = f i) : sW g c = sW f c := by
  have a : sW (fun i => if i = p then g p else f i) c = sW f c + (g p - f p) := sW_one c hp (fun i _ hi => if_neg hi) (by show (if p = p then g p else f p) = _; rw [if_pos rfl]; omega)
  have b : sW g c = sW (fun i => if i = p then g p else f i) c + (g q - f q) := by
    refine sW_one c hq (fun i hi iq => ?_) ?_
    · show g i = if i = p then g p else f i
      by_cases z : i = p
      · rw [if_pos z, z]
      · rw [if_neg z]; exact h3 i hi z iq
    · show g q = (if q = p then g p else f q) + (g q - f q)
      rw [if_neg (fun z => pq z.symm)]; omega
  omega
theorem sW_two {f : Nat → Int} {p q : Nat} (c : Nat) (hp : p < c) (hq : q < c) (pq : p ≠ q) (h0 : ∀ i, i < c → 0 ≤ f i) (h1 : f p = 1) (h2 : f q = 1) : 2 ≤ sW f c := by
  have z : sW (fun _ => (0 : Int)) c = 0 := sW_zero c (fun _ _ => rfl)
  have a : sW (fun i => if i = p then (1 : Int) else 0) c = sW (fun _ => (0 : Int)) c + 1 := sW_one c hp (fun i _ hi => if_neg hi) (by show (if p = p then (1 : Int) else 0) = _; rw [if_pos rfl]; rfl)
  have b : sW (fun i => if i = p then (1 : Int) else if i = q then 1 else 0) c = sW (fun i => if i = p then (1 : Int) else 0) c + 1 := by
    refine sW_one c hq (fun i _ hi => ?_) ?_
    · show (if i = p then (1 : Int) else if i = q then 1 else 0) = if i = p then 1 else 0
      rw [if_neg hi]
    · show (if q = p then (1 : Int) else if q = q then 1 else 0) = (if q = p then 1 else 0) + 1
      have qp : ¬ q = p := fun w => pq w.symm
      rw [if_neg qp, if_neg qp, if_pos rfl]; rfl
  have l : sW (fun i => if i = p then (1 : Int) else if i = q then 1 else 0) c ≤ sW f c := sW_le c (fun i hi => by
    show (if i = p then (1 : Int) else if i = q then 1 else 0) ≤ f i
    by_cases y : i = p
    · rw [if_pos y, y, h1]; exact Int.le_refl _
    · rw [if_neg y]
      by_cases w : i = q
      · rw [if_pos w, w, h2]; exact Int.le_refl _
      · rw [if_neg w]; exact h0 i hi)
  omega
theorem sW_lt (x : Nat) : ∀ c, x ≤ c → sW (fun i => if i < x then (1 : Int) else 0) c = x := by
  intro c
  induction c with
  | zero => intro h; have : x = 0 := by omega
            subst this; rfl
  | succ c ih =>
    intro h
    show sW (fun i => if i < x then (1 : Int) else 0) c + (if c < x then 1 else 0) = x
    by_cases z : x = c + 1
    · rw [if_pos (by omega)]
      have : sW (fun i => if i < x then (1 : Int) else 0) c = sW (fun i => if i < c then (1 : Int) else 0) c := sW_congr c (fun j hj => by
        show (if j < x then (1 : Int) else 0) = if j < c then 1 else 0
        rw [if_pos (by omega), if_pos hj])
      rw [this]
      have e : ∀ k, sW (fun i => if i < c then (1 : Int) else 0) k = if k ≤ c then (k : Int) else c := by
        intro k
        induction k with
        | zero => rw [if_pos (by omega)]; rfl
        | succ k ih2 =>
          show sW (fun i => if i < c then (1 : Int) else 0) k + (if k < c then 1 else 0) = _
          rw [ih2]
          split <;> split <;> split <;> omega
      rw [e, if_pos (Nat.le_refl _)]; omega
    · rw [ih (by omega), if_neg (by omega)]; omega
/-- what stands in the model's row: the entries of a member, each once -/
def enR (M : Nat → Int) (m : Int) (n : Nat) (a : Nat → Int) (c : Nat) : Prop := (∀ i, i < c → ∃ k : Nat, a i = k ∧ k < n ∧ M k = m) ∧ ∀ f : Nat → Int, sW (fun i => f (a i).toNat) c = sW (fun k => if M k = m then f k else 0) n
theorem en_cnt {M : Nat → Int} {m : Int} {n c : Nat} {a : Nat → Int} (h : enR M m n a c) : cnN M m n = c := by
  have e := h.2 (fun _ => 1)
  have z : sW (fun i => if i < c then (1 : Int) else 0) c = sW (fun _ => (1 : Int)) c := sW_congr c (fun j hj => if_pos hj)
  rw [sW_lt c c (Nat.le_refl _)] at z
  unfold cnN
  rw [← e]
  exact z.symm
/-- where one stands in the sorted row, so many stand ahead of it -/
theorem en_rank {M T X : Nat → Int} {m : Int} {n c x : Nat} {a : Nat → Int} (h : enR M m n a c) (hd : ∀ i i', i < n → i' < n → M i = m → M i' = m → X i = X i' → i = i') (hs : ∀ i i', i < i' → i' < c → ¬ prc T X (a i').toNat (a i).toNat) (hx : x < c) : ∃ j : Nat, a x = j ∧ j < n ∧ M j = m ∧ rkN M T X m n j = x := by
  obtain ⟨j, j1, j2, j3⟩ := h.1 x hx
  refine ⟨j, j1, j2, j3, ?_⟩
  have e := h.2 (fun k => if prc T X k j then 1 else 0)
  have e1 : rkN M T X m n j = sW (fun k => if M k = m then (if prc T X k j then (1 : Int) else 0) else 0) n := sW_congr n (fun k hk => by
    show (if M k = m ∧ prc T X k j then (1 : Int) else 0) = if M k = m then (if prc T X k j then 1 else 0) else 0
    by_cases z : M k = m
    · rw [if_pos z]; simp only [z, true_and]
    · rw [if_neg z, if_neg (fun q => z q.1)])
  rw [e1, ← e, ← sW_lt x c (by omega)]
  refine sW_congr c (fun i hi => ?_)
  show (if prc T X (a i).toNat j then (1 : Int) else 0) = if i < x then 1 else 0
  obtain ⟨k, k1, k2, k3⟩ := h.1 i hi
  rw [k1, tn0]
  by_cases z : i < x
  · rw [if_pos z, if_pos]
    have q := hs i x z hx
    rw [j1, k1, tn0, tn0] at q
    have kj : k ≠ j := fun w => by
      have t := h.2 (fun k' => if k' = j then 1 else 0)
      have t1 : 2 ≤ sW (fun i => (fun k' => if k' = j then (1 : Int) else 0) (a i).toNat) c := sW_two (p := i) (q := x) c hi hx (by omega) (fun i' _ => by
        show 0 ≤ if (a i').toNat = j then (1 : Int) else 0
        split <;> decide) (by show (if (a i).toNat = j then (1 : Int) else 0) = 1; rw [k1, tn0, if_pos w]) (by show (if (a x).toNat = j then (1 : Int) else 0) = 1; rw [j1, tn0, if_pos rfl])
      have t2 : sW (fun k' => if M k' = m then (fun k' => if k' = j then (1 : Int) else 0) k' else 0) n = sW (fun _ => (0 : Int)) n + 1 := sW_one n j2 (fun i' _ hi' => by
        show (if M i' = m then (if i' = j then (1 : Int) else 0) else 0) = 0
        rw [if_neg hi']; split <;> rfl) (by
        show (if M j = m then (if j = j then (1 : Int) else 0) else 0) = 0 + 1
        rw [if_pos j3, if_pos rfl]; rfl)
      rw [sW_zero n (fun _ _ => rfl)] at t2
      exact absurd (Int.le_trans t1 (Int.le_of_eq (t.trans t2))) (by decide)
    have xx : X k ≠ X j := fun w => kj (hd k j k2 j2 k3 j3 w)
    unfold prc at *
    omega
  · rw [if_neg z, if_neg]
    by_cases y : i = x
    · subst y
      have : k = j := by omega
      subst this
      unfold prc; omega
    · have q := hs x i (by omega) hi
      rw [j1, k1, tn0, tn0] at q
      exact q
/-- the entries of the model's table -/
def entT (I : vJ) (n : Nat) : Prop := I 2075 7818 = n ∧ n ≤ 24000 ∧ ∀ j, j < n → (0 ≤ I 2255 j ∧ I 2255 j < 24) ∧ (0 ≤ I 2256 j ∧ I 2256 j < 2000000) ∧ 1 ≤ I 2257 j ∧ I 2257 j < 2147483647
section
variable {d : Nat} {Y : vY} {I : vJ} {P : vE → Prop} {m n : Nat}
theorem t_prc {J : vJ} {a b : Nat} (hL : vL Y) (hE : entT I n) (F : fr [2259] [] I J) (ha : a < n) (hb : b < n) : vW d 462 (0, [vr 2075, vi a, vi b], [], (J, Y)) P ↔ P (.inl (some (vi (if prc (I 2257) (I 2256) a b then 1 else 0))), (J, Y)) := by
  obtain ⟨_, u2, u3⟩ := hE
  obtain ⟨_, a2, a3⟩ := u3 a ha
  obtain ⟨_, b2, b3⟩ := u3 b hb
  rw [m462_0 hL (by omega) (by omega) (by omega) (by omega), tn0, tn0, fr_row F 2256 (fun _ => rfl), fr_row F 2257 (fun _ => rfl), w32_id (x := I 2257 a) (by omega) (by omega), w32_id (x := I 2257 b) (by omega) (by omega), w32_id (x := I 2256 a) (by omega) (by omega), w32_id (x := I 2256 b) (by omega) (by omega)]
  have e : (I 2257 a = I 2257 b ∧ ¬ I 2256 b ≤ I 2256 a ∨ ¬ I 2257 a = I 2257 b ∧ ¬ I 2257 a ≤ I 2257 b) ↔ prc (I 2257) (I 2256) a b := by
    unfold prc; omega
  simp only [e]
  rw [b462_58 (by split; exact Or.inr rfl; exact Or.inl rfl)]
/-- one is put where it belongs, going down by a gap -/
theorem t_inner {x2 : Int} {g x5 c v : Nat} (hL : vL Y) (hE : entT I n) (hg : 1 ≤ g) (g2 : g ≤ 24000) (h5 : x5 < c) (hc : c ≤ 24000) (hv : v < n)
    (hQ : ∀ (J : vJ) (j : Nat), fr [2259] [] I J → enR (I 2255) m n (J 2259) c → (g = 1 → ∀ i i', i < i' → i' ≤ x5 → ¬ prc (I 2257) (I 2256) (J 2259 i').toNat (J 2259 i).toNat) → vW (d + 1) 461 (87, [vr 2075, vi m, vi x2, vi c, vi g, vi ((x5 : Int) + 1), vi v, vi j], [], (J, Y)) P) :
    ∀ (s j : Nat) (J : vJ), j ≤ s → j ≤ x5 → fr [2259] [] I J → enR (I 2255) m n (up J 2259 j v 2259) c → (g = 1 → (∀ i i', i < i' → i' ≤ x5 → i ≠ j → i' ≠ j → ¬ prc (I 2257) (I 2256) (J 2259 i').toNat (J 2259 i).toNat) ∧ ∀ i', j < i' → i' ≤ x5 → prc (I 2257) (I 2256) v (J 2259 i').toNat) → vW (d + 1) 461 (106, [vr 2075, vi m, vi x2, vi c, vi g, vi x5, vi v, vi j], [], (J, Y)) P := by
  intro s
  induction s with
  | zero =>
    intro j J hs hj F hN hS
    have j0 : j = 0 := by omega
    subst j0
    rw [b461_106, if_pos (by rw [w32_id (by omega) (by omega), w32_id (by omega) (by omega)]; omega), b461_159 hL (by omega) (by omega), tn0]
    refine hQ _ 0 (fr_upL F rfl _ _) hN (fun g1 i i' h1 h2 => ?_)
    obtain ⟨a, b⟩ := hS g1
    rw [up_at, up_at, if_neg (show ¬ i' = 0 by omega)]
    by_cases z : i = 0
    · have w := b i' (by omega) h2
      rw [if_pos z, tn0]
      unfold prc at *
      omega
    · rw [if_neg z]; exact a i i' h1 h2 z (by omega)
  | succ s ih =>
    intro j J hs hj F hN hS
    have tj : w32 (j : Int) < w32 (g : Int) ↔ j < g := by
      rw [w32_id (by omega) (by omega), w32_id (by omega) (by omega)]; omega
    have fin : (j < g ∨ ¬ prc (I 2257) (I 2256) v (J 2259 (j - g)).toNat) → vW (d + 1) 461 (159, [vr 2075, vi m, vi x2, vi c, vi g, vi x5, vi v, vi j], [], (J, Y)) P := fun hx => by
      rw [b461_159 hL (by omega) (by omega), tn0]
      refine hQ _ j (fr_upL F rfl _ _) hN (fun g1 i i' h1 h2 => ?_)
      obtain ⟨a, b⟩ := hS g1
      rw [up_at, up_at]
      by_cases z : i = j
      · have w := b i' (by omega) h2
        rw [if_pos z, if_neg (by omega), tn0]
        unfold prc at *
        omega
      · rw [if_neg z]
        by_cases y : i' = j
        · rw [if_pos y, tn0]
          rcases hx with hx | hx
          · omega
          · rw [g1] at hx
            by_cases t : i = j - 1
            · rw [t]; exact hx
            · have w := a i (j - 1) (by omega) (by omega) z (by omega)
              unfold prc at *
              omega
        · rw [if_neg y]; exact a i i' h1 h2 z y
    by_cases z : j < g
    · rw [b461_106, if_pos (tj.mpr z)]
      exact fin (Or.inl z)
    · have e : (j : Int) - (g : Int) = ((j - g : Nat) : Int) := by omega
      obtain ⟨k, k1, k2, k3⟩ := hN.1 (j - g) (by omega)
      rw [up_at, if_neg (show ¬ j - g = j by omega)] at k1
      rw [b461_106, if_neg (fun q => z (tj.mp q)), b461_113 hL (by omega) (by omega), e, tn0, k1, t_prc hL hE F hv k2]
      simp only [vWC_s, Nat.reduceAdd]
      rw [b461_129]
      by_cases y : prc (I 2257) (I 2256) v k
      · rw [if_pos y, if_neg (by decide), b461_132 hL (by omega) (by omega) (by omega) (by omega), e, tn0, tn0]
        refine ih (j - g) _ (by omega) (by omega) (fr_upL F rfl _ _) ?_ (fun g1 => ?_)
        · have sw : ∀ f : Nat → Int, sW (fun i => f (up (up J 2259 j (J 2259 (j - g))) 2259 (j - g) v 2259 i).toNat) c = sW (fun i => f (up J 2259 j v 2259 i).toNat) c := fun f => by
            refine sW_swap (p := j) (q := j - g) c (by omega) (by omega) (by omega) ?_ ?_ (fun i _ i1 i2 => ?_)
            · show f (up (up J 2259 j (J 2259 (j - g))) 2259 (j - g) v 2259 j).toNat = f (up J 2259 j v 2259 (j - g)).toNat
              rw [up_at, if_neg (by omega), up_same, up_at, if_neg (by omega)]
            · show f (up (up J 2259 j (J 2259 (j - g))) 2259 (j - g) v 2259 (j - g)).toNat = f (up J 2259 j v 2259 j).toNat
              rw [up_same, up_same]
            · show f (up (up J 2259 j (J 2259 (j - g))) 2259 (j - g) v 2259 i).toNat = f (up J 2259 j v 2259 i).toNat
              rw [up_at, if_neg i2, up_at, if_neg i1, up_at, if_neg i1]
          refine ⟨fun i hi => ?_, fun f => (sw f).trans (hN.2 f)⟩
          rw [up_at]
          by_cases t : i = j - g
          · obtain ⟨q, q1, q2, q3⟩ := hN.1 j (by omega)
            rw [up_same] at q1
            rw [if_pos t]; exact ⟨q, q1, q2, q3⟩
          · rw [if_neg t, up_at]
            by_cases u : i = j
            · rw [if_pos u]; exact ⟨k, k1, k2, k3⟩
            · obtain ⟨q, q1, q2, q3⟩ := hN.1 i hi
              rw [up_at, if_neg u] at q1
              rw [if_neg u]; exact ⟨q, q1, q2, q3⟩
        · obtain ⟨a, b⟩ := hS g1
          subst g1
          refine ⟨fun i i' h1 h2 i1 i2 => ?_, fun i' h1 h2 => ?_⟩
          · rw [up_at, up_at]
            by_cases t : i' = j
            · rw [if_pos t, if_neg (by omega)]
              exact a i (j - 1) (by omega) (by omega) (by omega) (by omega)
            · rw [if_neg t]
              by_cases u : i = j
              · rw [if_pos u]
                exact a (j - 1) i' (by omega) h2 (by omega) t
              · rw [if_neg u]; exact a i i' h1 h2 u t
          · rw [up_at]
            by_cases t : i' = j
            · rw [if_pos t, k1, tn0]; exact y
            · rw [if_neg t]; exact b i' (by omega) h2
      · rw [if_neg y, if_pos (by decide)]
        exact fin (Or.inr (by rw [k1, tn0]; exact y))
/-- a pass with a gap -/
theorem t_pass {x2 : Int} {g c : Nat} (hL : vL Y) (hE : entT I n) (hg : 1 ≤ g) (g2 : g ≤ 24000) (hc : c ≤ 24000)
    (hQ : ∀ (J : vJ) (x6 x7 : vV), fr [2259] [] I J → enR (I 2255) m n (J 2259) c → (g = 1 → ∀ i i', i < i' → i' < c → ¬ prc (I 2257) (I 2256) (J 2259 i').toNat (J 2259 i).toNat) → vW (d + 1) 461 (174, [vr 2075, vi m, vi x2, vi c, vi g, vi c, x6, x7], [], (J, Y)) P) :
    ∀ (s x5 : Nat) (J : vJ) (x6 x7 : vV), x5 + s = c → 1 ≤ x5 → fr [2259] [] I J → enR (I 2255) m n (J 2259) c → (g = 1 → ∀ i i', i < i' → i' < x5 → ¬ prc (I 2257) (I 2256) (J 2259 i').toNat (J 2259 i).toNat) → vW (d + 1) 461 (87, [vr 2075, vi m, vi x2, vi c, vi g, vi x5, x6, x7], [], (J, Y)) P := by
  intro s
  induction s with
  | zero =>
    intro x5 J x6 x7 h5 h51 F hN hS
    have e : x5 = c := by omega
    subst e
    rw [b461_87, if_pos (Int.le_refl _)]
    exact hQ J x6 x7 F hN hS
  | succ s ih =>
    intro x5 J x6 x7 h5 h51 F hN hS
    obtain ⟨k, k1, k2, k3⟩ := hN.1 x5 (by omega)
    rw [b461_87, if_neg (by rw [w32_id (by omega) (by omega), w32_id (by omega) (by omega)]; omega), b461_93 hL (by omega) (by omega), tn0, k1]
    refine t_inner (d := d) (x2 := x2) (g := g) (x5 := x5) (c := c) (v := k) hL hE hg g2 (by omega) hc k2 (fun J2 j2 F2 N2 S2 => ?_) x5 x5 J (Nat.le_refl _) (Nat.le_refl _) F ?_ (fun g1 => ⟨fun i i' h1 h2 i1 i2 => hS g1 i i' h1 (by omega), fun i' h1 h2 => absurd h1 (by omega)⟩)
    · rw [show (x5 : Int) + 1 = ((x5 + 1 : Nat) : Int) by omega]
      exact ih (x5 + 1) J2 _ _ (by omega) (by omega) F2 N2 (fun g1 i i' h1 h2 => S2 g1 i i' h1 (by omega))
    · rw [← k1, up_self]; exact hN
/-- all passes -/
theorem t_gaps {c : Nat} {x : Nat} (hL : vL Y) (hE : entT I n) (hc : c ≤ 24000) (hx : x < c)
    (hQ : ∀ (J : vJ) (j : Nat), fr [2259] [] I J → enR (I 2255) m n (J 2259) c → (∀ i i', i < i' → i' < c → ¬ prc (I 2257) (I 2256) (J 2259 i').toNat (J 2259 i).toNat) → J 2259 x = j → j < n → P (.inl (some (vi (I 2256 j))), (J, Y))) :
    ∀ (s g : Nat) (J : vJ) (x5 x6 x7 : vV), g ≤ s → g ≤ c → fr [2259] [] I J → enR (I 2255) m n (J 2259) c → (g = 0 → ∀ i i', i < i' → i' < c → ¬ prc (I 2257) (I 2256) (J 2259 i').toNat (J 2259 i).toNat) → vW (d + 1) 461 (78, [vr 2075, vi m, vi x, vi c, vi g, x5, x6, x7], [], (J, Y)) P := by
  have u2 := hE.2.1
  intro s
  induction s with
  | zero =>
    intro g J x5 x6 x7 hs hg F hN hS
    have g0 : g = 0 := by omega
    subst g0
    obtain ⟨k, k1, k2, k3⟩ := hN.1 x hx
    rw [b461_78, if_pos (by decide), b461_183 hL (by omega) (by omega) (by rw [tn0, k1]; omega) (by rw [tn0, k1]; omega), tn0, k1, tn0, fr_row F 2256 (fun _ => rfl)]
    exact hQ J k F hN (hS rfl) k1 k2
  | succ s ih =>
    intro g J x5 x6 x7 hs hg F hN hS
    by_cases g0 : g = 0
    · subst g0
      obtain ⟨k, k1, k2, k3⟩ := hN.1 x hx
      rw [b461_78, if_pos (by decide), b461_183 hL (by omega) (by omega) (by rw [tn0, k1]; omega) (by rw [tn0, k1]; omega), tn0, k1, tn0, fr_row F 2256 (fun _ => rfl)]
      exact hQ J k F hN (hS rfl) k1 k2
    · rw [b461_78, if_neg (by rw [w32_id (by omega) (by omega)]; omega), b461_83]
      refine t_pass (d := d) (g := g) hL hE (by omega) (by omega) hc (fun J2 y6 y7 F2 N2 S2 => ?_) (c - g) g J x6 x7 (by omega) (by omega) F hN (fun g1 i i' h1 h2 => by omega)
      have e : (w32 (g : Int)).tdiv (w32 2) = ((g / 2 : Nat) : Int) := by
        rw [w32_id (by omega) (by omega), show w32 2 = 2 from by decide, Int.tdiv_eq_ediv_of_nonneg (by omega)]; omega
      rw [b461_174, e]
      exact ih (g / 2) J2 _ _ _ (by omega) (by omega) F2 N2 (fun g2 => S2 (by omega))
/-- the model's answer: the path with exactly x ahead of it -/
theorem t_most {x2 : Int} (hL : vL Y) (hE : entT I n) (hd : ∀ i i', i < n → i' < n → I 2255 i = m → I 2255 i' = m → I 2256 i = I 2256 i' → i = i') (hm : m < 24) (h2 : 0 ≤ x2 ∧ x2 < 2147483648)
    (hQ : ∀ (J : vJ) (v : Int), fr [2259] [] I J → (x2 < cnN (I 2255) m n → ∃ j, j < n ∧ I 2255 j = m ∧ rkN (I 2255) (I 2257) (I 2256) m n j = x2 ∧ v = I 2256 j) → (¬ x2 < cnN (I 2255) m n → v = -1) → P (.inl (some (vi v)), (J, Y))) :
    vW (d + 1) 461 (21, [vr 2075, vi m, vi x2, vu, vu, vu, vu, vu], [], (I, Y)) P := by
  have u2 := hE.2.1
  have key : ∀ (s k c : Nat) (J : vJ), k + s = n → c ≤ k → fr [2259] [] I J → enR (I 2255) m k (J 2259) c → vW (d + 1) 461 (26, [vr 2075, vi m, vi x2, vi (c : Int), vi (k : Int), vu, vu, vu], [], (J, Y)) P := by
    intro s
    induction s with
    | zero =>
      intro k c J hk hc F hN
      have ek : k = n := by omega
      subst ek
      have cc := en_cnt hN
      rw [b461_26 hL, F 2075 _ rfl, hE.1, if_pos (Int.le_refl _), b461_66, w32_id (x := x2) (by omega) (by omega), w32_id (by omega) (by omega)]
      by_cases z : x2 < (c : Int)
      · obtain ⟨x, hx⟩ : ∃ x : Nat, x2 = x := ⟨x2.toNat, by omega⟩
        subst hx
        rw [if_pos z, b461_73]
        have e : (w32 (c : Int)).tdiv (w32 2) = ((c / 2 : Nat) : Int) := by
          rw [w32_id (by omega) (by omega), show w32 2 = 2 from by decide, Int.tdiv_eq_ediv_of_nonneg (by omega)]; omega
        rw [e]
        refine t_gaps (d := d) (c := c) (x := x) hL hE (by omega) (by omega) (fun J2 j F2 N2 S2 j1 j2 => ?_) (c / 2) (c / 2) J vu vu vu (Nat.le_refl _) (by omega) F hN (fun g0 i i' h1 h2 => by omega)
        obtain ⟨j', q1, q2, q3, q4⟩ := en_rank (x := x) N2 hd S2 (by omega)
        have ej : j' = j := by omega
        subst ej
        exact hQ J2 _ F2 (fun _ => ⟨j', q2, q3, q4, rfl⟩) (fun q => absurd (by rw [cc]; exact z) q)
      · rw [if_neg z, b461_71]
        exact hQ J _ F (fun q => by rw [cc] at q; exact absurd q z) (fun _ => rfl)
    | succ s ih =>
      intro k c J hk hc F hN
      obtain ⟨a1, _⟩ := hE.2.2 k (by omega)
      rw [b461_26 hL, F 2075 _ rfl, hE.1, if_neg (by rw [w32_id (by omega) (by omega), w32_id (by omega) (by omega)]; omega), b461_35 hL (by omega) (by omega), tn0, F 2255 _ rfl, w32_id (x := I 2255 k) (by omega) (by omega), w32_id (x := (m : Int)) (by omega) (by omega)]
      have sk : ∀ f : Nat → Int, sW (fun k => if I 2255 k = m then f k else 0) (k + 1) = sW (fun k => if I 2255 k = m then f k else 0) k + (if I 2255 k = m then f k else 0) := fun f => rfl
      by_cases z : I 2255 k = m
      · rw [if_pos z, b461_49 hL (by omega) (by omega), b461_60, tn0, show (k : Int) + 1 = ((k + 1 : Nat) : Int) by omega, show (c : Int) + 1 = ((c + 1 : Nat) : Int) by omega]
        refine ih (k + 1) (c + 1) _ (by omega) (by omega) (fr_upL F rfl _ _) ⟨fun i hi => ?_, fun f => ?_⟩
        · rw [up_at]
          by_cases y : i = c
          · rw [if_pos y]; exact ⟨k, rfl, by omega, z⟩
          · obtain ⟨q, q1, q2, q3⟩ := hN.1 i (by omega)
            rw [if_neg y]; exact ⟨q, q1, by omega, q3⟩
        · rw [sk, if_pos z, ← hN.2 f]
          show sW (fun i => f (up J 2259 c k 2259 i).toNat) c + f (up J 2259 c k 2259 c).toNat = _
          rw [up_same, tn0, sW_congr c (f := fun i => f (J 2259 i).toNat) (fun j hj => by
            show f (up J 2259 c k 2259 j).toNat = f (J 2259 j).toNat
            rw [up_at, if_neg (by omega)])]
      · rw [if_neg z, b461_46, b461_60, show (k : Int) + 1 = ((k + 1 : Nat) : Int) by omega]
        refine ih (k + 1) c J (by omega) (by omega) F ⟨fun i hi => ?_, fun f => ?_⟩
        · obtain ⟨q, q1, q2, q3⟩ := hN.1 i hi
          exact ⟨q, q1, by omega, q3⟩
        · rw [sk, if_neg z, hN.2 f]; exact (Int.add_zero _).symm
  rw [b461_21]
  exact key n 0 0 I (by omega) (Nat.le_refl _) (fr_refl _ _ _) ⟨fun i hi => absurd hi (Nat.not_lt_zero _), fun f => rfl⟩
end
