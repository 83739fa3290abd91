/-! ===== locks of threads: how often each is in a thread's rows ===== -/
def cj (row : Nat → Int) (l : Int) (o : Nat) : Nat → Int
  | 0 => 0
  | j + 1 => cj row l o j + (if row (o + j) = l then 1 else 0)
def ca (row lk : Nat → Int) (l : Int) (t : Nat) : Nat → Int
  | 0 => 0
  | k + 1 => ca row lk l t k + cj row l ((40 * t + k) * 12) (lk (40 * t + k)).toNat
theorem cj_nn (row : Nat → Int) (l : Int) (o : Nat) : ∀ j : Nat, 0 ≤ cj row l o j ∧ cj row l o j ≤ j := by
  intro j
  induction j with
  | zero => exact ⟨Int.le_refl _, Int.le_refl _⟩
  | succ j ih => unfold cj; split <;> omega
theorem ca_nn (row lk : Nat → Int) (l : Int) (t : Nat) : ∀ k : Nat, 0 ≤ ca row lk l t k := by
  intro k
  induction k with
  | zero => exact Int.le_refl _
  | succ k ih => unfold ca; have := cj_nn row l ((40 * t + k) * 12) (lk (40 * t + k)).toNat; omega
theorem cj_congr {row row' : Nat → Int} {l : Int} {o : Nat} : ∀ {j : Nat}, (∀ i, i < j → row' (o + i) = row (o + i)) → cj row' l o j = cj row l o j := by
  intro j
  induction j with
  | zero => intro _; rfl
  | succ j ih => intro h; unfold cj; rw [h j (by omega), ih (fun i hi => h i (by omega))]
theorem ca_congr {row row' lk lk' : Nat → Int} {l : Int} {t : Nat} : ∀ {A : Nat}, (∀ k, k < A → lk' (40 * t + k) = lk (40 * t + k) ∧ ∀ j, j < (lk (40 * t + k)).toNat → row' ((40 * t + k) * 12 + j) = row ((40 * t + k) * 12 + j)) → ca row' lk' l t A = ca row lk l t A := by
  intro A
  induction A with
  | zero => intro _; rfl
  | succ A ih =>
    intro h
    unfold ca
    rw [ih (fun k hk => h k (by omega)), (h A (by omega)).1, cj_congr (h A (by omega)).2]
/-- one more in the innermost row -/
theorem ca_push {row row' lk lk' : Nat → Int} {l x : Int} {t A kk : Nat} (hk : lk (40 * t + A) = kk) (hl : ∀ a, lk' a = if a = 40 * t + A then (kk : Int) + 1 else lk a) (hr : ∀ p, row' p = if p = (40 * t + A) * 12 + kk then x else row p) (hb : ∀ k, k < A → lk (40 * t + k) ≤ 12) : ca row' lk' l t (A + 1) = ca row lk l t (A + 1) + (if x = l then 1 else 0) := by
  unfold ca
  rw [hl, if_pos rfl, hk, show ((kk : Int) + 1).toNat = kk + 1 by omega, tn0]
  rw [ca_congr (row := row) (lk := lk) (fun k hk => ⟨by rw [hl, if_neg (by omega)], fun j hj => by
    have := hb k hk
    rw [hr, if_neg (by omega)]⟩)]
  have : cj row' l ((40 * t + A) * 12) (kk + 1) = cj row' l ((40 * t + A) * 12) kk + (if row' ((40 * t + A) * 12 + kk) = l then 1 else 0) := rfl
  rw [this, hr, if_pos rfl, cj_congr (row := row) (fun i hi => by rw [hr, if_neg (by omega)])]
  omega
/-- one less -/
theorem ca_pop {row lk lk' : Nat → Int} {l : Int} {t A kk : Nat} (hk : lk (40 * t + A) = (kk : Int) + 1) (hl : ∀ a, lk' a = if a = 40 * t + A then (kk : Int) else lk a) : ca row lk l t (A + 1) = ca row lk' l t (A + 1) + (if row ((40 * t + A) * 12 + kk) = l then 1 else 0) := by
  unfold ca
  rw [hl, if_pos rfl, hk, show ((kk : Int) + 1).toNat = kk + 1 by omega, tn0]
  rw [ca_congr (row := row) (lk := lk) (lk' := lk') (fun k hk => ⟨by rw [hl, if_neg (by omega)], fun j hj => rfl⟩)]
  have : cj row l ((40 * t + A) * 12) (kk + 1) = cj row l ((40 * t + A) * 12) kk + (if row ((40 * t + A) * 12 + kk) = l then 1 else 0) := rfl
  rw [this]
  omega
/-- the house's rows of locks, and how often each lock is had; o: one that is owed -/
def lkM (I : vJ) (u A : Nat) (o : Int) : Prop := (∀ k, k < A → (0 ≤ I 2012 (40 * u + k) ∧ I 2012 (40 * u + k) ≤ 11) ∧ ∀ j, j < (I 2012 (40 * u + k)).toNat → 0 ≤ I 2013 ((40 * u + k) * 12 + j) ∧ I 2013 ((40 * u + k) * 12 + j) < 8) ∧ ∀ l : Nat, l < 8 → (I 2017 l = u → I 2018 l = ca (I 2013) (I 2012) l u A + (if (l : Int) = o then 1 else 0)) ∧ (I 2017 l ≠ u → ca (I 2013) (I 2012) l u A = 0 ∧ (l : Int) ≠ o)
/-- rows of locks in both houses: a thread that was woken has its lock in the house alone -/
def thL (I I' : vJ) (u A : Nat) : Prop := ∀ k, k < A → I' 2204 (40 * u + k) = I 42 (I 2007 (40 * u + k)).toNat ∧ (∀ j : Nat, (j : Int) < I' 2204 (40 * u + k) → I 2013 ((40 * u + k) * 12 + j) = I' 2210 (12 * (40 * u + k) + j)) ∧ (¬ (k + 1 = A ∧ I 2005 u = 1 ∧ I 38 (I 2007 (40 * u + k)).toNat = 12) → I 2012 (40 * u + k) = I' 2204 (40 * u + k)) ∧ (k + 1 = A ∧ I 2005 u = 1 ∧ I 38 (I 2007 (40 * u + k)).toNat = 12 → I 2012 (40 * u + k) = I' 2204 (40 * u + k) + 1 ∧ I 2013 ((40 * u + k) * 12 + (I' 2204 (40 * u + k)).toNat) = I 1997 u)
/-- all that locks have to do with threads; t goes -/
def LZ (I I' : vJ) (th t : Nat) (o : Int) : Prop := tH I I' th ∧ lQ I I' th ∧ lR I I' ∧ ∀ u, u < th → ∃ A : Nat, (I 1995 u = A ∧ I' 2186 u = A ∧ A ≤ 40) ∧ lkM I u A (if u = t then o else -1) ∧ (I 1996 u = 1 → 0 < A ∧ I 2005 u = 0 ∧ I 38 (I 2007 (40 * u + (A - 1))).toNat = 12 ∧ I 42 (I 2007 (40 * u + (A - 1))).toNat ≤ 10 ∧ 0 ≤ I 42 (I 2007 (40 * u + (A - 1))).toNat) ∧ (u ≠ t → thL I I' u A)
theorem LZ_lets {I I' J J' : vJ} {th t l : Nat} {N : Int} (h : LZ I I' th t l) (hl : l < 8) (ht : t < th) (hst : I 1996 t = 0) (hT : tH J J' th) (hQ : lQ J J' th) (hR : lR J J') (hO : lO I J I' J' l th N) : LZ J J' th t (-1) := by
  obtain ⟨h1, h2, h3, h4⟩ := h
  obtain ⟨o1, o2, o3, o4⟩ := hO
  have r1995 := fr_row o1 1995 (fun _ => rfl)
  have r2186 := fr_row o2 2186 (fun _ => rfl)
  have r2007 := fr_row o1 2007 (fun _ => rfl)
  have r38 := fr_row o1 38 (fun _ => rfl)
  have r42 := fr_row o1 42 (fun _ => rfl)
  have r1997 := fr_row o1 1997 (fun _ => rfl)
  have r2204 := fr_row o2 2204 (fun _ => rfl)
  have r2210 := fr_row o2 2210 (fun _ => rfl)
  obtain ⟨At, at1, at2, at3, at4⟩ := h4 t ht
  rw [if_pos rfl] at at2
  have own : I 2017 l = t := by
    apply Classical.byContradiction
    intro z
    exact ((at2.2 l hl).2 z).2 rfl
  have ct := (at2.2 l hl).1 own
  rw [if_pos rfl] at ct
  have cnn := ca_nn (I 2013) (I 2012) l t At
  refine ⟨hT, hQ, hR, fun u hu => ?_⟩
  obtain ⟨A, a1, a2, a3, a4⟩ := h4 u hu
  refine ⟨A, by rw [r1995, r2186]; exact a1, ?_, ?_, ?_⟩
  · -- the rows of u
    have hneg : (if u = t then (-1 : Int) else -1) = -1 := by split <;> rfl
    rw [hneg]
    rcases o3 with ⟨b1, b2, b3, b4, b5, b6, _, _, _, _, b7⟩ | ⟨v, a, k, v1, v2, v3, v4, v5, v6, v7, v8, v9, v10⟩
    · refine ⟨by rw [b5, b6]; exact a2.1, fun l' hl' => ?_⟩
      rw [b5, b6]
      have w := a2.2 l' hl'
      by_cases z : l' = l
      · subst z
        by_cases zu : u = t
        · subst zu
          have eA : A = At := by omega
          subst eA
          rcases b7 with ⟨c1, c2, c3⟩ | ⟨c1, c2, c3⟩
          · exact ⟨fun _ => by rw [c2, ct, if_neg (by omega)]; omega, fun q => absurd (c1.trans own) q⟩
          · exact ⟨fun q => by omega, fun _ => ⟨by omega, by omega⟩⟩
        · have nu : I 2017 l' ≠ u := by omega
          have w2 := w.2 nu
          rcases b7 with ⟨c1, c2, c3⟩ | ⟨c1, c2, c3⟩
          · exact ⟨fun q => absurd (c1.symm.trans q) nu, fun _ => ⟨w2.1, by omega⟩⟩
          · exact ⟨fun q => by omega, fun _ => ⟨w2.1, by omega⟩⟩
      · have e := o4 l' z
        rw [e.1, e.2]
        have n1 : ¬ (l' : Int) = l := by omega
        have n2 : ¬ (l' : Int) = -1 := by omega
        have n3 : ¬ (l' : Int) = (if u = t then (l : Int) else -1) := by split <;> assumption
        rw [if_neg n3] at w
        rw [if_neg n2]
        exact ⟨w.1, fun q => ⟨(w.2 q).1, n2⟩⟩
    · have vt : v ≠ t := by
        intro e; subst e
        have := v2.1
        omega
      obtain ⟨Av, av1, av2, av3, av4⟩ := h4 v v1
      rw [if_neg vt] at av2
      have av5 := av3 v2.1
      have av6 := av4 vt (Av - 1) (by omega)
      have ea : a = 40 * v + (Av - 1) := by omega
      have hk11 : k ≤ 10 := by
        have := av6.2.2.1 (fun q => by have := q.2.1; omega)
        rw [← ea] at this
        rw [← ea] at av6 av5
        omega
      by_cases zu : u = v
      · subst zu
        have eA : A = Av := by omega
        subst eA
        obtain ⟨A', hA'⟩ : ∃ A', A = A' + 1 := ⟨A - 1, by omega⟩
        have ea' : a = 40 * u + A' := by omega
        have push : ∀ x : Int, ca (J 2013) (J 2012) x u A = ca (I 2013) (I 2012) x u A + (if (l : Int) = x then 1 else 0) := by
          intro x
          rw [hA']
          refine ca_push (kk := k) (by rw [← ea']; exact v4) (by rw [← ea']; exact v6) (by rw [← ea']; exact v7) (fun j hj => ?_)
          have := (av2.1 j (by omega)).1
          omega
        refine ⟨fun j hj => ?_, fun l' hl' => ?_⟩
        · have w := av2.1 j hj
          rw [v6]
          by_cases z : 40 * u + j = a
          · rw [if_pos z]
            refine ⟨by omega, fun i hi => ?_⟩
            rw [v7]
            by_cases z2 : (40 * u + j) * 12 + i = a * 12 + k
            · rw [if_pos z2]; omega
            · rw [if_neg z2]
              refine w.2 i ?_
              rw [z, v4]
              omega
          · rw [if_neg z]
            refine ⟨w.1, fun i hi => ?_⟩
            rw [v7, if_neg (by omega)]
            exact w.2 i hi
        · have w := av2.2 l' hl'
          rw [push]
          by_cases z : l' = l
          · subst z
            have := (w.2 (by omega)).1
            exact ⟨fun _ => by rw [this, v9, if_pos rfl, if_neg (by omega)]; omega, fun q => absurd v8 q⟩
          · have e := o4 l' z
            rw [e.1, e.2, if_neg (show ¬ (l : Int) = l' by omega)]
            exact ⟨fun q => by rw [w.1 q]; omega, fun q => ⟨by have := (w.2 q).1; omega, (w.2 q).2⟩⟩
      · have same : ∀ x : Int, ca (J 2013) (J 2012) x u A = ca (I 2013) (I 2012) x u A := fun x => ca_congr (fun j hj => ⟨by rw [v6, if_neg (by omega)], fun i hi => by
          have := (a2.1 j hj).1
          rw [v7, if_neg (by omega)]⟩)
        refine ⟨fun j hj => ?_, fun l' hl' => ?_⟩
        · have w := a2.1 j hj
          rw [v6, if_neg (by omega)]
          refine ⟨w.1, fun i hi => ?_⟩
          rw [v7, if_neg (by omega)]
          exact w.2 i hi
        · have w := a2.2 l' hl'
          rw [same]
          by_cases z : l' = l
          · subst z
            refine ⟨fun q => by omega, fun _ => ⟨?_, by omega⟩⟩
            by_cases z3 : u = t
            · subst z3
              have eA : A = At := by omega
              subst eA
              omega
            · exact (w.2 (by omega)).1
          · have e := o4 l' z
            rw [e.1, e.2]
            have n2 : ¬ (l' : Int) = -1 := by omega
            have n3 : ¬ (l' : Int) = (if u = t then (l : Int) else -1) := by split <;> omega
            rw [if_neg n3] at w
            rw [if_neg n2]
            exact ⟨w.1, fun q => ⟨(w.2 q).1, n2⟩⟩
  · intro q
    rw [r2007, r38, r42]
    rcases o3 with ⟨b1, b2, b3, b4, b5, b6, _, _, _, _, b7⟩ | ⟨v, a, k, v1, v2, v3, v4, v5, v6, v7, v8, v9, v10⟩
    · rw [b1] at q
      rw [b2]
      exact a3 q
    · rw [v5.1] at q
      rw [v5.2.1]
      by_cases z : u = v
      · rw [if_pos z] at q; omega
      · rw [if_neg z] at q
        rw [if_neg z]
        exact a3 q
  · intro ut
    have w0 := a4 ut
    intro k hk
    have w := w0 k hk
    rw [r2204, r2210, r2007, r38, r42, r1997]
    rcases o3 with ⟨b1, b2, b3, b4, b5, b6, _, _, _, _, b7⟩ | ⟨v, a, kk, v1, v2, v3, v4, v5, v6, v7, v8, v9, v10⟩
    · rw [b2, b5, b6]; exact w
    · by_cases z : u = v
      · subst z
        have a5 := a3 v2.1
        have ea : a = 40 * u + (A - 1) := by omega
        by_cases y : k = A - 1
        · subst y
          rw [← ea] at w a5 ⊢
          have q0 := w.2.2.1 (fun q => by have := q.2.1; omega)
          refine ⟨w.1, fun j hj => ?_, fun q => ?_, fun q => ?_⟩
          · rw [v7, if_neg (by omega)]; exact w.2.1 j hj
          · exact absurd ⟨by omega, by rw [v5.2.1, if_pos rfl], a5.2.2.1⟩ q
          · refine ⟨by rw [v6, if_pos rfl]; omega, ?_⟩
            rw [v7, if_pos (by omega), v2.2]
        · refine ⟨w.1, fun j hj => ?_, fun q => ?_, fun q => absurd q.1 (by omega)⟩
          · have w1 := w.2.2.1 (fun q => by have := q.1; omega)
            have := (a2.1 k hk).1
            rw [v7, if_neg (by omega)]; exact w.2.1 j hj
          · rw [v6, if_neg (by omega)]
            exact w.2.2.1 (fun z => by have := z.1; omega)
      · have fa : a = 40 * v + ((I 1995 v).toNat - 1) ∧ 0 < (I 1995 v).toNat ∧ (I 1995 v).toNat ≤ 40 ∧ kk < 12 := by
          obtain ⟨Av, av1, av2, av3, av4⟩ := h4 v v1
          have av5 := av3 v2.1
          have e2 : a = 40 * v + (Av - 1) := by omega
          have := (av2.1 (Av - 1) (by omega)).1
          rw [← e2] at this
          omega
        rw [v5.2.1, if_neg z, v6, if_neg (by omega)]
        have bd := (a2.1 k hk).1
        refine ⟨w.1, fun j hj => ?_, w.2.2.1, fun q => ⟨(w.2.2.2 q).1, ?_⟩⟩
        · have : (j : Int) < 12 := by
            by_cases z3 : k + 1 = A ∧ I 2005 u = 1 ∧ I 38 (I 2007 (40 * u + k)).toNat = 12
            · have := (w.2.2.2 z3).1; omega
            · have := w.2.2.1 z3; omega
          rw [v7, if_neg (by omega)]; exact w.2.1 j hj
        · have w1 := (w.2.2.2 q).1
          rw [v7, if_neg (by omega)]
          exact (w.2.2.2 q).2
