/-! ===== calls ===== -/
set_option maxRecDepth 20000
section
variable {d d' : Nat} {I : vJ} {Y : vY} {Q : vE → Prop}
/-- arguments are taken from the pile -/
theorem t_take {a S p : Nat} (hL : vL Y) (ha : a < 320) (hS : I 2200 a = ((S + p : Nat) : Int)) (hb : S + p ≤ 160) (hp : p ≤ 4)
    (hQ : ∀ J : vJ, fr [2200, 2263] [] I J → (∀ b, J 2200 b = if b = a then (S : Int) else I 2200 b) → (∀ j, j < p → J 2263 j = I 2206 (160 * a + S + j)) → Q (.inl none, (J, Y))) :
    vW (d + 1) 430 (0, [vr 2075, vi a, vi p, vu], [], (I, Y)) Q := by
  have loop : ∀ (r : Nat) (J : vJ), r ≤ p → fr [2200, 2263] [] I J → (∀ b, J 2200 b = if b = a then ((S + r : Nat) : Int) else I 2200 b) → (∀ j, r ≤ j → j < p → J 2263 j = I 2206 (160 * a + S + j)) → vW (d + 1) 430 (4, [vr 2075, vi a, vi p, vi ((r : Int) - 1)], [], (J, Y)) Q := by
    intro r
    induction r with
    | zero =>
      intro J hr f1 f2 f3
      have e : ((0 : Nat) : Int) - 1 = -1 := rfl
      rw [e]
      simp (disch := (first | assumption | omega | (simp only [up_app, Nat.reduceEqDiff, false_and, and_false, true_and, and_true, if_true, if_false, Nat.add_left_cancel_iff, Nat.add_right_cancel_iff, Nat.add_eq_left, Nat.left_eq_add, tn0, tn1, tn2, tn3, tn4, tn5, tn6, tn7, tn8, tn9]; omega))) only [b430_4, b430_25, vWC_n, vWC_s, vWC_x, if01a, if01b, if_pos, if_neg, tn0, tn1, tn2, tn3, tn4, tn5, tn6, tn7, tn8, tn9, w32_id, w64_id, Nat.reduceAdd, reduceIte, Int.reduceLT, Int.reduceLE, Int.reduceEq, Int.reduceNe, Int.reduceAdd, Int.reduceSub, Int.reduceMul, Int.reduceNeg, Int.reduceToNat, ne_eq, not_true_eq_false, not_false_eq_true, true_and, and_true, false_and, and_false, true_or, or_true, false_or, or_false, if_true, if_false, and_self, or_self, ite_self]
      exact hQ J f1 f2 (fun j hj => f3 j (by omega) hj)
    | succ r ih =>
      intro J hr f1 f2 f3
      have e : ((r + 1 : Nat) : Int) - 1 = r := by omega
      rw [e, b430_4, if_neg (by rw [w32_id (by omega) (by omega)]; omega), b430_8 hL, t_pop (S := S + r) hL ha (by rw [f2, if_pos rfl]; omega) (by omega)]
      simp only [vWC_s, Nat.reduceAdd]
      rw [b430_18 hL (by omega) (by omega), show (r : Int) + -1 = (r : Int) - 1 by omega]
      simp only [tn0]
      refine ih _ (by omega) (fr_upL (fr_upL f1 rfl _ _) rfl _ _) (fun b => ?_) (fun j j1 j2 => ?_)
      · rw [up_cell _ (by decide), up_at, f2]
        by_cases z : b = a
        · rw [if_pos z, if_pos z]
        · rw [if_neg z, if_neg z, if_neg z]
      · rw [up_at]
        by_cases z : j = r
        · rw [if_pos z, f1 2206 _ rfl, z, show 160 * a + (S + r) = 160 * a + S + r by omega]
        · rw [if_neg z, up_cell _ (by decide)]; exact f3 j (by omega) j2
  rw [b430_0]
  exact loop p I (Nat.le_refl _) (fr_refl _ _ _) (fun b => by
    by_cases z : b = a
    · rw [if_pos z, z]; exact hS
    · rw [if_neg z]) (fun j j1 j2 => by omega)
end
/-- all threads rest -/
def AS (Y Y' : vY) (X mm Nn Lp : Nat) (nm pr ht : Nat → Nat) (I I' : vJ) (th W N : Nat) : Prop := ST I I' Y Y' X mm Nn Lp nm pr ht ∧ LZ I I' th 8 (-1) ∧ PT Lp I I' ∧ bud I I' W (ht 5000) ∧ (((W : Int) + sa (I 1995) 8 th ≤ N ∧ (0 ≤ I 1990 3393 ∧ I 1990 3393 ≤ N) ∧ I 1960 3100 = nm 5000) ∧ I 1990 3388 = N ∧ I' 2075 7729 = N ∧ N ≤ 20000) ∧ ∀ u, u < th → reR (I 1990 3376) nm ht X mm Nn I I' u
/-- locks and threads when what is put lies behind the rows in use -/
theorem LZ_acts {I I' J J' : vJ} {th t A A' : Nat} (h : LZ I I' th 8 (-1)) (ht : t < th) (hA : I 1995 t = A) (hA' : A' ≤ 40) (hAA : A ≤ A') (c1 : ∀ u, J 1995 u = if u = t then (A' : Int) else I 1995 u) (c2 : ∀ u, J' 2186 u = if u = t then (A' : Int) else I' 2186 u) (s1 : I 1996 t = 0) (s2 : I 2005 t = 0)
    (r0 : ∀ c, c = 38 ∨ c = 42 ∨ (1996 ≤ c ∧ c ≤ 2000) ∨ c = 2004 ∨ c = 2005 ∨ c = 2013 ∨ (2017 ≤ c ∧ c ≤ 2026) → J c = I c) (r1 : ∀ c, (2187 ≤ c ∧ c ≤ 2190) ∨ c = 2195 ∨ c = 2196 ∨ (2210 ≤ c ∧ c ≤ 2222) → J' c = I' c) (g0 : J 1990 3390 = I 1990 3390) (g1 : J 1990 3393 = I 1990 3393) (g3 : J 1990 3388 = I 1990 3388) (g2 : J' 2075 7731 = I' 2075 7731)
    (a1 : ∀ b, (b < 40 * t + A ∨ 40 * t + 40 ≤ b) → J 2007 b = I 2007 b ∧ J 2012 b = I 2012 b ∧ J' 2204 b = I' 2204 b) (a2 : ∀ k, A ≤ k → k < A' → J 2012 (40 * t + k) = 0 ∧ J' 2204 (40 * t + k) = 0 ∧ J 42 (J 2007 (40 * t + k)).toNat = 0) : LZ J J' th 8 (-1) := by
  obtain ⟨h1, h2, h3, h4⟩ := h
  have th8 := h1.1.2.2
  refine ⟨?_, ?_, ?_, fun u hu => ?_⟩
  · unfold tH at *
    rw [g0, g1, g2, g3, r0 1996 (by decide), r0 1997 (by decide), r0 1998 (by decide), r0 1999 (by decide), r0 2000 (by decide), r0 2004 (by decide), r0 2005 (by decide), r1 2187 (by decide), r1 2188 (by decide), r1 2189 (by decide), r1 2190 (by decide), r1 2195 (by decide), r1 2196 (by decide)]
    exact h1
  · exact lQ_same h2 (r0 1996 (by decide)) (r0 1997 (by decide)) (r0 1999 (by decide)) (r1 2222 (by decide)) (r1 2221 (by decide))
  · exact su_lR I I' J J' (fun c hc => r0 c (by simp only [List.mem_cons, List.not_mem_nil, or_false] at hc; omega)) (fun p hp => by simp only [List.mem_cons, List.not_mem_nil, or_false] at hp; rcases hp with q | q; (subst q; exact g3); (subst q; exact g0)) (fun c hc => r1 c (by simp only [List.mem_cons, List.not_mem_nil, or_false] at hc; omega)) (fun p hp => by cases hp) h3
  · obtain ⟨B, ⟨b1, b2, b3⟩, b4, b5, b6⟩ := h4 u hu
    have u8 : u ≠ 8 := by omega
    rw [if_neg u8] at b4
    have b6 := b6 u8
    have e13 := r0 2013 (by decide)
    have e42 := r0 42 (by decide)
    have e38 := r0 38 (by decide)
    have e97 := r0 1997 (by decide)
    have e05 := r0 2005 (by decide)
    have e96 := r0 1996 (by decide)
    have e17 := r0 2017 (by decide)
    have e18 := r0 2018 (by decide)
    have e10 := r1 2210 (by decide)
    by_cases z : u = t
    · subst z
      have eB : B = A := by omega
      subst eB
      refine ⟨A', ⟨by rw [c1, if_pos rfl], by rw [c2, if_pos rfl], hA'⟩, ?_, fun q => by rw [e96] at q; omega, fun _ => ?_⟩
      · rw [if_neg u8]
        have same : ∀ (l : Int) (k : Nat), k ≤ A' → ca (J 2013) (J 2012) l u k = ca (I 2013) (I 2012) l u (min k B) := by
          intro l k
          induction k with
          | zero => intro _; rw [Nat.zero_min]; rfl
          | succ k ih =>
            intro hk
            by_cases y : k < B
            · rw [Nat.min_eq_left (by omega)]
              refine ca_congr (fun j hj => ⟨(a1 _ (by omega)).2.1, fun i hi => by rw [e13]⟩)
            · have i1 := ih (by omega)
              rw [Nat.min_eq_right (by omega)] at i1
              rw [Nat.min_eq_right (by omega)]
              show ca (J 2013) (J 2012) l u k + cj (J 2013) l ((40 * u + k) * 12) (J 2012 (40 * u + k)).toNat = _
              rw [(a2 k (by omega) (by omega)).1, i1]
              show _ + 0 = _
              omega
        refine ⟨fun k hk => ?_, fun l hl => ?_⟩
        · by_cases y : k < B
          · rw [(a1 _ (by omega)).2.1, e13]; exact b4.1 k y
          · rw [(a2 k (by omega) hk).1]
            exact ⟨by decide, fun j hj => by
              have : j < 0 := hj
              omega⟩
        · rw [same l A' (Nat.le_refl _), Nat.min_eq_right hAA, e17, e18]; exact b4.2 l hl
      · intro k hk
        by_cases y : k < B
        · have w := b6 k y
          have aa := a1 (40 * u + k) (by omega)
          rw [aa.1, aa.2.1, aa.2.2, e42, e13, e10, e38, e05, e97]
          refine ⟨w.1, w.2.1, fun q => w.2.2.1 (fun q' => by have := q'.2.1; omega), fun q => by have := q.2.1; omega⟩
        · have aa := a2 k (by omega) hk
          rw [aa.1, aa.2.1, aa.2.2, e05]
          refine ⟨rfl, fun j hj => by omega, fun _ => rfl, fun q => by have := q.2.1; omega⟩
    · refine ⟨B, ⟨by rw [c1, if_neg z]; exact b1, by rw [c2, if_neg z]; exact b2, b3⟩, ?_, ?_, fun _ => ?_⟩
      · rw [if_neg u8]
        have same : ∀ l : Int, ca (J 2013) (J 2012) l u B = ca (I 2013) (I 2012) l u B := fun l => ca_congr (fun j hj => ⟨(a1 _ (by omega)).2.1, fun i hi => by rw [e13]⟩)
        refine ⟨fun k hk => ?_, fun l hl => ?_⟩
        · rw [(a1 _ (by omega)).2.1, e13]; exact b4.1 k hk
        · rw [same, e17, e18]; exact b4.2 l hl
      · intro q
        rw [e96] at q
        have w := b5 q
        rw [(a1 (40 * u + (B - 1)) (by omega)).1, e38, e42, e05]
        exact w
      · intro k hk
        have w := b6 k hk
        have aa := a1 (40 * u + k) (by omega)
        rw [aa.1, aa.2.1, aa.2.2, e42, e13, e10, e38, e05, e97]
        exact w
