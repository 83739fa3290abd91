/-! ===== locks are left: the loop at the head of gone, leaveLocks ===== -/
theorem LZ_pop {I I' J J' : vJ} {th t A kk : Nat} (h : LZ I I' th t (-1)) (ht : t < th) (hA : I 1995 t = A) (hA0 : 0 < A) (hk : I 2012 (40 * t + (A - 1)) = (kk : Int) + 1) (e1 : ∀ x, J 2012 x = if x = 40 * t + (A - 1) then (kk : Int) else I 2012 x) (e2 : fr [2012] [] I J) (e3 : fr [2204] [] I' J') (e4 : ∀ x, (x < 40 * t ∨ 40 * t + 40 ≤ x) → J' 2204 x = I' 2204 x) : LZ J J' th t (I 2013 ((40 * t + (A - 1)) * 12 + kk)) ∧ 0 ≤ I 2013 ((40 * t + (A - 1)) * 12 + kk) ∧ I 2013 ((40 * t + (A - 1)) * 12 + kk) < 8 := by
  obtain ⟨h1, h2, h3, h4⟩ := h
  obtain ⟨At, at1, at2, at3, at4⟩ := h4 t ht
  have eA : At = A := by omega
  subst eA
  rw [if_pos rfl] at at2
  have rr := (at2.1 (At - 1) (by omega)).2 kk (by rw [hk]; omega)
  have rw0 : ∀ c, c ≠ 2012 → J c = I c := fun c hc => fr_row e2 c (fun f => frok_of (fun q hq => by simp only [List.mem_singleton] at hq; omega) (fun q hq => by cases hq))
  have rw1 : ∀ c, c ≠ 2204 → J' c = I' c := fun c hc => fr_row e3 c (fun f => frok_of (fun q hq => by simp only [List.mem_singleton] at hq; omega) (fun q hq => by cases hq))
  refine ⟨⟨?_, ?_, ?_, fun u hu => ?_⟩, rr⟩
  · exact tH_same h1 (rw0 _ (by decide)) (rw1 _ (by decide)) (rw0 _ (by decide)) (rw0 _ (by decide)) (rw0 _ (by decide)) (rw0 _ (by decide)) (rw0 _ (by decide)) (rw0 _ (by decide)) (rw0 _ (by decide)) (rw1 _ (by decide)) (rw1 _ (by decide)) (rw1 _ (by decide)) (rw1 _ (by decide)) (rw1 _ (by decide)) (rw1 _ (by decide))
  · exact lQ_same h2 (rw0 _ (by decide)) (rw0 _ (by decide)) (rw0 _ (by decide)) (rw1 _ (by decide)) (rw1 _ (by decide))
  · exact su_lR I I' J J' (fun c hc => rw0 c (by intro e; subst e; revert hc; decide)) (fun p hp => by simp only [List.mem_cons, List.not_mem_nil, or_false] at hp; rcases hp with q | q <;> (subst q; exact congrFun (rw0 1990 (by decide)) _)) (fun c hc => rw1 c (by intro e; subst e; revert hc; decide)) (fun p hp => by cases hp) h3
  · obtain ⟨A, a1, a2, a3, a4⟩ := h4 u hu
    refine ⟨A, by rw [rw0 1995 (by decide), rw1 2186 (by decide)]; exact a1, ?_, by rw [rw0 1996 (by decide), rw0 2005 (by decide), rw0 38 (by decide), rw0 2007 (by decide), rw0 42 (by decide)]; exact a3, fun ut => ?_⟩
    · unfold lkM
      rw [rw0 2013 (by decide), rw0 2017 (by decide), rw0 2018 (by decide)]
      by_cases z : u = t
      · subst z
        have eA : A = At := by omega
        subst eA
        rw [if_pos rfl]
        obtain ⟨A', hA'⟩ : ∃ A', A = A' + 1 := ⟨A - 1, by omega⟩
        have eq : 40 * u + (A - 1) = 40 * u + A' := by omega
        rw [eq] at hk e1 rr ⊢
        have pop : ∀ x : Int, ca (I 2013) (I 2012) x u A = ca (I 2013) (J 2012) x u A + (if I 2013 ((40 * u + A') * 12 + kk) = x then 1 else 0) := by
          intro x
          rw [hA']
          exact ca_pop hk e1
        refine ⟨fun k hk2 => ?_, fun l hl => ?_⟩
        · have w := at2.1 k hk2
          rw [e1]
          by_cases z : 40 * u + k = 40 * u + A'
          · rw [if_pos z]
            have ek : k = A' := by omega
            subst ek
            refine ⟨by omega, fun j hj => w.2 j (by omega)⟩
          · rw [if_neg z]; exact w
        · have w := at2.2 l hl
          rw [if_neg (show ¬ (l : Int) = -1 by omega)] at w
          have p := pop l
          have nn := ca_nn (I 2013) (J 2012) l u A
          refine ⟨fun q => ?_, fun q => ?_⟩
          · rw [w.1 q, p]
            by_cases y : I 2013 ((40 * u + A') * 12 + kk) = l
            · rw [if_pos y, if_pos y.symm]; omega
            · rw [if_neg y, if_neg (fun z => y z.symm)]; simp only [Int.add_zero]
          · have w2 := (w.2 q).1
            by_cases y : I 2013 ((40 * u + A') * 12 + kk) = l
            · rw [if_pos y] at p; omega
            · rw [if_neg y] at p
              exact ⟨by omega, fun z => y z.symm⟩
      · rw [if_neg z] at a2 ⊢
        have same : ∀ x : Int, ca (I 2013) (J 2012) x u A = ca (I 2013) (I 2012) x u A := fun x => ca_congr (fun j hj => ⟨by rw [e1, if_neg (by omega)], fun i hi => rfl⟩)
        refine ⟨fun k hk2 => ?_, fun l hl => ?_⟩
        · rw [e1, if_neg (by omega)]; exact a2.1 k hk2
        · rw [same]; exact a2.2 l hl
    · intro k hk2
      rw [rw0 42 (by decide), rw0 2007 (by decide), rw0 2013 (by decide), rw1 2210 (by decide), rw0 2005 (by decide), rw0 38 (by decide), rw0 1997 (by decide), e1, if_neg (by omega), e4 _ (by omega)]
      exact a4 ut k hk2
/-- which locks are around nodes, in both houses -/
def lkS (I I' : vJ) (X Nn : Nat) : Prop := ∀ n, n < Nn → (0 ≤ I 42 n ∧ I 42 n ≤ 11) ∧ (I 42 n = 0 → I' (X + 16) n = -1) ∧ (0 < I 42 n → ∃ L : Nat, L < Nn ∧ I' (X + 16) n = L ∧ I 42 L + 1 = I 42 n ∧ I' (X + 18) L = I' (X + 16) L)
/-- the lock q steps up from a node is that of another one -/
def lkA (lk : Nat → Int) : Nat → Nat → Nat → Prop
  | 0, n, y => lk n = lk y
  | q + 1, n, y => ∃ L : Nat, lk n = L ∧ lkA lk q L y
/-- threads other than t are as they were, or were woken -/
def wkd (I J : vJ) (th t : Nat) : Prop := ∀ u, u < th → u ≠ t → (J 1996 u = I 1996 u ∧ J 2005 u = I 2005 u) ∨ ((I 1996 u = 1 ∨ I 1996 u = 2) ∧ J 1996 u = 0 ∧ J 2005 u = 1)
section
variable {d d' : Nat} {I I' : vJ} {Y Y' : vY}
theorem t_notLocked {Q : vE → Prop} {X Nn l : Nat} {x1 : Int} {I0 : vJ} (hL : vL Y') (hX : Y'.1 2075 7689 = X) (hV : vreg Y' 2081 38 (Y'.1 2075 7689)) (hN : Nn ≤ 700) (hS : lkS I0 I' X Nn) (hl : l < Nn) : ∀ (m n : Nat), n < Nn → I0 42 n = m → (m : Int) ≤ I0 42 l → (vW d' 439 (10, [vr 2075, vi x1, vi l, vi (I' (X + 16) n)], [], (I', Y')) Q ↔ Q (.inl (some (vi 0)), (I', Y'))) := by
  intro m
  induction m with
  | zero =>
    intro n hn h1 _
    rw [(hS n hn).2.1 h1]
    simp (disch := (first | assumption | omega | (simp only [up_app, Nat.reduceEqDiff, false_and, and_false, true_and, and_true, if_true, if_false, Nat.add_left_cancel_iff, Nat.add_right_cancel_iff, Nat.add_eq_left, Nat.left_eq_add, tn0, tn1, tn2, tn3, tn4, tn5, tn6, tn7, tn8, tn9]; omega))) only [b439_10, b439_34, vWC_n, vWC_s, vWC_x, if01a, if01b, if_pos, if_neg, tn0, tn1, tn2, tn3, tn4, tn5, tn6, tn7, tn8, tn9, w32_id, w64_id, Nat.reduceAdd, reduceIte, Int.reduceLT, Int.reduceLE, Int.reduceEq, Int.reduceNe, Int.reduceAdd, Int.reduceSub, Int.reduceMul, Int.reduceNeg, Int.reduceToNat, ne_eq, not_true_eq_false, not_false_eq_true, true_and, and_true, false_and, and_false, true_or, or_true, false_or, or_false, if_true, if_false, and_self, or_self, ite_self]
  | succ m ih =>
    intro n hn h1 h2
    obtain ⟨L, L1, L2, L3, L4⟩ := (hS n hn).2.2 (by omega)
    have ne : L ≠ l := by intro e; subst e; omega
    rw [L2, b439_10]
    simp (disch := (first | assumption | omega | (simp only [up_app, Nat.reduceEqDiff, false_and, and_false, true_and, and_true, if_true, if_false, Nat.add_left_cancel_iff, Nat.add_right_cancel_iff, Nat.add_eq_left, Nat.left_eq_add, hX, tn0, tn1, tn2, tn3, tn4, tn5, tn6, tn7, tn8, tn9]; omega))) only [b439_14, b439_21, hX, vWC_n, vWC_s, vWC_x, if01a, if01b, if_pos, if_neg, tn0, tn1, tn2, tn3, tn4, tn5, tn6, tn7, tn8, tn9, w32_id, w64_id, Nat.reduceAdd, reduceIte, Int.reduceLT, Int.reduceLE, Int.reduceEq, Int.reduceNe, Int.reduceAdd, Int.reduceSub, Int.reduceMul, Int.reduceNeg, Int.reduceToNat, ne_eq, not_true_eq_false, not_false_eq_true, true_and, and_true, false_and, and_false, true_or, or_true, false_or, or_false, if_true, if_false, and_self, or_self, ite_self]
    rw [L4]
    exact ih L L1 (by omega) (by omega)
theorem l_leave {Q : vE → vE → Prop} {X Nn th t a w x y n A N : Nat} {I0 I0' : vJ} (hL : vL Y) (hL' : vL Y') (hX : Y'.1 2075 7689 = X) (hX2 : X = 2081 ∨ X = 2119) (hV : vreg Y' 2081 38 (Y'.1 2075 7689)) (hNn : Nn ≤ 700) (hS : lkS I0 I0' X Nn) (hy : y < Nn) (ht : t < th) (hA : I0 1995 t = A) (hA0 : 0 < A) (hA1 : A ≤ 40) (ha : a = 40 * t + (A - 1)) (hN : I0 1990 3388 = N) (hN' : I0' 2075 7729 = N)
    (hQ : ∀ J J', LZ J J' th t (-1) → fr [2017, 2018, 2019, 2022, 2023, 2024, 2025, 2026, 1996, 2005, 2004, 2000, 2012, 2013] [] I0 J → fr [2211, 2212, 2213, 2214, 2217, 2218, 2219, 2220, 2221, 2222, 2187, 2196, 2195, 2190, 2204] [] I0' J' → J 1996 t = 0 → (∀ b, 40 * t ≤ b → b < 40 * t + 40 → b ≠ a → J 2012 b = I0 2012 b) → (∀ p, 480 * t ≤ p → p < 480 * t + 480 → J 2013 p = I0 2013 p) → (∀ b, b ≠ a → J' 2204 b = I0' 2204 b) → J 2012 a = I0 42 y → J' 2204 a = I0 42 y → J 2005 t = I0 2005 t → wkd I0 J th t → vW (d + 5) 164 (80, [vr 1990, vi t, vi w, vi a, vi x, vi y, vu], [], (J, Y)) (fun r => Q r (.inl none, (J', Y')))) :
    ∀ (q n' : Nat) (I I' : vJ), n' < Nn → I0 42 n' = q + I0 42 y → lkA (I0' (X + 16)) q n' y → LZ I I' th t (-1) → fr [2017, 2018, 2019, 2022, 2023, 2024, 2025, 2026, 1996, 2005, 2004, 2000, 2012, 2013] [] I0 I → fr [2211, 2212, 2213, 2214, 2217, 2218, 2219, 2220, 2221, 2222, 2187, 2196, 2195, 2190, 2204] [] I0' I' → I 1996 t = 0 → (∀ b, 40 * t ≤ b → b < 40 * t + 40 → b ≠ a → I 2012 b = I0 2012 b) → (∀ p, 480 * t ≤ p → p < 480 * t + 480 → I 2013 p = I0 2013 p) → (∀ b, b ≠ a → I' 2204 b = I0' 2204 b) → I 2012 a = q + I0 42 y → I' 2204 a = q + I0 42 y → (∀ j : Nat, (j : Int) < q + I0 42 y → I0 2013 (a * 12 + j) = I0' 2210 (12 * a + j)) → I 2005 t = I0 2005 t → wkd I0 I th t →
    vW (d + 5) 164 (28, [vr 1990, vi t, vi w, vi a, vi x, vi y, vu], [], (I, Y)) (fun r => vW (d' + 5) 438 (11, [vr 2075, vi a, vi n, vi y, vi (I0' (X + 16) n')], [], (I', Y')) (fun r' => Q r r')) := by
  have hXb : 2075 ≤ X + 16 ∧ X + 16 < 2180 ∧ 2075 ≤ X + 18 ∧ X + 18 < 2180 := by omega
  have sy := hS y hy
  have ha2 : a < 40 * t + 40 ∧ 40 * t ≤ a := by omega
  intro q
  induction q with
  | zero =>
    intro n' I I' hn' e1 e2 hZ f1 f2 st r1 r2 r3 k1 k2 k3 k4 k5
    have th8 : th ≤ 8 := hZ.1.1.2.2
    have s42 : I 42 = I0 42 := fr_row f1 42 (fun _ => rfl)
    have k1' : I 2012 a = I 42 y := by rw [s42]; omega
    have hs : ∀ K : vE → Prop, vW (d + 5) 164 (28, [vr 1990, vi t, vi w, vi a, vi x, vi y, vu], [], (I, Y)) K ↔ vW (d + 5) 164 (80, [vr 1990, vi t, vi w, vi a, vi x, vi y, vu], [], (I, Y)) K := by
      intro K
      rw [b164_28 hL (by omega) (by omega) (by omega) (by omega)]
      simp only [tn0, k1']
      rw [if_pos (Int.le_refl _)]
    have e2' : I0' (X + 16) n' = I0' (X + 16) y := e2
    have s16 : I' (X + 16) = I0' (X + 16) := fr_out f2 2075 2180 (by rfl) (by omega) (by omega)
    have hm : ∀ K : vE → Prop, vW (d' + 5) 438 (11, [vr 2075, vi a, vi n, vi y, vi (I0' (X + 16) n')], [], (I', Y')) K ↔ K (.inl none, (I', Y')) := by
      intro K
      rw [e2']
      by_cases z : I0 42 y = 0
      · rw [sy.2.1 z]
        simp (disch := (first | assumption | omega | (simp only [up_app, Nat.reduceEqDiff, false_and, and_false, true_and, and_true, if_true, if_false, Nat.add_left_cancel_iff, Nat.add_right_cancel_iff, Nat.add_eq_left, Nat.left_eq_add, tn0, tn1, tn2, tn3, tn4, tn5, tn6, tn7, tn8, tn9]; omega))) only [b438_11, b438_71, vWC_n, vWC_s, vWC_x, if01a, if01b, if_pos, if_neg, tn0, tn1, tn2, tn3, tn4, tn5, tn6, tn7, tn8, tn9, w32_id, w64_id, Nat.reduceAdd, reduceIte, Int.reduceLT, Int.reduceLE, Int.reduceEq, Int.reduceNe, Int.reduceAdd, Int.reduceSub, Int.reduceMul, Int.reduceNeg, Int.reduceToNat, ne_eq, not_true_eq_false, not_false_eq_true, true_and, and_true, false_and, and_false, true_or, or_true, false_or, or_false, if_true, if_false, and_self, or_self, ite_self]
      · obtain ⟨L, L1, L2, L3, L4⟩ := sy.2.2 (by omega)
        have L5 : I' (X + 16) y = L := by rw [s16]; exact L2
        rw [L2]
        simp (disch := (first | assumption | omega | (simp only [up_app, Nat.reduceEqDiff, false_and, and_false, true_and, and_true, if_true, if_false, Nat.add_left_cancel_iff, Nat.add_right_cancel_iff, Nat.add_eq_left, Nat.left_eq_add, hX, tn0, tn1, tn2, tn3, tn4, tn5, tn6, tn7, tn8, tn9]; omega))) only [b438_11, b438_16, b439_0, b439_10, b439_14, b439_19, b438_23, b438_71, hX, L5, vWC_n, vWC_s, vWC_x, if01a, if01b, if_pos, if_neg, tn0, tn1, tn2, tn3, tn4, tn5, tn6, tn7, tn8, tn9, w32_id, w64_id, Nat.reduceAdd, reduceIte, Int.reduceLT, Int.reduceLE, Int.reduceEq, Int.reduceNe, Int.reduceAdd, Int.reduceSub, Int.reduceMul, Int.reduceNeg, Int.reduceToNat, ne_eq, not_true_eq_false, not_false_eq_true, true_and, and_true, false_and, and_false, true_or, or_true, false_or, or_false, if_true, if_false, and_self, or_self, ite_self]
    simp only [hm]
    rw [hs]
    exact hQ I I' hZ f1 f2 st r1 r2 r3 (by omega) (by omega) k4 k5
  | succ q ih =>
    intro n' I I' hn' e1 e2 hZ f1 f2 st r1 r2 r3 k1 k2 k3 k4 k5
    have th8 : th ≤ 8 := hZ.1.1.2.2
    have s42 : I 42 = I0 42 := fr_row f1 42 (fun _ => rfl)
    have s16 : I' (X + 16) = I0' (X + 16) := fr_out f2 2075 2180 (by rfl) (by omega) (by omega)
    have s18 : I' (X + 18) = I0' (X + 18) := fr_out f2 2075 2180 (by rfl) (by omega) (by omega)
    have s1995 : I 1995 = I0 1995 := fr_row f1 1995 (fun _ => rfl)
    obtain ⟨L, L1, L2, L3, L4⟩ := (hS n' hn').2.2 (by omega)
    obtain ⟨L', m1, m2⟩ := e2
    have eL : L' = L := by omega
    subst eL
    obtain ⟨kk, hkk⟩ : ∃ kk : Nat, (kk : Int) = q + I0 42 y := ⟨(q + I0 42 y).toNat, by omega⟩
    have kk1 : I 2012 a = (kk : Int) + 1 := by omega
    have kk2 : I' 2204 a = (kk : Int) + 1 := by omega
    have kb : kk ≤ 10 := by have := (hS n' hn').1.2; omega
    obtain ⟨At, at1, at2, at3, at4⟩ := hZ.2.2.2 t ht
    have eA : At = A := by have := at1.1; rw [s1995] at this; omega
    subst eA
    have pp := LZ_pop (J := up I 2012 a kk) (J' := up I' 2204 a kk) hZ ht at1.1 hA0 (kk := kk) (by rw [← ha]; exact kk1) (fun x => by rw [← ha]; exact up_at _ _ _ _ _) (fr_upL (fr_refl _ _ _) rfl _ _) (fr_upL (fr_refl _ _ _) rfl _ _) (fun x hx => up_place _ _ (by omega) _)
    rw [← ha] at pp
    obtain ⟨pp1, pp2, pp3⟩ := pp
    obtain ⟨l, hl⟩ : ∃ l : Nat, I 2013 (a * 12 + kk) = l := ⟨(I 2013 (a * 12 + kk)).toNat, by omega⟩
    rw [hl] at pp1 pp2 pp3
    have hl2 : I' 2210 (12 * a + kk) = l := by
      rw [fr_row f2 2210 (fun _ => rfl), ← k3 kk (by omega), ← r2 _ (by omega) (by omega)]; exact hl
    have z1 : (kk : Int) + 1 - 1 = kk := by omega
    have hs : ∀ K : vE → Prop, vW (d + 5) 164 (28, [vr 1990, vi t, vi w, vi a, vi x, vi y, vu], [], (I, Y)) K ↔ vW (d + 4) 165 (0, [vr 1990, vi l, vu, vu], [], (up I 2012 a kk, Y)) (vWC (d + 5) 164 74 3 [vr 1990, vi t, vi w, vi a, vi x, vi y, vu] [] K) := by
      intro K
      have s42y : I 42 y = I0 42 y := by rw [s42]
      have ix : (a : Int) * 12 + (kk : Int) = ((a * 12 + kk : Nat) : Int) := by omega
      rw [b164_28 hL (by omega) (by omega) (by omega) (by omega)]
      simp only [tn0, kk1, s42y]
      rw [if_neg (by rw [w32_id (by omega) (by omega), w32_id (by omega) (by omega)]; omega)]
      rw [b164_47 hL (by omega) (by omega) (by simp only [tn0, up_same, kk1]; omega) (by simp only [tn0, up_same, kk1]; omega)]
      simp only [tn0, up_same, kk1, z1, ix, hl]
    have hm : ∀ K : vE → Prop, vW (d' + 5) 438 (11, [vr 2075, vi a, vi n, vi y, vi (I0' (X + 16) n')], [], (I', Y')) K ↔ vW (d' + 4) 440 (0, [vr 2075, vi l, vu, vu], [], (up I' 2204 a kk, Y')) (vWC (d' + 5) 438 53 3 [vr 2075, vi a, vi n, vi y, vi (L' : Int)] [] K) := by
      intro K
      have ix : 12 * (a : Int) + (kk : Int) = ((12 * a + kk : Nat) : Int) := by omega
      have nl := fun K => t_notLocked (d' := d' + 4) (I' := I') (Y' := Y') (Q := K) (x1 := (y : Int)) (I0 := I0) hL' hX hV hNn (l := L') (by
        intro n hn
        rw [s16, s18]; exact hS n hn) L1 (I0 42 y).toNat y hy (by omega) (by omega)
      rw [L2]
      simp (disch := (first | assumption | omega | (simp only [up_app, Nat.reduceEqDiff, false_and, and_false, true_and, and_true, if_true, if_false, Nat.add_left_cancel_iff, Nat.add_right_cancel_iff, Nat.add_eq_left, Nat.left_eq_add, hX, tn0, tn1, tn2, tn3, tn4, tn5, tn6, tn7, tn8, tn9]; omega))) only [b438_11, b438_16, b439_0, hX, nl, b438_23, vWC_n, vWC_s, vWC_x, if01a, if01b, if_pos, if_neg, tn0, tn1, tn2, tn3, tn4, tn5, tn6, tn7, tn8, tn9, w32_id, w64_id, Nat.reduceAdd, reduceIte, Int.reduceLT, Int.reduceLE, Int.reduceEq, Int.reduceNe, Int.reduceAdd, Int.reduceSub, Int.reduceMul, Int.reduceNeg, Int.reduceToNat, ne_eq, not_true_eq_false, not_false_eq_true, true_and, and_true, false_and, and_false, true_or, or_true, false_or, or_false, if_true, if_false, and_self, or_self, ite_self]
      rw [b438_26 hL' (by omega) (by omega) (by simp only [tn0, up_same, kk2]; omega) (by simp only [tn0, up_same, kk2]; omega)]
      simp only [tn0, up_same, kk2, z1, ix, hl2]
    simp only [hm]
    rw [hs]
    apply vW_out
    have hact : ∀ u, u < th → up I 2012 a (kk : Int) 1996 u = 1 → 1 ≤ up I 2012 a (kk : Int) 1995 u ∧ up I 2012 a (kk : Int) 1995 u ≤ 40 ∧ 0 ≤ up I 2012 a (kk : Int) 2012 (40 * u + up I 2012 a (kk : Int) 1995 u - 1).toNat ∧ up I 2012 a (kk : Int) 2012 (40 * u + up I 2012 a (kk : Int) 1995 u - 1).toNat < 12 := by
      intro u hu h1
      rw [up_cell _ (by decide)] at h1
      have ut : u ≠ t := by intro e; subst e; omega
      obtain ⟨Au, au1, au2, au3, au4⟩ := pp1.2.2.2 u hu
      have b1 := au3 (by rw [up_cell _ (by decide)]; exact h1)
      have b2 := (au2.1 (Au - 1) (by omega)).1
      have b3 := au1.1
      rw [up_cell _ (by decide)] at b3
      rw [up_cell _ (show 1995 ≠ 2012 by decide), b3]
      have e : (40 * (u : Int) + (Au : Int) - 1).toNat = 40 * u + (Au - 1) := by omega
      rw [e]
      omega
    have po := (pp1.2.2.2 t ht)
    obtain ⟨A2, b1, b2, b3, b4⟩ := po
    rw [if_pos rfl] at b2
    have own : up I 2012 a (kk : Int) 2017 l = t := by
      apply Classical.byContradiction
      intro z
      exact ((b2.2 l (by omega)).2 z).2 rfl
    have pos := (b2.2 l (by omega)).1 own
    rw [if_pos rfl] at pos
    have cnn := ca_nn (up I 2012 a (kk : Int) 2013) (up I 2012 a (kk : Int) 2012) l t A2
    refine l_lets (d := d) (d' := d') (I := up I 2012 a kk) (I' := up I' 2204 a kk) (l := l) (th := th) (N := N) hL hL' (by omega) pp1.1 pp1.2.1 pp1.2.2.1 ?_ ?_ (by omega) (by omega) hact (fun J J' j1 j2 j3 j4 => ?_)
    · rw [up_cell _ (by decide), f1 1990 _ rfl]; exact hN
    · rw [up_cell _ (by decide), f2 2075 _ rfl]; exact hN'
    · have hZ2 := LZ_lets pp1 (by omega) ht (by rw [up_cell _ (by decide)]; exact st) j1 j2 j3 j4
      simp only [vWC_n, Nat.reduceAdd]
      obtain ⟨o1, o2, o3, o4⟩ := j4
      have F1 : fr [2017, 2018, 2019, 2022, 2023, 2024, 2025, 2026, 1996, 2005, 2004, 2000, 2012, 2013] [] I0 J := fr_trans (fr_upL f1 rfl _ _) o1
      have F2 : fr [2211, 2212, 2213, 2214, 2217, 2218, 2219, 2220, 2221, 2222, 2187, 2196, 2195, 2190, 2204] [] I0' J' := fr_trans (fr_upL f2 rfl _ _) (fr_weak o2 (by decide) (by decide))
      have s2204 : J' 2204 = up I' 2204 a kk 2204 := fr_row o2 2204 (fun _ => rfl)
      -- rows of t
      have jt : J 1996 t = 0 ∧ J 2005 t = I 2005 t ∧ (∀ b, 40 * t ≤ b → b < 40 * t + 40 → J 2012 b = up I 2012 a kk 2012 b) ∧ ∀ p, 480 * t ≤ p → p < 480 * t + 480 → J 2013 p = I 2013 p := by
        rcases o3 with ⟨b1, b2, b3, b4, b5, b6, _, _, _, _, b7⟩ | ⟨v, av, k, v1, v2, v3, v4, v5, v6, v7, v8, v9, v10⟩
        · rw [b1, b2, b5, b6, up_cell _ (show 1996 ≠ 2012 by decide), up_cell _ (show 2005 ≠ 2012 by decide)]
          exact ⟨st, rfl, fun b _ _ => rfl, fun p _ _ => up_cell _ (by decide) _ _ _⟩
        · have vt : v ≠ t := by
            intro e; subst e
            have := v2.1
            rw [up_cell _ (by decide)] at this
            omega
          obtain ⟨Au, au1, au2, au3, au4⟩ := pp1.2.2.2 v v1
          have c1 := au3 v2.1
          have c2 := au1.1
          have c3 : av = 40 * v + (Au - 1) := by omega
          have c4 := (au2.1 (Au - 1) (by omega)).1
          rw [← c3] at c4
          refine ⟨?_, ?_, fun b b1 b2 => ?_, fun p p1 p2 => ?_⟩
          · rw [v5.1, if_neg (fun e => vt e.symm), up_cell _ (by decide)]; exact st
          · rw [v5.2.1, if_neg (fun e => vt e.symm), up_cell _ (by decide)]
          · rw [v6, if_neg (by omega)]
          · rw [v7, if_neg (by omega), up_cell _ (by decide)]
      have kw : wkd I0 J th t := by
        intro u hu ut
        have k5u := k5 u hu ut
        rcases o3 with ⟨b1, b2, _⟩ | ⟨v, av, k, v1, v2, v3, v4, v5, _⟩
        · rw [b1, b2, up_cell _ (show 1996 ≠ 2012 by decide), up_cell _ (show 2005 ≠ 2012 by decide)]
          exact k5u
        · have v21 := v2.1
          rw [up_cell _ (show 1996 ≠ 2012 by decide)] at v21
          rw [v5.1, v5.2.1, up_cell _ (show 1996 ≠ 2012 by decide), up_cell _ (show 2005 ≠ 2012 by decide)]
          by_cases e : u = v
          · subst e
            rw [if_pos rfl, if_pos rfl]
            rcases k5u with z | z
            · exact Or.inr ⟨Or.inl (by rw [← z.1]; exact v21), rfl, rfl⟩
            · exact absurd z.2.1 (by omega)
          · rw [if_neg e, if_neg e]; exact k5u
      have nx := ih L' J J' L1 (by omega) m2 hZ2 F1 F2 jt.1 (fun b b1 b2 b3 => by rw [jt.2.2.1 b b1 b2, up_place _ _ b3]; exact r1 b b1 b2 b3) (fun p p1 p2 => by rw [jt.2.2.2 p p1 p2]; exact r2 p p1 p2) (fun b b1 => by rw [s2204, up_place _ _ b1]; exact r3 b b1) (by rw [jt.2.2.1 a (by omega) (by omega), up_same]; omega) (by rw [s2204, up_same]; omega) (fun j hj => k3 j (by omega)) (by rw [jt.2.1]; exact k4) kw
      have hm2 : ∀ K : vE → Prop, vW (d' + 5) 438 (56, [vr 2075, vi a, vi n, vi y, vi (L' : Int)], [], (J', Y')) K ↔ vW (d' + 5) 438 (11, [vr 2075, vi a, vi n, vi y, vi (I0' (X + 16) L')], [], (J', Y')) K := by
        intro K
        have j18 : J' (X + 18) = I0' (X + 18) := fr_out F2 2075 2180 (by rfl) hXb.2.2.1 hXb.2.2.2
        simp (disch := (first | assumption | omega | (simp only [up_app, Nat.reduceEqDiff, false_and, and_false, true_and, and_true, if_true, if_false, Nat.add_left_cancel_iff, Nat.add_right_cancel_iff, Nat.add_eq_left, Nat.left_eq_add, hX, tn0, tn1, tn2, tn3, tn4, tn5, tn6, tn7, tn8, tn9]; omega))) only [b438_56, hX, vWC_n, vWC_s, vWC_x, if01a, if01b, if_pos, if_neg, tn0, tn1, tn2, tn3, tn4, tn5, tn6, tn7, tn8, tn9, w32_id, w64_id, Nat.reduceAdd, reduceIte, Int.reduceLT, Int.reduceLE, Int.reduceEq, Int.reduceNe, Int.reduceAdd, Int.reduceSub, Int.reduceMul, Int.reduceNeg, Int.reduceToNat, ne_eq, not_true_eq_false, not_false_eq_true, true_and, and_true, false_and, and_false, true_or, or_true, false_or, or_false, if_true, if_false, and_self, or_self, ite_self]
        rw [j18, L4]
      have hs2 : ∀ K : vE → Prop, vW (d + 5) 164 (77, [vr 1990, vi t, vi w, vi a, vi x, vi y, vu], [], (J, Y)) K ↔ vW (d + 5) 164 (28, [vr 1990, vi t, vi w, vi a, vi x, vi y, vu], [], (J, Y)) K := fun K => b164_77
      simp only [hm2]
      rw [hs2]
      exact nx
end
