/-! ===== a new array ===== -/
def fil (I : vJ) (c lo hi : Nat) (v : Int) : vJ := fun b j => if b = c ∧ lo ≤ j ∧ j < hi then v else I b j
theorem fil_app (I : vJ) (c lo hi : Nat) (v : Int) (b j : Nat) : fil I c lo hi v b j = if b = c ∧ lo ≤ j ∧ j < hi then v else I b j := rfl
theorem fil_nil (I : vJ) (c lo : Nat) (v : Int) : fil I c lo lo v = I := by
  funext b j; unfold fil; exact if_neg (by omega)
theorem fil_step (I : vJ) (c lo hi : Nat) (v : Int) (h : lo ≤ hi) : up (fil I c lo hi v) c hi v = fil I c lo (hi + 1) v := by
  funext b j; simp only [up_app, fil_app]
  by_cases q : b = c ∧ j = hi
  · rw [if_pos q, if_pos (by omega)]
  · rw [if_neg q]
    by_cases q2 : b = c ∧ lo ≤ j ∧ j < hi
    · rw [if_pos q2, if_pos (by omega)]
    · rw [if_neg q2, if_neg (by omega)]
theorem fil_up (I : vJ) {c a : Nat} (h : a ≠ c) (lo hi k : Nat) (v x : Int) : up (fil I c lo hi v) a k x = fil (up I a k x) c lo hi v := by
  funext b j; simp only [up_app, fil_app]
  by_cases q : b = a ∧ j = k
  · rw [if_pos q, if_neg (by omega), if_pos q]
  · rw [if_neg q]
    by_cases q2 : b = c ∧ lo ≤ j ∧ j < hi
    · rw [if_pos q2, if_pos q2]
    · rw [if_neg q2, if_neg q2, if_neg q]
theorem w8_0 : w8 0 = 0 := rfl
theorem frok_ne {L : List Nat} {P : List (Nat × Nat)} {c f : Nat} (h1 : L.any (fun q => Nat.beq q c) = false) (h2 : ∀ p, p ∈ P → p.1 = c → p.2 ≠ f) : frok L P c f = true := by
  unfold frok
  rw [h1]
  have : P.any (fun q => Nat.beq q.1 c && Nat.beq q.2 f) = false := by
    rw [List.any_eq_false]
    intro p hp q
    rw [Bool.and_eq_true] at q
    exact h2 p hp (Nat.eq_of_beq_eq_true q.1) (Nat.eq_of_beq_eq_true q.2)
  rw [this]; rfl
theorem fr_weak {L L' : List Nat} {P P' : List (Nat × Nat)} {I J : vJ} (h : fr L P I J) (h1 : ∀ q, q ∈ L → q ∈ L') (h2 : ∀ q, q ∈ P → q ∈ P') : fr L' P' I J := by
  intro c f e
  apply h
  unfold frok at e ⊢
  rw [Bool.and_eq_true, Bool.not_eq_true', Bool.not_eq_true', List.any_eq_false, List.any_eq_false] at e ⊢
  exact ⟨fun q hq => e.1 q (h1 q hq), fun q hq => e.2 q (h2 q hq)⟩
section
variable {d d' : Nat} {I I' : vJ} {Y Y' : vY}
theorem c_fill {Q : vE → Prop} {E z : Nat} {x1 x2 x3 x5 : Int} (hL : vL Y) (hE : I 1990 3377 = E) (hz : E + z ≤ 6000) (hQ : ∀ x, vW d 182 (196, [vr 1990, vi x1, vi x2, vi x3, vi z, vi x5, vi x], [], (fil (fil I 2033 E (E + z) 0) 2034 E (E + z) 0, Y)) Q) :
    ∀ m i : Nat, i + m = z → vW d 182 (157, [vr 1990, vi x1, vi x2, vi x3, vi z, vi x5, vi i], [], (fil (fil I 2033 E (E + i) 0) 2034 E (E + i) 0, Y)) Q := by
  intro m
  have hE2 : ∀ i j, fil (fil I 2033 E i 0) 2034 E j 0 1990 3377 = E := fun i j => by rw [fil_app, if_neg (by omega), fil_app, if_neg (by omega)]; exact hE
  induction m with
  | zero =>
    intro i hi
    have hi : i = z := by omega
    subst hi
    simp (disch := (first | assumption | omega | (simp only [up_app, Nat.reduceEqDiff, false_and, and_false, true_and, and_true, if_true, if_false, Nat.add_left_cancel_iff, Nat.add_right_cancel_iff, Nat.add_eq_left, Nat.left_eq_add, tn0, tn1, tn2, tn3, tn4, tn5, tn6, tn7, tn8, tn9]; omega))) only [b182_157, vWC_n, vWC_s, vWC_x, if01a, if01b, if_pos, if_neg, tn0, tn1, tn2, tn3, tn4, tn5, tn6, tn7, tn8, tn9, w32_id, w64_id, Nat.reduceAdd, reduceIte, Int.reduceLT, Int.reduceLE, Int.reduceEq, Int.reduceNe, Int.reduceAdd, Int.reduceSub, Int.reduceMul, Int.reduceNeg, Int.reduceToNat, ne_eq, not_true_eq_false, not_false_eq_true, true_and, and_true, false_and, and_false, true_or, or_true, false_or, or_false, if_true, if_false, and_self, or_self, ite_self]
    exact hQ _
  | succ m ih =>
    intro i hi
    rw [b182_157]
    simp (disch := (first | assumption | omega | (simp only [up_app, Nat.reduceEqDiff, false_and, and_false, true_and, and_true, if_true, if_false, Nat.add_left_cancel_iff, Nat.add_right_cancel_iff, Nat.add_eq_left, Nat.left_eq_add, hE2, tn0, tn1, tn2, tn3, tn4, tn5, tn6, tn7, tn8, tn9]; omega))) only [b182_164, hE2, w8_0, cst1, vWC_n, vWC_s, vWC_x, if01a, if01b, if_pos, if_neg, tn0, tn1, tn2, tn3, tn4, tn5, tn6, tn7, tn8, tn9, w32_id, w64_id, Nat.reduceAdd, reduceIte, Int.reduceLT, Int.reduceLE, Int.reduceEq, Int.reduceNe, Int.reduceAdd, Int.reduceSub, Int.reduceMul, Int.reduceNeg, Int.reduceToNat, ne_eq, not_true_eq_false, not_false_eq_true, true_and, and_true, false_and, and_false, true_or, or_true, false_or, or_false, if_true, if_false, and_self, or_self, ite_self]
    rw [fil_up _ (by decide), fil_step _ _ _ _ _ (by omega), fil_step _ _ _ _ _ (by omega)]
    exact ih (i + 1) (by omega)
theorem t_fill {Q : vE → Prop} {E z : Nat} {x1 x2 x6 : Int} (hL : vL Y) (hE : I 2075 7738 = E) (hz : E + z ≤ 6000) (hQ : ∀ x, vW d 432 (191, [vr 2075, vi x1, vl x2, vu, vl z, vu, vi x6, vi x], [], (fil I 2230 E (E + z) 0, Y)) Q) :
    ∀ m i : Nat, i + m = z → vW d 432 (163, [vr 2075, vi x1, vl x2, vu, vl z, vu, vi x6, vi i], [], (fil I 2230 E (E + i) 0, Y)) Q := by
  intro m
  have hE2 : ∀ i, fil I 2230 E i 0 2075 7738 = E := fun i => by rw [fil_app, if_neg (by omega)]; exact hE
  induction m with
  | zero =>
    intro i hi
    have hi : i = z := by omega
    subst hi
    simp (disch := (first | assumption | omega | (simp only [up_app, Nat.reduceEqDiff, false_and, and_false, true_and, and_true, if_true, if_false, Nat.add_left_cancel_iff, Nat.add_right_cancel_iff, Nat.add_eq_left, Nat.left_eq_add, tn0, tn1, tn2, tn3, tn4, tn5, tn6, tn7, tn8, tn9]; omega))) only [b432_163, vWC_n, vWC_s, vWC_x, if01a, if01b, if_pos, if_neg, tn0, tn1, tn2, tn3, tn4, tn5, tn6, tn7, tn8, tn9, w32_id, w64_id, Nat.reduceAdd, reduceIte, Int.reduceLT, Int.reduceLE, Int.reduceEq, Int.reduceNe, Int.reduceAdd, Int.reduceSub, Int.reduceMul, Int.reduceNeg, Int.reduceToNat, ne_eq, not_true_eq_false, not_false_eq_true, true_and, and_true, false_and, and_false, true_or, or_true, false_or, or_false, if_true, if_false, and_self, or_self, ite_self]
    exact hQ _
  | succ m ih =>
    intro i hi
    rw [b432_163]
    simp (disch := (first | assumption | omega | (simp only [up_app, Nat.reduceEqDiff, false_and, and_false, true_and, and_true, if_true, if_false, Nat.add_left_cancel_iff, Nat.add_right_cancel_iff, Nat.add_eq_left, Nat.left_eq_add, hE2, tn0, tn1, tn2, tn3, tn4, tn5, tn6, tn7, tn8, tn9]; omega))) only [b432_172, hE2, cst1, vWC_n, vWC_s, vWC_x, if01a, if01b, if_pos, if_neg, tn0, tn1, tn2, tn3, tn4, tn5, tn6, tn7, tn8, tn9, w32_id, w64_id, Nat.reduceAdd, reduceIte, Int.reduceLT, Int.reduceLE, Int.reduceEq, Int.reduceNe, Int.reduceAdd, Int.reduceSub, Int.reduceMul, Int.reduceNeg, Int.reduceToNat, ne_eq, not_true_eq_false, not_false_eq_true, true_and, and_true, false_and, and_false, true_or, or_true, false_or, or_false, if_true, if_false, and_self, or_self, ite_self]
    rw [fil_step _ _ _ _ _ (by omega)]
    exact ih (i + 1) (by omega)
/-- what a new array leaves, in the house and in the model -/
def mkC (I J : vJ) (a T n E z N : Nat) : Prop := fr [1964, 1969, 1985, 1992, 1993, 2027, 2028, 2029, 2030, 2031, 2032, 2033, 2034, 2046] [(1990, 3376), (1990, 3377), (1990, 3391)] I J ∧ (∀ p, J 1992 p = if p = T then 1 else I 1992 p) ∧ (∀ p, J 1993 p = if p = T then (n : Int) else I 1993 p) ∧ J 1990 3391 = I 1990 3391 + z * I 2047 17 ∧ (∀ q, J 1964 q = if q = (I 2010 a).toNat then I 1964 q + z * I 2047 17 else I 1964 q) ∧ (∀ q, J 1969 q = if q = (I 2006 a).toNat then I 1969 q + z * I 2047 17 else I 1969 q) ∧ ∀ s, J 2046 s = if s = N then I 2046 s + z else I 2046 s
def mkT (I J : vJ) (a S n E z N : Nat) : Prop := fr [2200, 2206, 2223, 2224, 2225, 2226, 2227, 2228, 2229, 2230, 2232, 2240, 2254] [(2075, 7737), (2075, 7738), (2075, 7735)] I J ∧ (∀ p, J 2206 p = if p = 160 * a + S then 4 * (n : Int) + 1 else I 2206 p) ∧ (∀ p, J 2200 p = if p = a then (S : Int) + 1 else I 2200 p) ∧ J 2075 7735 = I 2075 7735 + z * I 2181 17 ∧ (∀ q, J 2240 q = if q = (I 2201 a).toNat then I 2240 q + z * I 2181 17 else I 2240 q) ∧ (∀ q, J 2254 q = if q = (I 2197 a).toNat then I 2254 q + z * I 2181 17 else I 2254 q) ∧ ∀ s, J 2232 s = if s = N then I 2232 s + z else I 2232 s
theorem w_make2 {Q : vE → vE → Prop} {K K' : vJ} {t T a S n E N z : Nat} {x x' x2 : Int} (hL : vL Y) (hL' : vL Y') (ar : aR I I' n E) (hn : n < 300) (hz : z ≤ 200) (hE : E + z ≤ 6000) (hN : I 1990 3388 = N) (hN' : I' 2075 7729 = N) (hN2 : N ≤ 20000) (ht : t < 8) (hT3 : T + 1 < 46088) (ha : a < 320) (hS3 : S + 1 ≤ 160)
    (hm : I 2006 a = I' 2197 a ∧ 0 ≤ I 2006 a ∧ I 2006 a < 24 ∧ I 2006 a < I 18 266) (hnd : I 2007 a = I' 2198 a ∧ 0 ≤ I 2007 a ∧ I 2007 a < 700) (htr : I 2010 a = I' 2201 a ∧ 0 ≤ I 2010 a ∧ I 2010 a < 200)
    (kr : fr [1985, 2027, 2028, 2029, 2030, 2031, 2032, 2033, 2034] [] I K) (k1 : ∀ j, K 2027 j = if j = n then (E : Int) else I 2027 j) (k2 : ∀ j, K 2028 j = if j = n then (z : Int) else I 2028 j) (k3 : ∀ j, K 2029 j = if j = n then I 2006 a else I 2029 j) (k4 : ∀ j, K 2030 j = if j = n then I 2007 a else I 2030 j) (k5 : ∀ j, K 2031 j = if j = n then (N : Int) else I 2031 j) (k6 : ∀ j, K 2032 j = if j = n then (N : Int) else I 2032 j) (k7 : ∀ j, K 1985 j = if j = n then (-1 : Int) else I 1985 j) (k8 : ∀ e, K 2033 e = if E ≤ e ∧ e < E + z then 0 else I 2033 e) (k9 : ∀ e, K 2034 e = if E ≤ e ∧ e < E + z then 0 else I 2034 e)
    (kr' : fr [2200, 2223, 2224, 2225, 2226, 2227, 2228, 2229, 2230] [(2075, 7737)] I' K') (l0 : K' 2075 7737 = (n : Int) + 1) (l00 : ∀ p, K' 2200 p = if p = a then (S : Int) else I' 2200 p) (l1 : ∀ j, K' 2223 j = if j = n then (E : Int) else I' 2223 j) (l2 : ∀ j, K' 2224 j = if j = n then (z : Int) else I' 2224 j) (l3 : ∀ j, K' 2225 j = if j = n then I' 2197 a else I' 2225 j) (l4 : ∀ j, K' 2226 j = if j = n then I' 2198 a else I' 2226 j) (l5 : ∀ j, K' 2227 j = if j = n then (N : Int) else I' 2227 j) (l6 : ∀ j, K' 2228 j = if j = n then (N : Int) else I' 2228 j) (l7 : ∀ j, K' 2229 j = if j = n then (-1 : Int) else I' 2229 j) (l8 : ∀ e, K' 2230 e = if E ≤ e ∧ e < E + z then 0 else I' 2230 e)
    (hQ2 : ∀ (J J' : vJ) (z : Nat), z ≤ 200 → aR J J' (n + 1) (E + z) → mkC I J a T n E z N → mkT I' J' a S n E z N → Q (.inl (some (vi 0)), (J, Y)) (.inl (some (vi 0)), (J', Y'))) :
    vW (d + 3) 182 (196, [vr 1990, vi t, vi a, vi T, vi z, vi n, vi x], [], (K, Y)) (fun r => vW (d' + 3) 432 (191, [vr 2075, vi a, vl x2, vu, vl z, vu, vi n, vi x'], [], (K', Y')) (fun r' => Q r r')) := by
  obtain ⟨⟨a1, a2⟩, a3, ⟨a4, a4'⟩, a5, a6, a7⟩ := ar
  have r1 := fr_row kr 1990 (fun _ => rfl)
  have r2 := fr_row kr 2010 (fun _ => rfl)
  have r3 := fr_row kr 2006 (fun _ => rfl)
  have r4 := fr_row kr 2047 (fun _ => rfl)
  have r5 := fr_row kr 2046 (fun _ => rfl)
  have r6 := fr_row kr 1964 (fun _ => rfl)
  have r7 := fr_row kr 1969 (fun _ => rfl)
  have s1 : ∀ f, f ≠ 7737 → K' 2075 f = I' 2075 f := fun f hf => kr' 2075 f (frok_ne rfl (by intro p hp; simp only [List.mem_singleton] at hp; subst hp; intro _; exact fun z => hf z.symm))
  have s2 := fr_row kr' 2201 (fun _ => rfl)
  have s3 := fr_row kr' 2197 (fun _ => rfl)
  have s4 := fr_row kr' 2181 (fun _ => rfl)
  have s5 := fr_row kr' 2232 (fun _ => rfl)
  have s6 := fr_row kr' 2240 (fun _ => rfl)
  have s7 := fr_row kr' 2254 (fun _ => rfl)
  have s8 := fr_row kr' 2206 (fun _ => rfl)
  obtain ⟨m, hm1⟩ : ∃ m : Nat, I 2006 a = m := ⟨(I 2006 a).toNat, by omega⟩
  obtain ⟨tr, ht1⟩ : ∃ tr : Nat, I 2010 a = tr := ⟨(I 2010 a).toNat, by omega⟩
  have hm1' : I' 2197 a = m := by omega
  have ht1' : I' 2201 a = tr := by omega
  simp (disch := (first | assumption | omega | (simp only [up_app, Nat.reduceEqDiff, false_and, and_false, true_and, and_true, if_true, if_false, Nat.add_left_cancel_iff, Nat.add_right_cancel_iff, Nat.add_eq_left, Nat.left_eq_add, r1, r2, r3, hN, hm1, ht1, tn0, tn1, tn2, tn3, tn4, tn5, tn6, tn7, tn8, tn9]; omega))) only [b182_196, b182_246, b182_254, b175_0, c_set, up_app, Nat.reduceEqDiff, false_and, and_false, true_and, and_true, if_true, if_false, Nat.add_left_cancel_iff, Nat.add_right_cancel_iff, Nat.add_eq_left, Nat.left_eq_add, r1, r2, r3, r4, r5, r6, r7, a1, a4, hN, hm1, ht1, vWC_n, vWC_s, vWC_x, if01a, if01b, if_pos, if_neg, tn0, tn1, tn2, tn3, tn4, tn5, tn6, tn7, tn8, tn9, w32_id, w64_id, Nat.reduceAdd, reduceIte, Int.reduceLT, Int.reduceLE, Int.reduceEq, Int.reduceNe, Int.reduceAdd, Int.reduceSub, Int.reduceMul, Int.reduceNeg, Int.reduceToNat, ne_eq, not_true_eq_false, not_false_eq_true, true_and, and_true, false_and, and_false, true_or, or_true, false_or, or_false, if_true, if_false, and_self, or_self, ite_self]
  have q1 := s1 7738 (by decide)
  have q2 := s1 7729 (by decide)
  have q3 := s1 7735 (by decide)
  simp (disch := (first | assumption | omega | (simp only [up_app, Nat.reduceEqDiff, false_and, and_false, true_and, and_true, if_true, if_false, Nat.add_left_cancel_iff, Nat.add_right_cancel_iff, Nat.add_eq_left, Nat.left_eq_add, q1, q2, q3, s2, s3, hN', hm1', ht1', tn0, tn1, tn2, tn3, tn4, tn5, tn6, tn7, tn8, tn9]; omega))) only [b432_191, b413_0, up_app, Nat.reduceEqDiff, false_and, and_false, true_and, and_true, if_true, if_false, Nat.add_left_cancel_iff, Nat.add_right_cancel_iff, Nat.add_eq_left, Nat.left_eq_add, q1, q2, q3, s2, s3, s4, s5, s6, s7, a4', hN', hm1', ht1', vWC_n, vWC_s, vWC_x, if01a, if01b, if_pos, if_neg, tn0, tn1, tn2, tn3, tn4, tn5, tn6, tn7, tn8, tn9, w32_id, w64_id, Nat.reduceAdd, reduceIte, Int.reduceLT, Int.reduceLE, Int.reduceEq, Int.reduceNe, Int.reduceAdd, Int.reduceSub, Int.reduceMul, Int.reduceNeg, Int.reduceToNat, ne_eq, not_true_eq_false, not_false_eq_true, true_and, and_true, false_and, and_false, true_or, or_true, false_or, or_false, if_true, if_false, and_self, or_self, ite_self]
  simp (disch := (first | assumption | omega | (simp only [up_app, Nat.reduceEqDiff, false_and, and_false, true_and, and_true, if_true, if_false, Nat.add_left_cancel_iff, Nat.add_right_cancel_iff, Nat.add_eq_left, Nat.left_eq_add, tn0, tn1, tn2, tn3, tn4, tn5, tn6, tn7, tn8, tn9]; omega))) only [b432_234, b433_0, b432_241, vWC_n, vWC_s, vWC_x, if01a, if01b, if_pos, if_neg, tn0, tn1, tn2, tn3, tn4, tn5, tn6, tn7, tn8, tn9, w32_id, w64_id, Nat.reduceAdd, reduceIte, Int.reduceLT, Int.reduceLE, Int.reduceEq, Int.reduceNe, Int.reduceAdd, Int.reduceSub, Int.reduceMul, Int.reduceNeg, Int.reduceToNat, ne_eq, not_true_eq_false, not_false_eq_true, true_and, and_true, false_and, and_false, true_or, or_true, false_or, or_false, if_true, if_false, and_self, or_self, ite_self]
  rw [t_push (S := S) hL' ha (by simp only [up_app, Nat.reduceEqDiff, false_and, and_false, true_and, and_true, if_true, if_false, Nat.add_left_cancel_iff, Nat.add_right_cancel_iff, Nat.add_eq_left, Nat.left_eq_add, l00]) (by omega)]
  simp only [vWC_n, Nat.reduceAdd, b432_244]
  refine hQ2 _ _ z hz ⟨⟨?_, ?_⟩, by omega, ⟨?_, ?_⟩, by omega, fun k hk => ?_, fun e he => ?_⟩ ⟨?_, ?_, ?_, ?_, ?_, ?_, ?_⟩ ⟨?_, ?_, ?_, ?_, ?_, ?_, ?_⟩
  · simp only [up_app, Nat.reduceEqDiff, false_and, and_false, true_and, and_true, if_true, if_false, Nat.add_left_cancel_iff, Nat.add_right_cancel_iff, Nat.add_eq_left, Nat.left_eq_add]; omega
  · simp only [up_app, Nat.reduceEqDiff, false_and, and_false, true_and, and_true, if_true, if_false, Nat.add_left_cancel_iff, Nat.add_right_cancel_iff, Nat.add_eq_left, Nat.left_eq_add, l0]; omega
  · simp only [up_app, Nat.reduceEqDiff, false_and, and_false, true_and, and_true, if_true, if_false, Nat.add_left_cancel_iff, Nat.add_right_cancel_iff, Nat.add_eq_left, Nat.left_eq_add]; omega
  · simp only [up_app, Nat.reduceEqDiff, false_and, and_false, true_and, and_true, if_true, if_false, Nat.add_left_cancel_iff, Nat.add_right_cancel_iff, Nat.add_eq_left, Nat.left_eq_add]; omega
  · simp only [up_app, Nat.reduceEqDiff, false_and, and_false, true_and, and_true, if_true, if_false, Nat.add_left_cancel_iff, Nat.add_right_cancel_iff, Nat.add_eq_left, Nat.left_eq_add, k1, k2, k3, k4, k5, k6, k7, l1, l2, l3, l4, l5, l6, l7]
    by_cases q : k = n
    · simp only [q, if_true]
      exact ⟨⟨trivial, trivial, hm.1, hnd.1, trivial, trivial, trivial⟩, by omega, by omega, by omega, by omega, ⟨hm.2.1, hm.2.2.1, by rw [kr 18 _ rfl]; exact hm.2.2.2⟩, hnd.2, by omega⟩
    · simp only [q, if_false]
      have b := a6 k (by omega)
      exact ⟨b.1, b.2.1, b.2.2.1, by omega, by rw [kr 18 _ rfl]; exact b.2.2.2.2⟩
  · simp only [up_app, Nat.reduceEqDiff, false_and, and_false, true_and, and_true, if_true, if_false, Nat.add_left_cancel_iff, Nat.add_right_cancel_iff, Nat.add_eq_left, Nat.left_eq_add, k8, k9, l8]
    by_cases q : E ≤ e ∧ e < E + z
    · simp only [q, and_self, if_true]; unfold vv; omega
    · simp only [q, if_false]
      have b := a7 e (by omega)
      unfold vv at b ⊢; omega
  · exact fr_upL (fr_upL (fr_upL (fr_upL (fr_upP (fr_upL (fr_upP (fr_upP (fr_weak kr (by decide) (by decide)) rfl _) rfl _) rfl _ _) rfl _) rfl _ _) rfl _ _) rfl _ _) rfl _ _
  · intro p; simp only [up_app, Nat.reduceEqDiff, false_and, and_false, true_and, and_true, if_true, if_false, Nat.add_left_cancel_iff, Nat.add_right_cancel_iff, Nat.add_eq_left, Nat.left_eq_add, fr_row kr 1992 (fun _ => rfl)]
  · intro p; simp only [up_app, Nat.reduceEqDiff, false_and, and_false, true_and, and_true, if_true, if_false, Nat.add_left_cancel_iff, Nat.add_right_cancel_iff, Nat.add_eq_left, Nat.left_eq_add, fr_row kr 1993 (fun _ => rfl)]
  · simp only [up_app, Nat.reduceEqDiff, false_and, and_false, true_and, and_true, if_true, if_false, Nat.add_left_cancel_iff, Nat.add_right_cancel_iff, Nat.add_eq_left, Nat.left_eq_add]
  · intro q; simp only [up_app, Nat.reduceEqDiff, false_and, and_false, true_and, and_true, if_true, if_false, Nat.add_left_cancel_iff, Nat.add_right_cancel_iff, Nat.add_eq_left, Nat.left_eq_add, r6, ht1, tn0]
    by_cases z : q = tr
    · simp only [z, if_true]
    · simp only [z, if_false]
  · intro q; simp only [up_app, Nat.reduceEqDiff, false_and, and_false, true_and, and_true, if_true, if_false, Nat.add_left_cancel_iff, Nat.add_right_cancel_iff, Nat.add_eq_left, Nat.left_eq_add, r7, hm1, tn0]
    by_cases z : q = m
    · simp only [z, if_true]
    · simp only [z, if_false]
  · intro q; simp only [up_app, Nat.reduceEqDiff, false_and, and_false, true_and, and_true, if_true, if_false, Nat.add_left_cancel_iff, Nat.add_right_cancel_iff, Nat.add_eq_left, Nat.left_eq_add, r5]
    by_cases z : q = N
    · simp only [z, if_true]
    · simp only [z, if_false]
  · exact fr_upL (fr_upL (fr_upL (fr_upL (fr_upP (fr_upL (fr_upP (fr_weak kr' (by decide) (by decide)) rfl _) rfl _ _) rfl _) rfl _ _) rfl _ _) rfl _ _) rfl _ _
  · intro p; simp only [up_app, Nat.reduceEqDiff, false_and, and_false, true_and, and_true, if_true, if_false, Nat.add_left_cancel_iff, Nat.add_right_cancel_iff, Nat.add_eq_left, Nat.left_eq_add, s8]
  · intro p; simp only [up_app, Nat.reduceEqDiff, false_and, and_false, true_and, and_true, if_true, if_false, Nat.add_left_cancel_iff, Nat.add_right_cancel_iff, Nat.add_eq_left, Nat.left_eq_add, l00]
    by_cases z : p = a
    · simp only [z, if_true]
    · simp only [z, if_false]
  · simp only [up_app, Nat.reduceEqDiff, false_and, and_false, true_and, and_true, if_true, if_false, Nat.add_left_cancel_iff, Nat.add_right_cancel_iff, Nat.add_eq_left, Nat.left_eq_add]
  · intro q; simp only [up_app, Nat.reduceEqDiff, false_and, and_false, true_and, and_true, if_true, if_false, Nat.add_left_cancel_iff, Nat.add_right_cancel_iff, Nat.add_eq_left, Nat.left_eq_add, s6, ht1', tn0]
    by_cases z : q = tr
    · simp only [z, if_true]
    · simp only [z, if_false]
  · intro q; simp only [up_app, Nat.reduceEqDiff, false_and, and_false, true_and, and_true, if_true, if_false, Nat.add_left_cancel_iff, Nat.add_right_cancel_iff, Nat.add_eq_left, Nat.left_eq_add, s7, hm1', tn0]
    by_cases z : q = m
    · simp only [z, if_true]
    · simp only [z, if_false]
  · intro q; simp only [up_app, Nat.reduceEqDiff, false_and, and_false, true_and, and_true, if_true, if_false, Nat.add_left_cancel_iff, Nat.add_right_cancel_iff, Nat.add_eq_left, Nat.left_eq_add, s5]
    by_cases z : q = N
    · simp only [z, if_true]
    · simp only [z, if_false]
end
