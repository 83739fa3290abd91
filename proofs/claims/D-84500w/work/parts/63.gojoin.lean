theorem prC_row (I : vJ) (w : Nat) : ∀ c, c ≠ 65 → c ≠ 1990 → prC I w c = I c := fun c a1 a2 => by
  unfold prC; split
  · rfl
  · rw [up_row _ a2, up_row _ a1]
theorem prT_row (I : vJ) (w : Nat) : ∀ c, c ≠ 2183 → c ≠ 2075 → prT I w c = I c := fun c a1 a2 => by
  unfold prT; split
  · rw [up_row _ a1]
  · rw [up_row _ a2, up_row _ a1]
section
variable {d d' : Nat} {I I' : vJ} {Y Y' : vY}
/-- a way is gone in both houses (but for the locks that the house lets go first) -/
theorem g_go {Q : vE → vE → Prop} {X t w a x y m o n l Nn Lp : Nat} {p : Int} (hL : vL Y) (hL' : vL Y') (hX : Y'.1 2075 7689 = X) (hX2 : X = 2081 ∨ X = 2119) (hV : vreg Y' 2081 38 (Y'.1 2075 7689)) (hG : gL I I' X Nn Lp) (hS : wayS I I' X w x y) (hxN : x < Nn) (hyN : y < Nn) (ha : a < 320)
    (hR0 : hR I I' n) (hlo : loR I I' Lp (fun l => (I 54 l).toNat)) (hT : ∀ j, j < 3840 → I 2014 j = I' 2209 j ∧ 0 ≤ I 2014 j ∧ I 2014 j < 90000000)
    (hdd : I 52 w = 1 → I' (X + 26) x = 1 → I' (X + 26) y = 1 → I 53 w = 0 → I 56 (I 41 x).toNat ≠ I 56 (I 41 y).toNat)
    (hm : I 2006 a = m ∧ I' 2197 a = m ∧ m < 24) (ho : Y.1 1989 m = o ∧ 2297 ≤ o ∧ Y.2.1 o = 15) (hp : I o 3856 = p ∧ I' 2179 m = p ∧ -1 ≤ p ∧ p ≤ 1000000)
    (hah : p ≠ -1 → (∀ (d : Nat) (I1 : vJ) (Q : vE → Prop), (∀ c, 2081 ≤ c → c < 2157 → I1 c = I' c) → I1 2177 = I' 2177 → (vW (d + 1) 406 (0, [vr 2075, vi w, vu, vu], [], (I1, Y')) Q ↔ Q (.inl (some (vi (I 63 w))), (I1, Y')))))
    (heq : p ≠ -1 → I 2011 a = I' 2178 (I' 2202 a).toNat + I' 2203 a ∧ 0 ≤ I' 2202 a ∧ I' 2202 a < 700 ∧ 0 ≤ I 2011 a + I 63 w ∧ I 2011 a + I 63 w < 2000000)
    (hbk : I 53 w = 1 → I 41 y = l ∧ l < 260 ∧ I 38 y ≠ 0 ∧ (p ≠ -1 → I 64 l = I' 2178 y))
    (hroom : (∀ j, j < n → ¬ (I' 2255 j = m ∧ I' 2256 j = I 2011 a + I 63 w)) → n < 24000)
    (hQ : ∀ (J J' : vJ) (n' : Nat), hR J J' n' → hGr I' J' n n' m (I 2011 a + I 63 w) → loR J J' Lp (fun l => (I 54 l).toNat) → (∀ j, j < 3840 → J 2014 j = J' 2209 j ∧ 0 ≤ J 2014 j ∧ (J 2014 j ≤ I 2014 j ∨ J 2014 j = I 2014 j + 1 ∨ J 2014 j ≤ 1)) → goC I J → goT I' J' → (∀ b, b ≠ a → J 2011 b = I 2011 b ∧ J' 2202 b = I' 2202 b ∧ J' 2203 b = I' 2203 b) → (p ≠ -1 → (I 53 w = 1 ∨ ¬ (I 38 y = 1 ∨ I 38 y = 2)) → J 2011 a = J' 2178 (J' 2202 a).toNat + J' 2203 a ∧ (0 ≤ J' 2202 a ∧ J' 2202 a < 700) ∧ J 2011 a = if I 53 w = 1 then I 64 l else I 2011 a + I 63 w) → J 65 = prC I w 65 → J 1990 = prC I w 1990 → J' 2183 = prT I' w 2183 → J' 2075 7736 = prT I' w 2075 7736 → (∀ j, J' 2198 j = (if j = a then (y : Int) else I' 2198 j) ∧ J' 2199 j = (if j = a then I' (X + 11) y else I' 2199 j) ∧ J' 2200 j = if j = a then 0 else I' 2200 j) → Q (.inl none, (J, Y)) (.inl none, (J', Y'))) :
    vW (d + 4) 164 (80, [vr 1990, vi t, vi w, vi a, vi x, vi y, vu], [], (I, Y)) (fun r => vW (d' + 4) 403 (0, [vr 2075, vi a, vi w, vu, vu, vu], [], (I', Y')) (fun r' => Q r r')) := by
  have hS0 := hS
  obtain ⟨⟨w1, w2, w3⟩, ⟨w4, w5, w6, w7⟩, ⟨w8, w9, w10⟩, ⟨w11, w12⟩, ⟨w13, w14, w15⟩, ⟨w16, w17, w18⟩, w19, w20⟩ := hS
  obtain ⟨ey, hey⟩ : ∃ e : Bool, e = true ↔ I' (X + 26) y = 1 ∧ I 53 w = 0 := ⟨decide _, decide_eq_true_iff⟩
  obtain ⟨ex, hex⟩ : ∃ e : Bool, e = true ↔ I 52 w = 1 ∧ I' (X + 26) x = 1 := ⟨decide _, decide_eq_true_iff⟩
  obtain ⟨z, hz⟩ := t_go1 (d' := d') hL' hX hX2 hV hG hS0 hxN hyN ha hlo hT hey hex
  rw [c_probe hL w1 w20]
  simp only [hz]
  have C0 := prC_row I w
  have tf3 : fr [2241, 2242, 2209, 2243, 2244, 2245, 2246, 2247, 2248, 2183] [(2075, 7736)] I' (goT3 I (prT I' w) w a x y ex ey) := fr_trans (fr_weak (prT_fr I' w) (by decide) (by decide)) (fr_weak (goT3_fr I (prT I' w) w a x y ex ey) (by decide) (by decide))
  have hXb : ∀ j, j < 38 → X + j < 2170 ∧ 2075 < X + j := fun j hj => by
    clear w12 w20 hey hex hlo hT hG hbk hah heq hroom hQ hm hp ho
    omega
  have T3x : ∀ c, 2075 < c → c < 2183 → goT3 I (prT I' w) w a x y ex ey c = I' c := fun c c1 c2 => by
    refine fr_row tf3 c (fun f => ?_)
    unfold frok
    have e1 : ∀ q, 2183 ≤ q → Nat.beq q c = false := fun q hq => by
      cases hb : Nat.beq q c with
      | false => rfl
      | true => have := Nat.eq_of_beq_eq_true hb; omega
    have e2 : Nat.beq 2075 c = false := by
      cases hb : Nat.beq 2075 c with
      | false => rfl
      | true => have := Nat.eq_of_beq_eq_true hb; omega
    simp only [List.any_cons, List.any_nil, e2, e1 2241 (by decide), e1 2242 (by decide), e1 2209 (by decide), e1 2243 (by decide), e1 2244 (by decide), e1 2245 (by decide), e1 2246 (by decide), e1 2247 (by decide), e1 2248 (by decide), e1 2183 (by decide), Bool.false_and, Bool.or_self, Bool.not_false, Bool.and_self]
  have T3j : ∀ j, j < 38 → goT3 I (prT I' w) w a x y ex ey (X + j) = I' (X + j) := fun j hj => T3x (X + j) (hXb j hj).2 (Nat.lt_trans (hXb j hj).1 (by decide))
  generalize hT3 : goT3 I (prT I' w) w a x y ex ey = T3 at tf3 T3x T3j
  have r2255 := fr_row tf3 2255 (fun _ => rfl)
  have r2256 := fr_row tf3 2256 (fun _ => rfl)
  have r2202 := fr_row tf3 2202 (fun _ => rfl)
  have r2203 := fr_row tf3 2203 (fun _ => rfl)
  have r2178 := T3x 2178 (by decide) (by decide)
  refine p_part (I := prC I w) (I' := T3) (l := l) (p := p) (m := m) (o := o) (n := n) hL hL' hX hX2 hV ?_ ha w1 ?_ ?_ ho ?_ ?_ ?_ ?_ ?_ ?_ ?_ ?_
  · exact hR_same hR0 (prC_fr I w 1960 _ rfl) (C0 1979 (by decide) (by decide)) (C0 1980 (by decide) (by decide)) (C0 1981 (by decide) (by decide)) (tf3 2075 _ rfl) r2255 r2256 (fr_row tf3 2257 (fun _ => rfl)) (fr_row tf3 2258 (fun _ => rfl))
  · rw [C0 51 (by decide) (by decide), T3j 23 (by decide)]; exact ⟨w5, w7, w3⟩
  · rw [C0 2006 (by decide) (by decide), fr_row tf3 2197 (fun _ => rfl)]; exact hm
  · rw [C0 o (by omega) (by omega), T3x 2179 (by decide) (by decide)]; exact hp
  · rw [C0 53 (by decide) (by decide), T3j 25 (by decide)]; exact ⟨w11, w12⟩
  · rw [C0 38 (by decide) (by decide), T3j 9 (by decide)]; exact ⟨w16, w17, w18⟩
  · intro hp1 d I1 Q c1 c2
    rw [C0 63 (by decide) (by decide)]
    refine hah hp1 d I1 Q (fun c a1 a2 => ?_) (by rw [c2]; exact T3x 2177 (by decide) (by decide))
    rw [c1 c a1 a2]
    exact T3x c (by omega) (by omega)
  · rw [C0 2011 (by decide) (by decide), C0 63 (by decide) (by decide), r2178, r2202, r2203]; exact heq
  · rw [C0 53 (by decide) (by decide), C0 41 (by decide) (by decide), C0 38 (by decide) (by decide), C0 64 (by decide) (by decide), r2178]; exact hbk
  · rw [C0 2011 (by decide) (by decide), C0 63 (by decide) (by decide), r2255, r2256]; exact hroom
  · intro J J' n' hR2 hn' f1 f2 hoth heq2
    rw [C0 2011 (by decide) (by decide), C0 63 (by decide) (by decide)] at hn'
    have JI : ∀ c, c ≠ 65 → c ≠ 1990 → frok [2011, 1979, 1980, 1981] [(1960, 3090)] c 0 = true → c ≠ 1960 → J c = I c := by
      intro c a1 a2 a3 a4
      have : J c = prC I w c := fr_row f1 c (fun f => by
        unfold frok at a3 ⊢
        have e : Nat.beq 1960 c = false := by
          cases hb : Nat.beq 1960 c with
          | false => rfl
          | true => exact absurd (Nat.eq_of_beq_eq_true hb).symm a4
        simp only [List.any_cons, List.any_nil, e, Bool.false_and, Bool.or_self, Bool.not_false, Bool.and_true] at a3 ⊢
        exact a3)
      rw [this]; exact C0 c a1 a2
    have hJ : ∀ c, c = 38 ∨ c = 41 ∨ 50 ≤ c ∧ c ≤ 56 ∨ 1970 ≤ c ∧ c ≤ 1978 ∨ c = 2014 → J c = I c := by
      intro c hc
      refine JI c (by omega) (by omega) ?_ (by omega)
      have e1 : ∀ q, q = 2011 ∨ q = 1979 ∨ q = 1980 ∨ q = 1981 ∨ q = 1960 → Nat.beq q c = false := fun q hq => by
        cases hb : Nat.beq q c with
        | false => rfl
        | true => have := Nat.eq_of_beq_eq_true hb; omega
      unfold frok
      simp only [List.any_cons, List.any_nil, e1 2011 (by decide), e1 1979 (by decide), e1 1980 (by decide), e1 1981 (by decide), e1 1960 (by decide), Bool.false_and, Bool.or_self, Bool.not_false, Bool.and_self]
    rw [c_go2 (d := d + 2) (J := J) hL hG hS0 hxN hyN ha hlo (fun j hj => (hT j hj).2) hJ hey hex]
    rw [b403_276 hL' (by omega) (by omega) hV (by omega) (by omega)]
    rw [hX]
    simp only [tn0]
    have cf := goC3_fr I J w a x y ex ey
    have g11 : up J' 2198 a (y : Int) (X + 11) y = I' (X + 11) y := by
      have := hXb 11 (by decide)
      rw [up_cell _ (by omega)]
      rw [show J' (X + 11) = T3 (X + 11) from fr_row f2 (X + 11) (fun f => by
        have e1 : ∀ q, q = 2202 ∨ q = 2203 ∨ 2255 ≤ q ∨ q = 2075 → Nat.beq q (X + 11) = false := fun q hq => by
          cases hb : Nat.beq q (X + 11) with
          | false => rfl
          | true => have := Nat.eq_of_beq_eq_true hb; omega
        unfold frok
        simp only [List.any_cons, List.any_nil, e1 2202 (by decide), e1 2203 (by decide), e1 2255 (by decide), e1 2256 (by decide), e1 2257 (by decide), e1 2258 (by decide), e1 2075 (by decide), Bool.false_and, Bool.or_self, Bool.not_false, Bool.and_self])]
      rw [T3j 11 (by decide)]
    rw [g11]
    have lo1 : loR (goC3 I J w a x y ex ey) T3 Lp (fun l => (I 54 l).toNat) := by
      rw [← hT3]
      unfold goC3 goT3
      have l0 : loR J (prT I' w) Lp (fun l => (I 54 l).toNat) := loR_same hlo (fun c a1 a2 _ => hJ c (by omega)) (fun c a1 a2 => prT_row I' w c (by omega) (by omega))
      have l1 := lv_R (ar := I 55) (ln := I 54) (n := fun k => I 2014 (12 * a + (I 56 k - 1).toNat)) (h := hw (I 52 w) (I 38 x)) (Lp := Lp) (ky := I 41 y) (hw_lt _ _) (fun k hk => by
        obtain ⟨_, ⟨a3, a4, a5⟩, _⟩ := hG.2.2.1 k hk
        have q := hT (12 * a + (I 56 k - 1).toNat) (by omega)
        exact ⟨q.2.1, by omega⟩) (gL_ar hG) 301 J (prT I' w) (I 41 x) (by rcases gL_of hG hxN with q | q; exact Or.inl q.1; exact Or.inr q.1) l0
      refine lo_ent l1 (fun e => ?_) (fun e => ?_)
      · have q := gL_is hG y hyN (hey.mp e).1
        refine ⟨q.1.1, q.1.2, ?_⟩
        simp only [q.2.1, tn0]
      · have q := gL_is hG x hxN (hex.mp e).2
        refine ⟨q.1.1, q.1.2, ?_⟩
        simp only [q.2.1, tn0]
    have tn1' : ∀ j, j < 3840 → goC3 I J w a x y ex ey 2014 j = T3 2209 j := by
      rw [← hT3]
      unfold goC3 goT3
      refine tn_ent (fun j hj => ?_) (fun e1 e2 => ?_)
      · have a1 := lvC_fr (ar := I 55) (n := fun k => I 2014 (12 * a + (I 56 k - 1).toNat)) (ky := I 41 y) (hw_lt (I 52 w) (I 38 x)) 301 J (I 41 x) (fr_refl [1972, 1973, 1975, 1976, 1977, 1978] [] J)
        have a2 := lvT_fr (ar := I 55) (ln := I 54) (n := fun k => I 2014 (12 * a + (I 56 k - 1).toNat)) (ky := I 41 y) (hw_lt (I 52 w) (I 38 x)) 301 (prT I' w) (I 41 x) (fr_refl [2243, 2244, 2245, 2246, 2247, 2248] [] (prT I' w))
        rw [a1 2014 j rfl, a2 2209 j rfl, prT_row I' w 2209 (by decide) (by decide), hJ 2014 (by decide)]
        exact (hT j hj).1
      · have e3 := hex.mp e1
        have e4 := hey.mp e2
        have q1 := gL_is hG x hxN e3.2
        have q2 := gL_is hG y hyN e4.1
        have q3 := hdd e3.1 e3.2 e4.1 e4.2
        omega
    have tb : ∀ j, j < 3840 → 0 ≤ goC3 I J w a x y ex ey 2014 j ∧ (goC3 I J w a x y ex ey 2014 j ≤ I 2014 j ∨ goC3 I J w a x y ex ey 2014 j = I 2014 j + 1 ∨ goC3 I J w a x y ex ey 2014 j ≤ 1) := by
      intro j hj
      have a1 := lvC_fr (ar := I 55) (n := fun k => I 2014 (12 * a + (I 56 k - 1).toNat)) (ky := I 41 y) (hw_lt (I 52 w) (I 38 x)) 301 J (I 41 x) (fr_refl [1972, 1973, 1975, 1976, 1977, 1978] [] J)
      have a2 := fr_row a1 2014 (fun _ => rfl)
      have q := (hT j hj).2
      unfold goC3
      generalize lvC (I 55) (fun k => I 2014 (12 * a + (I 56 k - 1).toNat)) (hw (I 52 w) (I 38 x)) (I 41 y) 301 J (I 41 x) = C2 at a2
      rw [hJ 2014 (by decide)] at a2
      unfold tuC enC
      generalize 12 * a + (I 56 (I 41 y).toNat - 1).toNat = jy
      generalize 12 * a + (I 56 (I 41 x).toNat - 1).toNat = jx
      clear hT hQ hroom hbk heq hah hdd hlo hex hey w12 w20 heq2 hoth hJ JI tn1' lo1
      cases ex <;> cases ey <;> simp only [Bool.false_eq_true, if_false, if_true, up_app, Nat.reduceEqDiff, false_and, and_false, true_and, and_true, if_true, if_false, Nat.add_left_cancel_iff, Nat.add_right_cancel_iff, Nat.add_eq_left, Nat.left_eq_add, a2] <;> (repeat' split) <;> (try subst_vars) <;> omega
    refine hQ _ _ n' ?_ (hGr_eq hn' r2255 r2256 (by rw [up_row _ (by decide), up_row _ (by decide), up_row _ (by decide)]) (by rw [up_row _ (by decide), up_row _ (by decide), up_row _ (by decide)]) (fr_row tf3 2257 (fun _ => rfl)) (by rw [up_row _ (by decide), up_row _ (by decide), up_row _ (by decide)])) ?_ ?_ ?_ ?_ ?_ ?_ ?_ ?_ ?_ ?_ ?_
    · exact hR_same hR2 (cf 1960 _ rfl) (fr_row cf 1979 (fun _ => rfl)) (fr_row cf 1980 (fun _ => rfl)) (fr_row cf 1981 (fun _ => rfl)) (by rw [up_cell _ (by decide), up_cell _ (by decide), up_cell _ (by decide)]) (by rw [up_row _ (by decide), up_row _ (by decide), up_row _ (by decide)]) (by rw [up_row _ (by decide), up_row _ (by decide), up_row _ (by decide)]) (by rw [up_row _ (by decide), up_row _ (by decide), up_row _ (by decide)]) (by rw [up_row _ (by decide), up_row _ (by decide), up_row _ (by decide)])
    · refine loR_same lo1 (fun _ _ _ _ => rfl) (fun c a1 a2 => ?_)
      rw [up_row _ (by omega), up_row _ (by omega), up_row _ (by omega)]
      have e1 : ∀ q, q = 2202 ∨ q = 2203 ∨ 2255 ≤ q ∨ q = 2075 → Nat.beq q c = false := fun q hq => by
        cases hb : Nat.beq q c with
        | false => rfl
        | true => have := Nat.eq_of_beq_eq_true hb; omega
      refine fr_row f2 c (fun f => ?_)
      unfold frok
      simp only [List.any_cons, List.any_nil, e1 2202 (by decide), e1 2203 (by decide), e1 2255 (by decide), e1 2256 (by decide), e1 2257 (by decide), e1 2258 (by decide), e1 2075 (by decide), Bool.false_and, Bool.or_self, Bool.not_false, Bool.and_self]
    · intro j hj
      rw [up_cell _ (by decide), up_cell _ (by decide), up_cell _ (by decide), f2 2209 j rfl]
      exact ⟨tn1' j hj, tb j hj⟩
    · exact fr_trans (fr_weak (prC_fr I w) (by decide) (by decide)) (fr_trans (fr_weak f1 (by decide) (by decide)) (fr_weak cf (by decide) (by decide)))
    · exact fr_upL (fr_upL (fr_upL (fr_trans (fr_weak tf3 (by decide) (by decide)) (fr_weak f2 (by decide) (by decide))) rfl _ _) rfl _ _) rfl _ _
    · intro b hb
      have q := hoth b hb
      rw [cf 2011 b rfl, up_cell _ (by decide), up_cell _ (by decide), up_cell _ (by decide), up_cell _ (by decide), up_cell _ (by decide), up_cell _ (by decide), q.1, q.2.1, q.2.2, C0 2011 (by decide) (by decide), r2202, r2203]
      exact ⟨rfl, rfl, rfl⟩
    · intro h1 h2
      have q := heq2 h1 (by rw [C0 53 (by decide) (by decide), C0 38 (by decide) (by decide)]; exact h2)
      rw [C0 53 (by decide) (by decide), C0 64 (by decide) (by decide), C0 2011 (by decide) (by decide), C0 63 (by decide) (by decide)] at q
      rw [cf 2011 a rfl, up_row _ (show 2178 ≠ 2200 by decide), up_row _ (show 2178 ≠ 2199 by decide), up_row _ (show 2178 ≠ 2198 by decide), up_cell _ (show 2202 ≠ 2200 by decide), up_cell _ (show 2202 ≠ 2199 by decide), up_cell _ (show 2202 ≠ 2198 by decide), up_cell _ (show 2203 ≠ 2200 by decide), up_cell _ (show 2203 ≠ 2199 by decide), up_cell _ (show 2203 ≠ 2198 by decide)]
      exact q
    · rw [fr_row cf 65 (fun _ => rfl), fr_row f1 65 (fun _ => rfl)]
    · rw [fr_row cf 1990 (fun _ => rfl), fr_row f1 1990 (fun _ => rfl)]
    · rw [up_row _ (by decide), up_row _ (by decide), up_row _ (by decide), fr_row f2 2183 (fun _ => rfl), ← hT3]
      exact fr_row (goT3_fr I (prT I' w) w a x y ex ey) 2183 (fun _ => rfl)
    · rw [up_cell _ (by decide), up_cell _ (by decide), up_cell _ (by decide), f2 2075 _ rfl, ← hT3]
      exact goT3_fr I (prT I' w) w a x y ex ey 2075 _ rfl
    · intro j
      rw [up_cell _ (show 2198 ≠ 2200 by decide), up_cell _ (show 2198 ≠ 2199 by decide), up_at, up_cell _ (show 2199 ≠ 2200 by decide), up_at, up_cell _ (show 2199 ≠ 2198 by decide), up_at, up_cell _ (show 2200 ≠ 2199 by decide), up_cell _ (show 2200 ≠ 2198 by decide), f2 2198 j rfl, f2 2199 j rfl, f2 2200 j rfl, tf3 2198 j rfl, tf3 2199 j rfl, tf3 2200 j rfl]
      exact ⟨rfl, rfl, rfl⟩
end
