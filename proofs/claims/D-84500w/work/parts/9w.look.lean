/-! ===== looks: how many, how much, what is lost, in both houses ===== -/
set_option maxRecDepth 20000
set_option maxHeartbeats 4000000
theorem smM_bd {f mk : Nat → Int} {b : Int} : ∀ {n : Nat}, (∀ x, x < n → 0 ≤ f x ∧ f x ≤ b) → 0 ≤ smM f mk n ∧ smM f mk n ≤ n * b := by
  intro n
  induction n with
  | zero => intro _; exact ⟨Int.le_refl _, by show (0 : Int) ≤ ((0 : Nat) : Int) * b; rw [show ((0 : Nat) : Int) = 0 from rfl, Int.zero_mul]; exact Int.le_refl _⟩
  | succ n ih =>
    intro h
    have q := ih (fun x hx => h x (by omega))
    have w := h n (by omega)
    have e : ((n + 1 : Nat) : Int) * b = n * b + b := by
      rw [show ((n + 1 : Nat) : Int) = (n : Int) + 1 from rfl, Int.add_mul, Int.one_mul]
    show 0 ≤ smM f mk n + (if mk n = 1 then f n else 0) ∧ smM f mk n + (if mk n = 1 then f n else 0) ≤ ((n + 1 : Nat) : Int) * b
    rw [e]
    split <;> omega
theorem smM_congr {f g mk : Nat → Int} : ∀ {n : Nat}, (∀ x, x < n → f x = g x) → smM f mk n = smM g mk n := by
  intro n
  induction n with
  | zero => intro _; rfl
  | succ n ih =>
    intro h
    show smM f mk n + (if mk n = 1 then f n else 0) = smM g mk n + (if mk n = 1 then g n else 0)
    rw [ih (fun x hx => h x (by omega)), h n (by omega)]
theorem smM_mk {f mk ml : Nat → Int} : ∀ {n : Nat}, (∀ x, x < n → mk x = ml x) → smM f mk n = smM f ml n := by
  intro n
  induction n with
  | zero => intro _; rfl
  | succ n ih =>
    intro h
    show smM f mk n + (if mk n = 1 then f n else 0) = smM f ml n + (if ml n = 1 then f n else 0)
    rw [ih (fun x hx => h x (by omega)), h n (by omega)]
theorem fr_both {L : List Nat} {P : List (Nat × Nat)} {I J : vJ} (h : fr L P I J) (c k : Nat) (x : Int) : fr L P (up I c k x) (up J c k x) := fun a b e => by
  unfold up
  by_cases z : a = c ∧ b = k
  · rw [if_pos z, if_pos z]
  · rw [if_neg z, if_neg z]; exact h a b e
section
variable {d d' : Nat} {Y Y' : vY} {I I' : vJ} {n : Nat}
/-- the house: the sum over the row -/
theorem c_sum {J : vJ} {k : Nat} {P : vE → Prop} (hL : vL Y) (hk : J 1960 3099 = k) (k3 : k ≤ 300) (hr : ∀ j : Nat, j < k → ∃ x : Nat, x < 300 ∧ J 1986 j = x) : ∀ (m i : Nat), i + m = k → (vW d 150 (25, [vr 1960, vr 1990, vi (smL (fun x => 16 + 8 * J 2028 x) (fun j => (J 1986 j).toNat) i), vi (i : Int)], [], (J, Y)) P ↔ vW d 150 (61, [vr 1960, vr 1990, vi (smL (fun x => 16 + 8 * J 2028 x) (fun j => (J 1986 j).toNat) k), vi ((0 : Nat) : Int)], [], (J, Y)) P) := by
  have e1 : Y.1 1990 3369 = 2028 := lP hL 1990 3369 2028 rfl
  intro m
  induction m with
  | zero =>
    intro i hi
    have hi : i = k := by omega
    rw [hi, b150_25 hL, hk, if_pos (Int.le_refl _), b150_59]
    exact Iff.rfl
  | succ m ih =>
    intro i hi
    obtain ⟨x, x1, x2⟩ := hr i (by omega)
    rw [b150_25 hL, hk, if_neg (by rw [w32_id (by omega) (by omega), w32_id (by omega) (by omega)]; omega), b150_33 hL (by decide) (lK hL 1990 13 rfl) (by omega) (by omega) (by rw [tn0, x2]; omega) (by rw [tn0, x2, e1, lLn hL 2028 300 rfl]; omega) (by rw [tn0, x2]; omega) (by rw [e1]; exact lK hL 2028 100 rfl), e1, tn0]
    exact ih (i + 1) (by omega)
/-- the house: what is lost for the first time -/
theorem c_lost {J : vJ} {P : vE → Prop} {x2 : Int} {lk : Nat} (hL : vL Y) (hn : n ≤ 300) (hA : J 1990 3376 = n) (hlk : J 1960 3094 = lk) (hm : ∀ x, x < n → J 1988 x = 0 ∨ J 1988 x = 1) (h5 : ∀ x, x < n → -1 ≤ J 1985 x ∧ J 1985 x < 400)
    (hQ : ∀ K : vJ, fr [1985] [] J K → (∀ x, x < n → K 1985 x = if J 1988 x = 0 ∧ J 1985 x = -1 then (lk : Int) else J 1985 x) → vW d 150 (104, [vr 1960, vr 1990, vi x2, vi (n : Int)], [], (K, Y)) P) :
    vW d 150 (61, [vr 1960, vr 1990, vi x2, vi ((0 : Nat) : Int)], [], (J, Y)) P := by
  have key : ∀ (m i : Nat) (K : vJ), i + m = n → fr [1985] [] J K → (∀ x, x < i → K 1985 x = if J 1988 x = 0 ∧ J 1985 x = -1 then (lk : Int) else J 1985 x) → (∀ x, i ≤ x → K 1985 x = J 1985 x) → vW d 150 (61, [vr 1960, vr 1990, vi x2, vi (i : Int)], [], (K, Y)) P := by
    intro m
    induction m with
    | zero =>
      intro i K hi hf h1 h2
      have hi : i = n := by omega
      rw [hi, b150_61 (by decide) (lK hL 1990 13 rfl), hf 1990 _ rfl, hA, if_pos (Int.le_refl _)]
      exact hQ K hf (fun x hx => h1 x (by omega))
    | succ m ih =>
      intro i K hi hf h1 h2
      have hk1 := hm i (by omega)
      have hk5 := h5 i (by omega)
      have e8 : K 1988 i = J 1988 i := hf 1988 _ rfl
      have e5 : K 1985 i = J 1985 i := h2 i (Nat.le_refl _)
      rw [b150_61 (by decide) (lK hL 1990 13 rfl), hf 1990 _ rfl, hA, if_neg (by rw [w32_id (by omega) (by omega), w32_id (by omega) (by omega)]; omega), b150_69 hL (by omega) (by omega), tn0, e8]
      by_cases z : J 1988 i = 0
      · rw [if_neg (by rw [z]; exact fun q => q rfl), b150_78 hL (by omega) (by omega), tn0, e5]
        by_cases y : J 1985 i = -1
        · rw [if_neg (by rw [y]; exact fun q => q rfl), b150_88 hL (by omega) (by omega), tn0, hf 1960 _ rfl, hlk, b150_98]
          refine ih (i + 1) _ (by omega) (fr_upL hf rfl _ _) (fun x hx => ?_) (fun x hx => ?_)
          · rw [up_at]
            by_cases w : x = i
            · rw [if_pos w, w, if_pos ⟨z, y⟩]
            · rw [if_neg w]; exact h1 x (by omega)
          · rw [up_place _ _ (by omega)]; exact h2 x (by omega)
        · rw [if_pos (by rw [w32_id (by omega) (by omega), w32_id (by decide) (by decide)]; exact y), b150_98]
          refine ih (i + 1) K (by omega) hf (fun x hx => ?_) (fun x hx => h2 x (by omega))
          by_cases w : x = i
          · rw [w, if_neg (fun q => y q.2)]; exact e5
          · exact h1 x (by omega)
      · rw [if_pos (by rw [w32_id (by omega) (by omega)]; exact z), b150_98]
        refine ih (i + 1) K (by omega) hf (fun x hx => ?_) (fun x hx => h2 x (by omega))
        by_cases w : x = i
        · rw [w, if_neg (fun q => z q.1)]; exact e5
        · exact h1 x (by omega)
  exact key n 0 J (by omega) (fr_refl _ _ _) (fun x hx => absurd hx (Nat.not_lt_zero _)) (fun _ _ => rfl)
/-- the model: both at once -/
theorem t_sum {J' : vJ} {P : vE → Prop} {lk : Nat} (hL' : vL Y') (hn : n ≤ 300) (hA : J' 2075 7737 = n) (lk4 : lk < 400) (h0 : J' 2262 lk = 0) (hm : ∀ x, x < n → J' 2266 x = 0 ∨ J' 2266 x = 1) (h5 : ∀ x, x < n → -1 ≤ J' 2229 x ∧ J' 2229 x < 400)
    (hQ : ∀ K' : vJ, fr [2229, 2262] [] J' K' → (∀ x, x < n → K' 2229 x = if J' 2266 x = 0 ∧ J' 2229 x = -1 then (lk : Int) else J' 2229 x) → K' 2262 lk = smM (fun x => 16 + 8 * J' 2224 x) (J' 2266) n → (∀ j, j ≠ lk → K' 2262 j = J' 2262 j) → P (.inl (some (vi (lk : Int))), (K', Y'))) :
    vW d' 453 (67, [vr 2075, vi (lk : Int), vi ((0 : Nat) : Int)], [], (J', Y')) P := by
  have key : ∀ (m i : Nat) (K : vJ), i + m = n → fr [2229, 2262] [] J' K → (∀ x, x < i → K 2229 x = if J' 2266 x = 0 ∧ J' 2229 x = -1 then (lk : Int) else J' 2229 x) → (∀ x, i ≤ x → K 2229 x = J' 2229 x) → K 2262 lk = smM (fun x => 16 + 8 * J' 2224 x) (J' 2266) i → (∀ j, j ≠ lk → K 2262 j = J' 2262 j) → vW d' 453 (67, [vr 2075, vi (lk : Int), vi (i : Int)], [], (K, Y')) P := by
    intro m
    induction m with
    | zero =>
      intro i K hi hf h1 h2 h3 h4
      have hi : i = n := by omega
      rw [hi] at h3
      rw [hi, b453_67 hL', hf 2075 _ rfl, hA, if_pos (Int.le_refl _), b453_130]
      exact hQ K hf (fun x hx => h1 x (by omega)) h3 h4
    | succ m ih =>
      intro i K hi hf h1 h2 h3 h4
      have hk1 := hm i (by omega)
      have hk5 := h5 i (by omega)
      have e8 : K 2266 i = J' 2266 i := hf 2266 _ rfl
      have e4 : K 2224 i = J' 2224 i := hf 2224 _ rfl
      have e5 : K 2229 i = J' 2229 i := h2 i (Nat.le_refl _)
      have sm : smM (fun x => 16 + 8 * J' 2224 x) (J' 2266) (i + 1) = smM (fun x => 16 + 8 * J' 2224 x) (J' 2266) i + (if J' 2266 i = 1 then 16 + 8 * J' 2224 i else 0) := rfl
      rw [b453_67 hL', hf 2075 _ rfl, hA, if_neg (by rw [w32_id (by omega) (by omega), w32_id (by omega) (by omega)]; omega), b453_75 hL' (by omega) (by omega), tn0, e8]
      by_cases z : J' 2266 i = 0
      · rw [if_neg (by rw [z]; decide), Int.add_zero] at sm
        rw [if_pos (by rw [z]; rfl), b453_108 hL' (by omega) (by omega), tn0, e5]
        by_cases y : J' 2229 i = -1
        · rw [if_neg (by rw [y]; decide), b453_117 hL' (by omega) (by omega), tn0, b453_124]
          refine ih (i + 1) _ (by omega) (fr_upL hf rfl _ _) (fun x hx => ?_) (fun x hx => ?_) (by rw [up_cell _ (by decide), sm]; exact h3) (fun j hj => by rw [up_cell _ (by decide)]; exact h4 j hj)
          · rw [up_at]
            by_cases w : x = i
            · rw [if_pos w, w, if_pos ⟨z, y⟩]
            · rw [if_neg w]; exact h1 x (by omega)
          · rw [up_place _ _ (by omega)]; exact h2 x (by omega)
        · rw [if_pos (by rw [w32_id (by omega) (by omega)]; omega), b453_124]
          refine ih (i + 1) K (by omega) hf (fun x hx => ?_) (fun x hx => h2 x (by omega)) (by rw [sm]; exact h3) h4
          by_cases w : x = i
          · rw [w, if_neg (fun q => y q.2)]; exact e5
          · exact h1 x (by omega)
      · have z1 : J' 2266 i = 1 := hk1.resolve_left z
        rw [if_pos z1] at sm
        rw [if_neg (by rw [z1]; decide), b453_84 hL' (by omega) (by omega) (by omega) (by omega), tn0, tn0, e4, b453_124]
        refine ih (i + 1) _ (by omega) (fr_upL hf rfl _ _) (fun x hx => ?_) (fun x hx => ?_) (by rw [up_same, sm, h3]) (fun j hj => by rw [up_place _ _ hj]; exact h4 j hj)
        · rw [up_cell _ (by decide)]
          by_cases w : x = i
          · rw [w, if_neg (fun q => z q.1)]; exact e5
          · exact h1 x (by omega)
        · rw [up_cell _ (by decide)]; exact h2 x (by omega)
  exact key n 0 J' (by omega) (fr_refl _ _ _) (fun x hx => absurd hx (Nat.not_lt_zero _)) (fun _ _ => rfl) h0 (fun _ _ => rfl)
end
