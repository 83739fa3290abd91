/-! ===== looks: a sum over the list of what is reached is the sum over the marks ===== -/
set_option maxRecDepth 20000
set_option maxHeartbeats 4000000
def smL (f : Nat → Int) (l : Nat → Nat) : Nat → Int
  | 0 => 0
  | k + 1 => smL f l k + f (l k)
def smM (f mk : Nat → Int) : Nat → Int
  | 0 => 0
  | n + 1 => smM f mk n + (if mk n = 1 then f n else 0)
theorem smM_del {f mk : Nat → Int} {x : Nat} : ∀ {n : Nat}, smM f (fun y => if y = x then 0 else mk y) n = smM f mk n - (if x < n ∧ mk x = 1 then f x else 0) := by
  intro n
  induction n with
  | zero => rw [if_neg (fun q => Nat.not_lt_zero _ q.1)]; rfl
  | succ n ih =>
    show smM f (fun y => if y = x then 0 else mk y) n + (if (if n = x then 0 else mk n) = 1 then f n else 0) = smM f mk n + (if mk n = 1 then f n else 0) - (if x < n + 1 ∧ mk x = 1 then f x else 0)
    rw [ih]
    by_cases z : n = x
    · subst z
      rw [if_pos rfl, if_neg (fun q => Nat.lt_irrefl _ q.1), if_neg (by decide)]
      by_cases y : mk n = 1
      · rw [if_pos y, if_pos ⟨by omega, y⟩]; omega
      · rw [if_neg y, if_neg (fun q => y q.2)]; omega
    · rw [if_neg z]
      by_cases y : x < n ∧ mk x = 1
      · rw [if_pos y, if_pos (show x < n + 1 ∧ mk x = 1 from ⟨by omega, y.2⟩)]; omega
      · rw [if_neg y, if_neg (show ¬ (x < n + 1 ∧ mk x = 1) from fun q => y ⟨by omega, q.2⟩)]; omega
theorem smL_smM {f : Nat → Int} {l : Nat → Nat} {n : Nat} : ∀ {k : Nat} {mk : Nat → Int}, (∀ j, j < k → l j < n ∧ mk (l j) = 1) → (∀ i j, i < j → j < k → l i ≠ l j) → (∀ x, x < n → mk x = 1 → ∃ j, j < k ∧ l j = x) → smL f l k = smM f mk n := by
  intro k
  induction k with
  | zero =>
    intro mk _ _ h3
    have key : ∀ m, m ≤ n → smM f mk m = 0 := by
      intro m
      induction m with
      | zero => intro _; rfl
      | succ m ih =>
        intro hm
        show smM f mk m + (if mk m = 1 then f m else 0) = 0
        rw [ih (by omega), if_neg (fun q => by
          obtain ⟨j, hj, _⟩ := h3 m (by omega) q
          exact absurd hj (Nat.not_lt_zero _))]
        rfl
    exact (key n (Nat.le_refl _)).symm
  | succ k ih =>
    intro mk h1 h2 h3
    have e := ih (mk := fun y => if y = l k then 0 else mk y) (fun j hj => ⟨(h1 j (by omega)).1, by
      show (if l j = l k then 0 else mk (l j)) = 1
      rw [if_neg (h2 j k hj (by omega))]
      exact (h1 j (by omega)).2⟩) (fun i j hij hj => h2 i j hij (by omega)) (fun x hx q => by
      have q : (if x = l k then 0 else mk x) = 1 := q
      by_cases z : x = l k
      · rw [if_pos z] at q; exact absurd q (by decide)
      · rw [if_neg z] at q
        obtain ⟨j, j1, j2⟩ := h3 x hx q
        refine ⟨j, ?_, j2⟩
        by_cases y : j = k
        · exact absurd (by rw [← y]; exact j2.symm) z
        · omega)
    rw [smM_del, if_pos (h1 k (by omega))] at e
    show smL f l k + f (l k) = smM f mk n
    omega
