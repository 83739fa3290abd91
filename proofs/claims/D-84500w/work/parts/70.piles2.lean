/-! ===== values of threads when an activation comes, and goes ===== -/
theorem vv_0 {n : Int} : vv n 0 0 0 := Or.inl ⟨rfl, by decide, by decide, by decide⟩
theorem thV_enter {n : Int} {nm : Nat → Nat} {I I' J J' : vJ} {t A p nn T S m : Nat} (h : thV n nm I I' t A 0) (hA : 0 < A) (hA2 : A < 40) (hm : nm m = p + nn) (hpn : p + nn ≤ 16) (hT : I 1994 t = T) (hS : I' 2200 (40 * t + (A - 1)) = (S : Int) + p)
    (e1 : ∀ q, J 1992 q = if T ≤ q ∧ q < T + nn then 0 else I 1992 q) (e2 : ∀ q, J 1993 q = if T ≤ q ∧ q < T + nn then 0 else I 1993 q) (e3 : ∀ u, J 1994 u = if u = t then ((T + nn : Nat) : Int) else I 1994 u) (e4 : ∀ b, J 2009 b = if b = 40 * t + A then (T : Int) - p else I 2009 b) (e5 : ∀ b, J 2006 b = if b = 40 * t + A then (m : Int) else I 2006 b) (e6 : ∀ b, J' 2200 b = if b = 40 * t + A then 0 else if b = 40 * t + (A - 1) then (S : Int) else I' 2200 b)
    (e7 : ∀ q, J' 2205 q = if 16 * (40 * t + A) ≤ q ∧ q < 16 * (40 * t + A) + 16 then (if q - 16 * (40 * t + A) < p then I' 2206 (160 * (40 * t + (A - 1)) + S + (q - 16 * (40 * t + A))) else 0) else I' 2205 q) (e8 : J' 2206 = I' 2206) :
    thV n nm J J' t (A + 1) 0 ∧ ∀ u, u ≠ t → agV I I' J J' u := by
  obtain ⟨b, s, h1, h2, h3, h4, h5, h6, h7⟩ := h
  have bd := thV_bd h2 h3 (fun k hk => ⟨(h1 k hk).2.2.1, (h1 k hk).2.2.2⟩)
  have ov := thV_up h3
  have t1 := h1 (A - 1) (by omega)
  have t2 := bd (A - 1) (by omega)
  have t5 := h5 hA
  have hs : s (A - 1) = S + p := by omega
  have hTe : T = b (A - 1) + nm (I 2006 (40 * t + (A - 1))).toNat + (S + p) := by omega
  refine ⟨⟨fun k => if k = A then T - p else b k, fun k => if k = A then 0 else if k = A - 1 then S else s k, fun k hk => ?_, fun _ => ?_, fun k hk => ?_, fun hA0 => by omega, fun _ => ?_, fun k i a c => ?_, fun k i a c f => ?_⟩, fun u hu => ?_⟩
  · rw [e4, e5, e6]
    by_cases z : k = A
    · subst z
      simp only [if_true, tn0]
      exact ⟨by omega, rfl, by omega, by omega⟩
    · have z2 : ¬ 40 * t + k = 40 * t + A := by omega
      have q := h1 k (by omega)
      simp only [z, z2, if_false]
      refine ⟨q.1, ?_, q.2.2.1, ?_⟩
      · by_cases y : k = A - 1
        · rw [if_pos (by omega), if_pos y]
        · rw [if_neg (by omega), if_neg y]; exact q.2.1
      · by_cases y : k = A - 1
        · rw [if_pos y]; omega
        · rw [if_neg y]; exact q.2.2.2
  · have z : ¬ 0 = A := by omega
    simp only [z, if_false]
    exact h2 hA
  · rw [e5]
    have z : ¬ k = A := by omega
    have z2 : ¬ 40 * t + k = 40 * t + A := by omega
    simp only [z, z2, if_false]
    by_cases y : k = A - 1
    · subst y
      rw [if_pos (by omega), if_pos rfl]
      omega
    · rw [if_neg (by omega), if_neg y]
      exact h3 k (by omega)
  · rw [e3, e5]
    simp only [Nat.add_sub_cancel, if_true, tn0]
    exact ⟨by omega, by omega⟩
  · rw [e5] at c
    by_cases z : k = A
    · subst z
      simp only [if_true, tn0] at c ⊢
      rw [e1, e2, e7, if_pos (show 16 * (40 * t + k) ≤ 16 * (40 * t + k) + i ∧ 16 * (40 * t + k) + i < 16 * (40 * t + k) + 16 by omega), show 16 * (40 * t + k) + i - 16 * (40 * t + k) = i by omega]
      by_cases y : i < p
      · rw [if_neg (show ¬ (T ≤ T - p + i ∧ T - p + i < T + nn) by omega), if_neg (show ¬ (T ≤ T - p + i ∧ T - p + i < T + nn) by omega), if_pos y]
        have g := h7 (k - 1) (S + i) (by omega) (by omega) (by omega)
        rw [show b (k - 1) + nm (I 2006 (40 * t + (k - 1))).toNat + (S + i) = T - p + i by omega, show 160 * (40 * t + (k - 1)) + (S + i) = 160 * (40 * t + (k - 1)) + S + i by omega] at g
        exact g
      · rw [if_pos (show T ≤ T - p + i ∧ T - p + i < T + nn by omega), if_pos (show T ≤ T - p + i ∧ T - p + i < T + nn by omega), if_neg y]
        exact vv_0
    · have z2 : ¬ 40 * t + k = 40 * t + A := by omega
      simp only [z, z2, if_false] at c ⊢
      have q := bd k (by omega)
      have q2 := h1 k (by omega)
      have lt : b k + i < T := by
        by_cases y : k = A - 1
        · subst y; omega
        · have := ov (A - 1) k (by omega) (by omega); omega
      rw [e1, e2, e7, if_neg (by omega), if_neg (by omega), if_neg (by omega)]
      exact h6 k i (by omega) c
  · by_cases z : k = A
    · subst z
      have := f rfl
      simp only [if_true] at this
      omega
    · have z2 : ¬ 40 * t + k = 40 * t + A := by omega
      have c' := c (by omega)
      rw [e5, e1, e2, e8]
      simp only [z, z2, if_false] at c' ⊢
      have q := bd k (by omega)
      have q2 := h1 k (by omega)
      by_cases y : k = A - 1
      · subst y
        rw [if_pos rfl] at c'
        rw [if_neg (by omega), if_neg (by omega)]
        exact h7 _ i (by omega) (by omega) (by omega)
      · rw [if_neg y] at c'
        have := ov (A - 1) k (by omega) (by omega)
        rw [if_neg (by omega), if_neg (by omega)]
        exact h7 k i (by omega) (by omega) (by omega)
  · refine agV_of hu (fun q hq => ?_) (fun v hv => ?_) (fun a ha => ?_) (fun q hq => ?_) (fun q hq => ?_)
    · rw [e1, e2, if_neg (by omega), if_neg (by omega)]; exact ⟨rfl, rfl⟩
    · rw [e3, if_neg hv]
    · rw [e4, e5, e6, if_neg (by omega), if_neg (by omega), if_neg (by omega), if_neg (by omega)]; exact ⟨rfl, rfl, rfl⟩
    · rw [e7, if_neg (by omega)]
    · rw [e8]
/-- a new thread's first activation -/
theorem thV_start {n : Int} {nm : Nat → Nat} {I' J J' : vJ} {t p nn m : Nat} (hm : nm m = p + nn) (hpn : p + nn ≤ 16)
    (e1 : ∀ i, i < p → vv n (J 1992 (8 + 5760 * t + i)) (J 1993 (8 + 5760 * t + i)) (I' 2263 i)) (e2 : ∀ i, p ≤ i → i < p + nn → J 1992 (8 + 5760 * t + i) = 0 ∧ J 1993 (8 + 5760 * t + i) = 0) (e3 : J 1994 t = ((8 + 5760 * t + p + nn : Nat) : Int)) (e4 : J 2009 (40 * t) = ((8 + 5760 * t : Nat) : Int)) (e5 : J 2006 (40 * t) = (m : Int)) (e6 : J' 2200 (40 * t) = 0)
    (e7 : ∀ i, i < 16 → J' 2205 (16 * (40 * t) + i) = if i < p then I' 2263 i else 0) :
    thV n nm J J' t 1 0 := by
  have k0 : ∀ k, k < 1 → k = 0 := fun k hk => by omega
  refine ⟨fun _ => 8 + 5760 * t, fun _ => 0, fun k hk => ?_, fun _ => rfl, fun k hk => by omega, fun hA0 => by omega, fun _ => ?_, fun k i a c => ?_, fun k i a c f => ?_⟩
  · have := k0 k hk; subst this
    rw [Nat.add_zero, e4, e5, e6]
    simp only [tn0]
    exact ⟨by trivial, by trivial, by omega, by omega⟩
  · simp only [Nat.sub_self, Nat.add_zero]
    rw [e3, e5]
    simp only [tn0]
    exact ⟨by omega, by omega⟩
  · have := k0 k a; subst this
    rw [Nat.add_zero, e5, tn0, hm] at c
    rw [Nat.add_zero, e7 i (by omega)]
    by_cases y : i < p
    · rw [if_pos y]; exact e1 i y
    · rw [if_neg y, (e2 i (by omega) c).1, (e2 i (by omega) c).2]; exact vv_0
  · have := k0 k a; subst this
    have z : i + 0 < 0 := f rfl
    omega
/-- the innermost activation goes -/
theorem thV_leave {n : Int} {nm : Nat → Nat} {I I' J J' : vJ} {t A : Nat} (h : thV n nm I I' t (A + 1) 0) (hA2 : A < 40)
    (e1 : J 1992 = I 1992) (e2 : J 1993 = I 1993) (e3 : ∀ u, J 1994 u = if u = t then I 2009 (40 * t + A) else I 1994 u) (e4 : J 2009 = I 2009) (e5 : J 2006 = I 2006) (e6 : ∀ a, a ≠ 40 * t + A → J' 2200 a = I' 2200 a) (e7 : J' 2205 = I' 2205) (e8 : J' 2206 = I' 2206) :
    thV n nm J J' t A 0 ∧ ∀ u, u ≠ t → agV I I' J J' u := by
  obtain ⟨b, s, h1, h2, h3, h4, h5, h6, h7⟩ := h
  have t1 := h1 A (by omega)
  refine ⟨⟨b, s, fun k hk => ?_, fun hA0 => h2 (by omega), fun k hk => ?_, fun hA0 => ?_, fun hA0 => ?_, fun k i a c => ?_, fun k i a c f => ?_⟩, fun u hu => ?_⟩
  · rw [e4, e5, e6 _ (by omega)]; exact h1 k (by omega)
  · rw [e5]; exact h3 k (by omega)
  · subst hA0
    rw [e3, if_pos rfl, t1.1, h2 (by omega)]; omega
  · have g := h3 (A - 1) (by omega)
    rw [show A - 1 + 1 = A by omega] at g
    rw [e3, e5, if_pos rfl, t1.1]
    exact ⟨by omega, by omega⟩
  · rw [e5] at c
    rw [e1, e2, e7]; exact h6 k i (by omega) c
  · rw [e5, e1, e2, e8]
    refine h7 k i (by omega) (fun _ => ?_) (fun z => by omega)
    by_cases y : k + 1 < A
    · exact c y
    · have := f (by omega); omega
  · refine agV_of hu (fun q hq => ?_) (fun v hv => ?_) (fun a ha => ?_) (fun q hq => ?_) (fun q hq => ?_)
    · rw [e1, e2]; exact ⟨rfl, rfl⟩
    · rw [e3, if_neg hv]
    · rw [e4, e5, e6 _ (by omega)]; exact ⟨rfl, rfl, rfl⟩
    · rw [e7]
    · rw [e8]
