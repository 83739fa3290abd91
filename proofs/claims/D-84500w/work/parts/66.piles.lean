/-! ===== values of threads: names and piles of their activations ===== -/
/-- thread t with A activations; dl: how many values wait in the model alone (a lock's or a thread's number) -/
def thV (n : Int) (nm : Nat → Nat) (I I' : vJ) (t A dl : Nat) : Prop := ∃ b s : Nat → Nat,
  (∀ k, k < A → I 2009 (40 * t + k) = b k ∧ I' 2200 (40 * t + k) = s k ∧ nm (I 2006 (40 * t + k)).toNat ≤ 16 ∧ s k ≤ 128) ∧
  (0 < A → b 0 = 8 + 5760 * t) ∧
  (∀ k, k + 1 < A → b (k + 1) = b k + nm (I 2006 (40 * t + k)).toNat + s k) ∧
  (A = 0 → I 1994 t = 8 + 5760 * t) ∧
  (0 < A → I 1994 t + dl = b (A - 1) + nm (I 2006 (40 * t + (A - 1))).toNat + s (A - 1) ∧ dl ≤ s (A - 1)) ∧
  (∀ k i, k < A → i < nm (I 2006 (40 * t + k)).toNat → vv n (I 1992 (b k + i)) (I 1993 (b k + i)) (I' 2205 (16 * (40 * t + k) + i))) ∧
  (∀ k i, k < A → (k + 1 < A → i < s k) → (k + 1 = A → i + dl < s k) → vv n (I 1992 (b k + nm (I 2006 (40 * t + k)).toNat + i)) (I 1993 (b k + nm (I 2006 (40 * t + k)).toNat + i)) (I' 2206 (160 * (40 * t + k) + i)))
theorem vv_mono {n n' k v e : Int} (h : vv n k v e) (hn : n ≤ n') : vv n' k v e := by
  unfold vv at *
  rcases h with h | h | h
  · exact Or.inl h
  · exact Or.inr (Or.inl ⟨h.1, h.2.1, h.2.2.1, by omega⟩)
  · exact Or.inr (Or.inr h)
theorem thV_mono {n n' : Int} {nm : Nat → Nat} {I I' : vJ} {t A dl : Nat} (h : thV n nm I I' t A dl) (hn : n ≤ n') : thV n' nm I I' t A dl := by
  obtain ⟨b, s, h1, h2, h3, h4, h5, h6, h7⟩ := h
  exact ⟨b, s, h1, h2, h3, h4, h5, fun k i a c => vv_mono (h6 k i a c) hn, fun k i a c e => vv_mono (h7 k i a c e) hn⟩
/-- where activations begin -/
theorem thV_bd {b s q : Nat → Nat} {t A : Nat} (h2 : 0 < A → b 0 = 8 + 5760 * t) (h3 : ∀ k, k + 1 < A → b (k + 1) = b k + q k + s k) (h1 : ∀ k, k < A → q k ≤ 16 ∧ s k ≤ 128) : ∀ k, k < A → 8 + 5760 * t ≤ b k ∧ b k ≤ 8 + 5760 * t + 144 * k := by
  intro k
  induction k with
  | zero => intro hk; rw [h2 hk]; omega
  | succ k ih =>
    intro hk
    have a := ih (by omega)
    have c := h1 k (by omega)
    rw [h3 k hk]
    omega
theorem thV_up {b s q : Nat → Nat} {A : Nat} (h3 : ∀ k, k + 1 < A → b (k + 1) = b k + q k + s k) : ∀ j k, k < j → j < A → b k + q k + s k ≤ b j := by
  intro j
  induction j with
  | zero => intro k h; omega
  | succ j ih =>
    intro k hk hj
    have e := h3 j hj
    by_cases c : k = j
    · subst c; omega
    · have := ih k (by omega) (by omega)
      omega
/-- nothing of thread u is put -/
def agV (I I' J J' : vJ) (u : Nat) : Prop := (∀ p, 8 + 5760 * u ≤ p → p < 8 + 5760 * u + 5760 → J 1992 p = I 1992 p ∧ J 1993 p = I 1993 p) ∧ J 1994 u = I 1994 u ∧ (∀ k, k < 40 → J 2009 (40 * u + k) = I 2009 (40 * u + k) ∧ J 2006 (40 * u + k) = I 2006 (40 * u + k) ∧ J' 2200 (40 * u + k) = I' 2200 (40 * u + k)) ∧ (∀ k i, k < 40 → i < 16 → J' 2205 (16 * (40 * u + k) + i) = I' 2205 (16 * (40 * u + k) + i)) ∧ ∀ k i, k < 40 → i < 160 → J' 2206 (160 * (40 * u + k) + i) = I' 2206 (160 * (40 * u + k) + i)
theorem thV_ag {n : Int} {nm : Nat → Nat} {I I' J J' : vJ} {u A dl : Nat} (h : thV n nm I I' u A dl) (hA : A ≤ 40) (g : agV I I' J J' u) : thV n nm J J' u A dl := by
  obtain ⟨b, s, h1, h2, h3, h4, h5, h6, h7⟩ := h
  obtain ⟨g1, g2, g3, g4, g5⟩ := g
  have bd := thV_bd h2 h3 (fun k hk => ⟨(h1 k hk).2.2.1, (h1 k hk).2.2.2⟩)
  refine ⟨b, s, fun k hk => ?_, h2, fun k hk => ?_, fun hA0 => ?_, fun hA0 => ?_, fun k i a c => ?_, fun k i a c e => ?_⟩
  · have q := g3 k (by omega)
    rw [q.1, q.2.1, q.2.2]; exact h1 k hk
  · rw [(g3 k (by omega)).2.1]; exact h3 k hk
  · rw [g2]; exact h4 hA0
  · rw [g2, (g3 (A - 1) (by omega)).2.1]; exact h5 hA0
  · rw [(g3 k (by omega)).2.1] at c
    have q := bd k a
    have q2 := h1 k a
    rw [(g1 (b k + i) (by omega) (by omega)).1, (g1 (b k + i) (by omega) (by omega)).2, g4 k i (by omega) (by omega)]
    exact h6 k i a c
  · rw [(g3 k (by omega)).2.1]
    have q := bd k a
    have q2 := h1 k a
    have hi : i < s k := by
      by_cases z : k + 1 < A
      · exact c z
      · have := e (by omega); omega
    rw [(g1 (b k + nm (I 2006 (40 * u + k)).toNat + i) (by omega) (by omega)).1, (g1 (b k + nm (I 2006 (40 * u + k)).toNat + i) (by omega) (by omega)).2, g5 k i (by omega) (by omega)]
    exact h7 k i a c e
/-- places of thread t, for another one -/
theorem agV_of {I I' J J' : vJ} {t u : Nat} (hu : u ≠ t) (e1 : ∀ p, (p < 8 + 5760 * t ∨ 8 + 5760 * t + 5760 ≤ p) → J 1992 p = I 1992 p ∧ J 1993 p = I 1993 p) (e2 : ∀ v, v ≠ t → J 1994 v = I 1994 v) (e3 : ∀ a, (a < 40 * t ∨ 40 * t + 40 ≤ a) → J 2009 a = I 2009 a ∧ J 2006 a = I 2006 a ∧ J' 2200 a = I' 2200 a) (e4 : ∀ p, (p < 640 * t ∨ 640 * t + 640 ≤ p) → J' 2205 p = I' 2205 p) (e5 : ∀ p, (p < 6400 * t ∨ 6400 * t + 6400 ≤ p) → J' 2206 p = I' 2206 p) : agV I I' J J' u := by
  have w : u < t ∨ t < u := by omega
  refine ⟨fun p p1 p2 => e1 p ?_, e2 u hu, fun k hk => e3 _ ?_, fun k i hk hi => e4 _ ?_, fun k i hk hi => e5 _ ?_⟩ <;> omega
/-- the pile of the innermost activation is cut, and one value is put on it -/
theorem thV_set {n : Int} {nm : Nat → Nat} {I I' J J' : vJ} {t A dl S T : Nat} {kd v e : Int} (h : thV n nm I I' t A dl) (hA : 0 < A) (hA2 : A ≤ 40) (hS : (S : Int) + dl ≤ I' 2200 (40 * t + (A - 1))) (hS2 : S < 128) (hT : (T : Int) = I 2009 (40 * t + (A - 1)) + nm (I 2006 (40 * t + (A - 1))).toNat + S) (hv : vv n kd v e)
    (e1 : ∀ p, J 1992 p = if p = T then kd else I 1992 p) (e2 : ∀ p, J 1993 p = if p = T then v else I 1993 p) (e3 : ∀ u, J 1994 u = if u = t then (T : Int) + 1 else I 1994 u) (e4 : J 2009 = I 2009) (e5 : J 2006 = I 2006) (e6 : ∀ a, J' 2200 a = if a = 40 * t + (A - 1) then (S : Int) + 1 else I' 2200 a) (e7 : J' 2205 = I' 2205) (e8 : ∀ p, J' 2206 p = if p = 160 * (40 * t + (A - 1)) + S then e else I' 2206 p) :
    thV n nm J J' t A 0 ∧ ∀ u, u ≠ t → agV I I' J J' u := by
  obtain ⟨b, s, h1, h2, h3, h4, h5, h6, h7⟩ := h
  have bd := thV_bd h2 h3 (fun k hk => ⟨(h1 k hk).2.2.1, (h1 k hk).2.2.2⟩)
  have ov := thV_up h3
  have t1 := h1 (A - 1) (by omega)
  have t2 := bd (A - 1) (by omega)
  have hT' : T = b (A - 1) + nm (I 2006 (40 * t + (A - 1))).toNat + S := by omega
  refine ⟨⟨b, fun k => if k = A - 1 then S + 1 else s k, fun k hk => ?_, h2, fun k hk => ?_, fun hA0 => by omega, fun _ => ?_, fun k i a c => ?_, fun k i a c f => ?_⟩, fun u hu => ?_⟩
  · have q := h1 k hk
    rw [e4, e5, e6]
    by_cases z : k = A - 1
    · subst z
      simp only [if_true]
      exact ⟨q.1, by omega, q.2.2.1, by omega⟩
    · have z2 : ¬ 40 * t + k = 40 * t + (A - 1) := by omega
      simp only [z, z2, if_false]
      exact q
  · have z : ¬ k = A - 1 := by omega
    rw [e5]
    simp only [z, if_false]
    exact h3 k hk
  · rw [e3, e5]
    simp only [if_true]
    exact ⟨by omega, by omega⟩
  · rw [e5] at c
    have q := bd k a
    have q2 := h1 k a
    have z : ¬ b k + i = T := by
      by_cases y : k = A - 1
      · subst y; omega
      · have := ov (A - 1) k (by omega) (by omega); omega
    rw [e1, e2, e7, if_neg z, if_neg z]
    exact h6 k i a c
  · have q := bd k a
    have q2 := h1 k a
    rw [e5, e1, e2, e8]
    by_cases y : k = A - 1
    · subst y
      have f' := f (by omega)
      simp only [if_true] at f'
      by_cases w : i = S
      · subst w
        rw [if_pos (by omega), if_pos (by omega), if_pos rfl]
        exact hv
      · rw [if_neg (by omega), if_neg (by omega), if_neg (by omega)]
        exact h7 _ i a (by omega) (by omega)
    · have c' := c (by omega)
      simp only [y, if_false] at c'
      have o := ov (A - 1) k (by omega) (by omega)
      rw [if_neg (by omega), if_neg (by omega), if_neg (by omega)]
      exact h7 k i a (by omega) (by omega)
  · refine agV_of hu (fun p hp => ?_) (fun v hv => ?_) (fun a ha => ?_) (fun p hp => ?_) (fun p hp => ?_)
    · rw [e1, e2, if_neg (by omega), if_neg (by omega)]; exact ⟨rfl, rfl⟩
    · rw [e3, if_neg hv]
    · rw [e4, e5, e6, if_neg (by omega)]; exact ⟨rfl, rfl, rfl⟩
    · rw [e7]
    · rw [e8, if_neg (by omega)]
/-- the pile of the innermost activation is cut -/
theorem thV_cut {n : Int} {nm : Nat → Nat} {I I' J J' : vJ} {t A dl dl' S T : Nat} (h : thV n nm I I' t A dl) (hA : 0 < A) (hA2 : A ≤ 40) (hS : (S : Int) + dl ≤ I' 2200 (40 * t + (A - 1)) + dl') (hS2 : (S : Int) ≤ 128) (hd : dl' ≤ S) (hT : (T : Int) + dl' = I 2009 (40 * t + (A - 1)) + nm (I 2006 (40 * t + (A - 1))).toNat + S)
    (e1 : J 1992 = I 1992) (e2 : J 1993 = I 1993) (e3 : ∀ u, J 1994 u = if u = t then (T : Int) else I 1994 u) (e4 : J 2009 = I 2009) (e5 : J 2006 = I 2006) (e6 : ∀ a, J' 2200 a = if a = 40 * t + (A - 1) then (S : Int) else I' 2200 a) (e7 : J' 2205 = I' 2205) (e8 : ∀ p, dl' = 0 ∨ p < 160 * (40 * t + (A - 1)) + (S - dl') ∨ 6400 * t + 6400 ≤ p → J' 2206 p = I' 2206 p) :
    thV n nm J J' t A dl' ∧ ∀ u, u ≠ t → agV I I' J J' u := by
  obtain ⟨b, s, h1, h2, h3, h4, h5, h6, h7⟩ := h
  have bd := thV_bd h2 h3 (fun k hk => ⟨(h1 k hk).2.2.1, (h1 k hk).2.2.2⟩)
  have t1 := h1 (A - 1) (by omega)
  have t2 := bd (A - 1) (by omega)
  refine ⟨⟨b, fun k => if k = A - 1 then S else s k, fun k hk => ?_, h2, fun k hk => ?_, fun hA0 => by omega, fun _ => ?_, fun k i a c => ?_, fun k i a c f => ?_⟩, fun u hu => ?_⟩
  · have q := h1 k hk
    rw [e4, e5, e6]
    by_cases z : k = A - 1
    · subst z
      simp only [if_true]
      exact ⟨q.1, by trivial, q.2.2.1, by omega⟩
    · have z2 : ¬ 40 * t + k = 40 * t + (A - 1) := by omega
      simp only [z, z2, if_false]
      exact q
  · have z : ¬ k = A - 1 := by omega
    rw [e5]
    simp only [z, if_false]
    exact h3 k hk
  · rw [e3, e5]
    simp only [if_true]
    exact ⟨by omega, by omega⟩
  · rw [e5] at c
    rw [e1, e2, e7]
    exact h6 k i a c
  · have q := bd k a
    have q2 := h1 k a
    rw [e5, e1, e2]
    by_cases y : k = A - 1
    · subst y
      have f' := f (by omega)
      simp only [if_true] at f'
      rw [e8 _ (by omega)]
      exact h7 _ i a (by omega) (by omega)
    · have c' := c (by omega)
      simp only [y, if_false] at c'
      rw [e8 _ (by omega)]
      exact h7 k i a (by omega) (by omega)
  · refine agV_of hu (fun p hp => ?_) (fun v hv => ?_) (fun a ha => ?_) (fun p hp => ?_) (fun p hp => ?_)
    · rw [e1, e2]; exact ⟨rfl, rfl⟩
    · rw [e3, if_neg hv]
    · rw [e4, e5, e6, if_neg (by omega)]; exact ⟨rfl, rfl, rfl⟩
    · rw [e7]
    · exact e8 p (by omega)
/-- a name of the innermost activation is put -/
theorem thV_name {n : Int} {nm : Nat → Nat} {I I' J J' : vJ} {t A dl j P : Nat} {kd v e : Int} (h : thV n nm I I' t A dl) (hA : 0 < A) (hA2 : A ≤ 40) (hj : j < nm (I 2006 (40 * t + (A - 1))).toNat) (hP : (P : Int) = I 2009 (40 * t + (A - 1)) + j) (hv : vv n kd v e)
    (e1 : ∀ p, J 1992 p = if p = P then kd else I 1992 p) (e2 : ∀ p, J 1993 p = if p = P then v else I 1993 p) (e3 : J 1994 = I 1994) (e4 : J 2009 = I 2009) (e5 : J 2006 = I 2006) (e6 : J' 2200 = I' 2200) (e7 : ∀ p, J' 2205 p = if p = 16 * (40 * t + (A - 1)) + j then e else I' 2205 p) (e8 : J' 2206 = I' 2206) :
    thV n nm J J' t A dl ∧ ∀ u, u ≠ t → agV I I' J J' u := by
  obtain ⟨b, s, h1, h2, h3, h4, h5, h6, h7⟩ := h
  have bd := thV_bd h2 h3 (fun k hk => ⟨(h1 k hk).2.2.1, (h1 k hk).2.2.2⟩)
  have ov := thV_up h3
  have t1 := h1 (A - 1) (by omega)
  have t2 := bd (A - 1) (by omega)
  have hP' : P = b (A - 1) + j := by omega
  refine ⟨⟨b, s, fun k hk => ?_, h2, fun k hk => ?_, fun hA0 => by omega, fun hA0 => ?_, fun k i a c => ?_, fun k i a c f => ?_⟩, fun u hu => ?_⟩
  · rw [e4, e5, e6]; exact h1 k hk
  · rw [e5]; exact h3 k hk
  · rw [e3, e5]; exact h5 hA0
  · rw [e5] at c
    have q := bd k a
    have q2 := h1 k a
    rw [e1, e2, e7]
    by_cases y : k = A - 1
    · subst y
      by_cases w : i = j
      · subst w
        rw [if_pos (by omega), if_pos (by omega), if_pos rfl]; exact hv
      · rw [if_neg (by omega), if_neg (by omega), if_neg (by omega)]; exact h6 _ i a c
    · have o := ov (A - 1) k (by omega) (by omega)
      rw [if_neg (by omega), if_neg (by omega), if_neg (by omega)]; exact h6 k i a c
  · have q := bd k a
    have q2 := h1 k a
    rw [e5, e1, e2, e8]
    have hi : i < s k := by
      by_cases z : k + 1 < A
      · exact c z
      · have := f (by omega); omega
    have z : ¬ b k + nm (I 2006 (40 * t + k)).toNat + i = P := by
      by_cases y : k = A - 1
      · subst y; omega
      · have := ov (A - 1) k (by omega) (by omega); omega
    rw [if_neg z, if_neg z]
    exact h7 k i a c f
  · refine agV_of hu (fun p hp => ?_) (fun v hv => ?_) (fun a ha => ?_) (fun p hp => ?_) (fun p hp => ?_)
    · rw [e1, e2, if_neg (by omega), if_neg (by omega)]; exact ⟨rfl, rfl⟩
    · rw [e3]
    · rw [e4, e5, e6]; exact ⟨rfl, rfl, rfl⟩
    · rw [e7, if_neg (by omega)]
    · rw [e8]
