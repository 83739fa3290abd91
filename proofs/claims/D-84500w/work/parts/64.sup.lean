/-! ===== what a relation looks at: it is kept where none of that is put ===== -/
def dj (C : List Nat) (F : List (Nat × Nat)) (L : List Nat) (P : List (Nat × Nat)) : Bool := C.all (fun c => L.all (fun q => !Nat.beq q c) && P.all (fun q => !Nat.beq q.1 c)) && F.all (fun p => L.all (fun q => !Nat.beq q p.1) && P.all (fun q => !(Nat.beq q.1 p.1 && Nat.beq q.2 p.2)))
theorem bq_ne {q c : Nat} (h : q ≠ c) : Nat.beq q c = false := by
  cases hb : Nat.beq q c with
  | false => rfl
  | true => exact absurd (Nat.eq_of_beq_eq_true hb) h
theorem bq_nt {q c : Nat} (h : (!Nat.beq q c) = true) : q ≠ c := by
  intro e; subst e
  rw [Bool.not_eq_true'] at h
  rw [Nat.beq_refl] at h
  cases h
theorem frok_of {L : List Nat} {P : List (Nat × Nat)} {c f : Nat} (h1 : ∀ q, q ∈ L → q ≠ c) (h2 : ∀ q, q ∈ P → ¬ (q.1 = c ∧ q.2 = f)) : frok L P c f = true := by
  unfold frok
  rw [Bool.and_eq_true, Bool.not_eq_true', Bool.not_eq_true', List.any_eq_false, List.any_eq_false]
  refine ⟨fun q hq e => h1 q hq (Nat.eq_of_beq_eq_true e), fun q hq e => ?_⟩
  rw [Bool.and_eq_true] at e
  exact h2 q hq ⟨Nat.eq_of_beq_eq_true e.1, Nat.eq_of_beq_eq_true e.2⟩
/-- cells between two numbers, none of which is put -/
theorem fr_out {L : List Nat} {P : List (Nat × Nat)} {I J : vJ} (h : fr L P I J) (lo hi : Nat) {c : Nat} (e : (L.all (fun q => Nat.blt q lo || Nat.ble hi q) && P.all (fun q => Nat.blt q.1 lo || Nat.ble hi q.1)) = true) (h1 : lo ≤ c) (h2 : c < hi) : J c = I c := by
  rw [Bool.and_eq_true, List.all_eq_true, List.all_eq_true] at e
  refine fr_row h c (fun f => frok_of (fun q hq z => ?_) (fun q hq z => ?_))
  · have := e.1 q hq
    rw [Bool.or_eq_true] at this
    subst z
    rcases this with t | t
    · have : q < lo := Nat.le_of_ble_eq_true t
      omega
    · have := Nat.le_of_ble_eq_true t
      omega
  · have := e.2 q hq
    rw [Bool.or_eq_true] at this
    obtain ⟨z1, _⟩ := z
    subst z1
    rcases this with t | t
    · have : q.1 < lo := Nat.le_of_ble_eq_true t
      omega
    · have := Nat.le_of_ble_eq_true t
      omega
theorem fr_ge {L : List Nat} {P : List (Nat × Nat)} {I J : vJ} (h : fr L P I J) (b : Nat) {c : Nat} (e : (L.all (fun q => Nat.blt q b) && P.all (fun q => Nat.blt q.1 b)) = true) (h1 : b ≤ c) : J c = I c := by
  rw [Bool.and_eq_true, List.all_eq_true, List.all_eq_true] at e
  refine fr_row h c (fun f => frok_of (fun q hq z => ?_) (fun q hq z => ?_))
  · have t : q < b := Nat.le_of_ble_eq_true (e.1 q hq)
    omega
  · have t : q.1 < b := Nat.le_of_ble_eq_true (e.2 q hq)
    omega
def su (C : List Nat) (F : List (Nat × Nat)) (C' : List Nat) (F' : List (Nat × Nat)) (R : vJ → vJ → Prop) : Prop := ∀ I I' J J' : vJ, (∀ c, c ∈ C → J c = I c) → (∀ p, p ∈ F → J p.1 p.2 = I p.1 p.2) → (∀ c, c ∈ C' → J' c = I' c) → (∀ p, p ∈ F' → J' p.1 p.2 = I' p.1 p.2) → R I I' → R J J'
theorem dj_C {C : List Nat} {F : List (Nat × Nat)} {L : List Nat} {P : List (Nat × Nat)} (e : dj C F L P = true) {I J : vJ} (h : fr L P I J) : (∀ c, c ∈ C → J c = I c) ∧ ∀ p, p ∈ F → J p.1 p.2 = I p.1 p.2 := by
  unfold dj at e
  rw [Bool.and_eq_true, List.all_eq_true, List.all_eq_true] at e
  refine ⟨fun c hc => fr_row h c (fun f => ?_), fun p hp => h p.1 p.2 ?_⟩
  · have z := e.1 c hc
    rw [Bool.and_eq_true, List.all_eq_true, List.all_eq_true] at z
    exact frok_of (fun q hq => bq_nt (z.1 q hq)) (fun q hq w => bq_nt (z.2 q hq) w.1)
  · have z := e.2 p hp
    rw [Bool.and_eq_true, List.all_eq_true, List.all_eq_true] at z
    refine frok_of (fun q hq => bq_nt (z.1 q hq)) (fun q hq w => ?_)
    have t := z.2 q hq
    rw [Bool.not_eq_true', w.1, w.2, Nat.beq_refl, Nat.beq_refl] at t
    cases t
theorem su_keep {C : List Nat} {F : List (Nat × Nat)} {C' : List Nat} {F' : List (Nat × Nat)} {R : vJ → vJ → Prop} (s : su C F C' F' R) {L L' : List Nat} {P P' : List (Nat × Nat)} {I J I' J' : vJ} (h : fr L P I J) (h' : fr L' P' I' J') (e : (dj C F L P && dj C' F' L' P') = true) (r : R I I') : R J J' := by
  rw [Bool.and_eq_true] at e
  exact s I I' J J' (dj_C e.1 h).1 (dj_C e.1 h).2 (dj_C e.2 h').1 (dj_C e.2 h').2 r
/-- the same, for rows and places one by one -/
theorem su_tR : su [1961, 1962, 1963, 1964, 1966, 1967] [(1960, 3079)] [2237, 2238, 2239, 2240] [(2075, 7799)] tR := by
  intro I I' J J' h1 h2 h3 h4 r
  unfold tR at *
  have e0 := h2 (1960, 3079) (by simp)
  have e1 := h4 (2075, 7799) (by simp)
  simp only at e0 e1
  rw [e0, e1, h1 1961 (by simp), h1 1962 (by simp), h1 1963 (by simp), h1 1964 (by simp), h1 1966 (by simp), h1 1967 (by simp), h3 2237 (by simp), h3 2238 (by simp), h3 2239 (by simp), h3 2240 (by simp)]
  exact r
