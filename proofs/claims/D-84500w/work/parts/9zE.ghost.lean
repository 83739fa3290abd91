/-! ===== begin: the ghost numbers; what is settled stays settled ===== -/
set_option maxRecDepth 20000
set_option maxHeartbeats 4000000
def agR (Y : vY) (I I' J J' : vJ) : Prop := (∀ c, 35 ≤ c → c < 65 → J c = I c) ∧ (∀ c, 2297 ≤ c → Y.2.1 c = 15 → J c = I c) ∧ ∀ c, 2081 ≤ c → c < 2180 → J' c = I' c
theorem wF_re {I I' J J' : vJ} {Y Y' : vY} {X mm Nn w x y m o : Nat} {p : Int} (h : wF I I' Y Y' X mm Nn w x y m o p) (hX : X = 2081 ∨ X = 2119) (g : agR Y I I' J J') : wF J J' Y Y' X mm Nn w x y m o p := by
  have o2 := h.2.2.2.2.1.2.1
  have gx : ∀ j, j < 38 → J' (X + j) = I' (X + j) := fun j hj => g.2.2 (X + j) (by omega) (by omega)
  have ge : ∀ c, 2081 ≤ c → c < 2157 → J' c = I' c := fun c a b => g.2.2 c a (by omega)
  have e77 : J' 2177 = I' 2177 := g.2.2 2177 (by decide) (by decide)
  unfold wF wayS wyN at *
  rw [g.1 35 (by decide) (by decide), g.1 50 (by decide) (by decide), g.1 51 (by decide) (by decide), g.1 52 (by decide) (by decide), g.1 53 (by decide) (by decide), g.1 38 (by decide) (by decide), g.1 61 (by decide) (by decide), g.1 56 (by decide) (by decide), g.1 41 (by decide) (by decide), g.1 63 (by decide) (by decide), g.1 62 (by decide) (by decide), g.1 64 (by decide) (by decide), g.2.1 o o2 h.2.2.2.2.1.2.2, gx 22 (by decide), gx 23 (by decide), gx 24 (by decide), gx 25 (by decide), gx 9 (by decide), gx 26 (by decide), gx 37 (by decide), g.2.2 2173 (by decide) (by decide), g.2.2 2179 (by decide) (by decide), g.2.2 2178 (by decide) (by decide), e77]
  refine ⟨h.1, h.2.1, h.2.2.1, h.2.2.2.1, h.2.2.2.2.1, h.2.2.2.2.2.1, fun hp d I1 Q c1 c2 => ?_, h.2.2.2.2.2.2.2.1, h.2.2.2.2.2.2.2.2⟩
  exact h.2.2.2.2.2.2.1 hp d I1 Q (fun c a b => (c1 c a b).trans (ge c a b)) c2
theorem ST_re {I I' J J' : vJ} {Y Y' : vY} {X mm Nn Lp : Nat} {nm pr ht ht' : Nat → Nat} (h : ST I I' Y Y' X mm Nn Lp nm pr ht) (g : agR Y I I' J J') (h18 : J 18 266 = I 18 266) (gh : agH ht' J J') (hh : ∀ k, k < 5000 → ht' k = ht k) : ST J J' Y Y' X mm Nn Lp nm pr ht' := by
  obtain ⟨⟨a1, a2, a3⟩, a4, a5, a6, a7, a8, a9, a10, a11, a12⟩ := h
  have gx : ∀ j, j < 38 → J' (X + j) = I' (X + j) := fun j hj => g.2.2 (X + j) (by clear a8 a9 a7 a6; omega) (by clear a8 a9 a7 a6; omega)
  have gc : ∀ c, 35 ≤ c → c < 65 → J c = I c := g.1
  refine ⟨⟨a1, a2, a3⟩, ⟨⟨a4.1.1, by rw [g.2.2 X (by clear a8 a9 a7 a6; omega) (by clear a8 a9 a7 a6; omega)]; exact a4.1.2.1, a4.1.2.2.1, gh, by rw [h18]; exact a4.1.2.2.2.2.1, by rw [g.2.2 X (by clear a8 a9 a7 a6; omega) (by clear a8 a9 a7 a6; omega)]; exact a4.1.2.2.2.2.2⟩, a4.2⟩, ?_, ?_, fun n hn => ?_, fun n j hn hj => ?_, fun m hm => ?_, fun n hn => ?_, ?_, fun n hn => ?_⟩
  · unfold gL at *
    rw [gc 41 (by decide) (by decide), gc 54 (by decide) (by decide), gc 55 (by decide) (by decide), gc 56 (by decide) (by decide), gx 15 (by decide), gx 18 (by decide), gx 19 (by decide), gx 26 (by decide)]
    exact a5
  · unfold lkS at *
    rw [gc 42 (by decide) (by decide), gx 16 (by decide), gx 18 (by decide)]
    exact a6
  · have := a7 n hn
    unfold ndF at *
    rw [gc 38 (by decide) (by decide), gc 48 (by decide) (by decide), gc 43 (by decide) (by decide), gc 44 (by decide) (by decide), gx 9 (by decide), gx 20 (by decide), gx 21 (by decide), gx 11 (by decide), gx 12 (by decide)]
    obtain ⟨n1, n2, cf, ct, n3, n4, n5, n6, n7, n8, n9, n10⟩ := this
    exact ⟨n1, n2, cf, ct, n3, n4, n5, n6, n7, n8, by rw [hh cf (by omega)]; exact n9, by rw [hh ct (by omega)]; exact n10⟩
  · rw [gx 21 (by decide)] at hj
    obtain ⟨w, y, m, o, p, w1, w2, w3⟩ := a8 n j hn hj
    refine ⟨w, y, m, o, p, by rw [gc 48 (by decide) (by decide)]; exact w1, wF_re w2 a2 g, ?_⟩
    rw [gc 52 (by decide) (by decide), gc 38 (by decide) (by decide), gc 42 (by decide) (by decide), gc 63 (by decide) (by decide), gc 40 (by decide) (by decide), gx 16 (by decide), gx 13 (by decide), gx 3 (by decide)]
    exact w3
  · obtain ⟨o, p, nn, nd, m1, m2, m3, m4, m6, m5⟩ := a9 m hm
    refine ⟨o, p, nn, nd, m1, ?_, ?_, ?_, ?_, ?_⟩
    · rw [g.2.1 o m1.2.1 m1.2.2, gx 2 (by decide)]; exact m2
    · rw [g.2.1 o m1.2.1 m1.2.2, gx 3 (by decide)]; exact m3
    · rw [g.2.1 o m1.2.1 m1.2.2, gx 4 (by decide), gx 37 (by decide), gc 38 (by decide) (by decide), gc 42 (by decide) (by decide)]; exact m4
    · rw [g.2.2 2178 (by decide) (by decide), g.2.2 2179 (by decide) (by decide), gc 62 (by decide) (by decide)]; exact m6
    · rw [gc 51 (by decide) (by decide), gc 48 (by decide) (by decide), gc 38 (by decide) (by decide), gx 6 (by decide)]; exact m5
  · have := a10 n hn
    unfold coF at *
    rw [gc 37 (by decide) (by decide), gx 11 (by decide), gx 12 (by decide), gx 27 (by decide), gx 28 (by decide), gx 29 (by decide), gx 37 (by decide)]
    intro i h1 h2
    obtain ⟨_, _, cf, ct, _, _, _, n6, _, n8, _⟩ := a7 n hn
    have q := this i h1 h2
    have i5 : i + 1 < 5000 := by clear this q; omega
    rw [hh i (by omega), hh (i + 1) i5]
    exact q
  · rw [gx 37 (by decide)]; exact a11
  · have := a12 n hn
    unfold loF at *
    rw [gc 38 (by decide) (by decide), gc 40 (by decide) (by decide), gx 26 (by decide), gx 13 (by decide), gx 37 (by decide)]
    exact this
/-- every memory has its ghost -/
def ze (x : Int) : Nat := if 0 ≤ x then 2 * x.toNat else 2 * (-x - 1).toNat + 1
theorem zd_ze (x : Int) : zd (ze x) = x := by
  unfold zd ze
  by_cases z : 0 ≤ x
  · rw [if_pos z, if_pos (by omega)]; omega
  · rw [if_neg z, if_neg (by omega)]; omega
theorem gk_lt {c f c' f' : Nat} (h : c + f < c' + f') : (c + f) * (c + f + 1) + 2 * f < (c' + f') * (c' + f' + 1) + 2 * f' := by
  have q : (c + f + 1) * (c + f + 1 + 1) ≤ (c' + f') * (c' + f' + 1) := Nat.mul_le_mul (by omega) (by omega)
  have e : (c + f + 1) * (c + f + 1 + 1) = (c + f) * (c + f + 1) + 2 * (c + f + 1) := by
    rw [Nat.mul_comm, ← Nat.add_mul]
  omega
theorem gk_inj {s s' c f c' f' : Nat} (hs : s < 2) (hs' : s' < 2) (h : gk s c f = gk s' c' f') : s = s' ∧ c = c' ∧ f = f' := by
  unfold gk at h
  have e : s = s' ∧ (c + f) * (c + f + 1) + 2 * f = (c' + f') * (c' + f' + 1) + 2 * f' := by omega
  obtain ⟨e1, e2⟩ := e
  clear h
  have e3 : c + f = c' + f' := by
    rcases Nat.lt_trichotomy (c + f) (c' + f') with z | z | z
    · have := gk_lt z; omega
    · exact z
    · have := gk_lt z; omega
  rw [e3] at e2
  exact ⟨e1, by omega, by omega⟩
theorem ghost (ht : Nat → Nat) (C : Nat) (J J' : vJ) : ∃ ht' : Nat → Nat, (∀ k, k < 5000 → ht' k = ht k) ∧ ht' 5000 = C ∧ agH ht' J J' := by
  classical
  refine ⟨fun k => if k < 5000 then ht k else if k = 5000 then C else if h : ∃ q : Nat × Nat, k = gk 0 q.1 q.2 then ze (J (Classical.choose h).1 (Classical.choose h).2) else if h : ∃ q : Nat × Nat, k = gk 1 q.1 q.2 then ze (J' (Classical.choose h).1 (Classical.choose h).2) else 0, fun k hk => if_pos hk, ?_, fun c f _ _ => ?_, fun c f _ _ => ?_⟩
  · show (if 5000 < 5000 then _ else _) = C
    rw [if_neg (by decide), if_pos rfl]
  · have g5 : 5000 < gk 0 c f := by unfold gk; omega
    have h : ∃ q : Nat × Nat, gk 0 c f = gk 0 q.1 q.2 := ⟨(c, f), rfl⟩
    have e := gk_inj (by decide) (by decide) (Classical.choose_spec h)
    show J c f = zd (if gk 0 c f < 5000 then _ else _)
    rw [if_neg (by omega), if_neg (by omega), dif_pos h, zd_ze, ← e.2.1, ← e.2.2]
  · have g5 : 5000 < gk 1 c f := by unfold gk; omega
    have h0 : ¬ ∃ q : Nat × Nat, gk 1 c f = gk 0 q.1 q.2 := fun ⟨q, hq⟩ => by
      have := (gk_inj (by decide) (by decide) hq).1
      omega
    have h : ∃ q : Nat × Nat, gk 1 c f = gk 1 q.1 q.2 := ⟨(c, f), rfl⟩
    have e := gk_inj (by decide) (by decide) (Classical.choose_spec h)
    show J' c f = zd (if gk 1 c f < 5000 then _ else _)
    rw [if_neg (by omega), if_neg (by omega), dif_neg h0, dif_pos h, zd_ze, ← e.2.1, ← e.2.2]
