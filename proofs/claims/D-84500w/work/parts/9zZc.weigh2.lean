/-! ===== weigh: what is settled, with probes put anew (turned from 9zE by program) ===== -/
set_option maxRecDepth 20000
set_option maxHeartbeats 4000000
/-- all settled cells but weights and probes are as they were; probes are alike -/
def agW (Y : vY) (I I' J J' : vJ) : Prop := (∀ c, 35 ≤ c → c < 65 → (c < 58 ∨ 61 < c) → J c = I c) ∧ (∀ c, 2297 ≤ c → Y.2.1 c = 15 → J c = I c) ∧ (∀ c, 2081 ≤ c → c < 2180 → (c < 2172 ∨ 2176 < c) → J' c = I' c) ∧ ∀ w, w < wyN I → J 61 w = J' 2173 w ∧ (J 61 w = 0 ∨ J 61 w = 1)
theorem wF_wt {I I' J J' : vJ} {Y Y' : vY} {X mm Nn w x y m o : Nat} {p : Int} (h : wF I I' Y Y' X mm Nn w x y m o p) (hX : X = 2081 ∨ X = 2119) (g : agW Y I I' J J') : wF J J' Y Y' X mm Nn w x y m o p := by
  have o2 := h.2.2.2.2.1.2.1
  have gx : ∀ j, j < 38 → J' (X + j) = I' (X + j) := fun j hj => g.2.2.1 (X + j) (by omega) (by omega) (by omega)
  have ge : ∀ c, 2081 ≤ c → c < 2157 → J' c = I' c := fun c a b => g.2.2.1 c a (by omega) (by omega)
  have e77 : J' 2177 = I' 2177 := g.2.2.1 2177 (by decide) (by decide) (by decide)
  have h61 := g.2.2.2 w h.2.1.2.2
  unfold wF wayS wyN at *
  rw [g.1 35 (by decide) (by decide) (by decide), g.1 50 (by decide) (by decide) (by decide), g.1 51 (by decide) (by decide) (by decide), g.1 52 (by decide) (by decide) (by decide), g.1 53 (by decide) (by decide) (by decide), g.1 38 (by decide) (by decide) (by decide), g.1 56 (by decide) (by decide) (by decide), g.1 41 (by decide) (by decide) (by decide), g.1 63 (by decide) (by decide) (by decide), g.1 62 (by decide) (by decide) (by decide), g.1 64 (by decide) (by decide) (by decide), g.2.1 o o2 h.2.2.2.2.1.2.2, gx 22 (by decide), gx 23 (by decide), gx 24 (by decide), gx 25 (by decide), gx 9 (by decide), gx 26 (by decide), gx 37 (by decide), g.2.2.1 2179 (by decide) (by decide) (by decide), g.2.2.1 2178 (by decide) (by decide) (by decide), e77]
  refine ⟨⟨h.1.1, h.1.2.1, h.1.2.2.1, h.1.2.2.2.1, h.1.2.2.2.2.1, h.1.2.2.2.2.2.1, h61⟩, h.2.1, h.2.2.1, h.2.2.2.1, h.2.2.2.2.1, h.2.2.2.2.2.1, fun hp d I1 Q c1 c2 => ?_, h.2.2.2.2.2.2.2.1, h.2.2.2.2.2.2.2.2⟩
  exact h.2.2.2.2.2.2.1 hp d I1 Q (fun c a b => (c1 c a b).trans (ge c a b)) c2
theorem ST_wt {I I' J J' : vJ} {Y Y' : vY} {X mm Nn Lp : Nat} {nm pr ht ht' : Nat → Nat} (h : ST I I' Y Y' X mm Nn Lp nm pr ht) (g : agW Y I I' J J') (h18 : J 18 266 = I 18 266) (gh : agH ht' J J') (hh : ∀ k, k < 5000 → ht' k = ht k) : ST J J' Y Y' X mm Nn Lp nm pr ht' := by
  obtain ⟨⟨a1, a2, a3⟩, a4, a5, a6, a7, a8, a9, a10, a11, a12⟩ := h
  have gx : ∀ j, j < 38 → J' (X + j) = I' (X + j) := fun j hj => g.2.2.1 (X + j) (by clear a8 a9 a7 a6; omega) (by clear a8 a9 a7 a6; omega) (by clear a8 a9 a7 a6; omega)
  have gc : ∀ c, 35 ≤ c → c < 65 → (c < 58 ∨ 61 < c) → J c = I c := g.1
  refine ⟨⟨a1, a2, a3⟩, ⟨⟨a4.1.1, by rw [g.2.2.1 X (by clear a8 a9 a7 a6; omega) (by clear a8 a9 a7 a6; omega) (by clear a8 a9 a7 a6; omega)]; exact a4.1.2.1, a4.1.2.2.1, gh, by rw [h18]; exact a4.1.2.2.2.2.1, by rw [g.2.2.1 X (by clear a8 a9 a7 a6; omega) (by clear a8 a9 a7 a6; omega) (by clear a8 a9 a7 a6; omega)]; exact a4.1.2.2.2.2.2⟩, a4.2⟩, ?_, ?_, fun n hn => ?_, fun n j hn hj => ?_, fun m hm => ?_, fun n hn => ?_, ?_, fun n hn => ?_⟩
  · unfold gL at *
    rw [gc 41 (by decide) (by decide) (by decide), gc 54 (by decide) (by decide) (by decide), gc 55 (by decide) (by decide) (by decide), gc 56 (by decide) (by decide) (by decide), gx 15 (by decide), gx 18 (by decide), gx 19 (by decide), gx 26 (by decide)]
    exact a5
  · unfold lkS at *
    rw [gc 42 (by decide) (by decide) (by decide), gx 16 (by decide), gx 18 (by decide)]
    exact a6
  · have := a7 n hn
    unfold ndF at *
    rw [gc 38 (by decide) (by decide) (by decide), gc 48 (by decide) (by decide) (by decide), gc 43 (by decide) (by decide) (by decide), gc 44 (by decide) (by decide) (by decide), gx 9 (by decide), gx 20 (by decide), gx 21 (by decide), gx 11 (by decide), gx 12 (by decide)]
    obtain ⟨n1, n2, cf, ct, n3, n4, n5, n6, n7, n8, n9, n10⟩ := this
    exact ⟨n1, n2, cf, ct, n3, n4, n5, n6, n7, n8, by rw [hh cf (by omega)]; exact n9, by rw [hh ct (by omega)]; exact n10⟩
  · rw [gx 21 (by decide)] at hj
    obtain ⟨w, y, m, o, p, w1, w2, w3⟩ := a8 n j hn hj
    refine ⟨w, y, m, o, p, by rw [gc 48 (by decide) (by decide) (by decide)]; exact w1, wF_wt w2 a2 g, ?_⟩
    rw [gc 52 (by decide) (by decide) (by decide), gc 38 (by decide) (by decide) (by decide), gc 42 (by decide) (by decide) (by decide), gc 63 (by decide) (by decide) (by decide), gc 40 (by decide) (by decide) (by decide), gx 16 (by decide), gx 13 (by decide), gx 3 (by decide)]
    exact w3
  · obtain ⟨o, p, nn, nd, m1, m2, m3, m4, m6, m5⟩ := a9 m hm
    refine ⟨o, p, nn, nd, m1, ?_, ?_, ?_, ?_, ?_⟩
    · rw [g.2.1 o m1.2.1 m1.2.2, gx 2 (by decide)]; exact m2
    · rw [g.2.1 o m1.2.1 m1.2.2, gx 3 (by decide)]; exact m3
    · rw [g.2.1 o m1.2.1 m1.2.2, gx 4 (by decide), gx 37 (by decide), gc 38 (by decide) (by decide) (by decide), gc 42 (by decide) (by decide) (by decide)]; exact m4
    · rw [g.2.2.1 2178 (by decide) (by decide) (by decide), g.2.2.1 2179 (by decide) (by decide) (by decide), gc 62 (by decide) (by decide) (by decide)]; exact m6
    · rw [gc 51 (by decide) (by decide) (by decide), gc 48 (by decide) (by decide) (by decide), gc 38 (by decide) (by decide) (by decide), gx 6 (by decide)]; exact m5
  · have := a10 n hn
    unfold coF at *
    rw [gc 37 (by decide) (by decide) (by decide), gx 11 (by decide), gx 12 (by decide), gx 27 (by decide), gx 28 (by decide), gx 29 (by decide), gx 37 (by decide)]
    intro i h1 h2
    obtain ⟨_, _, cf, ct, _, _, _, n6, _, n8, _⟩ := a7 n hn
    have q := this i h1 h2
    have i5 : i + 1 < 5000 := by clear this q; omega
    rw [hh i (by omega), hh (i + 1) i5]
    exact q
  · rw [gx 37 (by decide)]; exact a11
  · have := a12 n hn
    unfold loF at *
    rw [gc 38 (by decide) (by decide) (by decide), gc 40 (by decide) (by decide) (by decide), gx 26 (by decide), gx 13 (by decide), gx 37 (by decide)]
    exact this
