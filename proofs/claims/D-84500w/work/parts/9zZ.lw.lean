/-! ===== the relation that calls keep ===== -/
set_option maxRecDepth 20000
set_option maxHeartbeats 4000000
/-- places that only load puts, in both houses -/
def stC (Y : vY) (c : Nat) : Prop := (20 ≤ c ∧ c < 65) ∨ (69 ≤ c ∧ c < 1960) ∨ c = 2061 ∨ (2297 ≤ c ∧ c < Y.2.2.2.1)
def stT (c : Nat) : Prop := (2077 ≤ c ∧ c < 2180) ∨ (2280 ≤ c ∧ c < 2297)
def sxA (Y : vY) (I I' J J' : vJ) : Prop := (∀ c, stC Y c → J c = I c) ∧ (∀ f, 266 ≤ f → f ≤ 270 → J 18 f = I 18 f) ∧ (∀ c, stT c → J' c = I' c) ∧ ∀ f, (7682 ≤ f ∧ f < 7727) ∨ 7831 ≤ f → J' 2075 f = I' 2075 f
/-- what load has settled beside all this, for questions about the text: it looks at those places alone -/
def sxK (SX : vJ → vJ → vY → Nat → Nat → Nat → Prop) : Prop := ∀ I I' J J' Y mm X Nn, SX I I' Y mm X Nn → sxA Y I I' J J' → SX J J' Y mm X Nn
def LD (I I' : vJ) (X Nn : Nat) (nm : Nat → Nat) : Prop := (I 1960 3100 = nm 5000 ∧ I 18 267 = nm 5000) ∧ (∃ nw : Nat, I 35 1554 = nw ∧ nw ≤ 2100) ∧ (∃ nw : Nat, I' X 7939 = nw ∧ nw ≤ 3200 ∧ I 35 1554 ≤ nw) ∧ I' X 7938 = Nn
/-- a run, or none -/
def RT (I I' : vJ) (Y : vY) (mm X Nn Lp C : Nat) (nm pr ht : Nat → Nat) : Prop := (I 1990 3398 = 0 ∧ I' 2075 7728 = 0 ∧ bgR I I' C ∧ (mm ≠ 0 → ST I I' Y Y X mm Nn Lp nm pr ht)) ∨ (I 1990 3398 = 1 ∧ mm ≠ 0 ∧ ∃ th W N, RS Y Y X mm Nn Lp nm pr ht I I' th W N ∧ ht 5000 + 50000 ≤ C)
/-- rows that were kept of earlier runs -/
def kp (I I' : vJ) : Prop := ∀ q, q < 2 → (I 2074 q = I' 2277 q ∧ (I 2074 q = 0 ∨ I 2074 q = 1)) ∧ ∀ m, m < 24 → I (2069 + q) m = I' 2278 (24 * q + m) ∧ I (2072 + q) m = I' 2279 (24 * q + m)
theorem kp_of {I I' J J' : vJ} (h : kp I I') (hC : ∀ c, 2069 ≤ c → c < 2075 → J c = I c) (hT : ∀ c, 2277 ≤ c → c < 2280 → J' c = I' c) : kp J J' := fun q hq => by
  rw [hC 2074 (by decide) (by decide), hT 2277 (by decide) (by decide), hT 2278 (by decide) (by decide), hT 2279 (by decide) (by decide), hC (2069 + q) (by omega) (by omega), hC (2072 + q) (by omega) (by omega)]
  exact h q hq
/-- counts that were worked out already: by which version, and that they are right -/
def cvR (I I' : vJ) (X mm k : Nat) : Prop := (1 ≤ I 18 271 ∧ I 18 271 ≤ (k : Int) + 1) ∧ (∀ m, m < 24 → 0 ≤ I 2060 m ∧ I 2060 m ≤ I 18 271) ∧ ∀ m, m < mm → I 2060 m = I 18 271 → I 1990 3398 = 1 → ∀ w, w < wyN I → I' (X + 37) (I 50 w).toNat = m → I 66 w = I' 2183 w
theorem cv_ag {I I' J J' : vJ} {X mm k : Nat} (h : cvR I I' X mm k) (a : J 18 271 = I 18 271) (b : J 2060 = I 2060) (c : J 1990 3398 = I 1990 3398) (d : J 35 = I 35) (e : J 50 = I 50) (f : J 66 = I 66) (g : mm ≠ 0 → J' (X + 37) = I' (X + 37)) (i : J' 2183 = I' 2183) : cvR J J' X mm k := by
  unfold cvR wyN at *
  rw [a, b, c, d, e, f, i]
  refine ⟨h.1, h.2.1, fun m hm => ?_⟩
  rw [g (by omega)]
  exact h.2.2 m hm
theorem cv_up {I I' : vJ} {X mm k : Nat} (h : cvR I I' X mm k) : cvR I I' X mm (k + 1) := ⟨⟨h.1.1, by have := h.1.2; omega⟩, h.2⟩
theorem cv_new {I I' J J' : vJ} {X mm mm' X' k : Nat} (h : cvR I I' X mm k) (hm : mm' ≤ 24) (a : J 18 271 = I 18 271 + 1) (b : J 2060 = I 2060) : cvR J J' X' mm' (k + 1) := by
  obtain ⟨h1, h2, _⟩ := h
  refine ⟨by rw [a]; omega, fun m m24 => by rw [a, b]; have := h2 m m24; omega, fun m m1 q => ?_⟩
  rw [a, b] at q
  have := h2 m (by omega)
  omega
def LW (L : Nat) (x : Nat → Int) (SX : vJ → vJ → vY → Nat → Nat → Nat → Prop) (k : Nat) (I I' : vJ) (Y : vY) : Prop := (vL Y ∧ sepY Y ∧ (∀ c, 2297 ≤ c → Y.2.1 c = 15 → c < Y.2.2.2.1) ∧ (Y.1 2075 7689 = 2081 ∨ Y.1 2075 7689 = 2119) ∧ Y.2.2.2.1 ≤ 3000 + 10000 * k ∧ Y.2.2.2.2 ≤ 1500000 + 60000 * k) ∧ ((∀ j, I 1 j = x j) ∧ Y.2.1 1 = 100 ∧ Y.2.2.1 1 = L) ∧ (∃ n, tp I I' n) ∧ (pa I I' ∧ kp I I') ∧ ∃ (mm X Nn Lp C : Nat) (nm pr ht : Nat → Nat), isM I I' Y mm ∧ SX I I' Y mm X Nn ∧ (mm ≠ 0 → (X = 2081 ∨ X = 2119) ∧ LD I I' X Nn nm) ∧ (C ≤ 50000 * k ∧ cvR I I' X mm k) ∧ RT I I' Y mm X Nn Lp C nm pr ht
theorem LW_up {L : Nat} {x : Nat → Int} {SX : vJ → vJ → vY → Nat → Nat → Nat → Prop} {k : Nat} {I I' : vJ} {Y : vY} (h : LW L x SX k I I' Y) : LW L x SX (k + 1) I I' Y := by
  obtain ⟨⟨v1, v2, v3, v4, v5, v6⟩, h2, h3, h4, mm, X, Nn, Lp, C, nm, pr, ht, g1, g2, g3, g4, g5⟩ := h
  exact ⟨⟨v1, v2, v3, v4, by omega, by omega⟩, h2, h3, h4, mm, X, Nn, Lp, C, nm, pr, ht, g1, g2, g3, ⟨by omega, cv_up g4.2⟩, g5⟩
theorem bgR_cong {I I' J J' : vJ} {C : Nat} (h : bgR I I' C) (hC : ∀ c, 1960 ≤ c → c < 2060 → J c = I c) (hT : ∀ c, 2183 ≤ c → c < 2277 → J' c = I' c) : bgR J J' C := by
  unfold bgR pFor pKeep kR kA at *
  rw [hC 2035 (by decide) (by decide), hC 1982 (by decide) (by decide), hC 1983 (by decide) (by decide), hC 1984 (by decide) (by decide), hC 2001 (by decide) (by decide), hC 2003 (by decide) (by decide), hC 1997 (by decide) (by decide), hC 1999 (by decide) (by decide), hC 2015 (by decide) (by decide), hC 2016 (by decide) (by decide), hC 2014 (by decide) (by decide), hC (2048 + 1) (by decide) (by decide), hC (2048 + 2) (by decide) (by decide), hC 2048 (by decide) (by decide), hC (2051 + 1) (by decide) (by decide), hC (2051 + 2) (by decide) (by decide), hC 2051 (by decide) (by decide), hC (2054 + 1) (by decide) (by decide), hC (2054 + 2) (by decide) (by decide), hC 2054 (by decide) (by decide), hC (2057 + 1) (by decide) (by decide), hC (2057 + 2) (by decide) (by decide), hC 2057 (by decide) (by decide), hC 1960 (by decide) (by decide), hC 1981 (by decide) (by decide), hC 1979 (by decide) (by decide), hC 1980 (by decide) (by decide), hT 2184 (by decide) (by decide), hT 2260 (by decide) (by decide), hT 2261 (by decide) (by decide), hT 2262 (by decide) (by decide), hT 2191 (by decide) (by decide), hT 2192 (by decide) (by decide), hT 2188 (by decide) (by decide), hT 2207 (by decide) (by decide), hT 2208 (by decide) (by decide), hT 2209 (by decide) (by decide), hT 2272 (by decide) (by decide), hT 2276 (by decide) (by decide), hT 2267 (by decide) (by decide), hT 2268 (by decide) (by decide), hT 2269 (by decide) (by decide), hT 2270 (by decide) (by decide), hT 2271 (by decide) (by decide), hT 2273 (by decide) (by decide), hT 2274 (by decide) (by decide), hT 2275 (by decide) (by decide)]
  exact h
section
variable {L : Nat} {x : Nat → Int} {SX : vJ → vJ → vY → Nat → Nat → Nat → Prop} {k : Nat} {I I' J J' : vJ} {Y : vY}
theorem LW_cong (hX : sxK SX) (h : LW L x SX k I I' Y) (hC : ∀ c, cH Y c ∨ c < 18 → J c = I c) (hT : ∀ c, cT c → J' c = I' c) : LW L x SX k J J' Y := by
  obtain ⟨⟨v1, v2, v3, v4, v5, v6⟩, ⟨p1, p2, p3⟩, ⟨n, t1⟩, q1, mm, X, Nn, Lp, C, nm, pr, ht, m1, m2, m3, m4, m5⟩ := h
  have gz := v2.1
  have hc : ∀ c, 18 ≤ c → c < 2075 → J c = I c := fun c a b => hC c (Or.inl ⟨a, by omega, by omega⟩)
  have ho : ∀ c, 2297 ≤ c → c < Y.2.2.2.1 → J c = I c := fun c a b => hC c (Or.inl ⟨by omega, b, by omega⟩)
  have hm : ∀ c, 2297 ≤ c → Y.2.1 c = 15 → J c = I c := fun c a b => ho c a (v3 c a b)
  have ht' : ∀ c, 2075 ≤ c → c < 2297 → J' c = I' c := fun c a b => hT c ⟨a, b⟩
  have sA : sxA Y I I' J J' := by
    refine ⟨fun c q => ?_, fun f _ _ => by rw [hc 18 (by decide) (by decide)], fun c q => ?_, fun f _ => by rw [ht' 2075 (by decide) (by decide)]⟩
    · unfold stC at q
      by_cases z : 2297 ≤ c
      · exact ho c z (by omega)
      · exact hc c (by omega) (by omega)
    · unfold stT at q
      exact ht' c (by omega) (by omega)
  have sp : spD Y I I' J J' := by
    refine ⟨fun c q => ?_, by rw [hc 18 (by decide) (by decide)], hm, fun c f q => ?_⟩
    · unfold spC at q
      exact hc c (by omega) (by omega)
    · unfold spT at q
      rw [ht' c (by omega) (by omega)]
  refine ⟨⟨v1, v2, v3, v4, v5, v6⟩, ⟨fun j => by rw [hC 1 (Or.inr (by decide))]; exact p1 j, p2, p3⟩, ⟨n, ?_⟩, ?_, ?_⟩
  · unfold tp at *
    rw [hc 18 (by decide) (by decide), hc 19 (by decide) (by decide), ht' 2075 (by decide) (by decide), ht' 2076 (by decide) (by decide)]
    exact t1
  · refine ⟨?_, kp_of q1.2 (fun c a b => hc c (by omega) b) (fun c a b => ht' c (by omega) (by omega))⟩
    have q1 := q1.1
    unfold pa at *
    rw [hc 2062 (by decide) (by decide), hc 2063 (by decide) (by decide), ht' 2180 (by decide) (by decide), ht' 2182 (by decide) (by decide)]
    exact q1
  · have m1' : isM J J' Y mm := by
      unfold isM at *
      rw [hc 18 (by decide) (by decide), ht' 2075 (by decide) (by decide), ht' (Y.1 2075 7689) (by omega) (by omega)]
      exact m1
    have m3' : mm ≠ 0 → (X = 2081 ∨ X = 2119) ∧ LD J J' X Nn nm := fun z => by
      obtain ⟨w1, w2⟩ := m3 z
      refine ⟨w1, ?_⟩
      unfold LD at *
      rw [hc 1960 (by decide) (by decide), hc 18 (by decide) (by decide), hc 35 (by decide) (by decide), ht' X (by omega) (by omega)]
      exact w2
    have m2' := hX I I' J J' Y mm X Nn m2 sA
    have m4' : C ≤ 50000 * k ∧ cvR J J' X mm k := ⟨m4.1, cv_ag m4.2 (by rw [hc 18 (by decide) (by decide)]) (hc 2060 (by decide) (by decide)) (by rw [hc 1990 (by decide) (by decide)]) (hc 35 (by decide) (by decide)) (hc 50 (by decide) (by decide)) (hc 66 (by decide) (by decide)) (fun z => ht' (X + 37) (by have := (m3 z).1; omega) (by have := (m3 z).1; omega)) (ht' 2183 (by decide) (by decide))⟩
    rcases m5 with ⟨r1, r2, r3, r4⟩ | ⟨r1, r2, th, W, N, r3, r4⟩
    · have b := bgR_cong r3 (fun c a b => hc c (by omega) (by omega)) (fun c a b => ht' c (by omega) (by omega))
      by_cases z : mm = 0
      · exact ⟨mm, X, Nn, Lp, C, nm, pr, ht, m1', m2', m3', m4', Or.inl ⟨by rw [hc 1990 (by decide) (by decide)]; exact r1, by rw [ht' 2075 (by decide) (by decide)]; exact r2, b, fun q => absurd z q⟩⟩
      · obtain ⟨ht2, h1, h2, h3⟩ := ghost ht (ht 5000) J J'
        have S := ST_re (r4 z) ⟨fun c a b => hc c (by omega) (by omega), hm, fun c a b => ht' c (by omega) (by omega)⟩ (by rw [hc 18 (by decide) (by decide)]) h3 h1
        exact ⟨mm, X, Nn, Lp, C, nm, pr, ht2, m1', m2', m3', m4', Or.inl ⟨by rw [hc 1990 (by decide) (by decide)]; exact r1, by rw [ht' 2075 (by decide) (by decide)]; exact r2, b, fun _ => S⟩⟩
    · obtain ⟨ht2, h1, h2, h3⟩ := RS_cong r3 sp
      exact ⟨mm, X, Nn, Lp, C, nm, pr, ht2, m1', m2', m3', m4', Or.inr ⟨by rw [hc 1990 (by decide) (by decide)]; exact r1, r2, th, W, N, h3, by rw [h2]; exact r4⟩⟩
/-- a pair of calls, in the law's one memory -/
theorem o_pair {z z' : Nat} {la la' : List vV} (hX : sxK SX) (h1 : sL cT la) (h2 : ∀ Y : vY, sepY Y → sL (cH Y) la')
    (hp : ∀ I I' Y, LW L x SX k I I' Y → vW 2000 z (0, la, [], (I, Y)) (fun r => vW 2000 z' (0, la', [], (I', Y)) (fun r' => ∃ v v' J J', r = (.inl (some (vi v)), (J, Y)) ∧ r' = (.inl (some (vi v')), (J', Y)) ∧ w32 v = w32 v' ∧ LW L x SX (k + 1) J J' Y))) :
    oI (fun I Y => LW L x SX k I I Y) (fun I Y => LW L x SX (k + 1) I I Y) z z' la la' :=
  o_join (R := LW L x SX) h1 h2 (fun I I' Y h => h.1.2.1) (fun I I' J' Y h g => LW_cong hX h (fun _ _ => rfl) g) (fun I I' J Y h g => LW_cong hX h g (fun _ _ => rfl)) hp
/-- a pair of questions -/
theorem o_ask {z z' : Nat} {la la' : List vV} (hX : sxK SX) (h1 : sL cT la) (h2 : ∀ Y : vY, sepY Y → sL (cH Y) la')
    (hp : ∀ I I' Y, LW L x SX k I I' Y → ∃ v, An 2000 z la I Y v ∧ An 2000 z' la' I' Y v) :
    oI (fun I Y => LW L x SX k I I Y) (fun I Y => LW L x SX (k + 1) I I Y) z z' la la' :=
  o_pair hX h1 h2 (fun I I' Y h => by
    obtain ⟨v, a1, a2⟩ := hp I I' Y h
    exact (a1 _).mpr ((a2 _).mpr ⟨v, v, I, I', rfl, rfl, rfl, LW_up h⟩))
end
