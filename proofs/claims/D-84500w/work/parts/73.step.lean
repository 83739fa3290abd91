/-! ===== what is settled of a text; a step under way ===== -/
/-- how many ways a node of a kind has, their sorts; how many values its code leaves -/
def wkN (k : Int) : Int := if k = 1 ∨ k = 2 then 0 else if k = 0 ∨ k = 10 ∨ k = 11 ∨ k = 13 ∨ k = 16 then 1 else if k = 6 then 3 else 2
def wkS (k : Int) (j : Nat) : Int := if k = 6 ∨ k = 8 then (j : Int) + 1 else if k = 10 then 3 else if j = 0 then 0 else 3
def wkV (k : Int) : Nat := if k = 4 then 3 else if k = 7 then 2 else if k = 3 ∨ k = 5 ∨ k = 6 ∨ k = 9 ∨ k = 10 ∨ k = 12 ∨ k = 14 ∨ k = 15 then 1 else 0
def ndF (I I' : vJ) (X n : Nat) (ht : Nat → Nat) : Prop := (I 38 n = I' (X + 9) n ∧ 0 ≤ I 38 n ∧ I 38 n ≤ 16) ∧ (I 48 n = I' (X + 20) n ∧ 0 ≤ I 48 n ∧ I' (X + 21) n = wkN (I 38 n)) ∧ ∃ cf ct : Nat, I 43 n = 2 * (cf : Int) ∧ I' (X + 11) n = cf ∧ I 44 n = 2 * (ct : Int) ∧ I' (X + 12) n = ct ∧ cf ≤ ct ∧ ct ≤ 2100 ∧ ht cf = 0 ∧ ht ct = wkV (I 38 n)
def waF (I I' : vJ) (Y Y' : vY) (X mm Nn n j : Nat) : Prop := ∃ w y m o : Nat, ∃ p : Int, (w : Int) = I 48 n + j ∧ wF I I' Y Y' X mm Nn w n y m o p ∧ I 52 w = wkS (I 38 n) j ∧ (I 52 w = 3 → I 38 y = 11 ∨ I 38 y = 2) ∧ (I 52 w ≠ 3 → I 38 y ≠ 11 ∧ I 38 y ≠ 2) ∧ (I 38 y ≠ 0 ∧ (I 38 y = 1 ∨ I 38 y = 2 → I 42 y = 0)) ∧ (I 38 n = 9 → I 52 w = 0 → I 38 y = 1) ∧ (I 52 w = 3 ∨ I 38 n = 9 ∨ I 38 n = 16 → I 42 y ≤ I 42 n ∧ lkA (I' (X + 16)) (I 42 n - I 42 y).toNat n y) ∧ (I 52 w ≠ 3 → I 38 n = 12 → I 42 y = I 42 n + 1) ∧ (I 38 n = 13 → I 42 y + 1 = I 42 n) ∧ (I 52 w ≠ 3 → I 38 n ≠ 9 → I 38 n ≠ 16 → I 38 n ≠ 12 → I 38 n ≠ 13 → I 42 y = I 42 n) ∧ (I 38 n = 0 → I 63 w = 0 ∧ I 42 y = 0) ∧ ∃ s : Int, I 40 y = s ∧ (I 38 y = 11 → I' (X + 13) y = s ∧ 0 ≤ s ∧ s < I' (X + 3) m)
/-- a member, its names and arguments -/
def meF (I I' : vJ) (Y : vY) (X Nn m : Nat) (nm pr : Nat → Nat) : Prop := ∃ o p nn nd : Nat, (Y.1 1989 m = o ∧ 2297 ≤ o ∧ Y.2.1 o = 15) ∧ (I o 3844 = p ∧ I' (X + 2) m = p ∧ p ≤ 4 ∧ pr m = p) ∧ (I o 3847 = ((p + nn : Nat) : Int) ∧ I' (X + 3) m = ((p + nn : Nat) : Int) ∧ p + nn ≤ 16 ∧ nm m = p + nn) ∧ (I o 3850 = nd ∧ I' (X + 4) m = nd ∧ nd < Nn ∧ I 38 nd = 0 ∧ I' (X + 37) nd = m ∧ I 42 nd = 0) ∧ (I' 2178 nd = 0 ∧ (I' 2179 m ≠ -1 → I 62 nd ≤ I' 2179 m)) ∧ ∃ y : Nat, I 51 (I 48 nd).toNat = y ∧ I' (X + 6) m = y ∧ (I 38 y = 1 ↔ y = nd + 1)
/-- one code in both houses, and what waits ahead of it and behind it -/
def opF (k v o w many : Int) (h h' mm nms gv : Nat) (pr : Nat → Nat) : Prop := (k = 0 ∧ o = 0 ∧ w = v ∧ 0 ≤ v ∧ v ≤ 999999999 ∧ h' = h + 1) ∨ (k = 1 ∧ o = 1 ∧ h' = h + 1) ∨ (k = 2 ∧ o = 3 ∧ w = v ∧ 0 ≤ v ∧ v < nms ∧ h' = h + 1) ∨ (k = 3 ∧ o = 2 ∧ w = v ∧ 0 ≤ v ∧ (v < 8 ∧ v < gv) ∧ h' = h + 1) ∨ (k = 4 ∧ o = 4 ∧ 2 ≤ h ∧ h' = h - 1) ∨ (k = 5 ∧ o = 7 ∧ 1 ≤ h ∧ h' = h) ∨ (k = 6 ∧ o = 8 ∧ 1 ≤ h ∧ h' = h) ∨ (k = 7 ∧ o = 9 ∧ 1 ≤ h ∧ h' = h) ∨ (k = 8 ∧ o = 10 ∧ 1 ≤ h ∧ h' = h) ∨ (k = 9 ∧ sg v o ∧ 2 ≤ h ∧ h' = h - 1) ∨ ((k = 10 ∧ o = 5 ∨ k = 11 ∧ o = 6) ∧ w = v ∧ 0 ≤ v ∧ v < mm ∧ many = pr v.toNat ∧ pr v.toNat ≤ h ∧ h' = h - pr v.toNat + 1)
def coF (I I' : vJ) (X mm n : Nat) (nm pr ht : Nat → Nat) : Prop := ∀ i : Nat, I' (X + 11) n ≤ i → (i : Int) < I' (X + 12) n → opF (I 37 (2 * i)) (I 37 (2 * i + 1)) (I' (X + 27) i) (I' (X + 28) i) (I' (X + 29) i) (ht i) (ht (i + 1)) mm (nm (I' (X + 37) n).toNat) (nm 5000) pr ∧ ht i ≤ 100 ∧ ht (i + 1) ≤ 100
/-- names that nodes put, and heads of loops -/
def loF (I I' : vJ) (X Nn n : Nat) (nm : Nat → Nat) : Prop := (I 38 n = 7 → n + 1 < Nn ∧ I 38 (n + 1) = 8) ∧ (I 38 n = 8 → I' (X + 26) n = 1 ∧ I' (X + 13) n = I 40 n ∧ 0 ≤ I 40 n ∧ I 40 n < nm (I' (X + 37) n).toNat) ∧ (I 38 n = 3 → (I' (X + 13) n = I 40 n ∧ 0 ≤ I 40 n ∧ I 40 n < nm (I' (X + 37) n).toNat) ∨ (I' (X + 13) n = I 40 n - 1 ∧ (-8 ≤ I 40 n ∧ -(nm 5000 : Int) ≤ I 40 n) ∧ I 40 n < 0))
/-- all that no run puts, as ghost numbers: what was there stays there -/
def zd (a : Nat) : Int := if a % 2 = 0 then ((a / 2 : Nat) : Int) else -((a / 2 : Nat) : Int) - 1
def gk (s c f : Nat) : Nat := 6000 + (2 * ((c + f) * (c + f + 1) + 2 * f) + s)
def agH (ht : Nat → Nat) (I I' : vJ) : Prop := (∀ c f, (c < 2075 ∨ 2297 ≤ c) → frok LC PC c f = true → I c f = zd (ht (gk 0 c f))) ∧ ∀ c f, (2075 ≤ c ∧ c < 2297) → frok LT PM c f = true → I' c f = zd (ht (gk 1 c f))
theorem agH_ag {ht : Nat → Nat} {I I' J J' : vJ} (h : agH ht I I') (g : agD I I' J J') : agH ht J J' := ⟨fun c f k e => (g.1 c f e).trans (h.1 c f k e), fun c f k e => (g.2 c f e).trans (h.2 c f k e)⟩
/-- what no run puts is as it was, each house in its own cells -/
def agE (I I' J J' : vJ) : Prop := (∀ c f, (c < 2075 ∨ 2297 ≤ c) → frok LC PC c f = true → J c f = I c f) ∧ ∀ c f, (2075 ≤ c ∧ c < 2297) → frok LT PM c f = true → J' c f = I' c f
theorem agH_two {ht : Nat → Nat} {I I' J J' : vJ} (h : agH ht I I') (g : agH ht J J') : agE I I' J J' := ⟨fun c f k e => (g.1 c f k e).trans (h.1 c f k e).symm, fun c f k e => (g.2 c f k e).trans (h.2 c f k e).symm⟩
def ST (I I' : vJ) (Y Y' : vY) (X mm Nn Lp : Nat) (nm pr ht : Nat → Nat) : Prop := (Y'.1 2075 7689 = X ∧ (X = 2081 ∨ X = 2119) ∧ vreg Y' 2081 38 (Y'.1 2075 7689)) ∧ ((mm ≤ 24 ∧ I' X 7937 = nm 5000 ∧ nm 5000 ≤ 8 ∧ agH ht I I' ∧ (I 18 266 = mm ∧ I' X 7936 = mm)) ∧ Nn ≤ 700) ∧ gL I I' X Nn Lp ∧ lkS I I' X Nn ∧ (∀ n, n < Nn → ndF I I' X n ht) ∧ (∀ n j : Nat, n < Nn → (j : Int) < I' (X + 21) n → waF I I' Y Y' X mm Nn n j) ∧ (∀ m, m < mm → meF I I' Y X Nn m nm pr) ∧ (∀ n, n < Nn → coF I I' X mm n nm pr ht) ∧ (∀ n, n < Nn → 0 ≤ I' (X + 37) n ∧ I' (X + 37) n < mm) ∧ (∀ n, n < Nn → loF I I' X Nn n nm)
theorem ST_ag {I I' J J' : vJ} {Y Y' : vY} {X mm Nn Lp : Nat} {nm pr ht : Nat → Nat} (h : ST I I' Y Y' X mm Nn Lp nm pr ht) (g : agT I I' J J') : ST J J' Y Y' X mm Nn Lp nm pr ht := by
  obtain ⟨⟨a1, a2, a3⟩, a4, a5, a6, a7, a8, a9, a10, a11, a12⟩ := h
  have gx : ∀ j, j < 38 → J' (X + j) = I' (X + j) := fun j hj => g.2.2.1 (X + j) (by clear a8 a9 a7 a6; omega) (by clear a8 a9 a7 a6; omega)
  have gc : ∀ c, 35 ≤ c → c < 65 → J c = I c := g.1
  refine ⟨⟨a1, a2, a3⟩, ⟨⟨a4.1.1, by rw [g.2.2.1 X (by clear a8 a9 a7 a6; omega) (by clear a8 a9 a7 a6; omega)]; exact a4.1.2.1, a4.1.2.2.1, agH_ag a4.1.2.2.2.1 g.2.2.2, by rw [g.2.2.2.1 18 266 rfl]; exact a4.1.2.2.2.2.1, by rw [g.2.2.1 X (by clear a8 a9 a7 a6; omega) (by clear a8 a9 a7 a6; omega)]; exact a4.1.2.2.2.2.2⟩, a4.2⟩, ?_, ?_, fun n hn => ?_, fun n j hn hj => ?_, fun m hm => ?_, fun n hn => ?_, ?_, fun n hn => ?_⟩
  · unfold gL at *
    rw [gc 41 (by decide) (by decide), gc 54 (by decide) (by decide), gc 55 (by decide) (by decide), gc 56 (by decide) (by decide), gx 15 (by decide), gx 18 (by decide), gx 19 (by decide), gx 26 (by decide)]
    exact a5
  · unfold lkS at *
    rw [gc 42 (by decide) (by decide), gx 16 (by decide), gx 18 (by decide)]
    exact a6
  · have := a7 n hn
    unfold ndF at *
    rw [gc 38 (by decide) (by decide), gc 48 (by decide) (by decide), gc 43 (by decide) (by decide), gc 44 (by decide) (by decide), gx 9 (by decide), gx 20 (by decide), gx 21 (by decide), gx 11 (by decide), gx 12 (by decide)]
    exact this
  · rw [gx 21 (by decide)] at hj
    obtain ⟨w, y, m, o, p, w1, w2, w3⟩ := a8 n j hn hj
    refine ⟨w, y, m, o, p, by rw [gc 48 (by decide) (by decide)]; exact w1, wF_ag w2 a2 g, ?_⟩
    rw [gc 52 (by decide) (by decide), gc 38 (by decide) (by decide), gc 42 (by decide) (by decide), gc 63 (by decide) (by decide), gc 40 (by decide) (by decide), gx 16 (by decide), gx 13 (by decide), gx 3 (by decide)]
    exact w3
  · obtain ⟨o, p, nn, nd, m1, m2, m3, m4, m6, m5⟩ := a9 m hm
    refine ⟨o, p, nn, nd, m1, ?_, ?_, ?_, ?_, ?_⟩
    · rw [g.2.1 o m1.2.1, gx 2 (by decide)]; exact m2
    · rw [g.2.1 o m1.2.1, gx 3 (by decide)]; exact m3
    · rw [g.2.1 o m1.2.1, gx 4 (by decide), gx 37 (by decide), gc 38 (by decide) (by decide), gc 42 (by decide) (by decide)]; exact m4
    · rw [g.2.2.1 2178 (by decide) (by decide), g.2.2.1 2179 (by decide) (by decide), gc 62 (by decide) (by decide)]; exact m6
    · rw [gc 51 (by decide) (by decide), gc 48 (by decide) (by decide), gc 38 (by decide) (by decide), gx 6 (by decide)]; exact m5
  · have := a10 n hn
    unfold coF at *
    rw [gc 37 (by decide) (by decide), gx 11 (by decide), gx 12 (by decide), gx 27 (by decide), gx 28 (by decide), gx 29 (by decide), gx 37 (by decide)]
    exact this
  · rw [gx 37 (by decide)]; exact a11
  · have := a12 n hn
    unfold loF at *
    rw [gc 38 (by decide) (by decide), gc 40 (by decide) (by decide), gx 26 (by decide), gx 13 (by decide), gx 37 (by decide)]
    exact this
/-- a thread that goes: its innermost activation is at place i of its node's code -/
def ruR (n : Int) (nm ht : Nat → Nat) (X mm Nn : Nat) (I I' : vJ) (t A i : Nat) : Prop := (I 1995 t = A ∧ I' 2186 t = A ∧ 0 < A ∧ A ≤ 40) ∧ (I 1996 t = 0 ∧ I 2005 t = 0) ∧ thV n nm I I' t A 0 ∧ (∀ k, k < A → acR I I' X mm Nn (40 * t + k)) ∧ (∀ k, k + 1 < A → coR I I' X ht (40 * t + k)) ∧ (I' (X + 11) (I 2007 (40 * t + (A - 1))).toNat ≤ i ∧ (i : Int) ≤ I' (X + 12) (I 2007 (40 * t + (A - 1))).toNat) ∧ I' 2199 (40 * t + (A - 1)) = i ∧ I' 2200 (40 * t + (A - 1)) = ht i
/-- activations that wait below others, but for thread t's -/
def sa (ac : Nat → Int) (t : Nat) : Nat → Int
  | 0 => 0
  | n + 1 => sa ac t n + (if n = t then 0 else if 0 < ac n then ac n - 1 else 0)
theorem sa_nn (ac : Nat → Int) (t : Nat) : ∀ n, 0 ≤ sa ac t n := by
  intro n
  induction n with
  | zero => exact Int.le_refl _
  | succ n ih => unfold sa; split; omega; split <;> omega
theorem sa_congr {ac ac' : Nat → Int} {t : Nat} : ∀ {n : Nat}, (∀ u, u < n → u ≠ t → ac' u = ac u) → sa ac' t n = sa ac t n := by
  intro n
  induction n with
  | zero => intro _; rfl
  | succ n ih =>
    intro h
    unfold sa
    rw [ih (fun u hu => h u (by omega))]
    by_cases z : n = t
    · rw [if_pos z, if_pos z]
    · rw [if_neg z, if_neg z, h n (by omega) z]
theorem sa_out {ac : Nat → Int} {t : Nat} : ∀ {n : Nat}, n ≤ t → sa ac t n = sa ac 8 n ∨ 8 < n := by
  intro n
  induction n with
  | zero => intro _; exact Or.inl rfl
  | succ n ih =>
    intro h
    by_cases w : 8 < n + 1
    · exact Or.inr w
    · rcases ih (by omega) with z | z
      · unfold sa
        rw [z, if_neg (show ¬ n = t by omega), if_neg (show ¬ n = 8 by omega)]; exact Or.inl rfl
      · omega
/-- thread t's among all -/
theorem sa_all {ac : Nat → Int} {t : Nat} : ∀ {n : Nat}, t < n → n ≤ 8 → sa ac 8 n = sa ac t n + (if 0 < ac t then ac t - 1 else 0) := by
  intro n
  induction n with
  | zero => intro h; omega
  | succ n ih =>
    intro h h8
    by_cases z : n = t
    · subst z
      have := sa_out (ac := ac) (Nat.le_refl n)
      rcases this with w | w
      · unfold sa
        rw [if_pos rfl, if_neg (by omega), w]; omega
      · omega
    · have := ih (by omega) (by omega)
      unfold sa
      rw [if_neg z, if_neg (show ¬ n = 8 by omega), this]; omega
/-- a step of thread t is under way -/
def IS (Y Y' : vY) (X mm Nn Lp : Nat) (nm pr ht : Nat → Nat) (I I' : vJ) (th t A i W N : Nat) : Prop := ST I I' Y Y' X mm Nn Lp nm pr ht ∧ LZ I I' th 8 (-1) ∧ PT Lp I I' ∧ bud I I' W (ht 5000) ∧ (t < th ∧ ((W : Int) + sa (I 1995) t th + A ≤ N ∧ (0 ≤ I 1990 3393 ∧ I 1990 3393 < N) ∧ I 1960 3100 = nm 5000) ∧ I 1990 3388 = N ∧ I' 2075 7729 = N ∧ 1 ≤ N ∧ N ≤ 20000 ∧ I' 2075 7829 = t) ∧ (∀ u, u < th → u ≠ t → reR (I 1990 3376) nm ht X mm Nn I I' u) ∧ ruR (I 1990 3376) nm ht X mm Nn I I' t A i
/-- cells that codes put -/
theorem IS_next {Y Y' : vY} {X mm Nn Lp : Nat} {nm pr ht : Nat → Nat} {I I' J J' : vJ} {th t A i W N : Nat} (h : IS Y Y' X mm Nn Lp nm pr ht I I' th t A i W N) (hf : fr [1964, 1969, 1985, 1992, 1993, 1994, 2027, 2028, 2029, 2030, 2031, 2032, 2033, 2034, 2046] [(1990, 3376), (1990, 3377), (1990, 3391)] I J) (hf' : fr [2199, 2200, 2206, 2223, 2224, 2225, 2226, 2227, 2228, 2229, 2230, 2232, 2240, 2254] [(2075, 7737), (2075, 7738), (2075, 7735)] I' J')
    (hn : I 1990 3376 ≤ J 1990 3376) (hPT : PT Lp J J') (hv : thV (J 1990 3376) nm J J' t A 0 ∧ ∀ u, u ≠ t → agV I I' J J' u) (hpc : ∀ b, J' 2199 b = if b = 40 * t + (A - 1) then (i : Int) + 1 else I' 2199 b) (hs : J' 2200 (40 * t + (A - 1)) = ht (i + 1)) (hs2 : ∀ b, b ≠ 40 * t + (A - 1) → J' 2200 b = I' 2200 b) (hi : (i : Int) < I' (X + 12) (I 2007 (40 * t + (A - 1))).toNat) : IS Y Y' X mm Nn Lp nm pr ht J J' th t A (i + 1) W N := by
  obtain ⟨s1, s2, s3, s4, ⟨s5, s6, s7, s8, s9, s10, s11⟩, s12, s13⟩ := h
  have g := agT_fr hf hf' rfl
  have hX := s1.1.2.1
  have s1' := ST_ag s1 g
  obtain ⟨⟨r1, r2, r3, r4⟩, ⟨r5, r6⟩, r7, r8, r9, r10, r11, r12⟩ := s13
  have gS : agS I I' J J' X := ⟨g.1 38 (by decide) (by decide), g.1 43 (by decide) (by decide), g.1 62 (by decide) (by decide), g.2.2.1 (X + 11) (by omega) (by omega), g.2.2.1 (X + 12) (by omega) (by omega), g.2.2.1 (X + 37) (by omega) (by omega), g.2.2.1 2178 (by decide) (by decide), g.2.2.1 2179 (by decide) (by decide), by rw [hf 1960 _ rfl]; exact Int.le_refl _⟩
  have gA : ∀ u, u ≠ t → agA I I' J J' u := fun u hu => by
    refine ⟨⟨by rw [hf 1995 _ rfl], by rw [hf' 2186 _ rfl]⟩, fun k hk => ⟨by rw [hf 2006 _ rfl], by rw [hf 2007 _ rfl], by rw [hf 2008 _ rfl], by rw [hf 2010 _ rfl], by rw [hf 2011 _ rfl], by rw [hf' 2197 _ rfl], by rw [hf' 2198 _ rfl], ?_, by rw [hf' 2201 _ rfl], by rw [hf' 2202 _ rfl], by rw [hf' 2203 _ rfl]⟩⟩
    rw [hpc, if_neg (by omega)]
  refine ⟨s1', su_keep su_LZ hf hf' rfl s2, hPT, ?_, ⟨s5, by rw [fr_row hf 1995 (fun _ => rfl), hf 1990 3393 rfl, hf 1960 3100 rfl]; exact s6, by rw [hf 1990 _ rfl]; exact s7, by rw [hf' 2075 _ rfl]; exact s8, s9, s10, by rw [hf' 2075 _ rfl]; exact s11⟩, fun u hu ut => ?_, ?_⟩
  · obtain ⟨⟨n, b1, b2⟩, b3, b4⟩ := s4
    have e1 := fr_row hf' 2255 (fun _ => rfl)
    have e2 := fr_row hf' 2256 (fun _ => rfl)
    refine ⟨⟨n, hR_same b1 (hf 1960 _ rfl) (fr_row hf 1979 (fun _ => rfl)) (fr_row hf 1980 (fun _ => rfl)) (fr_row hf 1981 (fun _ => rfl)) (hf' 2075 _ rfl) e1 e2 (fr_row hf' 2257 (fun _ => rfl)) (fr_row hf' 2258 (fun _ => rfl)), by rw [e1, e2]; exact b2⟩, by rw [hf 1990 _ rfl]; exact b3, ⟨fun j hj => ?_, tot_le b4.2 (fr_row hf 35 (fun _ => rfl)) (fr_row hf' 2183 (fun _ => rfl)) (hf 1990 _ rfl)⟩⟩
    rw [hf 2014 j rfl, hf 1990 _ rfl]; exact b4.1 j hj
  · exact reR_ag (s12 u hu ut) hn gS (hv.2 u ut) (gA u ut) (by rw [hf 1996 _ rfl]) (by rw [hf 1997 _ rfl]) (by rw [hf 2005 _ rfl])
  · have e7 := fr_row hf 2007 (fun _ => rfl)
    refine ⟨⟨by rw [hf 1995 _ rfl]; exact r1, by rw [hf' 2186 _ rfl]; exact r2, r3, r4⟩, ⟨by rw [hf 1996 _ rfl]; exact r5, by rw [hf 2005 _ rfl]; exact r6⟩, hv.1, fun k hk => ?_, fun k hk => ?_, ?_, by rw [hpc, if_pos rfl]; omega, hs⟩
    · have q := r8 k hk
      unfold acR at *
      rw [hf 2006 _ rfl, hf 2007 _ rfl, hf 2010 _ rfl, hf 2011 _ rfl, hf' 2197 _ rfl, hf' 2198 _ rfl, hf' 2201 _ rfl, hf' 2202 _ rfl, hf' 2203 _ rfl, hf 1960 _ rfl, gS.1, gS.2.2.1, gS.2.2.2.2.2.1, gS.2.2.2.2.2.2.1, gS.2.2.2.2.2.2.2.1]
      exact q
    · have q := r9 k hk
      unfold coR at *
      rw [hf 2007 _ rfl, hf 2008 _ rfl, hpc, if_neg (by omega), hs2 _ (by omega), gS.2.2.2.1, gS.2.2.2.2.1]
      exact q
    · rw [e7, gS.2.2.2.1, gS.2.2.2.2.1]
      exact ⟨by omega, by omega⟩
