/-! ===== how many paths there can be; a way with all that is settled of it ===== -/
/-- members that have an entry with number 0 -/
noncomputable def z0 (M X : Nat → Int) (n : Nat) : Nat → Nat
  | 0 => 0
  | c + 1 => z0 M X n c + @ite Nat (∃ j, j < n ∧ M j = (c : Int) ∧ X j = 0) (Classical.propDecidable _) 1 0
theorem z0_le (M X : Nat → Int) (n : Nat) : ∀ c, z0 M X n c ≤ c := by
  intro c
  induction c with
  | zero => exact Nat.le_refl _
  | succ c ih =>
    unfold z0
    split <;> omega
theorem z0_mono {M X M' X' : Nat → Int} {n n' : Nat} (h : n ≤ n') (e : ∀ j, j < n → M' j = M j ∧ X' j = X j) : ∀ c, z0 M X n c ≤ z0 M' X' n' c := by
  intro c
  induction c with
  | zero => exact Nat.le_refl _
  | succ c ih =>
    unfold z0
    by_cases q : ∃ j, j < n ∧ M j = (c : Int) ∧ X j = 0
    · obtain ⟨j, j1, j2, j3⟩ := q
      have q' : ∃ j, j < n' ∧ M' j = (c : Int) ∧ X' j = 0 := ⟨j, by omega, by rw [(e j j1).1]; exact j2, by rw [(e j j1).2]; exact j3⟩
      rw [if_pos ⟨j, j1, j2, j3⟩, if_pos q']; omega
    · rw [if_neg q]; omega
theorem z0_new {M X M' X' : Nat → Int} {n m : Nat} (e : ∀ j, j < n → M' j = M j ∧ X' j = X j) (hno : ∀ j, j < n → ¬ (M j = (m : Int) ∧ X j = 0)) (h1 : M' n = m) (h2 : X' n = 0) : ∀ c, m < c → z0 M X n c + 1 ≤ z0 M' X' (n + 1) c := by
  intro c
  induction c with
  | zero => intro h; omega
  | succ c ih =>
    intro hc
    unfold z0
    by_cases z : m = c
    · subst z
      have m0 := z0_mono (n' := n + 1) (by omega) e m
      rw [if_neg (fun q => by obtain ⟨j, j1, j2, j3⟩ := q; exact hno j j1 ⟨j2, j3⟩), if_pos ⟨n, by omega, h1, h2⟩]
      omega
    · have := ih (by omega)
      by_cases q : ∃ j, j < n ∧ M j = (c : Int) ∧ X j = 0
      · obtain ⟨j, j1, j2, j3⟩ := q
        have q' : ∃ j, j < n + 1 ∧ M' j = (c : Int) ∧ X' j = 0 := ⟨j, by omega, by rw [(e j j1).1]; exact j2, by rw [(e j j1).2]; exact j3⟩
        rw [if_pos ⟨j, j1, j2, j3⟩, if_pos q']; omega
      · rw [if_neg q]; omega
/-- what ways gone so far allow: paths, steps behind steps, turns of loops -/
def bud (I I' : vJ) (W C : Nat) : Prop := (∃ n : Nat, hR I I' n ∧ n ≤ W + z0 (I' 2255) (I' 2256) n 24) ∧ I 1990 3384 ≤ W ∧ (∀ j, j < 3840 → I 2014 j ≤ C + W + I 1990 3403 ∧ C ≤ 4000000) ∧ tot I I' ≤ (W : Int) + I 1990 3403
/-- all that is settled of a way -/
def wF (I I' : vJ) (Y Y' : vY) (X mm Nn w x y m o : Nat) (p : Int) : Prop := wayS I I' X w x y ∧ (x < Nn ∧ y < Nn ∧ w < wyN I) ∧ (I 52 w = 1 → I' (X + 26) x = 1 → I' (X + 26) y = 1 → I 53 w = 0 → I 56 (I 41 x).toNat ≠ I 56 (I 41 y).toNat) ∧ (I' (X + 37) x = m ∧ I' (X + 37) y = m ∧ m < mm) ∧ (Y.1 1989 m = o ∧ 2297 ≤ o ∧ Y.2.1 o = 15) ∧ (I o 3856 = p ∧ I' 2179 m = p ∧ -1 ≤ p ∧ p ≤ 1000000) ∧ (p ≠ -1 → (∀ (d : Nat) (I1 : vJ) (Q : vE → Prop), (∀ c, 2081 ≤ c → c < 2157 → I1 c = I' c) → I1 2177 = I' 2177 → (vW (d + 1) 406 (0, [vr 2075, vi w, vu, vu], [], (I1, Y')) Q ↔ Q (.inl (some (vi (I 63 w))), (I1, Y'))))) ∧ (p ≠ -1 → 0 ≤ I 63 w ∧ I 63 w + 1 ≤ I 62 x ∧ (¬ (I 53 w = 1 ∨ I 38 y = 1 ∨ I 38 y = 2) → I 63 w + I 62 y ≤ I 62 x)) ∧ (I 53 w = 1 → 0 ≤ I 41 y ∧ I 41 y < 260 ∧ I 38 y ≠ 0 ∧ (p ≠ -1 → I 64 (I 41 y).toNat = I' 2178 y ∧ 0 ≤ I' 2178 y ∧ I' 2178 y + I 62 y ≤ p))
/-- all cells and places that a run puts, in both houses -/
def LC : List Nat := [65, 1961, 1962, 1963, 1964, 1966, 1967, 1968, 1969, 1970, 1971, 1972, 1973, 1975, 1976, 1977, 1978, 1979, 1980, 1981, 1982, 1983, 1984, 1985, 1986, 1987, 1988, 1992, 1993, 1994, 1995, 1996, 1997, 1998, 1999, 2000, 2001, 2002, 2003, 2004, 2005, 2006, 2007, 2008, 2009, 2010, 2011, 2012, 2013, 2014, 2015, 2016, 2017, 2018, 2019, 2020, 2021, 2022, 2023, 2024, 2025, 2026, 2027, 2028, 2029, 2030, 2031, 2032, 2033, 2034, 2035, 2037, 2038, 2039, 2040, 2041, 2042, 2043, 2044, 2045, 2046, 2048, 2049, 2050, 2051, 2052, 2053, 2054, 2055, 2056, 2057, 2058, 2059]
def PC : List (Nat × Nat) := [(1960, 3094), (1960, 3099), (1960, 3079), (1960, 3090), (1990, 3376), (1990, 3403), (1990, 3393), (1990, 3391), (1990, 3377), (1990, 3400), (1990, 3402), (1990, 3401), (1990, 3384), (1990, 3388), (1990, 3379), (1990, 3392), (1990, 3394), (1990, 3390), (1990, 3389)]
def LT : List Nat := [2183, 2184, 2185, 2186, 2187, 2188, 2189, 2190, 2191, 2192, 2193, 2194, 2195, 2196, 2197, 2198, 2199, 2200, 2201, 2202, 2203, 2204, 2205, 2206, 2207, 2208, 2209, 2210, 2211, 2212, 2213, 2214, 2215, 2216, 2217, 2218, 2219, 2220, 2221, 2222, 2223, 2224, 2225, 2226, 2227, 2228, 2229, 2230, 2231, 2232, 2233, 2235, 2236, 2237, 2238, 2239, 2240, 2241, 2242, 2243, 2244, 2245, 2246, 2247, 2248, 2249, 2250, 2251, 2252, 2253, 2254, 2255, 2256, 2257, 2258, 2260, 2261, 2262, 2263, 2264, 2265, 2266, 2267, 2268, 2269, 2270, 2271, 2272, 2273, 2274, 2275, 2276]
def PM : List (Nat × Nat) := [(2075, 7737), (2075, 7727), (2075, 7735), (2075, 7798), (2075, 7738), (2075, 7818), (2075, 7734), (2075, 7736), (2075, 7829), (2075, 7739), (2075, 7830), (2075, 7740), (2075, 7728), (2075, 7729), (2075, 7731), (2075, 7799), (2075, 7730)]
theorem fr_sub {L L' : List Nat} {P P' : List (Nat × Nat)} {I J : vJ} (h : fr L P I J) (e1 : L.all (fun q => L'.any (fun r => Nat.beq r q)) = true) (e2 : P.all (fun q => P'.any (fun r => Nat.beq r.1 q.1 && Nat.beq r.2 q.2)) = true) : fr L' P' I J := fr_weak h (fun q hq => by
  obtain ⟨r, hr, e⟩ := List.any_eq_true.mp (List.all_eq_true.mp e1 q hq)
  have e : r = q := Nat.eq_of_beq_eq_true e
  exact e ▸ hr) (fun q hq => by
  obtain ⟨r, hr, e⟩ := List.any_eq_true.mp (List.all_eq_true.mp e2 q hq)
  rw [Bool.and_eq_true] at e
  have e : r = q := Prod.ext (Nat.eq_of_beq_eq_true e.1) (Nat.eq_of_beq_eq_true e.2)
  exact e ▸ hr)
def agD (I I' J J' : vJ) : Prop := fr LC PC I J ∧ fr LT PM I' J'
def agT (I I' J J' : vJ) : Prop := (∀ c, 35 ≤ c → c < 65 → J c = I c) ∧ (∀ c, 2297 ≤ c → J c = I c) ∧ (∀ c, 2081 ≤ c → c < 2182 → J' c = I' c) ∧ agD I I' J J'
theorem agT_refl (I I' : vJ) : agT I I' I I' := ⟨fun _ _ _ => rfl, fun _ _ => rfl, fun _ _ _ => rfl, fr_refl _ _ _, fr_refl _ _ _⟩
theorem agT_trans {I I' J J' K K' : vJ} (h : agT I I' J J') (g : agT J J' K K') : agT I I' K K' := ⟨fun c a b => (g.1 c a b).trans (h.1 c a b), fun c a => (g.2.1 c a).trans (h.2.1 c a), fun c a b => (g.2.2.1 c a b).trans (h.2.2.1 c a b), fr_trans h.2.2.2.1 g.2.2.2.1, fr_trans h.2.2.2.2 g.2.2.2.2⟩
theorem agT_of {I I' J J' : vJ} (h : fr LC PC I J) (h' : fr LT PM I' J') : agT I I' J J' := ⟨fun c a b => fr_out h 35 65 (by rfl) a b, fun c a => fr_ge h 2297 (by rfl) a, fun c a b => fr_out h' 2081 2182 (by rfl) a b, h, h'⟩
theorem agT_fr {L L' : List Nat} {P P' : List (Nat × Nat)} {I I' J J' : vJ} (h : fr L P I J) (h' : fr L' P' I' J') (e : ((L.all (fun q => LC.any (fun r => Nat.beq r q)) && P.all (fun q => PC.any (fun r => Nat.beq r.1 q.1 && Nat.beq r.2 q.2))) && (L'.all (fun q => LT.any (fun r => Nat.beq r q)) && P'.all (fun q => PM.any (fun r => Nat.beq r.1 q.1 && Nat.beq r.2 q.2)))) = true) : agT I I' J J' := by
  rw [Bool.and_eq_true, Bool.and_eq_true, Bool.and_eq_true] at e
  exact agT_of (fr_sub h e.1.1 e.1.2) (fr_sub h' e.2.1 e.2.2)
theorem wF_ag {I I' J J' : vJ} {Y Y' : vY} {X mm Nn w x y m o : Nat} {p : Int} (h : wF I I' Y Y' X mm Nn w x y m o p) (hX : X = 2081 ∨ X = 2119) (g : agT I I' J J') : wF J J' Y Y' X mm Nn w x y m o p := by
  have o2 := h.2.2.2.2.1.2.1
  have gx : ∀ j, j < 38 → J' (X + j) = I' (X + j) := fun j hj => g.2.2.1 (X + j) (by omega) (by omega)
  have ge : ∀ c, 2081 ≤ c → c < 2157 → J' c = I' c := fun c a b => g.2.2.1 c a (by omega)
  have e77 : J' 2177 = I' 2177 := g.2.2.1 2177 (by decide) (by decide)
  unfold wF wayS wyN at *
  rw [g.1 35 (by decide) (by decide), g.1 50 (by decide) (by decide), g.1 51 (by decide) (by decide), g.1 52 (by decide) (by decide), g.1 53 (by decide) (by decide), g.1 38 (by decide) (by decide), g.1 61 (by decide) (by decide), g.1 56 (by decide) (by decide), g.1 41 (by decide) (by decide), g.1 63 (by decide) (by decide), g.1 62 (by decide) (by decide), g.1 64 (by decide) (by decide), g.2.1 o o2, gx 22 (by decide), gx 23 (by decide), gx 24 (by decide), gx 25 (by decide), gx 9 (by decide), gx 26 (by decide), gx 37 (by decide), g.2.2.1 2173 (by decide) (by decide), g.2.2.1 2179 (by decide) (by decide), g.2.2.1 2178 (by decide) (by decide), e77]
  refine ⟨h.1, h.2.1, h.2.2.1, h.2.2.2.1, h.2.2.2.2.1, h.2.2.2.2.2.1, fun hp d I1 Q c1 c2 => ?_, h.2.2.2.2.2.2.2.1, h.2.2.2.2.2.2.2.2⟩
  exact h.2.2.2.2.2.2.1 hp d I1 Q (fun c a b => (c1 c a b).trans (ge c a b)) c2
/-- the same with another bound for the steps behind steps -/
def buL (I I' : vJ) (W : Nat) (l : Int) (C : Nat) : Prop := (∃ n : Nat, hR I I' n ∧ n ≤ W + z0 (I' 2255) (I' 2256) n 24) ∧ I 1990 3384 ≤ l ∧ (∀ j, j < 3840 → I 2014 j ≤ C + W + I 1990 3403 ∧ C ≤ 4000000) ∧ tot I I' ≤ (W : Int) + I 1990 3403
theorem bud_L {I I' : vJ} {W C : Nat} (h : bud I I' W C) : buL I I' W (W + 1) C := ⟨h.1, by have := h.2.1; omega, h.2.2⟩
/-- all parts but what failures are counted -/
def PT0 (Lp : Nat) (I I' : vJ) : Prop := tR I I' ∧ pPath I I' ∧ loR I I' Lp (fun l => (I 54 l).toNat) ∧ pArr I I' ∧ pStep I I' ∧ pKeep I I' ∧ pCost I I' ∧ pCalls I I' ∧ pMet I I' ∧ pPrint I I' ∧ pBegun I I' ∧ pLooks I I' ∧ pPar I I' ∧ pDone I I' ∧ pLast I I' ∧ pFor I I' ∧ pTurns I I' ∧ pSeed I I' ∧ pVars I I'
theorem PT_0 {Lp : Nat} {I I' : vJ} (h : PT Lp I I') : PT0 Lp I I' := by
  obtain ⟨q1, q2, q3, q4, q5, q6, q7, q8, q9, q10, q11, q12, q13, q14, q15, q16, q17, q18, q19, q20⟩ := h
  exact ⟨q1, q2, q3, q4, q5, q6, q7, q8, q9, q10, q11, q12, q13, q15, q16, q17, q18, q19, q20⟩
theorem PT_1 {Lp : Nat} {I I' : vJ} (h : PT0 Lp I I') (q14 : pThr I I') : PT Lp I I' := by
  obtain ⟨q1, q2, q3, q4, q5, q6, q7, q8, q9, q10, q11, q12, q13, q15, q16, q17, q18, q19, q20⟩ := h
  exact ⟨q1, q2, q3, q4, q5, q6, q7, q8, q9, q10, q11, q12, q13, q14, q15, q16, q17, q18, q19, q20⟩
theorem PT_14 {Lp : Nat} {I I' : vJ} (h : PT Lp I I') : pThr I I' := h.2.2.2.2.2.2.2.2.2.2.2.2.2.1
/-- a way is gone to END or FAILED -/
def goE (I I' J' : vJ) (a : Nat) : Prop := goT I' J' ∧ I 38 (J' 2198 a).toNat < 3
/-- the innermost activation of a thread is left -/
theorem fwR_leave {I I' J J' : vJ} {t A : Nat} (h : fwR I I') (a : ∀ c, 35 ≤ c → c < 66 → J c = I c) (e : J' 2183 = I' 2183) (e98 : J' 2198 = I' 2198) (eth : J' 2075 7731 = I' 2075 7731) (e86 : ∀ u, J' 2186 u = if u = t then (A : Int) else I' 2186 u) (h0 : I' 2186 t = (A : Int) + 1) (hk : I 38 (I' 2198 (40 * t + A)).toNat < 3) (hA : A < 40) : fwR J J' := by
  refine fwR_ag h a e (fun n b hn hb => ?_)
  unfold lvA
  rw [e98, eth, e86]
  by_cases z : b / 40 = t
  · rw [if_pos z, z, h0]
    by_cases y : b % 40 = A
    · have yb : b = 40 * t + A := by omega
      have nn : ¬ I' 2198 b = (n : Int) := fun q => by rw [← yb, q, tn0] at hk; omega
      rw [if_neg (fun q => nn q.2), if_neg (fun q => nn q.2)]
    · have e : ((b % 40 : Nat) : Int) < (A : Int) + 1 ↔ ((b % 40 : Nat) : Int) < (A : Int) := by omega
      simp only [e]
  · rw [if_neg z]
/-- a new thread -/
theorem fwR_thread {I I' J J' : vJ} {th : Nat} (h : fwR I I') (a : ∀ c, 35 ≤ c → c < 66 → J c = I c) (e : J' 2183 = I' 2183) (e98 : J' 2198 = I' 2198) (h0 : I' 2075 7731 = th) (eth : J' 2075 7731 = (th : Int) + 1) (e86 : ∀ u, J' 2186 u = if u = th then 0 else I' 2186 u) : fwR J J' := by
  refine fwR_ag h a e (fun n b hn hb => ?_)
  unfold lvA
  rw [e98, eth, e86, h0]
  by_cases z : b / 40 = th
  · rw [if_neg (fun q => by have := q.1.2; rw [if_pos z] at this; omega), if_neg (fun q => by have := q.1.1; omega)]
  · have e : ((b / 40 : Nat) : Int) < (th : Int) + 1 ↔ ((b / 40 : Nat) : Int) < (th : Int) := by omega
    rw [if_neg z]
    simp only [e]
theorem lvb_at {I' : vJ} {t A B th : Nat} (h1 : I' 2075 7731 = th) (ht : t < th) (h2 : I' 2186 t = A) (hB : B < A) (hA : A ≤ 40) : (((40 * t + B) / 40 : Nat) : Int) < I' 2075 7731 ∧ (((40 * t + B) % 40 : Nat) : Int) < I' 2186 ((40 * t + B) / 40) := by
  rw [h1, show (40 * t + B) / 40 = t by omega, show (40 * t + B) % 40 = B by omega, h2]
  omega
section
variable {d d' : Nat} {I I' : vJ} {Y Y' : vY}
/-- a way is gone in both houses, with all that is alike; e: it is the one from ENTRY -/
theorem g_goB0 {Q : vE → vE → Prop} {X t w a x y m o mm Nn Lp W C : Nat} {p l : Int} (hL : vL Y) (hL' : vL Y') (hX : Y'.1 2075 7689 = X) (hX2 : X = 2081 ∨ X = 2119) (hV : vreg Y' 2081 38 (Y'.1 2075 7689)) (hG : gL I I' X Nn Lp) (hmm : mm ≤ 24) (hF : wF I I' Y Y' X mm Nn w x y m o p) (ha : a < 320)
    (hP : PT0 Lp I I') (hB : buL I I' W l C) (hW : W ≤ 20000)
    (hm : I 2006 a = m ∧ I' 2197 a = m) (hat : I' 2198 a = x ∧ ((a / 40 : Nat) : Int) < I' 2075 7731 ∧ ((a % 40 : Nat) : Int) < I' 2186 (a / 40))
    (heq : p ≠ -1 → I 2011 a = I' 2178 (I' 2202 a).toNat + I' 2203 a ∧ (0 ≤ I' 2202 a ∧ I' 2202 a < 700) ∧ 0 ≤ I 2011 a ∧ I 2011 a + I 62 x ≤ p)
    (hQ : ∀ (J J' : vJ), PT0 Lp J J' → buL J J' (W + 1) l C → (I 2011 a + I 63 w = 0 → 1 ≤ I 1990 3403 → (∀ j, j < 3840 → I 2014 j + 1 ≤ C + W + I 1990 3403) → tot I I' + 1 ≤ (W : Int) + I 1990 3403 → buL J J' W l C) → goC I J → goT I' J' → (∀ b, b ≠ a → J 2011 b = I 2011 b ∧ J' 2202 b = I' 2202 b ∧ J' 2203 b = I' 2203 b) → (p ≠ -1 → (I 53 w = 1 ∨ ¬ (I 38 y = 1 ∨ I 38 y = 2)) → J 2011 a = J' 2178 (J' 2202 a).toNat + J' 2203 a ∧ (0 ≤ J' 2202 a ∧ J' 2202 a < 700) ∧ 0 ≤ J 2011 a ∧ J 2011 a + I 62 y ≤ p) → J 1990 = prC I w 1990 → (∀ j, J' 2198 j = (if j = a then (y : Int) else I' 2198 j) ∧ J' 2199 j = (if j = a then I' (X + 11) y else I' 2199 j) ∧ J' 2200 j = if j = a then 0 else I' 2200 j) → J 65 = prC I w 65 → J' 2183 = prT I' w 2183 → Q (.inl none, (J, Y)) (.inl none, (J', Y'))) :
    vW (d + 4) 164 (80, [vr 1990, vi t, vi w, vi a, vi x, vi y, vu], [], (I, Y)) (fun r => vW (d' + 4) 403 (0, [vr 2075, vi a, vi w, vu, vu, vu], [], (I', Y')) (fun r' => Q r r')) := by
  obtain ⟨f1, ⟨f2, f3, fw⟩, f4, ⟨f5, f6, f7⟩, f8, f9, f10, f11, f12⟩ := hF
  obtain ⟨q1, q2, q3, q4, q5, q6, q7, q8, q9, q10, q11, q12, q13, q15, q16, q17, q18, q19, q20⟩ := hP
  obtain ⟨⟨n, b1, b2⟩, b3, b4, b5⟩ := hB
  have bg := q11.2
  have q9f := q9.2
  obtain ⟨n0, q2a, q2b⟩ := q2
  have en0 : n0 = n := by have := q2a.1.2; have := b1.1.2; omega
  subst en0
  have zl := z0_le (I' 2255) (I' 2256) n0 24
  refine g_go (m := m) (o := o) (n := n0) (l := (I 41 y).toNat) (p := p) hL hL' hX hX2 hV hG f1 f2 f3 ha b1 q3 (fun j hj => ?_) f4 ⟨hm.1, hm.2, by omega⟩ f8 f9 f10 (fun hp => ?_) (fun hb => ?_) (fun _ => by omega) (fun J J' n' k1 k2 k3 k4 k5 k6 k7 k8 k9 k10 k11 k12 k13 => ?_)
  · have := q18 j hj
    have := b4 j hj
    exact ⟨(q18 j hj).1, (q18 j hj).2, by omega⟩
  · have e := heq hp
    have g := f11 hp
    have := f9.2.2.2
    exact ⟨e.1, e.2.1.1, e.2.1.2, by omega, by omega⟩
  · have g := f12 hb
    refine ⟨by omega, by omega, g.2.2.1, fun hp => (g.2.2.2 hp).1⟩
  · have F1 : fr [65, 2011, 1979, 1980, 1981, 1970, 1971, 1972, 1973, 1975, 1976, 1977, 1978, 2014] [(1990, 3392), (1960, 3090)] I J := k5
    have F2 : fr [2183, 2202, 2203, 2255, 2256, 2257, 2258, 2241, 2242, 2243, 2244, 2245, 2246, 2247, 2248, 2209, 2198, 2199, 2200] [(2075, 7736), (2075, 7818)] I' J' := k6
    have j54 : J 54 = I 54 := fr_row F1 54 (fun _ => rfl)
    have jl : J 1990 3384 = I 1990 3384 := F1 1990 _ rfl
    have jb : J 1990 3403 = I 1990 3403 := F1 1990 _ rfl
    have zm := z0_mono (M' := J' 2255) (X' := J' 2256) (n := n0) (n' := n') (by rcases k2.1 with z | z <;> omega) k2.2.1 24
    have j35 : J 35 = I 35 := fr_row F1 35 (fun _ => rfl)
    have e83 : ∀ j, J' 2183 j = if j = w then I' 2183 j + 1 else I' 2183 j := fun j => by
      rw [k11]
      unfold prT
      by_cases z : j = w
      · subst z
        rw [if_pos rfl]
        split
        · rw [up_same]
        · rw [up_cell _ (by decide), up_same]
      · rw [if_neg z]
        split
        · rw [up_place _ _ z]
        · rw [up_cell _ (by decide), up_place _ _ z]
    have hgo : fwR J J' := fwR_go q9f fw f1.2.1.1 f1.2.1.2.1 ha hat.1 hat.2 j35 (fr_row F1 38 (fun _ => rfl)) (fr_row F1 50 (fun _ => rfl)) (fr_row F1 51 (fun _ => rfl)) (fr_row F1 61 (fun _ => rfl)) (fun j => by
      rw [k9]
      unfold prC
      by_cases z : I 61 w = 0
      · rw [if_pos z, if_neg (fun t => t.2 z)]
      · rw [if_neg z, up_cell _ (by decide)]
        by_cases y : j = w
        · subst y; rw [up_same, if_pos ⟨rfl, z⟩]
        · rw [up_place _ _ y, if_neg (fun t => y t.1)]) e83 (fr_row F2 2186 (fun _ => rfl)) (F2 2075 _ rfl) (fun j => (k13 j).1)
    have tJ : tot J J' = tot I I' + 1 := by
      unfold tot
      rw [show wyN J = wyN I from by unfold wyN; rw [j35]]
      exact sW_one (wyN I) fw (fun j _ hj => by rw [e83, if_neg hj]) (by rw [e83, if_pos rfl])
    have t0 : 0 ≤ tot I I' := (sW_ge (wyN I) (fun j hj => (q9f.1 j hj).1)).1
    refine hQ J J' ⟨su_keep su_tR F1 F2 rfl q1, ⟨n', k1, ?_⟩, ?_, su_keep su_pArr F1 F2 rfl q4, su_keep su_pStep F1 F2 rfl q5, su_keep su_pKeep F1 F2 rfl q6, su_keep su_pCost F1 F2 rfl q7, su_keep su_pCalls F1 F2 rfl q8, ?_, su_keep su_pPrint F1 F2 rfl q10, su_keep su_pBegun F1 F2 rfl q11, su_keep su_pLooks F1 F2 rfl q12, su_keep su_pPar F1 F2 rfl q13, su_keep su_pDone F1 F2 rfl q15, su_keep su_pLast F1 F2 rfl q16, su_keep su_pFor F1 F2 rfl q17, fun j hj => ⟨(k4 j hj).1, (k4 j hj).2.1⟩, su_keep su_pSeed F1 F2 rfl q19, su_keep su_pVars F1 F2 rfl q20⟩ ?_ ?_ k5 k6 k7 ?_ k10 k13 k9 k11
    · intro j hj
      rw [tJ]
      rcases k2.2.2 j hj with ⟨u1, u2⟩ | u
      · have := q2b j u1
        rcases u2 with u | u <;> omega
      · omega
    · show loR J J' Lp (fun l => (J 54 l).toNat)
      rw [j54]; exact k3
    · refine ⟨?_, hgo⟩
      show J 1990 3392 = J' 2075 7736
      rw [k10, k12]
      have w19 := f1.2.2.2.2.2.2
      unfold prC prT
      rw [← w19.1]
      by_cases z : I 61 w = 0
      · rw [if_pos z, if_pos z, up_cell _ (by decide)]; exact q9.1
      · rw [if_neg z, if_neg z, up_same, up_same]
        have : I 1990 3392 = I' 2075 7736 := q9.1
        omega
    · refine ⟨⟨n', k1, ?_⟩, by omega, fun j hj => ?_, by omega⟩
      · rcases k2.1 with z | z <;> omega
      · have := b4 j hj
        have := q18 j hj
        rcases (k4 j hj).2.2 with z | z | z <;> omega
    · intro h0 hb hr ht1
      refine ⟨⟨n', k1, ?_⟩, by omega, fun j hj => ?_, by omega⟩
      · rcases k2.1 with z | ⟨z, z2, z3, z4⟩
        · omega
        · subst z
          have := z0_new (M' := J' 2255) (X' := J' 2256) (n := n0) (m := m) k2.2.1 (fun j hj => by have := z2 j hj; rw [h0] at this; exact this) z3 (by rw [z4]; exact h0) 24 (by omega)
          omega
      · have := hr j hj
        have := b4 j hj
        have := q18 j hj
        rcases (k4 j hj).2.2 with z | z | z <;> omega
    · intro hp hh
      have k := k8 hp hh
      have e := heq hp
      have g := f11 hp
      refine ⟨k.1, k.2.1, ?_⟩
      rw [k.2.2]
      by_cases z : I 53 w = 1
      · rw [if_pos z]
        have g2 := (f12 z).2.2.2 hp
        omega
      · rw [if_neg z]
        have g3 := g.2.2 (fun t => by rcases t with t | t; exact z t; rcases hh with u | u; exact z u; exact u t)
        omega
theorem g_goB {Q : vE → vE → Prop} {X t w a x y m o mm Nn Lp W C : Nat} {p : Int} (hL : vL Y) (hL' : vL Y') (hX : Y'.1 2075 7689 = X) (hX2 : X = 2081 ∨ X = 2119) (hV : vreg Y' 2081 38 (Y'.1 2075 7689)) (hG : gL I I' X Nn Lp) (hmm : mm ≤ 24) (hF : wF I I' Y Y' X mm Nn w x y m o p) (ha : a < 320)
    (hP : PT Lp I I') (hB : bud I I' W C) (hW : W ≤ 20000)
    (hm : I 2006 a = m ∧ I' 2197 a = m) (hat : I' 2198 a = x ∧ ((a / 40 : Nat) : Int) < I' 2075 7731 ∧ ((a % 40 : Nat) : Int) < I' 2186 (a / 40))
    (heq : p ≠ -1 → I 2011 a = I' 2178 (I' 2202 a).toNat + I' 2203 a ∧ (0 ≤ I' 2202 a ∧ I' 2202 a < 700) ∧ 0 ≤ I 2011 a ∧ I 2011 a + I 62 x ≤ p)
    (hQ : ∀ (J J' : vJ), PT Lp J J' → bud J J' (W + 1) C → (I 2011 a + I 63 w = 0 → 1 ≤ I 1990 3403 → (∀ j, j < 3840 → I 2014 j + 1 ≤ C + W + I 1990 3403) → tot I I' + 1 ≤ (W : Int) + I 1990 3403 → bud J J' W C) → goC I J → goT I' J' → (∀ b, b ≠ a → J 2011 b = I 2011 b ∧ J' 2202 b = I' 2202 b ∧ J' 2203 b = I' 2203 b) → (p ≠ -1 → (I 53 w = 1 ∨ ¬ (I 38 y = 1 ∨ I 38 y = 2)) → J 2011 a = J' 2178 (J' 2202 a).toNat + J' 2203 a ∧ (0 ≤ J' 2202 a ∧ J' 2202 a < 700) ∧ 0 ≤ J 2011 a ∧ J 2011 a + I 62 y ≤ p) → J 1990 = prC I w 1990 → (∀ j, J' 2198 j = (if j = a then (y : Int) else I' 2198 j) ∧ J' 2199 j = (if j = a then I' (X + 11) y else I' 2199 j) ∧ J' 2200 j = if j = a then 0 else I' 2200 j) → J 65 = prC I w 65 → J' 2183 = prT I' w 2183 → Q (.inl none, (J, Y)) (.inl none, (J', Y'))) :
    vW (d + 4) 164 (80, [vr 1990, vi t, vi w, vi a, vi x, vi y, vu], [], (I, Y)) (fun r => vW (d' + 4) 403 (0, [vr 2075, vi a, vi w, vu, vu, vu], [], (I', Y')) (fun r' => Q r r')) := by
  refine g_goB0 hL hL' hX hX2 hV hG hmm hF ha (l := W) (PT_0 hP) hB hW hm hat heq (fun J J' k1 k2 k3 k4 k5 k6 k7 k8 k9 k10 k11 => ?_)
  have F1 : fr [65, 2011, 1979, 1980, 1981, 1970, 1971, 1972, 1973, 1975, 1976, 1977, 1978, 2014] [(1990, 3392), (1960, 3090)] I J := k4
  have F2 : fr [2183, 2202, 2203, 2255, 2256, 2257, 2258, 2241, 2242, 2243, 2244, 2245, 2246, 2247, 2248, 2209, 2198, 2199, 2200] [(2075, 7736), (2075, 7818)] I' J' := k5
  exact hQ J J' (PT_1 k1 (su_keep su_pThr F1 F2 rfl (PT_14 hP))) ⟨k2.1, by have := k2.2.1; omega, k2.2.2⟩ k3 k4 k5 k6 k7 k8 k9 k10 k11
end
