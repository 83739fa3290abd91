/-! ===== what a run keeps alike in both houses, part by part ===== -/
def pCost (I I' : vJ) : Prop := I 1990 3391 = I' 2075 7735 ∧ ∀ m, m < 24 → I 1969 m = I' 2254 m
def pCalls (I I' : vJ) : Prop := ∀ m, m < 24 → I 1968 m = I' 2253 m
/-- sums over rows -/
def sW (f : Nat → Int) : Nat → Int
  | 0 => 0
  | n + 1 => sW f n + f n
theorem sW_congr {f g : Nat → Int} : ∀ n, (∀ j, j < n → g j = f j) → sW g n = sW f n := by
  intro n
  induction n with
  | zero => intro _; rfl
  | succ n ih => intro h; unfold sW; rw [ih (fun j hj => h j (by omega)), h n (by omega)]
theorem sW_one {f g : Nat → Int} {i : Nat} {e : Int} : ∀ n, i < n → (∀ j, j < n → j ≠ i → g j = f j) → g i = f i + e → sW g n = sW f n + e := by
  intro n
  induction n with
  | zero => intro h; omega
  | succ n ih =>
    intro h1 h2 h3
    unfold sW
    by_cases z : i = n
    · subst z
      rw [sW_congr i (fun j hj => h2 j (by omega) (by omega)), h3]; omega
    · rw [ih (by omega) (fun j hj => h2 j (by omega)) h3, h2 n (by omega) (fun q => z q.symm)]; omega
theorem sW_ge {f : Nat → Int} : ∀ n, (∀ j, j < n → 0 ≤ f j) → 0 ≤ sW f n ∧ ∀ i, i < n → f i ≤ sW f n := by
  intro n
  induction n with
  | zero => intro _; exact ⟨Int.le_refl _, fun i hi => absurd hi (Nat.not_lt_zero _)⟩
  | succ n ih =>
    intro h
    obtain ⟨a, b⟩ := ih (fun j hj => h j (by omega))
    have c := h n (by omega)
    unfold sW
    refine ⟨by omega, fun i hi => ?_⟩
    by_cases z : i = n
    · subst z; omega
    · have := b i (by omega); omega
/-- how many ways there are; how many were gone; whether an activation is there; ways into a node, out of it; activations at it -/
def wyN (I : vJ) : Nat := (I 35 1554).toNat
def tot (I I' : vJ) : Int := sW (I' 2183) (wyN I)
def lvA (I' : vJ) (n a : Nat) : Int := if (((a / 40 : Nat) : Int) < I' 2075 7731 ∧ ((a % 40 : Nat) : Int) < I' 2186 (a / 40)) ∧ I' 2198 a = (n : Int) then 1 else 0
def inW (I I' : vJ) (n : Nat) : Int := sW (fun w => if I 51 w = (n : Int) then I' 2183 w else 0) (wyN I)
def ouW (I I' : vJ) (n : Nat) : Int := sW (fun w => if I 50 w = (n : Int) then I' 2183 w else 0) (wyN I)
def fwR (I I' : vJ) : Prop := (∀ w, w < wyN I → 0 ≤ I' 2183 w ∧ (I 61 w = 1 → I 65 w = I' 2183 w)) ∧ ∀ n : Nat, 3 ≤ I 38 n → inW I I' n - ouW I I' n = sW (lvA I' n) 320
def pMet (I I' : vJ) : Prop := I 1990 3392 = I' 2075 7736 ∧ fwR I I'
theorem tot_le {I I' J J' : vJ} {b : Int} (h : tot I I' ≤ b + I 1990 3403) (a : J 35 = I 35) (e : J' 2183 = I' 2183) (c : J 1990 3403 = I 1990 3403) : tot J J' ≤ b + J 1990 3403 := by
  unfold tot wyN at *
  rw [a, e, c]; exact h
/-- the flow is kept where the activations at each node (END and FAILED and ENTRY aside) are as many -/
theorem fwR_ag {I I' J J' : vJ} (h : fwR I I') (a : ∀ c, 35 ≤ c → c < 66 → J c = I c) (e : J' 2183 = I' 2183) (g : ∀ n b : Nat, 3 ≤ I 38 n → b < 320 → lvA J' n b = lvA I' n b) : fwR J J' := by
  unfold fwR inW ouW wyN at *
  rw [a 35 (by decide) (by decide), a 38 (by decide) (by decide), a 50 (by decide) (by decide), a 51 (by decide) (by decide), a 61 (by decide) (by decide), a 65 (by decide) (by decide), e]
  exact ⟨h.1, fun n hn => by rw [h.2 n hn]; exact (sW_congr 320 (fun b hb => g n b hn hb)).symm⟩
/-- a way is gone -/
theorem fwR_go {I I' J J' : vJ} {w x y a : Nat} (h : fwR I I') (hw : w < wyN I) (h50 : I 50 w = x) (h51 : I 51 w = y) (ha : a < 320) (hx : I' 2198 a = x) (hl : ((a / 40 : Nat) : Int) < I' 2075 7731 ∧ ((a % 40 : Nat) : Int) < I' 2186 (a / 40))
    (a35 : J 35 = I 35) (a38 : J 38 = I 38) (a50 : J 50 = I 50) (a51 : J 51 = I 51) (a61 : J 61 = I 61) (a65 : ∀ j, J 65 j = if j = w ∧ I 61 w ≠ 0 then I 65 j + 1 else I 65 j) (e83 : ∀ j, J' 2183 j = if j = w then I' 2183 j + 1 else I' 2183 j) (e86 : J' 2186 = I' 2186) (eth : J' 2075 7731 = I' 2075 7731) (e98 : ∀ j, J' 2198 j = if j = a then (y : Int) else I' 2198 j) : fwR J J' := by
  have hN : wyN J = wyN I := by unfold wyN; rw [a35]
  refine ⟨fun j hj => ?_, fun n hn => ?_⟩
  · rw [hN] at hj
    have q := h.1 j hj
    rw [a61, a65, e83]
    by_cases z : j = w
    · subst z
      rw [if_pos rfl]
      refine ⟨by omega, fun k => ?_⟩
      have q2 := q.2 k
      rw [if_pos ⟨rfl, by omega⟩]; omega
    · rw [if_neg z, if_neg (fun t => z t.1)]; exact q
  · rw [a38] at hn
    have q := h.2 n hn
    have i1 : inW J J' n = inW I I' n + (if y = n then 1 else 0) := by
      unfold inW
      rw [hN, a51]
      refine sW_one (wyN I) hw (fun j _ hj => ?_) ?_
      · show (if I 51 j = (n : Int) then J' 2183 j else 0) = if I 51 j = (n : Int) then I' 2183 j else 0
        rw [e83, if_neg hj]
      · show (if I 51 w = (n : Int) then J' 2183 w else 0) = (if I 51 w = (n : Int) then I' 2183 w else 0) + _
        rw [e83, if_pos rfl, h51]
        by_cases z : y = n
        · rw [if_pos (by rw [z]), if_pos (by rw [z]), if_pos z]
        · rw [if_neg (by omega), if_neg (by omega), if_neg z]; rfl
    have o1 : ouW J J' n = ouW I I' n + (if x = n then 1 else 0) := by
      unfold ouW
      rw [hN, a50]
      refine sW_one (wyN I) hw (fun j _ hj => ?_) ?_
      · show (if I 50 j = (n : Int) then J' 2183 j else 0) = if I 50 j = (n : Int) then I' 2183 j else 0
        rw [e83, if_neg hj]
      · show (if I 50 w = (n : Int) then J' 2183 w else 0) = (if I 50 w = (n : Int) then I' 2183 w else 0) + _
        rw [e83, if_pos rfl, h50]
        by_cases z : x = n
        · rw [if_pos (by rw [z]), if_pos (by rw [z]), if_pos z]
        · rw [if_neg (by omega), if_neg (by omega), if_neg z]; rfl
    have l1 : sW (lvA J' n) 320 = sW (lvA I' n) 320 + ((if y = n then 1 else 0) - (if x = n then 1 else 0)) := by
      refine sW_one 320 ha (fun j _ hj => ?_) ?_
      · unfold lvA; rw [e86, eth, e98, if_neg hj]
      · unfold lvA
        rw [e86, eth, e98, if_pos rfl, hx]
        have p1 : ∀ v : Nat, (((((a / 40 : Nat) : Int) < I' 2075 7731 ∧ ((a % 40 : Nat) : Int) < I' 2186 (a / 40)) ∧ (v : Int) = (n : Int)) ↔ v = n) := fun v => ⟨fun t => by have := t.2; omega, fun t => ⟨hl, by rw [t]⟩⟩
        simp only [p1]
        omega
    rw [i1, o1, l1]
    omega
def pPrint (I I' : vJ) : Prop := (I 1990 3379 = I' 2075 7739 ∧ 0 ≤ I 1990 3379 ∧ I 1990 3379 ≤ 400) ∧ ∀ j, j < 400 → I 2035 j = I' 2184 j
def pBegun (I I' : vJ) : Prop := I 1990 3403 = I' 2075 7727 ∧ 0 ≤ I 1990 3403 ∧ I 1990 3403 ≤ 30000
def pLooks (I I' : vJ) : Prop := (I 1960 3094 = I' 2075 7734 ∧ 0 ≤ I 1960 3094 ∧ I 1960 3094 ≤ 400) ∧ ∀ j, j < 400 → I 1982 j = I' 2260 j ∧ I 1983 j = I' 2261 j ∧ I 1984 j = I' 2262 j ∧ 0 ≤ I 1984 j ∧ I 1984 j < 1000000
def pPar (I I' : vJ) : Prop := (I 1990 3396 = I' 2075 7732 ∧ (I 1990 3396 = 0 ∨ I 1990 3396 = 1)) ∧ (I 1990 3397 = I' 2075 7733 ∧ 0 ≤ I 1990 3397 ∧ I 1990 3397 < 2147483648) ∧ ∀ j, j < 18 → I 2047 j = I' 2181 j ∧ 0 ≤ I 2047 j ∧ I 2047 j ≤ 1000
def pThr (I I' : vJ) : Prop := ∀ j, j < 10 → I 2037 j = I' 2249 j ∧ I 2038 j = I' 2250 j ∧ I 2039 j = I' 2251 j ∧ I 2040 j = I' 2252 j
def pDone (I I' : vJ) : Prop := ∀ u : Nat, u < 8 → I 2001 u = I' 2191 u ∧ I 2003 u = I' 2192 u ∧ ((u : Int) < I 1990 3390 → I 1996 u < 3 → I 2003 u = -1)
def pLast (I I' : vJ) : Prop := ∀ u : Nat, u < 8 → ((u : Int) < I 1990 3390 → I 2002 u = (if 0 < I' 2193 u then I' 2193 u else I' 2194 u) ∧ (0 ≤ I' 2193 u ∧ I' 2193 u ≤ I 1990 3388) ∧ 0 ≤ I' 2194 u ∧ I' 2194 u ≤ I 1990 3388) ∧ (-2147483648 ≤ I 1997 u ∧ I 1997 u ≤ 2147483647) ∧ (-2147483648 ≤ I' 2188 u ∧ I' 2188 u ≤ 2147483647) ∧ 0 ≤ I 1999 u ∧ I 1999 u < 1000000
def pFor (I I' : vJ) : Prop := ∀ j, j < 3840 → (I 2015 j = I' 2207 j ∧ -2147483647 ≤ I 2015 j ∧ I 2015 j ≤ 2147483648) ∧ I 2016 j = I' 2208 j ∧ -2147483647 ≤ I 2016 j ∧ I 2016 j ≤ 2147483647
def pTurns (I I' : vJ) : Prop := ∀ j, j < 3840 → I 2014 j = I' 2209 j ∧ 0 ≤ I 2014 j
def pArr (I I' : vJ) : Prop := ∃ n E : Nat, aR I I' n E
def pPath (I I' : vJ) : Prop := ∃ n : Nat, hR I I' n ∧ ∀ j, j < n → 1 ≤ I' 2257 j ∧ I' 2257 j ≤ tot I I'
def pStep (I I' : vJ) : Prop := ∃ N E : Nat, sR I I' N E
def pSeed (I I' : vJ) : Prop := (I 1990 3394 = I' 2075 7740 ∧ 0 ≤ I 1990 3394 ∧ I 1990 3394 < 2147483648) ∧ (I 1990 3395 = 0 ∧ I' 2075 7827 = 0 ∨ inI (I 1990 3395) ∧ I 1990 3395 ≠ 0 ∧ I' 2075 7827 = 1) ∧ (I 1990 3389 = I' 2075 7730 ∧ 0 ≤ I 1990 3389 ∧ I 1990 3389 < I 1990 3390) ∧ I' 2075 7728 = 1
/-- the number of threads of the house -/
def nTh (I : vJ) : Nat := (I 1990 3390).toNat
def pTh (I I' : vJ) : Prop := tH I I' (nTh I)
def pLQ (I I' : vJ) : Prop := lQ I I' (nTh I)
def pKeep (I I' : vJ) : Prop := kR I I' 2048 0 ∧ kR I I' 2051 1 ∧ kR I I' 2054 2 ∧ kR I I' 2057 3
theorem su_pCost : su [1969] [(1990, 3391)] [2254] [(2075, 7735)] (fun I I' => pCost I I') := by
  intro I I' J J' h1 h2 h3 h4 r
  unfold pCost at *
  have e0 : J 1990 3391 = I 1990 3391 := h2 (1990, 3391) (by simp)
  have g0 : J' 2075 7735 = I' 2075 7735 := h4 (2075, 7735) (by simp)
  simp only [e0, g0, h1 1969 (by simp), h3 2254 (by simp)]
  exact r
theorem su_pCalls : su [1968] [] [2253] [] (fun I I' => pCalls I I') := by
  intro I I' J J' h1 h2 h3 h4 r
  unfold pCalls at *
  simp only [h1 1968 (by simp), h3 2253 (by simp)]
  exact r
theorem su_fwR : su [38, 50, 51, 61, 65] [(35, 1554)] [2183, 2186, 2198] [(2075, 7731)] (fun I I' => fwR I I') := by
  intro I I' J J' h1 h2 h3 h4 r
  unfold fwR inW ouW wyN at *
  have e0 : J 35 1554 = I 35 1554 := h2 (35, 1554) (by simp)
  have g0 : J' 2075 7731 = I' 2075 7731 := h4 (2075, 7731) (by simp)
  have l0 : lvA J' = lvA I' := by
    funext n a
    unfold lvA
    rw [g0, h3 2186 (by simp), h3 2198 (by simp)]
  rw [e0, l0, h1 38 (by simp), h1 50 (by simp), h1 51 (by simp), h1 61 (by simp), h1 65 (by simp), h3 2183 (by simp)]
  exact r
theorem su_pMet : su [38, 50, 51, 61, 65] [(1990, 3392), (35, 1554)] [2183, 2186, 2198] [(2075, 7736), (2075, 7731)] (fun I I' => pMet I I') := by
  intro I I' J J' h1 h2 h3 h4 r
  refine ⟨?_, su_fwR I I' J J' h1 (fun p hp => h2 p (List.mem_cons_of_mem _ hp)) h3 (fun p hp => h4 p (List.mem_cons_of_mem _ hp)) r.2⟩
  have e0 : J 1990 3392 = I 1990 3392 := h2 (1990, 3392) (by simp)
  have g0 : J' 2075 7736 = I' 2075 7736 := h4 (2075, 7736) (by simp)
  rw [e0, g0]; exact r.1
theorem su_pPrint : su [2035] [(1990, 3379)] [2184] [(2075, 7739)] (fun I I' => pPrint I I') := by
  intro I I' J J' h1 h2 h3 h4 r
  unfold pPrint at *
  have e0 : J 1990 3379 = I 1990 3379 := h2 (1990, 3379) (by simp)
  have g0 : J' 2075 7739 = I' 2075 7739 := h4 (2075, 7739) (by simp)
  simp only [e0, g0, h1 2035 (by simp), h3 2184 (by simp)]
  exact r
theorem su_pBegun : su [] [(1990, 3403)] [] [(2075, 7727)] (fun I I' => pBegun I I') := by
  intro I I' J J' h1 h2 h3 h4 r
  unfold pBegun at *
  have e0 : J 1990 3403 = I 1990 3403 := h2 (1990, 3403) (by simp)
  have g0 : J' 2075 7727 = I' 2075 7727 := h4 (2075, 7727) (by simp)
  simp only [e0, g0]
  exact r
theorem su_pLooks : su [1982, 1983, 1984] [(1960, 3094)] [2260, 2261, 2262] [(2075, 7734)] (fun I I' => pLooks I I') := by
  intro I I' J J' h1 h2 h3 h4 r
  unfold pLooks at *
  have e0 : J 1960 3094 = I 1960 3094 := h2 (1960, 3094) (by simp)
  have g0 : J' 2075 7734 = I' 2075 7734 := h4 (2075, 7734) (by simp)
  simp only [e0, g0, h1 1982 (by simp), h1 1983 (by simp), h1 1984 (by simp), h3 2260 (by simp), h3 2261 (by simp), h3 2262 (by simp)]
  exact r
theorem su_pPar : su [2047] [(1990, 3396), (1990, 3397)] [2181] [(2075, 7732), (2075, 7733)] (fun I I' => pPar I I') := by
  intro I I' J J' h1 h2 h3 h4 r
  unfold pPar at *
  have e0 : J 1990 3396 = I 1990 3396 := h2 (1990, 3396) (by simp)
  have e1 : J 1990 3397 = I 1990 3397 := h2 (1990, 3397) (by simp)
  have g0 : J' 2075 7732 = I' 2075 7732 := h4 (2075, 7732) (by simp)
  have g1 : J' 2075 7733 = I' 2075 7733 := h4 (2075, 7733) (by simp)
  simp only [e0, e1, g0, g1, h1 2047 (by simp), h3 2181 (by simp)]
  exact r
theorem su_pThr : su [2037, 2038, 2039, 2040] [] [2249, 2250, 2251, 2252] [] (fun I I' => pThr I I') := by
  intro I I' J J' h1 h2 h3 h4 r
  unfold pThr at *
  simp only [h1 2037 (by simp), h1 2038 (by simp), h1 2039 (by simp), h1 2040 (by simp), h3 2249 (by simp), h3 2250 (by simp), h3 2251 (by simp), h3 2252 (by simp)]
  exact r
theorem su_pDone : su [2001, 2003, 1996] [(1990, 3390)] [2191, 2192] [] (fun I I' => pDone I I') := by
  intro I I' J J' h1 h2 h3 h4 r
  unfold pDone at *
  have e0 : J 1990 3390 = I 1990 3390 := h2 (1990, 3390) (by simp)
  simp only [e0, h1 2001 (by simp), h1 2003 (by simp), h1 1996 (by simp), h3 2191 (by simp), h3 2192 (by simp)]
  exact r
theorem su_pLast : su [2002, 1997, 1999] [(1990, 3390), (1990, 3388)] [2193, 2194, 2188] [] (fun I I' => pLast I I') := by
  intro I I' J J' h1 h2 h3 h4 r
  unfold pLast at *
  have e0 : J 1990 3390 = I 1990 3390 := h2 (1990, 3390) (by simp)
  have e1 : J 1990 3388 = I 1990 3388 := h2 (1990, 3388) (by simp)
  simp only [e0, e1, h1 2002 (by simp), h1 1997 (by simp), h1 1999 (by simp), h3 2193 (by simp), h3 2194 (by simp), h3 2188 (by simp)]
  exact r
theorem su_pFor : su [2015, 2016] [] [2207, 2208] [] (fun I I' => pFor I I') := by
  intro I I' J J' h1 h2 h3 h4 r
  unfold pFor at *
  simp only [h1 2015 (by simp), h1 2016 (by simp), h3 2207 (by simp), h3 2208 (by simp)]
  exact r
theorem su_pTurns : su [2014] [] [2209] [] (fun I I' => pTurns I I') := by
  intro I I' J J' h1 h2 h3 h4 r
  unfold pTurns at *
  simp only [h1 2014 (by simp), h3 2209 (by simp)]
  exact r
theorem su_pSeed : su [] [(1990, 3394), (1990, 3395), (1990, 3389), (1990, 3390)] [] [(2075, 7740), (2075, 7827), (2075, 7730), (2075, 7728)] (fun I I' => pSeed I I') := by
  intro I I' J J' h1 h2 h3 h4 r
  unfold pSeed at *
  have e0 : J 1990 3394 = I 1990 3394 := h2 (1990, 3394) (by simp)
  have e1 : J 1990 3395 = I 1990 3395 := h2 (1990, 3395) (by simp)
  have e2 : J 1990 3389 = I 1990 3389 := h2 (1990, 3389) (by simp)
  have e3 : J 1990 3390 = I 1990 3390 := h2 (1990, 3390) (by simp)
  have g0 : J' 2075 7740 = I' 2075 7740 := h4 (2075, 7740) (by simp)
  have g1 : J' 2075 7827 = I' 2075 7827 := h4 (2075, 7827) (by simp)
  have g2 : J' 2075 7730 = I' 2075 7730 := h4 (2075, 7730) (by simp)
  have g3 : J' 2075 7728 = I' 2075 7728 := h4 (2075, 7728) (by simp)
  simp only [e0, e1, e2, e3, g0, g1, g2, g3]
  exact r
theorem su_pArr : su [1985, 2027, 2028, 2029, 2030, 2031, 2032, 2033, 2034] [(1990, 3376), (1990, 3377), (18, 266)] [2223, 2224, 2225, 2226, 2227, 2228, 2229, 2230] [(2075, 7737), (2075, 7738)] (fun I I' => pArr I I') := by
  intro I I' J J' h1 h2 h3 h4 r
  obtain ⟨n, E, r⟩ := r
  refine ⟨n, E, ?_⟩
  unfold aR at *
  have e0 : J 1990 3376 = I 1990 3376 := h2 (1990, 3376) (by simp)
  have e1 : J 1990 3377 = I 1990 3377 := h2 (1990, 3377) (by simp)
  have g0 : J' 2075 7737 = I' 2075 7737 := h4 (2075, 7737) (by simp)
  have g1 : J' 2075 7738 = I' 2075 7738 := h4 (2075, 7738) (by simp)
  have e2 : J 18 266 = I 18 266 := h2 (18, 266) (by simp)
  simp only [e0, e1, e2, g0, g1, h1 1985 (by simp), h1 2027 (by simp), h1 2028 (by simp), h1 2029 (by simp), h1 2030 (by simp), h1 2031 (by simp), h1 2032 (by simp), h1 2033 (by simp), h1 2034 (by simp), h3 2223 (by simp), h3 2224 (by simp), h3 2225 (by simp), h3 2226 (by simp), h3 2227 (by simp), h3 2228 (by simp), h3 2229 (by simp), h3 2230 (by simp)]
  exact r
theorem su_pPath : su [1979, 1980, 1981] [(1960, 3090), (35, 1554)] [2255, 2256, 2257, 2258, 2183] [(2075, 7818)] (fun I I' => pPath I I') := by
  intro I I' J J' h1 h2 h3 h4 r
  obtain ⟨n, r, r2⟩ := r
  have e0 : J 35 1554 = I 35 1554 := h2 (35, 1554) (by simp)
  exact ⟨n, hR_same r (h2 (1960, 3090) (by simp)) (h1 1979 (by simp)) (h1 1980 (by simp)) (h1 1981 (by simp)) (h4 (2075, 7818) (by simp)) (h3 2255 (by simp)) (h3 2256 (by simp)) (h3 2257 (by simp)) (h3 2258 (by simp)), by unfold tot wyN at *; rw [e0, h3 2183 (by simp), h3 2257 (by simp)]; exact r2⟩
theorem su_pStep : su [2041, 2042, 2043, 2044, 2045, 2046] [(1990, 3388), (1990, 3384)] [2231, 2232, 2233, 2235, 2236] [(2075, 7729), (2075, 7798)] (fun I I' => pStep I I') := by
  intro I I' J J' h1 h2 h3 h4 r
  obtain ⟨N, E, r⟩ := r
  refine ⟨N, E, ?_⟩
  unfold sR at *
  have e0 : J 1990 3388 = I 1990 3388 := h2 (1990, 3388) (by simp)
  have e1 : J 1990 3384 = I 1990 3384 := h2 (1990, 3384) (by simp)
  have g0 : J' 2075 7729 = I' 2075 7729 := h4 (2075, 7729) (by simp)
  have g1 : J' 2075 7798 = I' 2075 7798 := h4 (2075, 7798) (by simp)
  simp only [e0, e1, g0, g1, h1 2041 (by simp), h1 2042 (by simp), h1 2043 (by simp), h1 2044 (by simp), h1 2045 (by simp), h1 2046 (by simp), h3 2231 (by simp), h3 2232 (by simp), h3 2233 (by simp), h3 2235 (by simp), h3 2236 (by simp)]
  exact r
theorem su_pTh : su [1996, 1997, 1998, 1999, 2000, 2004, 2005] [(1990, 3390), (1990, 3393), (1990, 3388)] [2187, 2188, 2189, 2190, 2195, 2196] [(2075, 7731)] (fun I I' => pTh I I') := by
  intro I I' J J' h1 h2 h3 h4 r
  unfold pTh nTh tH at *
  have e0 : J 1990 3390 = I 1990 3390 := h2 (1990, 3390) (by simp)
  have e1 : J 1990 3393 = I 1990 3393 := h2 (1990, 3393) (by simp)
  have g0 : J' 2075 7731 = I' 2075 7731 := h4 (2075, 7731) (by simp)
  have e2 : J 1990 3388 = I 1990 3388 := h2 (1990, 3388) (by simp)
  simp only [e0, e1, e2, g0, h1 1996 (by simp), h1 1997 (by simp), h1 1998 (by simp), h1 1999 (by simp), h1 2000 (by simp), h1 2004 (by simp), h1 2005 (by simp), h3 2187 (by simp), h3 2188 (by simp), h3 2189 (by simp), h3 2190 (by simp), h3 2195 (by simp), h3 2196 (by simp)]
  exact r
theorem su_pLQ : su [1996, 1997, 1999] [(1990, 3390)] [2221, 2222] [] (fun I I' => pLQ I I') := by
  intro I I' J J' h1 h2 h3 h4 r
  unfold pLQ nTh lQ wt at *
  have e0 : J 1990 3390 = I 1990 3390 := h2 (1990, 3390) (by simp)
  simp only [e0, h1 1996 (by simp), h1 1997 (by simp), h1 1999 (by simp), h3 2221 (by simp), h3 2222 (by simp)]
  exact r
theorem su_lR : su [2017, 2018, 2019, 2020, 2021, 2022, 2023, 2024, 2025, 2026] [(1990, 3388), (1990, 3390)] [2211, 2212, 2213, 2214, 2215, 2216, 2217, 2218, 2219, 2220] [] (fun I I' => lR I I') := by
  intro I I' J J' h1 h2 h3 h4 r
  unfold lR at *
  have e0 : J 1990 3388 = I 1990 3388 := h2 (1990, 3388) (by simp)
  have e1 : J 1990 3390 = I 1990 3390 := h2 (1990, 3390) (by simp)
  simp only [e0, e1, h1 2017 (by simp), h1 2018 (by simp), h1 2019 (by simp), h1 2020 (by simp), h1 2021 (by simp), h1 2022 (by simp), h1 2023 (by simp), h1 2024 (by simp), h1 2025 (by simp), h1 2026 (by simp), h3 2211 (by simp), h3 2212 (by simp), h3 2213 (by simp), h3 2214 (by simp), h3 2215 (by simp), h3 2216 (by simp), h3 2217 (by simp), h3 2218 (by simp), h3 2219 (by simp), h3 2220 (by simp)]
  exact r
theorem su_pKeep : su [2048, 2049, 2050, 2051, 2052, 2053, 2054, 2055, 2056, 2057, 2058, 2059] [] [2267, 2268, 2269, 2270, 2271, 2272, 2273, 2274, 2275, 2276] [] (fun I I' => pKeep I I') := by
  intro I I' J J' h1 h2 h3 h4 r
  unfold pKeep kR kA at *
  simp only [Nat.reduceAdd, h1 2048 (by simp), h1 2049 (by simp), h1 2050 (by simp), h1 2051 (by simp), h1 2052 (by simp), h1 2053 (by simp), h1 2054 (by simp), h1 2055 (by simp), h1 2056 (by simp), h1 2057 (by simp), h1 2058 (by simp), h1 2059 (by simp), h3 2267 (by simp), h3 2268 (by simp), h3 2269 (by simp), h3 2270 (by simp), h3 2271 (by simp), h3 2272 (by simp), h3 2273 (by simp), h3 2274 (by simp), h3 2275 (by simp), h3 2276 (by simp)] at r ⊢
  exact r
theorem su_loR {Lp : Nat} : su [54, 1970, 1971, 1972, 1973, 1975, 1976, 1977, 1978] [] [2241, 2242, 2243, 2244, 2245, 2246, 2247, 2248] [] (fun I I' => loR I I' Lp (fun l => (I 54 l).toNat)) := by
  intro I I' J J' h1 h2 h3 h4 r
  simp only [h1 54 (by simp)]
  refine loR_same r (fun c a1 a2 a3 => h1 c ?_) (fun c a1 a2 => h3 c ?_)
  · have : c = 1970 ∨ c = 1971 ∨ c = 1972 ∨ c = 1973 ∨ c = 1975 ∨ c = 1976 ∨ c = 1977 ∨ c = 1978 := by omega
    rcases this with rfl | rfl | rfl | rfl | rfl | rfl | rfl | rfl <;> simp
  · have : c = 2241 ∨ c = 2242 ∨ c = 2243 ∨ c = 2244 ∨ c = 2245 ∨ c = 2246 ∨ c = 2247 ∨ c = 2248 := by omega
    rcases this with rfl | rfl | rfl | rfl | rfl | rfl | rfl | rfl <;> simp
