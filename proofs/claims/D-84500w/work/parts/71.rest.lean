/-! ===== threads that rest: what both houses know of their activations ===== -/
/-- an activation: its member, node, place in the tree, path -/
def acR (I I' : vJ) (X mm Nn a : Nat) : Prop := (I 2006 a = I' 2197 a ∧ 0 ≤ I 2006 a ∧ I 2006 a < mm) ∧ (I 2007 a = I' 2198 a ∧ 0 ≤ I 2007 a ∧ I 2007 a < Nn ∧ I' (X + 37) (I 2007 a).toNat = I 2006 a) ∧ (I 2010 a = I' 2201 a ∧ (1 ≤ I 2010 a ∧ 3 ≤ I 38 (I 2007 a).toNat) ∧ I 2010 a < I 1960 3079) ∧ (I' 2179 (I 2006 a).toNat ≠ -1 → I 2011 a = I' 2178 (I' 2202 a).toNat + I' 2203 a ∧ (0 ≤ I' 2202 a ∧ I' 2202 a < 700) ∧ 0 ≤ I 2011 a ∧ I 2011 a + I 62 (I 2007 a).toNat ≤ I' 2179 (I 2006 a).toNat)
/-- one that waits for a call's answer -/
def coR (I I' : vJ) (X : Nat) (ht : Nat → Nat) (a : Nat) : Prop := ∃ pc : Nat, I' 2199 a = pc ∧ I 2008 a = 2 * (pc : Int) ∧ I' (X + 11) (I 2007 a).toNat < pc ∧ (pc : Int) ≤ I' (X + 12) (I 2007 a).toNat ∧ I' 2200 a + 1 = ht pc
/-- what a thread is: it goes, waits for a lock, for a thread, was woken, has ended -/
def stR (I I' : vJ) (X u A dl : Nat) : Prop := (3 ≤ I 1996 u → A = 0) ∧ (I 1996 u < 3 → 0 < A) ∧ (I 1996 u = 0 → I 2005 u = 0 → dl = 0 ∧ I' 2200 (40 * u + (A - 1)) = 0 ∧ I' 2199 (40 * u + (A - 1)) = I' (X + 11) (I 2007 (40 * u + (A - 1))).toNat ∧ I 2008 (40 * u + (A - 1)) = I 43 (I 2007 (40 * u + (A - 1))).toNat) ∧ (I 1996 u = 1 ∨ I 1996 u = 2 ∨ I 1996 u = 0 ∧ I 2005 u = 1 → dl = 1 ∧ I' 2200 (40 * u + (A - 1)) = 1 ∧ (0 ≤ I' 2206 (160 * (40 * u + (A - 1))) ∧ I' 2206 (160 * (40 * u + (A - 1))) < 32 ∧ I' 2206 (160 * (40 * u + (A - 1))) % 4 = 0)) ∧ (I 1996 u = 2 → I 38 (I 2007 (40 * u + (A - 1))).toNat = 14 ∧ I 2005 u = 0) ∧ (I 1996 u = 1 → I 38 (I 2007 (40 * u + (A - 1))).toNat = 12 ∧ I 2005 u = 0 ∧ I' 2206 (160 * (40 * u + (A - 1))) = 4 * I 1997 u ∧ 0 ≤ I 1997 u ∧ I 1997 u < 8) ∧ (I 1996 u = 0 → I 2005 u = 1 → I 38 (I 2007 (40 * u + (A - 1))).toNat = 14 ∨ I 38 (I 2007 (40 * u + (A - 1))).toNat = 12 ∧ I' 2206 (160 * (40 * u + (A - 1))) = 4 * I 1997 u ∧ 0 ≤ I 1997 u ∧ I 1997 u < 8)
def reR (n : Int) (nm ht : Nat → Nat) (X mm Nn : Nat) (I I' : vJ) (u : Nat) : Prop := ∃ A dl : Nat, (I 1995 u = A ∧ I' 2186 u = A ∧ A ≤ 40) ∧ thV n nm I I' u A dl ∧ (∀ k, k < A → acR I I' X mm Nn (40 * u + k)) ∧ (∀ k, k + 1 < A → coR I I' X ht (40 * u + k)) ∧ stR I I' X u A dl
/-- what is settled when a text is loaded is as it was; the tree grows -/
def agS (I I' J J' : vJ) (X : Nat) : Prop := J 38 = I 38 ∧ J 43 = I 43 ∧ J 62 = I 62 ∧ J' (X + 11) = I' (X + 11) ∧ J' (X + 12) = I' (X + 12) ∧ J' (X + 37) = I' (X + 37) ∧ J' 2178 = I' 2178 ∧ J' 2179 = I' 2179 ∧ I 1960 3079 ≤ J 1960 3079
/-- nothing of thread u's activations is put, but what waits on their piles -/
def agA (I I' J J' : vJ) (u : Nat) : Prop := (J 1995 u = I 1995 u ∧ J' 2186 u = I' 2186 u) ∧ ∀ k, k < 40 → J 2006 (40 * u + k) = I 2006 (40 * u + k) ∧ J 2007 (40 * u + k) = I 2007 (40 * u + k) ∧ J 2008 (40 * u + k) = I 2008 (40 * u + k) ∧ J 2010 (40 * u + k) = I 2010 (40 * u + k) ∧ J 2011 (40 * u + k) = I 2011 (40 * u + k) ∧ J' 2197 (40 * u + k) = I' 2197 (40 * u + k) ∧ J' 2198 (40 * u + k) = I' 2198 (40 * u + k) ∧ J' 2199 (40 * u + k) = I' 2199 (40 * u + k) ∧ J' 2201 (40 * u + k) = I' 2201 (40 * u + k) ∧ J' 2202 (40 * u + k) = I' 2202 (40 * u + k) ∧ J' 2203 (40 * u + k) = I' 2203 (40 * u + k)
theorem acR_ag {I I' J J' : vJ} {X mm Nn u k : Nat} (h : acR I I' X mm Nn (40 * u + k)) (hk : k < 40) (g : agS I I' J J' X) (e : agA I I' J J' u) : acR J J' X mm Nn (40 * u + k) := by
  obtain ⟨g1, g2, g3, g4, g5, g6, g7, g8, g9⟩ := g
  obtain ⟨e1, e2, e3, e4, e5, e6, e7, e8, e9, e10, e11⟩ := e.2 k hk
  unfold acR at *
  rw [e1, e2, e4, e5, e6, e7, e9, e10, e11, g1, g3, g6, g7, g8]
  refine ⟨h.1, h.2.1, ⟨h.2.2.1.1, h.2.2.1.2.1, ?_⟩, h.2.2.2⟩
  have := h.2.2.1.2.2
  omega
theorem coR_ag {I I' J J' : vJ} {X u k : Nat} {ht : Nat → Nat} (h : coR I I' X ht (40 * u + k)) (hk : k < 40) (g : agS I I' J J' X) (e : agA I I' J J' u) (v : J' 2200 (40 * u + k) = I' 2200 (40 * u + k)) : coR J J' X ht (40 * u + k) := by
  obtain ⟨g1, g2, g3, g4, g5, g6, g7, g8, g9⟩ := g
  obtain ⟨e1, e2, e3, e4, e5, e6, e7, e8, e9, e10, e11⟩ := e.2 k hk
  unfold coR at *
  rw [e2, e3, e8, g4, g5, v]
  exact h
theorem reR_ag {n n' : Int} {nm ht : Nat → Nat} {X mm Nn u : Nat} {I I' J J' : vJ} (h : reR n nm ht X mm Nn I I' u) (hn : n ≤ n') (g : agS I I' J J' X) (v : agV I I' J J' u) (e : agA I I' J J' u) (s1 : J 1996 u = I 1996 u) (s2 : J 1997 u = I 1997 u) (s3 : J 2005 u = I 2005 u) : reR n' nm ht X mm Nn J J' u := by
  obtain ⟨A, dl, ⟨a1, a2, a3⟩, h1, h2, h3, h4⟩ := h
  refine ⟨A, dl, ⟨by rw [e.1.1]; exact a1, by rw [e.1.2]; exact a2, a3⟩, thV_mono (thV_ag h1 a3 v) hn, fun k hk => acR_ag (h2 k hk) (by omega) g e, fun k hk => coR_ag (h3 k hk) (by omega) g e (v.2.2.1 k (by omega)).2.2, ?_⟩
  have h40 : 0 < A → J' 2200 (40 * u + (A - 1)) = I' 2200 (40 * u + (A - 1)) ∧ J' 2199 (40 * u + (A - 1)) = I' 2199 (40 * u + (A - 1)) ∧ J 2007 (40 * u + (A - 1)) = I 2007 (40 * u + (A - 1)) ∧ J 2008 (40 * u + (A - 1)) = I 2008 (40 * u + (A - 1)) ∧ J' 2206 (160 * (40 * u + (A - 1))) = I' 2206 (160 * (40 * u + (A - 1))) := fun hA => by
    have e' := e.2 (A - 1) (by omega)
    have v5 := v.2.2.2.2 (A - 1) 0 (by omega) (by omega)
    rw [Nat.add_zero] at v5
    exact ⟨(v.2.2.1 (A - 1) (by omega)).2.2, e'.2.2.2.2.2.2.2.1, e'.2.1, e'.2.2.1, v5⟩
  obtain ⟨g1, g2, g3, g4, g5, g6, g7, g8, g9⟩ := g
  unfold stR at *
  rw [s1, s2, s3, g1, g2, g4]
  by_cases hA : 0 < A
  · obtain ⟨q1, q2, q3, q4, q5⟩ := h40 hA
    rw [q1, q2, q3, q4, q5]; exact h4
  · have : 3 ≤ I 1996 u := by
      have := h4.2.1
      apply Classical.byContradiction
      intro z
      exact hA (this (by omega))
    refine ⟨h4.1, h4.2.1, fun z => by omega, fun z => by omega, fun z => by omega, fun z => by omega, fun z => by omega⟩
/-- a thread is woken -/
theorem reR_wake {n : Int} {nm ht : Nat → Nat} {X mm Nn u : Nat} {I I' J J' : vJ} (h : reR n nm ht X mm Nn I I' u) (g : agS I I' J J' X) (v : agV I I' J J' u) (e : agA I I' J J' u) (w : I 1996 u = 1 ∨ I 1996 u = 2) (s1 : J 1996 u = 0) (s2 : J 1997 u = I 1997 u) (s3 : J 2005 u = 1) : reR n nm ht X mm Nn J J' u := by
  obtain ⟨A, dl, ⟨a1, a2, a3⟩, h1, h2, h3, h4⟩ := h
  refine ⟨A, dl, ⟨by rw [e.1.1]; exact a1, by rw [e.1.2]; exact a2, a3⟩, thV_ag h1 a3 v, fun k hk => acR_ag (h2 k hk) (by omega) g e, fun k hk => coR_ag (h3 k hk) (by omega) g e (v.2.2.1 k (by omega)).2.2, ?_⟩
  obtain ⟨k1, k2, k3, k4, k5, k6, k7⟩ := h4
  have hA : 0 < A := k2 (by omega)
  have e' := e.2 (A - 1) (by omega)
  have v5 := v.2.2.2.2 (A - 1) 0 (by omega) (by omega)
  rw [Nat.add_zero] at v5
  have v3 := (v.2.2.1 (A - 1) (by omega)).2.2
  unfold stR
  rw [s1, s2, s3, g.1, v3, e'.2.1, v5]
  have kk := k4 (by omega)
  refine ⟨fun z => by omega, fun _ => hA, fun _ z => by omega, fun _ => kk, fun z => by omega, fun z => by omega, fun _ _ => ?_⟩
  rcases w with w | w
  · have := k6 w
    exact Or.inr ⟨this.1, this.2.2⟩
  · exact Or.inl (k5 w).1
/-- all that is alike in a run, but for threads and locks -/
def pVars (I I' : vJ) : Prop := ∀ v : Nat, v < 8 → (v : Int) < I 1960 3100 → vv (I 1990 3376) (I 1992 v) (I 1993 v) (I' 2185 v)
def PT (Lp : Nat) (I I' : vJ) : Prop := tR I I' ∧ pPath I I' ∧ loR I I' Lp (fun l => (I 54 l).toNat) ∧ pArr I I' ∧ pStep I I' ∧ pKeep I I' ∧ pCost I I' ∧ pCalls I I' ∧ pMet I I' ∧ pPrint I I' ∧ pBegun I I' ∧ pLooks I I' ∧ pPar I I' ∧ pThr I I' ∧ pDone I I' ∧ pLast I I' ∧ pFor I I' ∧ pTurns I I' ∧ pSeed I I' ∧ pVars I I'
theorem su_pVars : su [1992, 1993] [(1990, 3376), (1960, 3100)] [2185] [] (fun I I' => pVars I I') := by
  intro I I' J J' h1 h2 h3 h4 r
  unfold pVars at *
  have e0 : J 1990 3376 = I 1990 3376 := h2 (1990, 3376) (by simp)
  have e1 : J 1960 3100 = I 1960 3100 := h2 (1960, 3100) (by simp)
  simp only [e0, e1, h1 1992 (by simp), h1 1993 (by simp), h3 2185 (by simp)]
  exact r
theorem su_LZ {th t : Nat} {o : Int} : su [38, 42, 1995, 1996, 1997, 1998, 1999, 2000, 2004, 2005, 2007, 2012, 2013, 2017, 2018, 2019, 2020, 2021, 2022, 2023, 2024, 2025, 2026] [(1990, 3390), (1990, 3393), (1990, 3388)] [2186, 2187, 2188, 2189, 2190, 2195, 2196, 2204, 2210, 2211, 2212, 2213, 2214, 2215, 2216, 2217, 2218, 2219, 2220, 2221, 2222] [(2075, 7731)] (fun I I' => LZ I I' th t o) := by
  intro I I' J J' h1 h2 h3 h4 r
  unfold LZ tH lQ wt lR lkM thL at *
  have e0 : J 1990 3390 = I 1990 3390 := h2 (1990, 3390) (by simp)
  have e1 : J 1990 3393 = I 1990 3393 := h2 (1990, 3393) (by simp)
  have g0 : J' 2075 7731 = I' 2075 7731 := h4 (2075, 7731) (by simp)
  have e2 : J 1990 3388 = I 1990 3388 := h2 (1990, 3388) (by simp)
  simp only [e0, e1, e2, g0, h1 38 (by simp), h1 42 (by simp), h1 1995 (by simp), h1 1996 (by simp), h1 1997 (by simp), h1 1998 (by simp), h1 1999 (by simp), h1 2000 (by simp), h1 2004 (by simp), h1 2005 (by simp), h1 2007 (by simp), h1 2012 (by simp), h1 2013 (by simp), h1 2017 (by simp), h1 2018 (by simp), h1 2019 (by simp), h1 2020 (by simp), h1 2021 (by simp), h1 2022 (by simp), h1 2023 (by simp), h1 2024 (by simp), h1 2025 (by simp), h1 2026 (by simp), h3 2186 (by simp), h3 2187 (by simp), h3 2188 (by simp), h3 2189 (by simp), h3 2190 (by simp), h3 2195 (by simp), h3 2196 (by simp), h3 2204 (by simp), h3 2210 (by simp), h3 2211 (by simp), h3 2212 (by simp), h3 2213 (by simp), h3 2214 (by simp), h3 2215 (by simp), h3 2216 (by simp), h3 2217 (by simp), h3 2218 (by simp), h3 2219 (by simp), h3 2220 (by simp), h3 2221 (by simp), h3 2222 (by simp)]
  exact r
/-- more activations and lock rows than one knows -/
theorem LZ_weak {I I' : vJ} {th t : Nat} (h : LZ I I' th 8 (-1)) : LZ I I' th t (-1) := by
  obtain ⟨h1, h2, h3, h4⟩ := h
  refine ⟨h1, h2, h3, fun u hu => ?_⟩
  obtain ⟨A, a1, a2, a3, a4⟩ := h4 u hu
  refine ⟨A, a1, ?_, a3, fun _ => a4 (by have := h1.1.2.2; omega)⟩
  have e1 : (if u = t then (-1 : Int) else -1) = -1 := by split <;> rfl
  have e2 : (if u = 8 then (-1 : Int) else -1) = -1 := by split <;> rfl
  rw [e1]; rw [e2] at a2; exact a2
theorem LZ_back {I I' : vJ} {th t A : Nat} (h : LZ I I' th t (-1)) (hA : I 1995 t = A) (hL : thL I I' t A) : LZ I I' th 8 (-1) := by
  obtain ⟨h1, h2, h3, h4⟩ := h
  refine ⟨h1, h2, h3, fun u hu => ?_⟩
  obtain ⟨B, a1, a2, a3, a4⟩ := h4 u hu
  refine ⟨B, a1, ?_, a3, fun _ => ?_⟩
  · have e1 : (if u = t then (-1 : Int) else -1) = -1 := by split <;> rfl
    have e2 : (if u = 8 then (-1 : Int) else -1) = -1 := by split <;> rfl
    rw [e2]; rw [e1] at a2; exact a2
  · by_cases z : u = t
    · subst z
      have : B = A := by omega
      rw [this]; exact hL
    · exact a4 z
