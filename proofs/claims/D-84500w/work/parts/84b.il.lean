/-! ===== a thread that goes while its innermost locks are being left or taken ===== -/
set_option maxRecDepth 20000
set_option maxHeartbeats 4000000
/-- an activation's locks, as its node has them -/
def loA (I I' : vJ) (b : Nat) : Prop := I' 2204 b = I 42 (I 2007 b).toNat ∧ (∀ j : Nat, (j : Int) < I' 2204 b → I 2013 (b * 12 + j) = I' 2210 (12 * b + j)) ∧ I 2012 b = I' 2204 b
def IL (Y Y' : vY) (X mm Nn Lp : Nat) (nm pr ht : Nat → Nat) (I I' : vJ) (th t A W N : Nat) : Prop := ST I I' Y Y' X mm Nn Lp nm pr ht ∧ (LZ I I' th t (-1) ∧ ∀ k, k + 1 < A → loA I I' (40 * t + k)) ∧ PT Lp I I' ∧ buL I I' W (W + 1) (ht 5000) ∧ (t < th ∧ ((W : Int) + sa (I 1995) t th + A ≤ N ∧ (0 ≤ I 1990 3393 ∧ I 1990 3393 < N) ∧ I 1960 3100 = nm 5000) ∧ I 1990 3388 = N ∧ I' 2075 7729 = N ∧ 1 ≤ N ∧ N ≤ 20000 ∧ I' 2075 7829 = t) ∧ (∀ u, u < th → u ≠ t → reR (I 1990 3376) nm ht X mm Nn I I' u) ∧ ruF (I 1990 3376) nm ht X mm Nn I I' t A
theorem LZ_8t {I I' : vJ} {th t : Nat} (h : LZ I I' th 8 (-1)) : LZ I I' th t (-1) := by
  obtain ⟨h1, h2, h3, h4⟩ := h
  have th8 := h1.1.2.2
  refine ⟨h1, h2, h3, fun u hu => ?_⟩
  obtain ⟨A, a, b, c, d⟩ := h4 u hu
  refine ⟨A, a, ?_, c, fun _ => d (by omega)⟩
  simp only [ite_self] at b ⊢
  exact b
theorem LZ_lo {I I' : vJ} {th t A : Nat} (h : LZ I I' th 8 (-1)) (ht : t < th) (hA : I 1995 t = A) (h5 : I 2005 t = 0) : ∀ k, k < A → loA I I' (40 * t + k) := by
  intro k hk
  have th8 := h.1.1.2.2
  obtain ⟨B, ⟨b1, _, _⟩, _, _, b6⟩ := h.2.2.2 t ht
  have eB : B = A := by omega
  subst eB
  have z := b6 (by omega) k hk
  exact ⟨z.1, z.2.1, z.2.2.1 (fun q => by have := q.2.1; omega)⟩
theorem IFs_IL {Y Y' : vY} {X mm Nn Lp : Nat} {nm pr ht : Nat → Nat} {I I' : vJ} {th t A W N : Nat} (h : IFs Y Y' X mm Nn Lp nm pr ht I I' th t A W N) : IL Y Y' X mm Nn Lp nm pr ht I I' th t A W N ∧ loA I I' (40 * t + (A - 1)) := by
  obtain ⟨s1, s2, s3, s4, s5, s12, s13⟩ := h
  have lo := LZ_lo s2 s5.1 s13.1.1 s13.2.1.2
  exact ⟨⟨s1, ⟨LZ_8t s2, fun k hk => lo k (by omega)⟩, s3, bud_L s4, s5, s12, s13⟩, lo (A - 1) (by have := s13.1.2.2.1; omega)⟩
/-- a thread that goes comes to another node; its locks are that node's -/
theorem LZ_moveL {I I' J J' : vJ} {th t A : Nat} (h : LZ I I' th t (-1)) (lo : ∀ k, k + 1 < A → loA I I' (40 * t + k)) (ht : t < th) (hA : I 1995 t = A) (hA0 : 0 < A) (s1 : I 1996 t = 0) (s2 : I 2005 t = 0)
    (F1 : fr [65, 1970, 1971, 1972, 1973, 1975, 1976, 1977, 1978, 1979, 1980, 1981, 2007, 2008, 2011, 2014] [(1990, 3392), (1960, 3090)] I J) (F2 : fr [2183, 2202, 2203, 2255, 2256, 2257, 2258, 2241, 2242, 2243, 2244, 2245, 2246, 2247, 2248, 2209, 2198, 2199, 2200] [(2075, 7736), (2075, 7818)] I' J')
    (n1 : ∀ b, b ≠ 40 * t + (A - 1) → J 2007 b = I 2007 b) (top : I' 2204 (40 * t + (A - 1)) = I 42 (J 2007 (40 * t + (A - 1))).toNat ∧ (∀ j : Nat, (j : Int) < I' 2204 (40 * t + (A - 1)) → I 2013 ((40 * t + (A - 1)) * 12 + j) = I' 2210 (12 * (40 * t + (A - 1)) + j)) ∧ I 2012 (40 * t + (A - 1)) = I' 2204 (40 * t + (A - 1))) : LZ J J' th 8 (-1) := by
  obtain ⟨h1, h2, h3, h4⟩ := h
  have th8 := h1.1.2.2
  refine ⟨?_, ?_, ?_, fun u hu => ?_⟩
  · unfold tH at *
    rw [F1 1990 3390 rfl, F1 1990 3393 rfl, F1 1990 3388 rfl, F2 2075 _ rfl, fr_row F1 1996 (fun _ => rfl), fr_row F1 1997 (fun _ => rfl), fr_row F1 1998 (fun _ => rfl), fr_row F1 1999 (fun _ => rfl), fr_row F1 2000 (fun _ => rfl), fr_row F1 2004 (fun _ => rfl), fr_row F1 2005 (fun _ => rfl), fr_row F2 2187 (fun _ => rfl), fr_row F2 2188 (fun _ => rfl), fr_row F2 2189 (fun _ => rfl), fr_row F2 2190 (fun _ => rfl), fr_row F2 2195 (fun _ => rfl), fr_row F2 2196 (fun _ => rfl)]
    exact h1
  · exact lQ_same h2 (fr_row F1 1996 (fun _ => rfl)) (fr_row F1 1997 (fun _ => rfl)) (fr_row F1 1999 (fun _ => rfl)) (fr_row F2 2222 (fun _ => rfl)) (fr_row F2 2221 (fun _ => rfl))
  · exact su_keep su_lR F1 F2 rfl h3
  · obtain ⟨B, ⟨b1, b2, b3⟩, b4, b5, b6⟩ := h4 u hu
    simp only [ite_self] at b4 ⊢
    refine ⟨B, ⟨by rw [F1 1995 _ rfl]; exact b1, by rw [F2 2186 _ rfl]; exact b2, b3⟩, ?_, fun q => ?_, fun _ => ?_⟩
    · unfold lkM at *
      rw [fr_row F1 2012 (fun _ => rfl), fr_row F1 2013 (fun _ => rfl), fr_row F1 2017 (fun _ => rfl), fr_row F1 2018 (fun _ => rfl)]
      exact b4
    · rw [F1 1996 _ rfl] at q
      have ut : u ≠ t := by intro e; subst e; omega
      have w := b5 q
      have A40 : A ≤ 40 := by
        obtain ⟨B', ⟨c1, _, c3⟩, _⟩ := h4 t ht
        omega
      rw [n1 _ (by omega), fr_row F1 38 (fun _ => rfl), fr_row F1 42 (fun _ => rfl), F1 2005 _ rfl]
      exact w
    · intro k hk
      rw [fr_row F1 38 (fun _ => rfl), fr_row F1 42 (fun _ => rfl), F1 2005 _ rfl, F1 2012 _ rfl, fr_row F1 2013 (fun _ => rfl), F2 2204 _ rfl, fr_row F2 2210 (fun _ => rfl), F1 1997 _ rfl]
      by_cases ut : u = t
      · subst ut
        have eB : B = A := by omega
        subst eB
        have a5 : ¬ I 2005 u = 1 := by omega
        by_cases z : k = B - 1
        · subst z
          exact ⟨top.1, top.2.1, fun _ => top.2.2, fun q => absurd q.2.1 a5⟩
        · have w := lo k (by omega)
          rw [n1 _ (by omega)]
          exact ⟨w.1, w.2.1, fun _ => w.2.2, fun q => absurd q.2.1 a5⟩
      · have A40 : A ≤ 40 := by
          obtain ⟨B', ⟨c1, _, c3⟩, _⟩ := h4 t ht
          omega
        rw [n1 _ (by omega)]; exact b6 ut k hk
theorem vWC_mo {d y pc n : Nat} {ls st : List vV} {Q Q' : vE → Prop} {q : vE} (h : ∀ r, Q r → Q' r) : vWC d y pc n ls st Q q → vWC d y pc n ls st Q' q := by
  obtain ⟨o, M⟩ := q
  rcases o with v | a
  · cases v with
    | none => exact fun g => vWmo (Nat.le_refl _) h g
    | some v => exact fun g => vWmo (Nat.le_refl _) h g
  · show vWX d y pc ls Q a M → vWX d y pc ls Q' a M
    unfold vWX
    cases vhan y pc (gK M a) with
    | none => exact fun g => g
    | some p => cases p with
      | none => exact fun g => h _ g
      | some p => exact fun g => vWmo (Nat.le_refl _) h g
theorem vv_kind {n k v e : Int} (h : vv n k v e) : 0 ≤ k ∧ k ≤ 2 := by
  unfold vv at h
  rcases h with q | q | q <;> omega
