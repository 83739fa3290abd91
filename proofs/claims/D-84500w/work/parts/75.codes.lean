/-! ===== codes that put one value on a pile ===== -/
/-- a thread that fails: of its innermost activation's pile nothing is told -/
def ruF (n : Int) (nm ht : Nat → Nat) (X mm Nn : Nat) (I I' : vJ) (t A : Nat) : Prop := (I 1995 t = A ∧ I' 2186 t = A ∧ 0 < A ∧ A ≤ 40) ∧ (I 1996 t = 0 ∧ I 2005 t = 0) ∧ thV n nm (up I 1994 t (I 2009 (40 * t + (A - 1)) + nm (I 2006 (40 * t + (A - 1))).toNat)) (up I' 2200 (40 * t + (A - 1)) 0) t A 0 ∧ (∀ k, k < A → acR I I' X mm Nn (40 * t + k)) ∧ (∀ k, k + 1 < A → coR I I' X ht (40 * t + k))
def IFs (Y Y' : vY) (X mm Nn Lp : Nat) (nm pr ht : Nat → Nat) (I I' : vJ) (th t A W N : Nat) : Prop := ST I I' Y Y' X mm Nn Lp nm pr ht ∧ LZ I I' th 8 (-1) ∧ PT Lp I I' ∧ bud I I' W (ht 5000) ∧ (t < th ∧ ((W : Int) + sa (I 1995) t th + A ≤ N ∧ (0 ≤ I 1990 3393 ∧ I 1990 3393 < N) ∧ I 1960 3100 = nm 5000) ∧ I 1990 3388 = N ∧ I' 2075 7729 = N ∧ 1 ≤ N ∧ N ≤ 20000 ∧ I' 2075 7829 = t) ∧ (∀ u, u < th → u ≠ t → reR (I 1990 3376) nm ht X mm Nn I I' u) ∧ ruF (I 1990 3376) nm ht X mm Nn I I' t A
theorem ru_top {n : Int} {nm ht : Nat → Nat} {X mm Nn : Nat} {I I' : vJ} {t A i : Nat} (h : ruR n nm ht X mm Nn I I' t A i) (h8 : t < 8) (hb : ht i ≤ 100) : ∃ B T : Nat, I 2009 (40 * t + (A - 1)) = B ∧ I 1994 t = T ∧ T = B + nm (I 2006 (40 * t + (A - 1))).toNat + ht i ∧ nm (I 2006 (40 * t + (A - 1))).toNat ≤ 16 ∧ 8 ≤ B ∧ B + 144 ≤ 46088 ∧ (∀ j, j < nm (I 2006 (40 * t + (A - 1))).toNat → vv n (I 1992 (B + j)) (I 1993 (B + j)) (I' 2205 (16 * (40 * t + (A - 1)) + j))) ∧ (∀ j, j < ht i → vv n (I 1992 (B + nm (I 2006 (40 * t + (A - 1))).toNat + j)) (I 1993 (B + nm (I 2006 (40 * t + (A - 1))).toNat + j)) (I' 2206 (160 * (40 * t + (A - 1)) + j))) := by
  obtain ⟨⟨r1, r2, r3, r4⟩, _, ⟨b, s, h1, h2, h3, h4, h5, h6, h7⟩, _, _, _, _, r12⟩ := h
  have bd := thV_bd h2 h3 (fun k hk => ⟨(h1 k hk).2.2.1, (h1 k hk).2.2.2⟩) (A - 1) (by omega)
  have q := h1 (A - 1) (by omega)
  have q5 := h5 r3
  have hs : s (A - 1) = ht i := by omega
  refine ⟨b (A - 1), b (A - 1) + nm (I 2006 (40 * t + (A - 1))).toNat + ht i, q.1, by omega, rfl, q.2.2.1, by omega, by omega, fun j hj => h6 (A - 1) j (by omega) hj, fun j hj => h7 (A - 1) j (by omega) (fun _ => by omega) (fun _ => by omega)⟩
theorem PT_put {Lp : Nat} {I I' J J' : vJ} (h : PT Lp I I') (F1 : fr [1992, 1993, 1994, 2032] [] I J) (F2 : fr [2199, 2200, 2206, 2228] [] I' J') (hA : pArr J J') (hv : ∀ v, v < 8 → J 1992 v = I 1992 v ∧ J 1993 v = I 1993 v) : PT Lp J J' := by
  obtain ⟨q1, q2, q3, q4, q5, q6, q7, q8, q9, q10, q11, q12, q13, q14, q15, q16, q17, q18, q19, q20⟩ := h
  have hV : pVars J J' := fun v hv8 hv9 => by
    rw [F1 1960 _ rfl] at hv9
    rw [(hv v hv8).1, (hv v hv8).2, F1 1990 _ rfl, F2 2185 _ rfl]; exact q20 v hv8 hv9
  exact ⟨su_keep su_tR F1 F2 rfl q1, su_keep su_pPath F1 F2 rfl q2, su_keep su_loR F1 F2 rfl q3, hA, su_keep su_pStep F1 F2 rfl q5, su_keep su_pKeep F1 F2 rfl q6, su_keep su_pCost F1 F2 rfl q7, su_keep su_pCalls F1 F2 rfl q8, su_keep su_pMet F1 F2 rfl q9, su_keep su_pPrint F1 F2 rfl q10, su_keep su_pBegun F1 F2 rfl q11, su_keep su_pLooks F1 F2 rfl q12, su_keep su_pPar F1 F2 rfl q13, su_keep su_pThr F1 F2 rfl q14, su_keep su_pDone F1 F2 rfl q15, su_keep su_pLast F1 F2 rfl q16, su_keep su_pFor F1 F2 rfl q17, su_keep su_pTurns F1 F2 rfl q18, su_keep su_pSeed F1 F2 rfl q19, hV⟩
theorem IS_put {Y Y' : vY} {X mm Nn Lp : Nat} {nm pr ht : Nat → Nat} {I I' J J' : vJ} {th t A i W N S T : Nat} {kd v e : Int} (h : IS Y Y' X mm Nn Lp nm pr ht I I' th t A i W N) (hi : (i : Int) < I' (X + 12) (I 2007 (40 * t + (A - 1))).toNat) (hS : S ≤ ht i) (hS2 : ht (i + 1) = S + 1) (hS3 : ht (i + 1) ≤ 100) (hT : (T : Int) = I 2009 (40 * t + (A - 1)) + nm (I 2006 (40 * t + (A - 1))).toNat + S) (hT8 : 8 ≤ T) (hv : vv (I 1990 3376) kd v e)
    (F1 : fr [1992, 1993, 1994, 2032] [] I J) (F2 : fr [2199, 2200, 2206, 2228] [] I' J') (hA : pArr J J') (e1 : ∀ p, J 1992 p = if p = T then kd else I 1992 p) (e2 : ∀ p, J 1993 p = if p = T then v else I 1993 p) (e3 : ∀ u, J 1994 u = if u = t then (T : Int) + 1 else I 1994 u) (e5 : ∀ b, J' 2199 b = if b = 40 * t + (A - 1) then (i : Int) + 1 else I' 2199 b) (e6 : ∀ a, J' 2200 a = if a = 40 * t + (A - 1) then (S : Int) + 1 else I' 2200 a) (e8 : ∀ p, J' 2206 p = if p = 160 * (40 * t + (A - 1)) + S then e else I' 2206 p) :
    IS Y Y' X mm Nn Lp nm pr ht J J' th t A (i + 1) W N := by
  have h0 := h
  obtain ⟨s1, s2, s3, s4, s5, s12, s13⟩ := h0
  obtain ⟨⟨r1, r2, r3, r4⟩, _, r7, _, _, _, _, r12⟩ := s13
  refine IS_next h (fr_weak F1 (by decide) (by decide)) (fr_weak F2 (by decide) (by decide)) (by rw [F1 1990 _ rfl]; exact Int.le_refl _) (PT_put s3 F1 F2 hA (fun q hq => ⟨by rw [e1, if_neg (by omega)], by rw [e2, if_neg (by omega)]⟩)) ?_ e5 (by rw [e6, if_pos rfl]; omega) (fun b hb => by rw [e6, if_neg hb]) hi
  rw [F1 1990 _ rfl]
  exact thV_set r7 r3 r4 (by omega) (by omega) hT hv e1 e2 e3 (fr_row F1 2009 (fun _ => rfl)) (fr_row F1 2006 (fun _ => rfl)) e6 (fr_row F2 2205 (fun _ => rfl)) e8
/-- a code fails: the house has put nothing yet -/
theorem IS_fail {Y Y' : vY} {X mm Nn Lp : Nat} {nm pr ht : Nat → Nat} {I I' J' : vJ} {th t A i W N : Nat} (h : IS Y Y' X mm Nn Lp nm pr ht I I' th t A i W N) (F2 : fr [2199, 2200] [] I' J') (e5 : ∀ b, b ≠ 40 * t + (A - 1) → J' 2199 b = I' 2199 b ∧ J' 2200 b = I' 2200 b) : IFs Y Y' X mm Nn Lp nm pr ht I J' th t A W N := by
  obtain ⟨s1, s2, s3, s4, ⟨s5, s6, s7, s8, s9, s10, s11⟩, s12, s13⟩ := h
  have F1 : fr [] [] I I := fr_refl _ _ _
  have g := agT_fr F1 F2 rfl
  have hX := s1.1.2.1
  obtain ⟨⟨r1, r2, r3, r4⟩, r5, r7, r8, r9, r10, r11, r12⟩ := s13
  have gS : agS I I' I J' X := ⟨rfl, rfl, rfl, g.2.2.1 (X + 11) (by omega) (by omega), g.2.2.1 (X + 12) (by omega) (by omega), g.2.2.1 (X + 37) (by omega) (by omega), g.2.2.1 2178 (by decide) (by decide), g.2.2.1 2179 (by decide) (by decide), Int.le_refl _⟩
  obtain ⟨q1, q2, q3, q4, q5, q6, q7, q8, q9, q10, q11, q12, q13, q14, q15, q16, q17, q18, q19, q20⟩ := s3
  refine ⟨ST_ag s1 g, su_keep su_LZ F1 F2 rfl s2, ⟨su_keep su_tR F1 F2 rfl q1, su_keep su_pPath F1 F2 rfl q2, su_keep su_loR F1 F2 rfl q3, su_keep su_pArr F1 F2 rfl q4, su_keep su_pStep F1 F2 rfl q5, su_keep su_pKeep F1 F2 rfl q6, su_keep su_pCost F1 F2 rfl q7, su_keep su_pCalls F1 F2 rfl q8, su_keep su_pMet F1 F2 rfl q9, su_keep su_pPrint F1 F2 rfl q10, su_keep su_pBegun F1 F2 rfl q11, su_keep su_pLooks F1 F2 rfl q12, su_keep su_pPar F1 F2 rfl q13, su_keep su_pThr F1 F2 rfl q14, su_keep su_pDone F1 F2 rfl q15, su_keep su_pLast F1 F2 rfl q16, su_keep su_pFor F1 F2 rfl q17, su_keep su_pTurns F1 F2 rfl q18, su_keep su_pSeed F1 F2 rfl q19, su_keep su_pVars F1 F2 rfl q20⟩, ?_, ⟨s5, s6, s7, by rw [F2 2075 _ rfl]; exact s8, s9, s10, by rw [F2 2075 _ rfl]; exact s11⟩, fun u hu ut => ?_, ⟨⟨r1, by rw [F2 2186 _ rfl]; exact r2, r3, r4⟩, r5, ?_, fun k hk => ?_, fun k hk => ?_⟩⟩
  · obtain ⟨⟨n, b1, b2⟩, b3, b4⟩ := s4
    have e1 := fr_row F2 2255 (fun _ => rfl)
    have e2 := fr_row F2 2256 (fun _ => rfl)
    exact ⟨⟨n, hR_same b1 rfl rfl rfl rfl (F2 2075 _ rfl) e1 e2 (fr_row F2 2257 (fun _ => rfl)) (fr_row F2 2258 (fun _ => rfl)), by rw [e1, e2]; exact b2⟩, b3, ⟨b4.1, tot_le b4.2 rfl (fr_row F2 2183 (fun _ => rfl)) rfl⟩⟩
  · refine reR_ag (s12 u hu ut) (Int.le_refl _) gS (agV_of ut (fun _ _ => ⟨rfl, rfl⟩) (fun _ _ => rfl) (fun b hb => ⟨rfl, rfl, (e5 b (by omega)).2⟩) (fun q _ => F2 2205 q rfl) (fun q _ => F2 2206 q rfl)) ⟨⟨rfl, F2 2186 _ rfl⟩, fun k hk => ⟨rfl, rfl, rfl, rfl, rfl, F2 2197 _ rfl, F2 2198 _ rfl, (e5 _ (by omega)).1, F2 2201 _ rfl, F2 2202 _ rfl, F2 2203 _ rfl⟩⟩ rfl rfl rfl
  · obtain ⟨B, hB⟩ : ∃ B : Nat, I 2009 (40 * t + (A - 1)) = B := by
      obtain ⟨b, s, h1, _⟩ := r7
      exact ⟨b (A - 1), (h1 (A - 1) (by omega)).1⟩
    refine (thV_cut (dl' := 0) (S := 0) (T := B + nm (I 2006 (40 * t + (A - 1))).toNat) r7 r3 r4 (by omega) (by omega) (by omega) (by omega) (up_row _ (by decide) _ _) (up_row _ (by decide) _ _) (fun u => ?_) (up_row _ (by decide) _ _) (up_row _ (by decide) _ _) (fun b => ?_) ?_ (fun p _ => ?_)).1
    · rw [up_at, hB]
      by_cases z : u = t
      · rw [if_pos z, if_pos z]; omega
      · rw [if_neg z, if_neg z]
    · rw [up_at]
      by_cases z : b = 40 * t + (A - 1)
      · rw [if_pos z, if_pos z]; rfl
      · rw [if_neg z, if_neg z]; exact (e5 b z).2
    · rw [up_row _ (by decide)]; exact fr_row F2 2205 (fun _ => rfl)
    · rw [up_cell _ (by decide)]; exact F2 2206 p rfl
  · have q := r8 k hk
    unfold acR at *
    rw [F2 2197 _ rfl, F2 2198 _ rfl, F2 2201 _ rfl, F2 2202 _ rfl, F2 2203 _ rfl, gS.2.2.2.2.2.1, gS.2.2.2.2.2.2.1, gS.2.2.2.2.2.2.2.1]
    exact q
  · have q := r9 k hk
    have e := e5 (40 * t + k) (by omega)
    unfold coR at *
    rw [e.1, e.2, gS.2.2.2.1, gS.2.2.2.2.1]
    exact q
