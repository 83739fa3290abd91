/-! ===== watch ===== -/
set_option maxRecDepth 20000
set_option maxHeartbeats 4000000
section
variable {Y Y' : vY} {X mm Nn Lp : Nat} {nm pr ht : Nat → Nat} {I I' J J' : vJ} {th W N n E : Nat}
theorem AS_kp (h : AS Y Y' X mm Nn Lp nm pr ht I I' th W N) (hK : pKeep J J') (F1 : fr [2048, 2051, 2054, 2057] [] I J) (F2 : fr [2267, 2268, 2269, 2270, 2271, 2273, 2274, 2275] [] I' J') : AS Y Y' X mm Nn Lp nm pr ht J J' th W N := by
  obtain ⟨s1, s2, s3, s4, ⟨⟨s5, s6, s7⟩, s8, s9, s10⟩, s11⟩ := h
  have g := agT_fr F1 F2 rfl
  have hX := s1.1.2.1
  have gS : agS I I' J J' X := ⟨g.1 38 (by decide) (by decide), g.1 43 (by decide) (by decide), g.1 62 (by decide) (by decide), g.2.2.1 (X + 11) (by omega) (by omega), g.2.2.1 (X + 12) (by omega) (by omega), g.2.2.1 (X + 37) (by omega) (by omega), g.2.2.1 2178 (by decide) (by decide), g.2.2.1 2179 (by decide) (by decide), by rw [F1 1960 _ rfl]; exact Int.le_refl _⟩
  refine ⟨ST_ag s1 g, su_keep su_LZ F1 F2 rfl s2, ?_, ?_, ⟨⟨by rw [fr_row F1 1995 (fun _ => rfl)]; exact s5, by rw [F1 1990 3393 rfl]; exact s6, by rw [F1 1960 _ rfl]; exact s7⟩, by rw [F1 1990 _ rfl]; exact s8, by rw [F2 2075 _ rfl]; exact s9, s10⟩, fun u hu => ?_⟩
  · obtain ⟨q1, q2, q3, q4, q5, q6, q7, q8, q9, q10, q11, q12, q13, q14, q15, q16, q17, q18, q19, q20⟩ := s3
    exact ⟨su_keep su_tR F1 F2 rfl q1, su_keep su_pPath F1 F2 rfl q2, su_keep su_loR F1 F2 rfl q3, su_keep su_pArr F1 F2 rfl q4, su_keep su_pStep F1 F2 rfl q5, hK, su_keep su_pCost F1 F2 rfl q7, su_keep su_pCalls F1 F2 rfl q8, su_keep su_pMet F1 F2 rfl q9, su_keep su_pPrint F1 F2 rfl q10, su_keep su_pBegun F1 F2 rfl q11, su_keep su_pLooks F1 F2 rfl q12, su_keep su_pPar F1 F2 rfl q13, su_keep su_pThr F1 F2 rfl q14, su_keep su_pDone F1 F2 rfl q15, su_keep su_pLast F1 F2 rfl q16, su_keep su_pFor F1 F2 rfl q17, su_keep su_pTurns F1 F2 rfl q18, su_keep su_pSeed F1 F2 rfl q19, su_keep su_pVars F1 F2 rfl q20⟩
  · obtain ⟨⟨n, b1, b2⟩, b3, b4⟩ := s4
    have x1 := fr_row F2 2255 (fun _ => rfl)
    have x2 := fr_row F2 2256 (fun _ => rfl)
    refine ⟨⟨n, hR_same b1 (F1 1960 _ rfl) (fr_row F1 1979 (fun _ => rfl)) (fr_row F1 1980 (fun _ => rfl)) (fr_row F1 1981 (fun _ => rfl)) (F2 2075 _ rfl) x1 x2 (fr_row F2 2257 (fun _ => rfl)) (fr_row F2 2258 (fun _ => rfl)), by rw [x1, x2]; exact b2⟩, by rw [F1 1990 _ rfl]; exact b3, ⟨fun j hj => ?_, tot_le b4.2 (fr_row F1 35 (fun _ => rfl)) (fr_row F2 2183 (fun _ => rfl)) (F1 1990 _ rfl)⟩⟩
    rw [F1 2014 j rfl, F1 1990 3403 rfl]; exact b4.1 j hj
  · rw [F1 1990 3376 rfl]
    exact reR_ag (s11 u hu) (Int.le_refl _) gS ⟨fun p _ _ => ⟨F1 1992 _ rfl, F1 1993 _ rfl⟩, F1 1994 _ rfl, fun k _ => ⟨F1 2009 _ rfl, F1 2006 _ rfl, F2 2200 _ rfl⟩, fun k i _ _ => F2 2205 _ rfl, fun k i _ _ => F2 2206 _ rfl⟩ ⟨⟨F1 1995 _ rfl, F2 2186 _ rfl⟩, fun k _ => ⟨F1 2006 _ rfl, F1 2007 _ rfl, F1 2008 _ rfl, F1 2010 _ rfl, F1 2011 _ rfl, F2 2197 _ rfl, F2 2198 _ rfl, F2 2199 _ rfl, F2 2201 _ rfl, F2 2202 _ rfl, F2 2203 _ rfl⟩⟩ (F1 1996 _ rfl) (F1 1997 _ rfl) (F1 2005 _ rfl)
theorem RS_kp (h : RS Y Y' X mm Nn Lp nm pr ht I I' th W N) (hK : pKeep J J') (F1 : fr [2048, 2051, 2054, 2057] [] I J) (F2 : fr [2267, 2268, 2269, 2270, 2271, 2273, 2274, 2275] [] I' J') : RS Y Y' X mm Nn Lp nm pr ht J J' th W N := by
  obtain ⟨s, tau, A1, sv, hs⟩ := h
  refine ⟨s, tau, AS_kp A1 (su_keep su_pKeep (fr_seed J s tau) (fr_stat J' 1) rfl hK) (fun c f e => ?_) (fun c f e => ?_), ?_, ?_⟩
  · unfold up
    rw [F1 c f e]
  · unfold up
    rw [F2 c f e]
  · rw [F2 2075 _ rfl, fr_row F1 1996 (fun _ => rfl)]; exact sv
  · rw [F2 2075 _ rfl, fr_row F1 1996 (fun _ => rfl), F1 1990 3394 rfl, F1 1990 3389 rfl]; exact hs
end
/-- the keeper that is set anew, in both houses -/
def wtC (I : vJ) (a : Nat) (n : Int) : vJ := up (up (up (up (up (up (up I a 3584 n) a 3587 0) a 3588 0) a 3589 0) a 3590 0) a 3591 0) a 3592 0
def wtT (I' : vJ) (k : Nat) (m n : Int) : vJ := up (up (up (up (up (up (up (up I' 2267 k m) 2268 k n) 2269 k 0) 2270 k 0) 2271 k 0) 2273 k 0) 2274 k 0) 2275 k 0
section
variable {I I' : vJ}
theorem wt_keep {k m n : Nat} (hk : k < 4) (m4 : m < 24) (n7 : n < 700) (h : pKeep I I') : pKeep (wtC I (2048 + 3 * k) n) (wtT I' k m n) := by
  have kk : ∀ k', k' < 4 → kR I I' (2048 + 3 * k') k' := fun k' h4 => by
    have k5 : k' = 0 ∨ k' = 1 ∨ k' = 2 ∨ k' = 3 := by omega
    unfold pKeep at h
    rcases k5 with e | e | e | e
    · subst e; exact h.1
    · subst e; exact h.2.1
    · subst e; exact h.2.2.1
    · subst e; exact h.2.2.2
  have nw : ∀ k', k' < 4 → kR (wtC I (2048 + 3 * k) n) (wtT I' k m n) (2048 + 3 * k') k' := fun k' h4 => by
    obtain ⟨g1, g2, g3⟩ := kk k' h4
    have o1 : ∀ c, c ≠ 2048 + 3 * k → ∀ f, wtC I (2048 + 3 * k) n c f = I c f := fun c hc f => by
      unfold wtC
      rw [up_cell _ hc, up_cell _ hc, up_cell _ hc, up_cell _ hc, up_cell _ hc, up_cell _ hc, up_cell _ hc]
    have t1 : ∀ c f, c = 2272 ∨ c = 2276 → wtT I' k m n c f = I' c f := fun c f hc => by
      unfold wtT
      rw [up_cell _ (by omega), up_cell _ (by omega), up_cell _ (by omega), up_cell _ (by omega), up_cell _ (by omega), up_cell _ (by omega), up_cell _ (by omega), up_cell _ (by omega)]
    have ka : kA (wtC I (2048 + 3 * k) n) (wtT I' k m n) (2048 + 3 * k') k' := fun j hj => by
      rw [o1 _ (by omega), o1 _ (by omega), t1 _ _ (Or.inl rfl), t1 _ _ (Or.inr rfl)]
      exact g2 j hj
    have i0 : inI 0 := in0
    by_cases z : k' = k
    · subst z
      generalize 2048 + 3 * k' = a at *
      have c1 : wtC I a n a 3587 = 0 := by simp [wtC, up]
      have c2 : wtC I a n a 3588 = 0 := by simp [wtC, up]
      have c3 : wtC I a n a 3589 = 0 := by simp [wtC, up]
      have c4 : wtC I a n a 3590 = 0 := by simp [wtC, up]
      have c5 : wtC I a n a 3591 = 0 := by simp [wtC, up]
      have c6 : wtC I a n a 3592 = 0 := by simp [wtC, up]
      have c7 : wtC I a n a 3584 = n := by simp [wtC, up]
      have s1 : wtT I' k' m n 2269 k' = 0 := by simp [wtT, up]
      have s2 : wtT I' k' m n 2270 k' = 0 := by simp [wtT, up]
      have s3 : wtT I' k' m n 2271 k' = 0 := by simp [wtT, up]
      have s4 : wtT I' k' m n 2273 k' = 0 := by simp [wtT, up]
      have s5 : wtT I' k' m n 2274 k' = 0 := by simp [wtT, up]
      have s6 : wtT I' k' m n 2275 k' = 0 := by simp [wtT, up]
      have s7 : wtT I' k' m n 2267 k' = m := by simp [wtT, up]
      have s8 : wtT I' k' m n 2268 k' = n := by simp [wtT, up]
      unfold kR
      rw [c1, c2, c3, c4, c5, c6, c7, s1, s2, s3, s4, s5, s6, s7, s8]
      exact ⟨⟨rfl, by decide, by decide⟩, ka, rfl, rfl, ⟨rfl, i0⟩, ⟨rfl, i0⟩, rfl, Or.inr ⟨rfl, by omega, by unfold inI; omega, by unfold inI; omega⟩⟩
    · have t2 : ∀ c, wtT I' k m n c k' = I' c k' := fun c => by
        unfold wtT
        simp [up, z]
      have g0 : kR I I' (2048 + 3 * k') k' := ⟨g1, g2, g3⟩
      unfold kR at g0 ⊢
      simp only [o1 (2048 + 3 * k') (by omega), t2]
      exact ⟨g0.1, ka, g0.2.2⟩
  unfold pKeep
  exact ⟨nw 0 (by decide), nw 1 (by decide), nw 2 (by decide), nw 3 (by decide)⟩
theorem wt_fr1 {k : Nat} (hk : k < 4) (n : Int) : fr [2048, 2051, 2054, 2057] [] I (wtC I (2048 + 3 * k) n) := fun c f e => by
  have hc : c ≠ 2048 + 3 * k := fun w => by
    have k5 : k = 0 ∨ k = 1 ∨ k = 2 ∨ k = 3 := by omega
    rcases k5 with q | q | q | q
    · subst q; subst w; exact absurd (show false = true from e) (by decide)
    · subst q; subst w; exact absurd (show false = true from e) (by decide)
    · subst q; subst w; exact absurd (show false = true from e) (by decide)
    · subst q; subst w; exact absurd (show false = true from e) (by decide)
  unfold wtC
  rw [up_cell _ hc, up_cell _ hc, up_cell _ hc, up_cell _ hc, up_cell _ hc, up_cell _ hc, up_cell _ hc]
theorem wt_fr2 (k : Nat) (m n : Int) : fr [2267, 2268, 2269, 2270, 2271, 2273, 2274, 2275] [] I' (wtT I' k m n) := fr_upL (fr_upL (fr_upL (fr_upL (fr_upL (fr_upL (fr_upL (fr_upL (fr_refl _ _ _) rfl _ _) rfl _ _) rfl _ _) rfl _ _) rfl _ _) rfl _ _) rfl _ _) rfl _ _
end
section
variable {d d' : Nat} {Y : vY} {I I' : vJ} {mm X Nn : Nat} {Q : vE → vE → Prop}
theorem o_watch {a b c : Int} (ha : inI a) (hb : inI b) (hc : inI c) (hL : vL Y) (hM : isM I I' Y mm) (hS : mm ≠ 0 → ∃ (Wn : Nat) (ns ws ls : Nat → Nat), SDm I I' Y mm X Nn Wn ns ws ls)
    (hN : Q (.inl (some (vi (-1))), (I, Y)) (.inl (some (vi (-1))), (I', Y)))
    (hQ : ∀ k m n : Nat, k < 4 → m < 24 → n < 700 → mm ≠ 0 → Q (.inl (some (vi 1)), (wtC I (2048 + 3 * k) n, Y)) (.inl (some (vi 1)), (wtT I' k m n, Y))) :
    vW (d + 3) 39 (0, [vr 18, vi a, vi b, vi c], [], (I, Y)) (fun r => vW (d' + 3) 474 (0, [vr 2075, vi a, vi b, vi c, vu], [], (I', Y)) (fun r' => Q r r')) := by
  have i3 : inI 3 := by unfold inI; omega
  have hH0 : ∀ P : vE → Prop, vW (d + 3) 39 (0, [vr 18, vi a, vi b, vi c], [], (I, Y)) P ↔ if 0 ≤ a ∧ a ≤ 3 then vW (d + 3) 39 (9, [vr 18, vi a, vi b, vi c], [], (I, Y)) P else P (.inl (some (vi (-1))), (I, Y)) := fun P => by
    rw [b39_0, c_in ha in0 i3]
    simp only [vWC_s, Nat.reduceAdd]
    rw [b39_6]
    by_cases z : 0 ≤ a ∧ a ≤ 3
    · rw [if_pos z, if_pos z, if_neg (by decide)]
    · rw [if_neg z, if_neg z, if_pos (by decide), b39_41]
  have hT0 : ∀ (x4 : Int), An (d' + 2) 391 [vr 2075, vi b, vi c] I' Y x4 → ∀ P : vE → Prop, vW (d' + 3) 474 (0, [vr 2075, vi a, vi b, vi c, vu], [], (I', Y)) P ↔ if 0 ≤ a ∧ a ≤ 3 then vW (d' + 3) 474 (17, [vr 2075, vi a, vi b, vi c, vi x4], [], (I', Y)) P else P (.inl (some (vi (-1))), (I', Y)) := fun x4 h P => by
    rw [b474_0 hL, h]
    simp only [vWC_s, Nat.reduceAdd]
    rw [b474_6, t_in ha in0 i3]
    simp only [vWC_s, Nat.reduceAdd]
    rw [b474_14]
    by_cases z : 0 ≤ a ∧ a ≤ 3
    · rw [if_pos z, if_pos z, if_neg (by decide)]
    · rw [if_neg z, if_neg z, if_pos (by decide), b474_36]
  rw [hH0]
  by_cases zm : 0 ≤ b ∧ b ≤ (mm : Int) - 1
  · obtain ⟨m, hm⟩ : ∃ m : Nat, b = m := ⟨b.toNat, by omega⟩
    subst hm
    have m1 : m < mm := by omega
    obtain ⟨Wn, ns, ws, ls, S⟩ := hS (by omega)
    have cn := fun P => c_nod (d := d) hL hM S m1 hc P
    have tn := t_nod (d := d') hL hM S m1 hc
    obtain ⟨⟨t1, _, t3⟩, ⟨_, s2, _, _, _, _, _, s8⟩, s9, s10, _⟩ := S
    obtain ⟨o, g1, g2, _⟩ := s9 m m1
    by_cases z : 0 ≤ a ∧ a ≤ 3
    · rw [if_pos z, b39_9 hL, cn]
      simp only [vWC_s, Nat.reduceAdd]
      rw [b39_15]
      by_cases y : 0 ≤ c ∧ c ≤ (ns (m + 1) : Int) - ns m - 1
      · obtain ⟨k, hk⟩ : ∃ k : Nat, a = k := ⟨a.toNat, by omega⟩
        subst hk
        have k4 : k < 4 := by omega
        obtain ⟨j, hj⟩ : ∃ j : Nat, c = j := ⟨c.toNat, by omega⟩
        subst hj
        rw [if_pos y] at tn ⊢
        have e : (ns m : Int) + (j : Int) = ((ns m + j : Nat) : Int) := by omega
        have n1 : ns m + j < Nn := by omega
        have n7 : ns m + j < 700 := by omega
        obtain ⟨k1, _⟩ := s10 _ n1
        rw [e] at tn
        have ex : Y.1 1989 ((m : Int)).toNat = o := by rw [tn0]; exact g1.1
        have u1 : (0 : Int) ≤ (m : Int) := by omega
        have u2 : (m : Int) < 24 := by omega
        have u3 : Y.1 1989 ((m : Int)).toNat ≠ 0 := by rw [ex]; omega
        have u4 : Y.2.1 (Y.1 1989 ((m : Int)).toNat) = 15 := by rw [ex]; exact g1.2.2.2
        have en : I (Y.1 1989 ((m : Int)).toNat) 3850 + (j : Int) = ((ns m + j : Nat) : Int) := by rw [ex, g2.1, e]
        obtain ⟨y1, va⟩ := vreg_k hL k4
        have yk : Y.1 1991 ((k : Int)).toNat = 2048 + 3 * k := by rw [tn0]; exact y1
        have q1 : (0 : Int) ≤ (k : Int) := by omega
        have q2 : (k : Int) < 4 := by omega
        have r3 : vreg Y 2081 38 (Y.1 2075 7689) := by rw [t1]; exact t3
        have m0 : mm ≠ 0 := by omega
        have m24 : m < 24 := by omega
        generalize ns m + j = n at *
        have e0 : (0 : Int) ≤ (n : Int) := by omega
        have e7 : (n : Int) < 700 := by omega
        have e14 : (n : Int) < 1400 := by omega
        rw [if_neg (by decide), b39_18 hL u1 u2 u3 u4 (by rw [en]; exact e0) (by rw [en]; exact e7), en, tn0]
        have hT1 : ∀ P : vE → Prop, vW (d' + 3) 474 (0, [vr 2075, vi (k : Int), vi (m : Int), vi (j : Int), vu], [], (I', Y)) P ↔ if w32 (I 38 n) = w32 3 then vW (d' + 3) 474 (38, [vr 2075, vi (k : Int), vi (m : Int), vi (j : Int), vi (n : Int)], [], (I', Y)) P else P (.inl (some (vi (-1))), (I', Y)) := fun P => by
          rw [hT0 _ tn, if_pos z, b474_17, if_neg (by rw [w32_id (by omega) (by omega)]; omega), b474_22 hL r3 e0 e14, t1, tn0, ← k1]
          by_cases v : w32 (I 38 n) = w32 3
          · rw [if_pos v, if_pos v]
          · rw [if_neg v, if_neg v, b474_36]
        by_cases v : w32 (I 38 n) = w32 3
        · rw [if_pos v, b39_43 hL q1 q2 u1 u2 u3 u4 (by rw [yk]; exact va), en, yk, b39_66 hL q1 q2 (by rw [yk]; exact va), yk, b199_0 va, b199_5 va, b199_10 va, b199_15 va, b199_20 va, b199_25 va, b199_30]
          simp only [vWC_n, Nat.reduceAdd]
          rw [b39_78, hT1, if_pos v, b474_38 hL q1 q2, b352_0 hL q1 q2]
          simp only [vWC_n, Nat.reduceAdd]
          rw [b474_58, tn0]
          exact hQ k m n k4 m24 n7 m0
        · rw [if_neg v, b39_41, hT1, if_neg v]
          exact hN
      · rw [if_neg y] at tn ⊢
        rw [if_pos (by decide), b39_41, hT0 _ tn, if_pos z, b474_17, if_pos (by decide), b474_36]
        exact hN
    · rw [if_neg z, hT0 _ tn, if_neg z]
      exact hN
  · obtain ⟨cn, tn⟩ := n_nod (d := d) (d' := d') (b := c) hL hb hM zm
    by_cases z : 0 ≤ a ∧ a ≤ 3
    · rw [if_pos z, b39_9 hL, cn]
      simp only [vWC_s, Nat.reduceAdd]
      rw [b39_15, if_pos (by decide), b39_41, hT0 _ tn, if_pos z, b474_17, if_pos (by decide), b474_36]
      exact hN
    · rw [if_neg z, hT0 _ tn, if_neg z]
      exact hN
end
