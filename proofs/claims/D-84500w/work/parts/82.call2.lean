/-! ===== a member is called, in both houses ===== -/
set_option maxRecDepth 20000
set_option maxHeartbeats 4000000
theorem vWX_mono {d y pc a : Nat} {ls : List vV} {P P' : vE → Prop} {M : vM} (h : ∀ r, P r → P' r) : vWX d y pc ls P a M → vWX d y pc ls P' a M := by
  unfold vWX
  cases vhan y pc (gK M a) with
  | none => exact id
  | some o => cases o with
    | none => exact h _
    | some p => exact fun w => vWmo (Nat.le_refl _) h w
theorem vWC_mono {d y pc n : Nat} {ls st : List vV} {P P' : vE → Prop} {q : vE} (h : ∀ r, P r → P' r) : vWC d y pc n ls st P q → vWC d y pc n ls st P' q := by
  obtain ⟨o, M⟩ := q
  rcases o with v | a
  · cases v with
    | none => exact fun w => vWmo (Nat.le_refl _) h w
    | some v => exact fun w => vWmo (Nat.le_refl _) h w
  · exact vWX_mono h
/-- a rest that begins: the new activation is at its first node -/
theorem enF_AS {Y Y' : vY} {X mm Nn Lp : Nat} {nm pr ht : Nat → Nat} {I I' K K' J J' : vJ} {th t A i W N m T p nn y tr : Nat} (h : IS Y Y' X mm Nn Lp nm pr ht I I' th t A i W N) (hi : (i : Int) < I' (X + 12) (I 2007 (40 * t + (A - 1))).toNat) (hA : A < 40) (hop : p ≤ ht i ∧ ht (i + 1) = ht i - p + 1) (hT : I 1994 t = (T : Int)) (hnm : nm m = p + nn) (hpn : p + nn ≤ 16) (hy : y < Nn) (z42 : I 42 y = 0)
    (k1 : fr [2008] [] I K) (k2 : ∀ b, K 2008 b = if b = 40 * t + (A - 1) then 2 * (i : Int) + 2 else I 2008 b) (k3 : fr [2199, 2200, 2263] [] I' K') (k4 : ∀ b, K' 2199 b = if b = 40 * t + (A - 1) then (i : Int) + 1 else I' 2199 b) (k5 : ∀ b, K' 2200 b = if b = 40 * t + (A - 1) then ((ht i - p : Nat) : Int) else I' 2200 b) (k6 : ∀ j, j < p → K' 2263 j = I' 2206 (160 * (40 * t + (A - 1)) + (ht i - p) + j))
    (hP : PT Lp J J') (hB : bud J J' W (ht 5000)) (hE : enF K J K' J' X t A m T p nn y tr) (hac : acR J J' X mm Nn (40 * t + A)) : AS Y Y' X mm Nn Lp nm pr ht J J' th W N := by
  obtain ⟨s1, s2, s3, s4, ⟨s5, s6, s7, s8, s9, s10, s11⟩, s12, s13⟩ := h
  obtain ⟨⟨r1, r2, r3, r4⟩, ⟨r5, r6⟩, r7, r8, r9, r10, r11, r12⟩ := s13
  obtain ⟨e1, e2, ⟨v1, v2, v3, v4, v5, v6, v7⟩, ⟨a1, a2⟩, ⟨n1, n2, n3, n4, n5, n6, n7, n8⟩, ⟨l1, l2⟩, tr9⟩ := hE
  have th8 := s2.1.1.2.2
  have hX := s1.1.2.1
  have G1 : fr [65, 1961, 1962, 1963, 1964, 1966, 1967, 1968, 1970, 1971, 1972, 1973, 1975, 1976, 1977, 1978, 1979, 1980, 1981, 1992, 1993, 1994, 1995, 2006, 2007, 2008, 2009, 2010, 2011, 2012, 2014] [(1960, 3079), (1960, 3090), (1990, 3403), (1990, 3392)] I J := fr_trans (fr_weak k1 (by decide) (by decide)) e1
  have G2 : fr [2183, 2186, 2197, 2198, 2199, 2200, 2201, 2202, 2203, 2204, 2205, 2209, 2237, 2238, 2239, 2240, 2241, 2242, 2243, 2244, 2245, 2246, 2247, 2248, 2253, 2255, 2256, 2257, 2258, 2263] [(2075, 7727), (2075, 7736), (2075, 7818), (2075, 7799)] I' J' := fr_trans (fr_weak k3 (by decide) (by decide)) (fr_weak e2 (by decide) (by decide))
  have aT := agT_fr G1 G2 rfl
  have arr : J 1990 3376 = I 1990 3376 := G1 1990 _ rfl
  have tv := thV_enter (J := J) (J' := J') (p := p) (nn := nn) (T := T) (S := ht i - p) (m := m) r7 r3 hA hnm hpn hT (by rw [r12]; omega) (fun q => by rw [v1, k1 1992 _ rfl]) (fun q => by rw [v2, k1 1993 _ rfl]) (fun u => by rw [v3, k1 1994 _ rfl]) (fun b => by rw [v4, k1 2009 _ rfl]) (fun b => by rw [v5, k1 2006 _ rfl]) (fun b => by rw [v6, k5]) (fun q => by
    rw [v7, k3 2205 _ rfl]
    by_cases z : 16 * (40 * t + A) ≤ q ∧ q < 16 * (40 * t + A) + 16
    · rw [if_pos z, if_pos z]
      by_cases z2 : q - 16 * (40 * t + A) < p
      · rw [if_pos z2, if_pos z2, k6 _ z2]
      · rw [if_neg z2, if_neg z2]
    · rw [if_neg z, if_neg z]) (fr_row G2 2206 (fun _ => rfl))
  have gS : agS I I' J J' X := ⟨aT.1 38 (by decide) (by decide), aT.1 43 (by decide) (by decide), aT.1 62 (by decide) (by decide), aT.2.2.1 (X + 11) (by omega) (by omega), aT.2.2.1 (X + 12) (by omega) (by omega), aT.2.2.1 (X + 37) (by omega) (by omega), aT.2.2.1 2178 (by decide) (by decide), aT.2.2.1 2179 (by decide) (by decide), by rw [k1 1960 _ rfl] at tr9; exact tr9⟩
  have rows : ∀ b, b ≠ 40 * t + A → J 2006 b = I 2006 b ∧ J 2007 b = I 2007 b ∧ J 2010 b = I 2010 b ∧ J 2011 b = I 2011 b ∧ J' 2197 b = I' 2197 b ∧ J' 2198 b = I' 2198 b ∧ J' 2201 b = I' 2201 b ∧ J' 2202 b = I' 2202 b ∧ J' 2203 b = I' 2203 b := fun b hb => by
    rw [v5, if_neg hb, n1, if_neg hb, n5, if_neg hb, (n8 b hb).1, n7, if_neg hb, n2, if_neg hb, n6, if_neg hb, (n8 b hb).2.1, (n8 b hb).2.2, k1 2006 _ rfl, k1 2007 _ rfl, k1 2010 _ rfl, k1 2011 _ rfl, k3 2197 _ rfl, k3 2198 _ rfl, k3 2201 _ rfl, k3 2202 _ rfl, k3 2203 _ rfl]
    exact ⟨rfl, rfl, rfl, rfl, rfl, rfl, rfl, rfl, rfl⟩
  refine ⟨ST_ag s1 aT, ?_, hP, hB, ⟨?_, by rw [G1 1990 _ rfl]; exact s7, by rw [G2 2075 _ rfl]; exact s8, s10⟩, fun u hu => ?_⟩
  · refine LZ_acts (A := A) (A' := A + 1) s2 s5 r1 (by omega) (by omega) (fun u => ?_) (fun u => ?_) r5 r6 (fun c hc => ?_) (fun c hc => ?_) (G1 1990 _ rfl) (G1 1990 _ rfl) (G1 1990 _ rfl) (G2 2075 _ rfl) (fun b hb => ?_) (fun k ka kb => ?_)
    · rw [a1, k1 1995 _ rfl]
      by_cases z : u = t
      · rw [if_pos z, if_pos z]; omega
      · rw [if_neg z, if_neg z]
    · rw [a2, k3 2186 _ rfl]
      by_cases z : u = t
      · rw [if_pos z, if_pos z]; omega
      · rw [if_neg z, if_neg z]
    · refine fr_row G1 c (fun f => frok_of (fun q hq => ?_) (fun q hq => ?_))
      · simp only [List.mem_cons, List.not_mem_nil, or_false] at hq; omega
      · simp only [List.mem_cons, List.not_mem_nil, or_false] at hq
        rcases hq with rfl | rfl | rfl | rfl <;> (intro zz; have := zz.1; simp only at this; omega)
    · refine fr_row G2 c (fun f => frok_of (fun q hq => ?_) (fun q hq => ?_))
      · simp only [List.mem_cons, List.not_mem_nil, or_false] at hq; omega
      · simp only [List.mem_cons, List.not_mem_nil, or_false] at hq
        rcases hq with rfl | rfl | rfl | rfl <;> (intro zz; have := zz.1; simp only at this; omega)
    · have nb : b ≠ 40 * t + A := by omega
      exact ⟨(rows b nb).2.1, by rw [l1, if_neg nb, k1 2012 _ rfl], by rw [l2, if_neg nb, k3 2204 _ rfl]⟩
    · have ek : k = A := by omega
      subst ek
      refine ⟨by rw [l1, if_pos rfl], by rw [l2, if_pos rfl], ?_⟩
      rw [n1, if_pos rfl, tn0, aT.1 42 (by decide) (by decide)]; exact z42
  · have e1995 : ∀ u, u ≠ t → J 1995 u = I 1995 u := fun u hu => by rw [a1, if_neg hu, k1 1995 _ rfl]
    rw [sa_all s5 th8, sa_congr (fun u _ hu => e1995 u hu), a1, if_pos rfl, if_pos (by omega), G1 1990 3393 rfl, G1 1960 3100 rfl]
    omega
  · by_cases z : u = t
    · subst z
      refine ⟨A + 1, 0, ⟨by rw [a1, if_pos rfl]; omega, by rw [a2, if_pos rfl]; omega, by omega⟩, by rw [arr]; exact tv.1, fun k hk => ?_, fun k hk => ?_, ?_⟩
      · by_cases y9 : k = A
        · rw [y9]; exact hac
        · have q := r8 k (by omega)
          have rr := rows (40 * u + k) (by omega)
          unfold acR at *
          rw [rr.1, rr.2.1, rr.2.2.1, rr.2.2.2.1, rr.2.2.2.2.1, rr.2.2.2.2.2.1, rr.2.2.2.2.2.2.1, rr.2.2.2.2.2.2.2.1, rr.2.2.2.2.2.2.2.2, gS.1, gS.2.2.1, gS.2.2.2.2.2.1, gS.2.2.2.2.2.2.1, gS.2.2.2.2.2.2.2.1]
          refine ⟨q.1, q.2.1, ⟨q.2.2.1.1, q.2.2.1.2.1, ?_⟩, q.2.2.2⟩
          have z1 := q.2.2.1.2.2
          have z2 := gS.2.2.2.2.2.2.2.2
          omega
      · by_cases y9 : k = A - 1
        · subst y9
          have rr := rows (40 * u + (A - 1)) (by omega)
          refine ⟨i + 1, ?_, ?_, ?_, ?_, ?_⟩
          · rw [n4, if_neg (by omega), k4, if_pos rfl]; omega
          · rw [n3, if_neg (by omega), k2, if_pos rfl]; omega
          · rw [rr.2.1, gS.2.2.2.1]; omega
          · rw [rr.2.1, gS.2.2.2.2.1]; omega
          · rw [v6, if_neg (by omega), k5, if_pos rfl]; omega
        · have q := r9 k (by omega)
          have rr := rows (40 * u + k) (by omega)
          unfold coR at *
          rw [rr.2.1, n3, if_neg (by omega), k2, if_neg (by omega), n4, if_neg (by omega), k4, if_neg (by omega), v6, if_neg (by omega), k5, if_neg (by omega), gS.2.2.2.1, gS.2.2.2.2.1]
          exact q
      · have e96 : J 1996 u = 0 := by rw [G1 1996 _ rfl]; exact r5
        have e05 : J 2005 u = 0 := by rw [G1 2005 _ rfl]; exact r6
        unfold stR
        rw [e96, e05, Nat.add_sub_cancel]
        refine ⟨fun z => by omega, fun _ => by omega, fun _ _ => ⟨rfl, by rw [v6, if_pos rfl], ?_, ?_⟩, fun z => by omega, fun z => by omega, fun z => by omega, fun _ z => by omega⟩
        · rw [n4, if_pos rfl, n1, if_pos rfl, tn0, gS.2.2.2.1]
          exact congrFun (fr_out k3 2081 2182 (by rfl) (by omega) (by omega)) y
        · rw [n3, if_pos rfl, n1, if_pos rfl, tn0, gS.2.1]
          exact k1 43 y rfl
    · rw [arr]
      refine reR_ag (s12 u hu z) (Int.le_refl _) gS (tv.2 u z) ⟨⟨by rw [a1, if_neg z, k1 1995 _ rfl], by rw [a2, if_neg z, k3 2186 _ rfl]⟩, fun k hk => ?_⟩ (G1 1996 _ rfl) (G1 1997 _ rfl) (G1 2005 _ rfl)
      have rr := rows (40 * u + k) (by omega)
      refine ⟨rr.1, rr.2.1, ?_, rr.2.2.1, rr.2.2.2.1, rr.2.2.2.2.1, rr.2.2.2.2.2.1, ?_, rr.2.2.2.2.2.2.1, rr.2.2.2.2.2.2.2.1, rr.2.2.2.2.2.2.2.2⟩
      · rw [n3, if_neg (by omega), k2, if_neg (by omega)]
      · rw [n4, if_neg (by omega), k4, if_neg (by omega)]
