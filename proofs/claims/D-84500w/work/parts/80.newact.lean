/-! ===== an activation comes in both houses: from its place in the tree to its first node ===== -/
set_option maxRecDepth 20000
set_option maxHeartbeats 4000000
theorem tF_fr {I J : vJ} (h : tF I J) : fr [1961, 1962, 1963, 1964, 1966, 1967] [(1960, 3079)] I J := by
  intro c f hf
  by_cases z : c = 1960
  · subst z
    exact h.2 f (fun e => by subst e; cases hf)
  · rw [h.1 c (by
      have n1 : c ≠ 1961 := fun e => by subst e; cases hf
      have n2 : c ≠ 1962 := fun e => by subst e; cases hf
      have n3 : c ≠ 1963 := fun e => by subst e; cases hf
      have n4 : c ≠ 1964 := fun e => by subst e; cases hf
      have n5 : c ≠ 1966 := fun e => by subst e; cases hf
      have n6 : c ≠ 1967 := fun e => by subst e; cases hf
      omega)]
theorem tF'_fr {I J : vJ} (h : tF' I J) : fr [2237, 2238, 2239, 2240] [(2075, 7799)] I J := by
  intro c f hf
  by_cases z : c = 2075
  · subst z
    exact h.2 f (fun e => by subst e; cases hf)
  · rw [h.1 c z (by
      have n1 : c ≠ 2237 := fun e => by subst e; cases hf
      have n2 : c ≠ 2238 := fun e => by subst e; cases hf
      have n3 : c ≠ 2239 := fun e => by subst e; cases hf
      have n4 : c ≠ 2240 := fun e => by subst e; cases hf
      omega)]
theorem tR_acts {I I' J J' : vJ} {k : Nat} (h : tR I I') (f0 : J 1960 3079 = I 1960 3079) (f1 : J 1961 = I 1961) (f2 : J 1962 = I 1962) (f3 : J 1964 = I 1964) (f4 : J 1966 = I 1966) (f5 : J 1967 = I 1967) (g0 : J' 2075 7799 = I' 2075 7799) (g1 : J' 2237 = I' 2237) (g2 : J' 2238 = I' 2238) (g3 : J' 2240 = I' 2240) (e1 : ∀ q, J 1963 q = if q = k then I 1963 q + 1 else I 1963 q) (e2 : ∀ q, J' 2239 q = if q = k then I' 2239 q + 1 else I' 2239 q) : tR J J' := by
  unfold tR at *
  rw [f0, f1, f2, f3, f4, f5, g0, g1, g2, g3]
  obtain ⟨n, h1, h2, h3, h4, h5⟩ := h
  refine ⟨n, h1, h2, h3, fun i hi => ?_, h5⟩
  have q := h4 i hi
  rw [e1, e2]
  refine ⟨q.1, q.2.1, ?_, q.2.2.2⟩
  by_cases z : i = k
  · rw [if_pos z, if_pos z, q.2.2.1]
  · rw [if_neg z, if_neg z]; exact q.2.2.1
/-- all that is settled of a member's ENTRY and of the way from it -/
theorem ST_entry {Y Y' : vY} {X mm Nn Lp : Nat} {nm pr ht : Nat → Nat} {I I' : vJ} {m : Nat} (hST : ST I I' Y Y' X mm Nn Lp nm pr ht) (hm : m < mm) : ∃ o p nn nd w y : Nat, ∃ pp : Int, (Y.1 1989 m = o ∧ 2297 ≤ o ∧ Y.2.1 o = 15) ∧ (I o 3844 = p ∧ I' (X + 2) m = p ∧ p ≤ 4 ∧ pr m = p) ∧ (I o 3847 = ((p + nn : Nat) : Int) ∧ p + nn ≤ 16 ∧ nm m = p + nn) ∧ (I o 3850 = nd ∧ I' (X + 4) m = nd ∧ nd < Nn ∧ I' 2178 nd = 0 ∧ I 38 nd = 0) ∧ (I 48 nd = w ∧ I' (X + 20) nd = w) ∧ wF I I' Y Y' X mm Nn w nd y m o pp ∧ (I 63 w = 0 ∧ I 42 y = 0 ∧ (I 38 y ≠ 2 ∧ I 38 y ≠ 0 ∧ 0 ≤ I 38 y) ∧ y < Nn ∧ w < 2100 ∧ I 50 w = nd ∧ I 51 w = y) ∧ I' (X + 6) m = y ∧ (I 38 y = 1 ↔ I' (X + 6) m = I' (X + 4) m + 1) ∧ I' 2179 m = pp ∧ (I' 2179 m ≠ -1 → I 62 nd ≤ I' 2179 m) ∧ I' (X + 37) y = m := by
  obtain ⟨o, p, nn, nd, ho, hp, ⟨n1, n2, n3, n4⟩, ⟨d1, d2, d3, d4, d5, d6⟩, ⟨g1, g2⟩, y0, y1, y2, y3⟩ := hST.2.2.2.2.2.2.1 m hm
  have nf := hST.2.2.2.2.1 nd d3
  have wk : I' (X + 21) nd = 1 := by rw [nf.2.1.2.2, d4]; rfl
  obtain ⟨w, y, m9, o9, p9, w1, w2, w3, w4, w5, w6, w7, w8, w9, w10, w11, w12, w13⟩ := hST.2.2.2.2.2.1 nd 0 d3 (by rw [wk]; decide)
  have ww : I 48 nd = (w : Int) := by rw [w1]; exact (Int.add_zero _).symm
  have w52 : I 52 w = 0 := by rw [w3, d4]; rfl
  have a1 : m9 = m := Int.ofNat.inj (w2.2.2.2.1.1.symm.trans d5)
  subst a1
  have a2 : o9 = o := w2.2.2.2.2.1.1.symm.trans ho.1
  subst a2
  have a3 : y0 = y := by
    rw [ww, tn0, w2.1.2.1.2.1] at y1
    exact (Int.ofNat.inj y1).symm
  subst a3
  have a4 : I 38 y0 ≠ 2 ∧ I 38 y0 ≠ 0 ∧ 0 ≤ I 38 y0 := ⟨(w5 (by rw [w52]; decide)).2, w6.1, (hST.2.2.2.2.1 y0 w2.2.1.2.1).1.2.1⟩
  refine ⟨o9, p, nn, nd, w, y0, p9, ho, hp, ⟨n1, n3, n4⟩, ⟨d1, d2, d3, g1, d4⟩, ⟨ww, nf.2.1.1.symm.trans ww⟩, w2, ⟨(w12 d4).1, (w12 d4).2, a4, w2.2.1.2.1, w2.1.1.1, w2.1.2.1.1, w2.1.2.1.2.1⟩, y2, ?_, w2.2.2.2.2.2.1.2.1, g2, w2.2.2.2.1.2.1⟩
  rw [y3, y2, d2]
  clear y3 w4 w5 w7 w8 w9 w10 w11 w12 w13 w2 w6 w3 nf g2 hST
  constructor
  · intro h; omega
  · intro h; omega
/-- what an activation's coming puts in both houses -/
def enF (I J I' J' : vJ) (X t A m T p nn y tr : Nat) : Prop :=
  fr [65, 1961, 1962, 1963, 1964, 1966, 1967, 1968, 1970, 1971, 1972, 1973, 1975, 1976, 1977, 1978, 1979, 1980, 1981, 1992, 1993, 1994, 1995, 2006, 2007, 2008, 2009, 2010, 2011, 2012, 2014] [(1960, 3079), (1960, 3090), (1990, 3403), (1990, 3392)] I J ∧
  fr [2183, 2186, 2197, 2198, 2199, 2200, 2201, 2202, 2203, 2204, 2205, 2209, 2237, 2238, 2239, 2240, 2241, 2242, 2243, 2244, 2245, 2246, 2247, 2248, 2253, 2255, 2256, 2257, 2258] [(2075, 7727), (2075, 7736), (2075, 7818), (2075, 7799)] I' J' ∧
  ((∀ q, J 1992 q = if T ≤ q ∧ q < T + nn then 0 else I 1992 q) ∧ (∀ q, J 1993 q = if T ≤ q ∧ q < T + nn then 0 else I 1993 q) ∧ (∀ u, J 1994 u = if u = t then ((T + nn : Nat) : Int) else I 1994 u) ∧ (∀ b, J 2009 b = if b = 40 * t + A then (T : Int) - p else I 2009 b) ∧ (∀ b, J 2006 b = if b = 40 * t + A then (m : Int) else I 2006 b) ∧ (∀ b, J' 2200 b = if b = 40 * t + A then 0 else I' 2200 b) ∧ (∀ q, J' 2205 q = if 16 * (40 * t + A) ≤ q ∧ q < 16 * (40 * t + A) + 16 then (if q - 16 * (40 * t + A) < p then I' 2263 (q - 16 * (40 * t + A)) else 0) else I' 2205 q)) ∧
  ((∀ u, J 1995 u = if u = t then (A : Int) + 1 else I 1995 u) ∧ (∀ u, J' 2186 u = if u = t then (A : Int) + 1 else I' 2186 u)) ∧
  ((∀ b, J 2007 b = if b = 40 * t + A then (y : Int) else I 2007 b) ∧ (∀ b, J' 2198 b = if b = 40 * t + A then (y : Int) else I' 2198 b) ∧ (∀ b, J 2008 b = if b = 40 * t + A then I 43 y else I 2008 b) ∧ (∀ b, J' 2199 b = if b = 40 * t + A then I' (X + 11) y else I' 2199 b) ∧ (∀ b, J 2010 b = if b = 40 * t + A then (tr : Int) else I 2010 b) ∧ (∀ b, J' 2201 b = if b = 40 * t + A then (tr : Int) else I' 2201 b) ∧ (∀ b, J' 2197 b = if b = 40 * t + A then (m : Int) else I' 2197 b) ∧ (∀ b, b ≠ 40 * t + A → J 2011 b = I 2011 b ∧ J' 2202 b = I' 2202 b ∧ J' 2203 b = I' 2203 b)) ∧
  ((∀ b, J 2012 b = if b = 40 * t + A then 0 else I 2012 b) ∧ (∀ b, J' 2204 b = if b = 40 * t + A then 0 else I' 2204 b)) ∧ I 1960 3079 ≤ J 1960 3079
section
variable {d d' : Nat} {Y Y' : vY} {X mm Nn Lp : Nat} {nm pr ht : Nat → Nat} {I0 I0' Ia' I I' : vJ} {t A m T W tr n' : Nat} {Q : vE → vE → Prop}
theorem n_ent2 {x3 x5 : Int} (hL : vL Y) (hL' : vL Y') (hST : ST I0 I0' Y Y' X mm Nn Lp nm pr ht) (hPT : PT Lp I0 I0') (hB : bud I0 I0' W (ht 5000)) (hW : W ≤ 20000) (ht8 : t < 8) (hA : I0 1995 t = (A : Int)) (hA2 : A < 40) (hm : m < mm) (hbg : I0 1990 3403 < 30000) (hT : I0 1994 t = (T : Int)) (hT2 : T + 16 < 46088) (b8 : 8 ≤ T) (hth : (t : Int) < I0' 2075 7731 ∧ I0' 2186 t = (A : Int))
    (f1 : tF I0 I) (e1 : etT I0' Ia' t A (40 * t + A) m (pr m)) (f2 : tF' Ia' I') (hR : tR I I') (hn : I 1960 3079 = n') (htr : tr < n') (htr0 : tr ≠ 0) (hmo : I0 1960 3079 ≤ n')
    (hQ : ∀ (J J' : vJ) (p nn y : Nat), pr m = p → nm m = p + nn → p + nn ≤ 16 → p ≤ 4 → y < Nn → I0' (X + 6) m = y → PT Lp J J' → bud J J' W (ht 5000) → enF I0 J I0' J' X t A m T p nn y tr → (I0 38 y ≠ 1 → acR J J' X mm Nn (40 * t + A) ∧ I0 42 y = 0) → (I0 38 y = 1 ↔ I0' (X + 6) m = I0' (X + 4) m + 1) → Q (.inl (some (vi (if I0 38 y = 1 then 1 else 0))), (J, Y)) (.inl (some (vi ((40 * t + A : Nat) : Int))), (J', Y'))) :
    vW (d + 8) 162 (0, [vr 1990, vi t, vi m, vi tr, vu, vu, vu], [], (I, Y)) (fun r => vW (d' + 8) 401 (123, [vr 2075, vi t, vi m, vi x3, vi ((40 * t + A : Nat) : Int), vi x5], [vi tr, vi ((40 * t + A : Nat) : Int), vr 2201], (I', Y')) (fun r' => Q r r')) := by
  obtain ⟨hX, hX2, hV⟩ := hST.1
  have mm24 : mm ≤ 24 := hST.2.1.1.1
  have Nn7 : Nn ≤ 700 := hST.2.1.2
  obtain ⟨o, p, nn, nd, w, y0, pp, ⟨o1, o2, o3⟩, ⟨p1, p2, p3, p4⟩, ⟨n1, n3, n4⟩, ⟨d1, d2, d3, d7, d8⟩, ⟨ww, ww'⟩, hwF, ⟨z63, z42, z38, wj, wa, we, wf⟩, y2, y3, y4, y5, y6⟩ := ST_entry hST hm
  have F1 := tF_fr f1
  have F2 := tF'_fr f2
  obtain ⟨t1, t2, t3, t4, t5, t6, t7⟩ := e1
  rw [p4] at t6
  have i0 : ∀ c, c ≠ 1960 → (c < 1961 ∨ 1967 < c) → I c = I0 c := fun c z1 z2 => f1.1 c (by omega)
  obtain ⟨q1, q2, q3, q4, q5, q6, q7, q8, q9, q10, q11, q12, q13, q14, q15, q16, q17, q18, q19, q20⟩ := hPT
  have n200 : n' ≤ 200 := by obtain ⟨z, z1, z2, _⟩ := hR; omega
  have aX : 40 * t + A < 320 := by omega
  -- the house goes to the way
  refine c_enter1 (d := d + 6) (A := A) (a := 40 * t + A) (T := T) (p := p) (nn := nn) (nd := nd) (o := o) (w := w) hL ht8 (by rw [i0 1995 (by decide) (by decide)]; exact hA) hA2 rfl (by omega) (by omega) ⟨o1, o3, o2⟩ (by rw [i0 o (by omega) (by omega)]; exact p1) (by rw [i0 o (by omega) (by omega)]; exact n1) n3 (by rw [i0 1994 (by decide) (by decide)]; exact hT) (by omega) (by rw [i0 o (by omega) (by omega)]; exact d1) (by omega) (by rw [i0 48 (by decide) (by decide)]; exact ww) (fun J1 c1 => ?_)
  obtain ⟨c1, c2, c3, c4, c5, c6, c7, c8, c9, c10, c11, c12, c13, c14⟩ := c1
  have G1 : fr [1961, 1962, 1963, 1964, 1966, 1967, 1968, 1992, 1993, 1994, 1995, 2006, 2007, 2009, 2010, 2011, 2012] [(1960, 3079), (1990, 3403)] I0 J1 := fr_trans (fr_weak F1 (by decide) (by decide)) (fr_weak c1 (by decide) (by decide))
  have j0 : ∀ c, 35 ≤ c → c < 65 → J1 c = I0 c := fun c z1 z2 => fr_out G1 35 65 (by rfl) z1 z2
  have ca : J1 1995 t = (A : Int) + 1 := by rw [c5, if_pos rfl]
  have cl : J1 2012 (40 * t + A) = 0 := by rw [c11, if_pos rfl]
  have hs : ∀ K : vE → Prop, vW (d + 7) 164 (0, [vr 1990, vi t, vi w, vu, vu, vu, vu], [], (J1, Y)) K ↔ vW (d + 7) 164 (80, [vr 1990, vi t, vi w, vi ((40 * t + A : Nat) : Int), vi nd, vi y0, vu], [], (J1, Y)) K := by
    intro K
    have e50 : J1 50 w = nd := by rw [j0 50 (by decide) (by decide)]; exact we
    have e51 : J1 51 w = y0 := by rw [j0 51 (by decide) (by decide)]; exact wf
    have e42 : J1 42 y0 = 0 := by rw [j0 42 (by decide) (by decide)]; exact z42
    rw [b164_0 hL, c_act (A := A) hL ht8 ca]
    simp only [vWC_s, Nat.reduceAdd]
    rw [b164_5 hL (by omega) (by omega)]
    simp only [tn0, e50, e51]
    rw [b164_28 hL (by omega) (by omega) (by omega) (by omega)]
    simp only [tn0, cl, e42, Int.le_refl, if_true]
  rw [hs]
  apply vW_out
  -- the model goes to the way
  apply vW_swap.mpr
  have ix4 : 2081 ≤ X + 4 ∧ X + 4 < 2170 := by omega
  have ix20 : 2081 ≤ X + 20 ∧ X + 20 < 2170 := by omega
  have i4 : I' (X + 4) = I0' (X + 4) := by rw [fr_out F2 2081 2170 (by rfl) ix4.1 ix4.2, fr_out t1 2081 2170 (by rfl) ix4.1 ix4.2]
  have i20 : I' (X + 20) = I0' (X + 20) := by rw [fr_out F2 2081 2170 (by rfl) ix20.1 ix20.2, fr_out t1 2081 2170 (by rfl) ix20.1 ix20.2]
  refine t_enter2 (d := d' + 7) (a := 40 * t + A) (m := m) (s := tr) (nd := nd) (w := w) hL' hX hX2 hV aX (by omega) (by omega) (by rw [i4]; exact d2) (by omega) (by rw [i20]; exact ww') (fun J1' u1 => ?_)
  obtain ⟨u1, u2, u3, u4, u5, u6, u7⟩ := u1
  have G2 : fr [2186, 2197, 2198, 2200, 2201, 2202, 2203, 2204, 2205, 2237, 2238, 2239, 2240, 2253] [(2075, 7727), (2075, 7799)] I0' J1' := fr_trans (fr_weak t1 (by decide) (by decide)) (fr_trans (fr_weak F2 (by decide) (by decide)) (fr_weak u1 (by decide) (by decide)))
  have aT := agT_fr G1 G2 rfl
  have sT := ST_ag hST aT
  have tR1 : tR J1 J1' := tR_acts hR (c1 1960 _ rfl) (fr_row c1 1961 (fun _ => rfl)) (fr_row c1 1962 (fun _ => rfl)) (fr_row c1 1964 (fun _ => rfl)) (fr_row c1 1966 (fun _ => rfl)) (fr_row c1 1967 (fun _ => rfl)) (u1 2075 _ rfl) (fr_row u1 2237 (fun _ => rfl)) (fr_row u1 2238 (fun _ => rfl)) (fr_row u1 2240 (fun _ => rfl)) c13 u3
  have r53 : I' 2253 = I0' 2253 := by rw [fr_row F2 2253 (fun _ => rfl), fr_row t1 2253 (fun _ => rfl)]
  have r68 : I 1968 = I0 1968 := i0 1968 (by decide) (by decide)
  have hCalls : pCalls J1 J1' := fun b hb => by
    have z := q8 b hb
    rw [c12, u4, r53, r68]
    by_cases zz : b = m
    · rw [if_pos zz, if_pos zz, z]
    · rw [if_neg zz, if_neg zz]; exact z
  have bg0 : I 1990 3403 = I0 1990 3403 := by rw [i0 1990 (by decide) (by decide)]
  have bg1 : J1 1990 3403 = I0 1990 3403 + 1 := by rw [c14, bg0]
  have bg2 : J1' 2075 7727 = I0' 2075 7727 + 1 := by rw [u1 2075 _ rfl, F2 2075 _ rfl, t7]
  have hBeg : pBegun J1 J1' := by
    unfold pBegun at *
    rw [bg1, bg2]; omega
  have hVars : pVars J1 J1' := fun v hv hv9 => by
    rw [G1 1960 _ rfl] at hv9
    have z := q20 v hv hv9
    rw [c2, c3, if_neg (by omega), if_neg (by omega), i0 1992 (by decide) (by decide), i0 1993 (by decide) (by decide), G1 1990 _ rfl, G2 2185 _ rfl]
    exact z
  have v86 : ∀ u, J1' 2186 u = if u = t then (A : Int) + 1 else I0' 2186 u := fun u => by rw [u1 2186 _ rfl, F2 2186 _ rfl, t2]
  have v98 : ∀ b, J1' 2198 b = if b = 40 * t + A then (nd : Int) else I0' 2198 b := fun b => by rw [u5, F2 2198 _ rfl, t1 2198 _ rfl]
  have vth : J1' 2075 7731 = I0' 2075 7731 := G2 2075 _ rfl
  have hMet : pMet J1 J1' := by
    refine ⟨by rw [G1 1990 _ rfl, G2 2075 _ rfl]; exact q9.1, fwR_ag q9.2 (fun c z1 z2 => fr_out G1 35 66 (by rfl) z1 z2) (fr_row G2 2183 (fun _ => rfl)) (fun n b hn hb => ?_)⟩
    have nn0 : ¬ n = nd := fun z => by rw [z, d8] at hn; omega
    unfold lvA
    rw [v86, v98, vth]
    by_cases z : b = 40 * t + A
    · have z1 : b / 40 = t := by omega
      have z2 : b % 40 = A := by omega
      rw [if_neg (fun q => by have := q.2; rw [if_pos z] at this; omega), if_neg (fun q => by have := q.1.2; rw [z1, z2, hth.2] at this; omega)]
    · rw [if_neg z]
      by_cases z1 : b / 40 = t
      · have z2 : ¬ b % 40 = A := fun q => z (by omega)
        rw [if_pos z1, z1, hth.2]
        have e : ((b % 40 : Nat) : Int) < (A : Int) + 1 ↔ ((b % 40 : Nat) : Int) < (A : Int) := by omega
        simp only [e]
      · rw [if_neg z1]
  have hPT1 : PT Lp J1 J1' := ⟨tR1, su_keep su_pPath G1 G2 rfl q2, su_keep su_loR G1 G2 rfl q3, su_keep su_pArr G1 G2 rfl q4, su_keep su_pStep G1 G2 rfl q5, su_keep su_pKeep G1 G2 rfl q6, su_keep su_pCost G1 G2 rfl q7, hCalls, hMet, su_keep su_pPrint G1 G2 rfl q10, hBeg, su_keep su_pLooks G1 G2 rfl q12, su_keep su_pPar G1 G2 rfl q13, su_keep su_pThr G1 G2 rfl q14, su_keep su_pDone G1 G2 rfl q15, su_keep su_pLast G1 G2 rfl q16, su_keep su_pFor G1 G2 rfl q17, su_keep su_pTurns G1 G2 rfl q18, su_keep su_pSeed G1 G2 rfl q19, hVars⟩
  have tot0 : tot J1 J1' = tot I0 I0' := by
    unfold tot wyN
    rw [j0 35 (by decide) (by decide), fr_row G2 2183 (fun _ => rfl)]
  have tot2 : tot J1 J1' + 1 ≤ (W : Int) + J1 1990 3403 := by
    rw [tot0, bg1]
    have := hB.2.2.2
    omega
  have tot1 : tot J1 J1' ≤ (W : Int) + J1 1990 3403 := by omega
  have hB1 : bud J1 J1' W (ht 5000) := by
    obtain ⟨⟨n, b1, b2⟩, b3, b4⟩ := hB
    have e1 := fr_row G2 2255 (fun _ => rfl)
    have e2 := fr_row G2 2256 (fun _ => rfl)
    refine ⟨⟨n, hR_same b1 (G1 1960 _ rfl) (fr_row G1 1979 (fun _ => rfl)) (fr_row G1 1980 (fun _ => rfl)) (fr_row G1 1981 (fun _ => rfl)) (G2 2075 _ rfl) e1 e2 (fr_row G2 2257 (fun _ => rfl)) (fr_row G2 2258 (fun _ => rfl)), by rw [e1, e2]; exact b2⟩, by rw [G1 1990 _ rfl]; exact b3, ⟨fun j hj => ?_, tot1⟩⟩
    rw [G1 2014 j rfl, bg1]
    have := b4.1 j hj
    omega
  have hwF1 := wF_ag hwF hX2 aT
  have x62 : J1 62 = I0 62 := j0 62 (by decide) (by decide)
  have x63 : J1 63 = I0 63 := j0 63 (by decide) (by decide)
  have x38 : J1 38 = I0 38 := j0 38 (by decide) (by decide)
  have x43 : J1 43 = I0 43 := j0 43 (by decide) (by decide)
  have m178 : J1' 2178 = I0' 2178 := aT.2.2.1 2178 (by decide) (by decide)
  have m179 : J1' 2179 = I0' 2179 := aT.2.2.1 2179 (by decide) (by decide)
  have x11 : J1' (X + 11) = I0' (X + 11) := aT.2.2.1 (X + 11) (by omega) (by omega)
  have jm : J1 2006 (40 * t + A) = (m : Int) := by rw [c6, if_pos rfl]
  have jm' : J1' 2197 (40 * t + A) = (m : Int) := by rw [u1 2197 _ rfl, F2 2197 _ rfl, t3, if_pos rfl]
  have jp : J1 2011 (40 * t + A) = 0 := by rw [c10, if_pos rfl]
  have jq : J1' 2202 (40 * t + A) = (nd : Int) := by rw [u6, if_pos rfl]
  have jr : J1' 2203 (40 * t + A) = 0 := by rw [u7, if_pos rfl]
  apply vW_out
  apply vW_swap.mpr
  refine g_goB (d := d + 3) (d' := d' + 3) (x := nd) (y := y0) (m := m) (o := o) (mm := mm) (Nn := Nn) (Lp := Lp) (W := W) (p := pp) hL hL' hX hX2 hV sT.2.2.1 mm24 hwF1 aX hPT1 hB1 hW ⟨jm, jm'⟩ ⟨by rw [v98, if_pos rfl], by rw [vth, show (40 * t + A) / 40 = t by omega]; exact hth.1, by rw [show (40 * t + A) / 40 = t by omega, show (40 * t + A) % 40 = A by omega, v86, if_pos rfl]; omega⟩ (fun hp => ?_) (fun J J' k1 k2 k3 k4 k5 k6 k7 k8 k9 k10 k11 => ?_)
  · rw [jp, jq, jr, tn0, m178, d7, x62]
    have := y5 (by rw [y4]; exact hp)
    rw [y4] at this
    exact ⟨by decide, ⟨by omega, by omega⟩, by decide, by omega⟩
  · have H1 : fr [65, 2011, 1979, 1980, 1981, 1970, 1971, 1972, 1973, 1975, 1976, 1977, 1978, 2014] [(1990, 3392), (1960, 3090)] J1 J := k4
    have H2 : fr [2183, 2202, 2203, 2255, 2256, 2257, 2258, 2241, 2242, 2243, 2244, 2245, 2246, 2247, 2248, 2209, 2198, 2199, 2200] [(2075, 7736), (2075, 7818)] J1' J' := k5
    have x38' : J 38 y0 = I0 38 y0 := by rw [H1 38 _ rfl, x38]
    have x43' : J 43 y0 = I0 43 y0 := by rw [H1 43 _ rfl, x43]
    have x51' : J 51 w = y0 := by rw [H1 51 _ rfl, j0 51 (by decide) (by decide)]; exact wf
    have b38 : 0 ≤ I0 38 y0 ∧ I0 38 y0 ≤ 16 := (hwF.1.2.2.2.2.2.1).2 |> fun z => by
      have := hwF.1.2.2.2.2.2.1
      exact ⟨z.1, z.2⟩
    have hq : ∀ K : vE → Prop, vW (d + 8) 162 (176, [vr 1990, vi t, vi m, vi tr, vr o, vi ((40 * t + A : Nat) : Int), vi w], [], (J, Y)) K ↔ K (.inl (some (vi (if I0 38 y0 = 1 then 1 else 0))), (up (up J 2007 (40 * t + A) (y0 : Int)) 2008 (40 * t + A) (I0 43 y0), Y)) := by
      intro K
      rw [b162_176 hL (by omega) (by omega)]
      simp only [tn0, x51']
      rw [b169_0 hL (by omega) (by omega) (by omega) (by omega)]
      simp only [tn0, vWC_n, Nat.reduceAdd]
      rw [x43']
      have x51'' : up (up J 2007 (40 * t + A) (y0 : Int)) 2008 (40 * t + A) (I0 43 y0) 51 w = y0 := by rw [up_cell _ (by decide), up_cell _ (by decide)]; exact x51'
      have x38'' : up (up J 2007 (40 * t + A) (y0 : Int)) 2008 (40 * t + A) (I0 43 y0) 38 y0 = I0 38 y0 := by rw [up_cell _ (by decide), up_cell _ (by decide)]; exact x38'
      by_cases z : I0 38 y0 = 1
      · rw [if_pos z]
        simp (disch := (first | assumption | omega | (simp only [up_app, Nat.reduceEqDiff, false_and, and_false, true_and, and_true, if_true, if_false, Nat.add_left_cancel_iff, Nat.add_right_cancel_iff, Nat.add_eq_left, Nat.left_eq_add, x51'', x38'', tn0, tn1, tn2, tn3, tn4, tn5, tn6, tn7, tn8, tn9]; omega))) only [b162_192, b162_214, b162_219, x51'', x38'', z, vWC_n, vWC_s, vWC_x, if01a, if01b, if_pos, if_neg, tn0, tn1, tn2, tn3, tn4, tn5, tn6, tn7, tn8, tn9, w32_id, w64_id, Nat.reduceAdd, reduceIte, Int.reduceLT, Int.reduceLE, Int.reduceEq, Int.reduceNe, Int.reduceAdd, Int.reduceSub, Int.reduceMul, Int.reduceNeg, Int.reduceToNat, ne_eq, not_true_eq_false, not_false_eq_true, true_and, and_true, false_and, and_false, true_or, or_true, false_or, or_false, if_true, if_false, and_self, or_self, ite_self]
      · rw [if_neg z]
        simp (disch := (first | assumption | omega | (simp only [up_app, Nat.reduceEqDiff, false_and, and_false, true_and, and_true, if_true, if_false, Nat.add_left_cancel_iff, Nat.add_right_cancel_iff, Nat.add_eq_left, Nat.left_eq_add, x51'', x38'', tn0, tn1, tn2, tn3, tn4, tn5, tn6, tn7, tn8, tn9]; omega))) only [b162_192, b162_218, b162_219, x51'', x38'', z, vWC_n, vWC_s, vWC_x, if01a, if01b, if_pos, if_neg, tn0, tn1, tn2, tn3, tn4, tn5, tn6, tn7, tn8, tn9, w32_id, w64_id, Nat.reduceAdd, reduceIte, Int.reduceLT, Int.reduceLE, Int.reduceEq, Int.reduceNe, Int.reduceAdd, Int.reduceSub, Int.reduceMul, Int.reduceNeg, Int.reduceToNat, ne_eq, not_true_eq_false, not_false_eq_true, true_and, and_true, false_and, and_false, true_or, or_true, false_or, or_false, if_true, if_false, and_self, or_self, ite_self]
    simp only [vWC_n, Nat.reduceAdd, b401_203]
    rw [hq]
    have E1 : fr [2007, 2008] [] J (up (up J 2007 (40 * t + A) (y0 : Int)) 2008 (40 * t + A) (I0 43 y0)) := fr_upL (fr_upL (fr_refl _ _ _) rfl _ _) rfl _ _
    have n1v : ∀ b, up (up J 2007 (40 * t + A) (y0 : Int)) 2008 (40 * t + A) (I0 43 y0) 2007 b = if b = 40 * t + A then (y0 : Int) else I0 2007 b := fun b => by
      rw [up_cell _ (by decide), up_at, H1 2007 _ rfl, c7]
      by_cases z : b = 40 * t + A
      · rw [if_pos z, if_pos z]
      · rw [if_neg z, if_neg z, if_neg z, i0 2007 (by decide) (by decide)]
    have n2v : ∀ b, up (up J 2007 (40 * t + A) (y0 : Int)) 2008 (40 * t + A) (I0 43 y0) 2008 b = if b = 40 * t + A then I0 43 y0 else I0 2008 b := fun b => by
      rw [up_at, up_cell _ (by decide), H1 2008 _ rfl, G1 2008 _ rfl]
    generalize up (up J 2007 (40 * t + A) (y0 : Int)) 2008 (40 * t + A) (I0 43 y0) = JF at E1 n1v n2v
    have E2 : fr [] [] J' J' := fr_refl _ _ _
    have bq := k3 (by rw [jp, x63, z63]; decide) (by rw [bg1]; have := q11.2.1; omega) (fun j hj => by
      obtain ⟨_, _, b4, _⟩ := hB
      have := b4 j hj
      rw [G1 2014 j rfl, bg1]; omega) tot2
    obtain ⟨q1', q2', q3', q4', q5', q6', q7', q8', q9', q10', q11', q12', q13', q14', q15', q16', q17', q18', q19', q20'⟩ := k1
    have e202 : ∀ b, b ≠ 40 * t + A → J' 2202 b = I0' 2202 b ∧ J' 2203 b = I0' 2203 b := fun b hb => by
      have z := k6 b hb
      rw [z.2.1, z.2.2, u6, u7, if_neg hb, if_neg hb, F2 2202 _ rfl, F2 2203 _ rfl, t1 2202 _ rfl, t1 2203 _ rfl]
      exact ⟨rfl, rfl⟩
    have e2010 : JF 2010 (40 * t + A) = (tr : Int) := by rw [E1 2010 _ rfl, H1 2010 _ rfl, c9, if_pos rfl]
    have e2201 : ∀ b, J' 2201 b = if b = 40 * t + A then (tr : Int) else I0' 2201 b := fun b => by
      rw [H2 2201 _ rfl, u2, F2 2201 _ rfl, t1 2201 _ rfl]
    have e2197 : ∀ b, J' 2197 b = if b = 40 * t + A then (m : Int) else I0' 2197 b := fun b => by
      rw [H2 2197 _ rfl, u1 2197 _ rfl, F2 2197 _ rfl, t3]
    have e2006 : ∀ b, JF 2006 b = if b = 40 * t + A then (m : Int) else I0 2006 b := fun b => by
      rw [E1 2006 _ rfl, H1 2006 _ rfl, c6, i0 2006 (by decide) (by decide)]
    have e2198 : ∀ b, J' 2198 b = if b = 40 * t + A then (y0 : Int) else I0' 2198 b := fun b => by
      rw [(k9 b).1, u5, F2 2198 _ rfl, t1 2198 _ rfl]
      by_cases z : b = 40 * t + A
      · rw [if_pos z, if_pos z]
      · rw [if_neg z, if_neg z, if_neg z]
    have tre : JF 1960 3079 = n' := by rw [E1 1960 _ rfl, H1 1960 _ rfl, c1 1960 _ rfl]; exact hn
    refine hQ JF J' p nn y0 p4 n4 n3 p3 wj y2 ⟨su_keep su_tR E1 E2 rfl q1', su_keep su_pPath E1 E2 rfl q2', su_keep su_loR E1 E2 rfl q3', su_keep su_pArr E1 E2 rfl q4', su_keep su_pStep E1 E2 rfl q5', su_keep su_pKeep E1 E2 rfl q6', su_keep su_pCost E1 E2 rfl q7', su_keep su_pCalls E1 E2 rfl q8', su_keep su_pMet E1 E2 rfl q9', su_keep su_pPrint E1 E2 rfl q10', su_keep su_pBegun E1 E2 rfl q11', su_keep su_pLooks E1 E2 rfl q12', su_keep su_pPar E1 E2 rfl q13', su_keep su_pThr E1 E2 rfl q14', su_keep su_pDone E1 E2 rfl q15', su_keep su_pLast E1 E2 rfl q16', su_keep su_pFor E1 E2 rfl q17', su_keep su_pTurns E1 E2 rfl q18', su_keep su_pSeed E1 E2 rfl q19', su_keep su_pVars E1 E2 rfl q20'⟩ ?_ ⟨?_, ?_, ⟨fun q => ?_, fun q => ?_, fun u => ?_, fun b => ?_, e2006, fun b => ?_, fun q => ?_⟩, ⟨fun u => ?_, fun u => ?_⟩, ⟨n1v, e2198, n2v, fun b => ?_, fun b => ?_, e2201, e2197, fun b hb => ⟨?_, e202 b hb⟩⟩, ⟨fun b => ?_, fun b => ?_⟩, by rw [tre]; exact hmo⟩ (fun z => ?_) y3
    · obtain ⟨⟨n, b1, b2⟩, b3, b4⟩ := bq
      refine ⟨⟨n, hR_same b1 (E1 1960 _ rfl) (fr_row E1 1979 (fun _ => rfl)) (fr_row E1 1980 (fun _ => rfl)) (fr_row E1 1981 (fun _ => rfl)) rfl rfl rfl rfl rfl, b2⟩, by rw [E1 1990 _ rfl]; exact b3, ⟨fun j hj => ?_, tot_le b4.2 (fr_row E1 35 (fun _ => rfl)) rfl (E1 1990 _ rfl)⟩⟩
      rw [E1 2014 j rfl, E1 1990 _ rfl]; exact b4.1 j hj
    · exact fr_trans (fr_weak G1 (by decide) (by decide)) (fr_trans (fr_weak H1 (by decide) (by decide)) (fr_weak E1 (by decide) (by decide)))
    · exact fr_trans (fr_weak G2 (by decide) (by decide)) (fr_weak H2 (by decide) (by decide))
    · rw [E1 1992 _ rfl, H1 1992 _ rfl, c2, i0 1992 (by decide) (by decide)]
    · rw [E1 1993 _ rfl, H1 1993 _ rfl, c3, i0 1993 (by decide) (by decide)]
    · rw [E1 1994 _ rfl, H1 1994 _ rfl, c4, i0 1994 (by decide) (by decide)]
    · rw [E1 2009 _ rfl, H1 2009 _ rfl, c8, i0 2009 (by decide) (by decide)]
    · rw [(k9 b).2.2, u1 2200 _ rfl, F2 2200 _ rfl, t4]
      by_cases z : b = 40 * t + A
      · rw [if_pos z, if_pos z]
      · rw [if_neg z, if_neg z]
    · rw [H2 2205 _ rfl, u1 2205 _ rfl, F2 2205 _ rfl, t6]
    · rw [E1 1995 _ rfl, H1 1995 _ rfl, c5, i0 1995 (by decide) (by decide)]
    · rw [H2 2186 _ rfl, u1 2186 _ rfl, F2 2186 _ rfl, t2]
    · rw [(k9 b).2.1, x11, u1 2199 _ rfl, F2 2199 _ rfl, t1 2199 _ rfl]
    · rw [E1 2010 _ rfl, H1 2010 _ rfl, c9, i0 2010 (by decide) (by decide)]
    · rw [E1 2011 _ rfl, (k6 b hb).1, c10, if_neg hb, i0 2011 (by decide) (by decide)]
    · rw [E1 2012 _ rfl, H1 2012 _ rfl, c11, i0 2012 (by decide) (by decide)]
    · rw [H2 2204 _ rfl, u1 2204 _ rfl, F2 2204 _ rfl, t5]
    · refine ⟨⟨?_, ?_, ?_, ?_⟩, z42⟩
      · rw [e2006, e2197, if_pos rfl, if_pos rfl]; exact ⟨rfl, by omega, by omega⟩
      · rw [n1v, e2198, if_pos rfl, if_pos rfl, tn0, e2006, if_pos rfl]
        refine ⟨rfl, by omega, by omega, ?_⟩
        rw [fr_out H2 2081 2170 (by rfl) (by omega) (by omega), aT.2.2.1 (X + 37) (by omega) (by omega)]
        exact y6
      · rw [e2010, e2201, if_pos rfl, tre, n1v, if_pos rfl, tn0, fr_row E1 38 (fun _ => rfl), fr_row H1 38 (fun _ => rfl), x38]
        exact ⟨rfl, ⟨by omega, by omega⟩, by omega⟩
      · rw [e2006, if_pos rfl, tn0, n1v, if_pos rfl, tn0, E1 2011 _ rfl, fr_row E1 62 (fun _ => rfl), fr_row H1 62 (fun _ => rfl), x62, fr_row H2 2179 (fun _ => rfl), m179, y4]
        intro hp
        have kk := k7 hp (Or.inr (by rw [x38]; exact fun q => by rcases q with q | q; exact z q; exact z38.1 q))
        rw [x62] at kk
        exact kk
end
