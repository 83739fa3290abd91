/-! ===== a step begins, each house ===== -/
set_option maxRecDepth 20000
set_option maxHeartbeats 4000000
def opC (I J : vJ) (t tp m N : Nat) (k x : Int) : Prop := fr [1964, 1969, 2001, 2002, 2041, 2044, 2045, 2046] [(1990, 3388), (1990, 3391)] I J ∧ J 1990 3388 = (N : Int) + 1 ∧ J 1990 3391 = I 1990 3391 + x ∧ (∀ q, J 1964 q = if q = tp then I 1964 q + x else I 1964 q) ∧ (∀ q, J 1969 q = if q = m then I 1969 q + x else I 1969 q) ∧ (∀ u, J 2001 u = if u = t then I 2001 u + 1 else I 2001 u) ∧ (∀ u, J 2002 u = if u = t then (N : Int) + 1 else I 2002 u) ∧ (∀ s, J 2041 s = if s = N + 1 then 0 else I 2041 s) ∧ (∀ s, J 2044 s = if s = N + 1 then I 2002 t else I 2044 s) ∧ (∀ s, J 2045 s = if s = N + 1 then k else I 2045 s) ∧ (∀ s, J 2046 s = if s = N + 1 then 0 else I 2046 s)
def opT (I J : vJ) (t tp m N : Nat) (k x : Int) : Prop := fr [2191, 2193, 2231, 2232, 2233, 2240, 2254] [(2075, 7729), (2075, 7735), (2075, 7829)] I J ∧ J 2075 7729 = (N : Int) + 1 ∧ J 2075 7829 = t ∧ J 2075 7735 = I 2075 7735 + x ∧ (∀ q, J 2240 q = if q = tp then I 2240 q + x else I 2240 q) ∧ (∀ q, J 2254 q = if q = m then I 2254 q + x else I 2254 q) ∧ (∀ u, J 2191 u = if u = t then I 2191 u + 1 else I 2191 u) ∧ (∀ u, J 2193 u = if u = t then (N : Int) + 1 else I 2193 u) ∧ (∀ s, J 2231 s = if s = N + 1 then k else I 2231 s) ∧ (∀ s, J 2232 s = if s = N + 1 then 0 else I 2232 s) ∧ (∀ s, J 2233 s = if s = N + 1 then (if 0 < I 2193 t then I 2193 t else I 2194 t) else I 2233 s)
section
variable {d d' : Nat} {Y Y' : vY} {I I' : vJ} {K : vE → Prop}
theorem c_open {t A nd tp m N : Nat} {k x : Int} (hL : vL Y) (h8 : t < 8) (htu : I 1990 3389 = t) (hA : I 1995 t = (A : Int) + 1) (hA2 : A < 40) (hnd : I 2007 (40 * t + A) = nd) (hnd2 : nd < 700) (hk : I 38 nd = k) (hk2 : 0 ≤ k ∧ k < 18) (hx : I 2047 k.toNat = x) (htp : I 2010 (40 * t + A) = tp) (htp2 : tp < 200) (hm : I 2006 (40 * t + A) = m) (hm2 : m < 24) (hN : I 1990 3388 = N) (hN2 : N < 20000)
    (hQ : ∀ J : vJ, opC I J t tp m N k x → vW (d + 1) 174 (115, [vr 1990, vi t, vi ((40 * t + A : Nat) : Int), vi k, vi 0], [], (J, Y)) K) :
    vW (d + 1) 174 (0, [vr 1990, vu, vu, vu, vu], [], (I, Y)) K := by
  rw [b174_0 hL, htu, c_act (A := A) hL h8 hA]
  simp only [vWC_s, Nat.reduceAdd]
  rw [b174_10 hL (by omega) (by omega) (by rw [tn0, hnd]; omega) (by rw [tn0, hnd]; omega) (by omega) (by omega) (by rw [tn0, hnd, tn0, hk]; omega) (by rw [tn0, hnd, tn0, hk]; omega)]
  simp only [tn0, hnd, hk, hx, hN]
  have g1 : fr [2001] [(1990, 3388)] I (up (up I 1990 3388 ((N : Int) + 1)) 2001 t (I 2001 t + 1)) := fr_upL (fr_upP (fr_refl _ _ _) rfl _) rfl _ _
  have g2 : ∀ u, up (up I 1990 3388 ((N : Int) + 1)) 2001 t (I 2001 t + 1) 2001 u = if u = t then I 2001 u + 1 else I 2001 u := fun u => by
    rw [up_at, up_cell _ (by decide)]
    by_cases z : u = t
    · rw [if_pos z, if_pos z, z]
    · rw [if_neg z, if_neg z]
  have g3 : up (up I 1990 3388 ((N : Int) + 1)) 2001 t (I 2001 t + 1) 1990 3388 = (N : Int) + 1 := by rw [up_cell _ (by decide), up_same]
  generalize up (up I 1990 3388 ((N : Int) + 1)) 2001 t (I 2001 t + 1) = I1 at g1 g2 g3 ⊢
  have g10 : I1 2010 (40 * t + A) = tp := by rw [g1 2010 _ rfl]; exact htp
  have g06 : I1 2006 (40 * t + A) = m := by rw [g1 2006 _ rfl]; exact hm
  rw [b175_0 hL (by omega) (by omega) (by rw [tn0, g10]; omega) (by rw [tn0, g10]; omega) (by rw [tn0, g06]; omega) (by rw [tn0, g06]; omega)]
  simp only [tn0, g10, g06, vWC_n, Nat.reduceAdd]
  have p1 : fr [1964, 1969] [(1990, 3391)] I1 (up (up (up I1 1990 3391 (I1 1990 3391 + x)) 1964 tp (I1 1964 tp + x)) 1969 m (I1 1969 m + x)) := fr_upL (fr_upL (fr_upP (fr_refl _ _ _) rfl _) rfl _ _) rfl _ _
  have p2 : up (up (up I1 1990 3391 (I1 1990 3391 + x)) 1964 tp (I1 1964 tp + x)) 1969 m (I1 1969 m + x) 1990 3391 = I1 1990 3391 + x := by rw [up_cell _ (by decide), up_cell _ (by decide), up_same]
  have p3 : ∀ q, up (up (up I1 1990 3391 (I1 1990 3391 + x)) 1964 tp (I1 1964 tp + x)) 1969 m (I1 1969 m + x) 1964 q = if q = tp then I1 1964 q + x else I1 1964 q := fun q => by
    rw [up_cell _ (by decide), up_at, up_cell _ (by decide)]
    by_cases z : q = tp
    · rw [if_pos z, if_pos z, z]
    · rw [if_neg z, if_neg z]
  have p4 : ∀ q, up (up (up I1 1990 3391 (I1 1990 3391 + x)) 1964 tp (I1 1964 tp + x)) 1969 m (I1 1969 m + x) 1969 q = if q = m then I1 1969 q + x else I1 1969 q := fun q => by
    rw [up_at, up_cell _ (by decide), up_cell _ (by decide)]
    by_cases z : q = m
    · rw [if_pos z, if_pos z, z]
    · rw [if_neg z, if_neg z]
  generalize up (up (up I1 1990 3391 (I1 1990 3391 + x)) 1964 tp (I1 1964 tp + x)) 1969 m (I1 1969 m + x) = P at p1 p2 p3 p4 ⊢
  have pN : P 1990 3388 = (N : Int) + 1 := by rw [p1 1990 _ rfl]; exact g3
  rw [b174_57 hL (by omega) (by omega) (by rw [pN]; omega) (by rw [pN]; omega), pN, show ((N : Int) + 1).toNat = N + 1 by omega]
  simp only [tn0]
  have s1 : fr [2002, 2041, 2044, 2045, 2046] [] P (up (up (up (up (up P 2044 (N + 1) (P 2002 t)) 2041 (N + 1) 0) 2045 (N + 1) k) 2046 (N + 1) 0) 2002 t ((N : Int) + 1)) := fr_upL (fr_upL (fr_upL (fr_upL (fr_upL (fr_refl _ _ _) rfl _ _) rfl _ _) rfl _ _) rfl _ _) rfl _ _
  refine hQ _ ⟨fr_trans (fr_weak g1 (by decide) (by decide)) (fr_trans (fr_weak p1 (by decide) (by decide)) (fr_weak s1 (by decide) (by decide))), ?_, ?_, fun q => ?_, fun q => ?_, fun u => ?_, fun u => ?_, fun s => ?_, fun s => ?_, fun s => ?_, fun s => ?_⟩
  · rw [s1 1990 _ rfl]; exact pN
  · rw [s1 1990 _ rfl, p2, g1 1990 _ rfl]
  · rw [s1 1964 _ rfl, p3, g1 1964 _ rfl]
  · rw [s1 1969 _ rfl, p4, g1 1969 _ rfl]
  · rw [s1 2001 _ rfl, p1 2001 _ rfl, g2]
  · rw [up_at, up_cell _ (by decide), up_cell _ (by decide), up_cell _ (by decide), up_cell _ (by decide), p1 2002 _ rfl, g1 2002 _ rfl]
  · rw [up_cell _ (by decide), up_cell _ (by decide), up_cell _ (by decide), up_at, up_cell _ (by decide), p1 2041 _ rfl, g1 2041 _ rfl]
  · rw [up_cell _ (by decide), up_cell _ (by decide), up_cell _ (by decide), up_cell _ (by decide), up_at, p1 2044 _ rfl, g1 2044 _ rfl, p1 2002 _ rfl, g1 2002 _ rfl]
  · rw [up_cell _ (by decide), up_cell _ (by decide), up_at, up_cell _ (by decide), up_cell _ (by decide), p1 2045 _ rfl, g1 2045 _ rfl]
  · rw [up_cell _ (by decide), up_at, up_cell _ (by decide), up_cell _ (by decide), up_cell _ (by decide), p1 2046 _ rfl, g1 2046 _ rfl]
theorem t_open {X t A nd tp m N : Nat} {k x : Int} (hL : vL Y) (hX : Y.1 2075 7689 = X) (hX2 : X = 2081 ∨ X = 2119) (hV : vreg Y 2081 38 (Y.1 2075 7689)) (h8 : t < 8) (htu : I 2075 7730 = t) (hA : I 2186 t = (A : Int) + 1) (hA2 : A < 40) (hnd : I 2198 (40 * t + A) = nd) (hnd2 : nd < 700) (hk : I (X + 9) nd = k) (hk2 : 0 ≤ k ∧ k < 18) (hx : I 2181 k.toNat = x) (htp : I 2201 (40 * t + A) = tp) (htp2 : tp < 200) (hm : I 2197 (40 * t + A) = m) (hm2 : m < 24) (hN : I 2075 7729 = N) (hN2 : N < 20000) (h93 : inI (I 2193 t))
    (hQ : ∀ J : vJ, opT I J t tp m N k x → vW (d + 1) 412 (138, [vr 2075, vi t, vi ((40 * t + A : Nat) : Int), vi nd, vi k, vu], [], (J, Y)) K) :
    vW (d + 1) 412 (0, [vr 2075, vu, vu, vu, vu, vu], [], (I, Y)) K := by
  have ia : 40 * (t : Int) + ((A : Int) + 1) - 1 = ((40 * t + A : Nat) : Int) := by omega
  have hx9 : up I 2075 7729 ((N : Int) + 1) (X + 9) = I (X + 9) := up_row _ (by omega) _ _
  rw [b412_0 hL (by rw [htu]; omega) (by rw [htu]; omega) (by rw [htu, tn0, hA, ia]; omega) (by rw [htu, tn0, hA, ia]; omega) hV (by rw [htu, tn0, hA, ia, tn0, hnd]; omega) (by rw [htu, tn0, hA, ia, tn0, hnd]; omega) (by rw [hN]; omega) (by rw [hN]; omega)]
  rw [htu, tn0, hA, ia, tn0, hnd, tn0, hX, hN, hx9, hk, show ((N : Int) + 1).toNat = N + 1 by omega]
  have g1 : fr [2231, 2232] [(2075, 7729)] I (up (up (up I 2075 7729 ((N : Int) + 1)) 2231 (N + 1) k) 2232 (N + 1) 0) := fr_upL (fr_upL (fr_upP (fr_refl _ _ _) rfl _) rfl _ _) rfl _ _
  have g2 : up (up (up I 2075 7729 ((N : Int) + 1)) 2231 (N + 1) k) 2232 (N + 1) 0 2075 7729 = (N : Int) + 1 := by rw [up_cell _ (by decide), up_cell _ (by decide), up_same]
  have g3 : ∀ s, up (up (up I 2075 7729 ((N : Int) + 1)) 2231 (N + 1) k) 2232 (N + 1) 0 2231 s = if s = N + 1 then k else I 2231 s := fun s => by rw [up_cell _ (by decide), up_at, up_cell _ (by decide)]
  have g4 : ∀ s, up (up (up I 2075 7729 ((N : Int) + 1)) 2231 (N + 1) k) 2232 (N + 1) 0 2232 s = if s = N + 1 then 0 else I 2232 s := fun s => by rw [up_at, up_cell _ (by decide), up_cell _ (by decide)]
  generalize up (up (up I 2075 7729 ((N : Int) + 1)) 2231 (N + 1) k) 2232 (N + 1) 0 = G at g1 g2 g3 g4 ⊢
  have h93' : w32 (I 2193 t) = I 2193 t := w32_id (by unfold inI at h93; omega) (by unfold inI at h93; omega)
  have h68 : vW (d + 1) 412 (68, [vr 2075, vi t, vi ((40 * t + A : Nat) : Int), vi nd, vi k, vu], [], (G, Y)) K ↔ vW (d + 1) 412 (100, [vr 2075, vi t, vi ((40 * t + A : Nat) : Int), vi nd, vi k, vu], [vi (if 0 < I 2193 t then I 2193 t else I 2194 t), vi ((N : Int) + 1), vr 2233], (G, Y)) K := by
    rw [b412_68 hL (by omega) (by omega), tn0, g1 2193 _ rfl, h93', g2]
    by_cases z : 0 < I 2193 t
    · rw [if_neg (by omega), if_pos z, b412_85 hL (by omega) (by omega), tn0, g1 2193 _ rfl]
    · rw [if_pos (by omega), if_neg z, b412_94 hL (by omega) (by omega), tn0, g1 2194 _ rfl]
  clear h93'
  rw [h68, b412_100 hL (by omega) (by omega) (by omega) (by omega) (by omega) (by omega), g2, show ((N : Int) + 1).toNat = N + 1 by omega]
  simp only [tn0]
  rw [g1 2181 _ rfl, hx]
  have p1 : fr [2233, 2193, 2191] [] G (up (up (up G 2233 (N + 1) (if 0 < I 2193 t then I 2193 t else I 2194 t)) 2193 t ((N : Int) + 1)) 2191 t (G 2191 t + 1)) := fr_upL (fr_upL (fr_upL (fr_refl _ _ _) rfl _ _) rfl _ _) rfl _ _
  have p2 : ∀ s, up (up (up G 2233 (N + 1) (if 0 < I 2193 t then I 2193 t else I 2194 t)) 2193 t ((N : Int) + 1)) 2191 t (G 2191 t + 1) 2233 s = if s = N + 1 then (if 0 < I 2193 t then I 2193 t else I 2194 t) else I 2233 s := fun s => by rw [up_cell _ (by decide), up_cell _ (by decide), up_at, g1 2233 _ rfl]
  have p3 : ∀ u, up (up (up G 2233 (N + 1) (if 0 < I 2193 t then I 2193 t else I 2194 t)) 2193 t ((N : Int) + 1)) 2191 t (G 2191 t + 1) 2193 u = if u = t then (N : Int) + 1 else I 2193 u := fun s => by rw [up_cell _ (by decide), up_at, up_cell _ (by decide), g1 2193 _ rfl]
  have p4 : ∀ u, up (up (up G 2233 (N + 1) (if 0 < I 2193 t then I 2193 t else I 2194 t)) 2193 t ((N : Int) + 1)) 2191 t (G 2191 t + 1) 2191 u = if u = t then I 2191 u + 1 else I 2191 u := fun u => by
    rw [up_at, up_cell _ (by decide), up_cell _ (by decide)]
    by_cases z : u = t
    · rw [if_pos z, if_pos z, z, g1 2191 _ rfl]
    · rw [if_neg z, if_neg z, g1 2191 _ rfl]
  generalize up (up (up G 2233 (N + 1) (if 0 < I 2193 t then I 2193 t else I 2194 t)) 2193 t ((N : Int) + 1)) 2191 t (G 2191 t + 1) = P at p1 p2 p3 p4 ⊢
  have q01 : P 2201 (40 * t + A) = tp := by rw [p1 2201 _ rfl, g1 2201 _ rfl]; exact htp
  have q97 : P 2197 (40 * t + A) = m := by rw [p1 2197 _ rfl, g1 2197 _ rfl]; exact hm
  rw [b413_0 hL (by omega) (by omega) (by rw [tn0, q01]; omega) (by rw [tn0, q01]; omega) (by rw [tn0, q97]; omega) (by rw [tn0, q97]; omega)]
  simp only [tn0, q01, q97, vWC_n, Nat.reduceAdd]
  rw [b412_133 hL]
  have s1 : fr [2240, 2254] [(2075, 7735), (2075, 7829)] P (up (up (up (up P 2075 7735 (P 2075 7735 + x)) 2240 tp (P 2240 tp + x)) 2254 m (P 2254 m + x)) 2075 7829 (t : Int)) := fr_upP (fr_upL (fr_upL (fr_upP (fr_refl _ _ _) rfl _) rfl _ _) rfl _ _) rfl _
  refine hQ _ ⟨fr_trans (fr_weak g1 (by decide) (by decide)) (fr_trans (fr_weak p1 (by decide) (by decide)) (fr_weak s1 (by decide) (by decide))), ?_, ?_, ?_, fun q => ?_, fun q => ?_, fun u => ?_, fun u => ?_, fun s => ?_, fun s => ?_, fun s => ?_⟩
  · rw [s1 2075 _ rfl, p1 2075 _ rfl]; exact g2
  · rw [up_same]
  · rw [up_place _ _ (by decide), up_cell _ (by decide), up_cell _ (by decide), up_same, p1 2075 _ rfl, g1 2075 _ rfl]
  · rw [up_cell _ (by decide), up_cell _ (by decide), up_at, up_cell _ (by decide)]
    by_cases z : q = tp
    · rw [if_pos z, if_pos z, z, p1 2240 _ rfl, g1 2240 _ rfl]
    · rw [if_neg z, if_neg z, p1 2240 _ rfl, g1 2240 _ rfl]
  · rw [up_cell _ (by decide), up_at, up_cell _ (by decide), up_cell _ (by decide)]
    by_cases z : q = m
    · rw [if_pos z, if_pos z, z, p1 2254 _ rfl, g1 2254 _ rfl]
    · rw [if_neg z, if_neg z, p1 2254 _ rfl, g1 2254 _ rfl]
  · rw [s1 2191 _ rfl, p4]
  · rw [s1 2193 _ rfl, p3]
  · rw [s1 2231 _ rfl, p1 2231 _ rfl, g3]
  · rw [s1 2232 _ rfl, p1 2232 _ rfl, g4]
  · rw [s1 2233 _ rfl, p2]
end
