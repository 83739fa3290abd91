/-! ===== a thread is started: up to its first activation, each house ===== -/
set_option maxRecDepth 20000
set_option maxHeartbeats 4000000
def nwC (I H : vJ) (t th p T0 N : Nat) : Prop := fr [1992, 1993, 1994, 1995, 1996, 2000, 2001, 2002, 2003, 2005] [(1990, 3390)] I H ∧ H 1990 3390 = (th : Int) + 1 ∧ (∀ q, H 1992 q = if q = T0 then 0 else if 8 + 5760 * th ≤ q ∧ q < 8 + 5760 * th + p then I 1992 (T0 + (q - (8 + 5760 * th))) else I 1992 q) ∧ (∀ q, H 1993 q = if q = T0 then (th : Int) else if 8 + 5760 * th ≤ q ∧ q < 8 + 5760 * th + p then I 1993 (T0 + (q - (8 + 5760 * th))) else I 1993 q) ∧ (∀ u, H 1994 u = if u = t then (T0 : Int) + 1 else if u = th then ((8 + 5760 * th + p : Nat) : Int) else I 1994 u) ∧ (∀ u, H 1995 u = if u = th then 0 else I 1995 u) ∧ (∀ u, H 1996 u = if u = th then 0 else I 1996 u) ∧ (∀ u, H 2000 u = if u = th then 0 else I 2000 u) ∧ (∀ u, H 2001 u = if u = th then 0 else I 2001 u) ∧ (∀ u, H 2002 u = if u = th then (N : Int) else I 2002 u) ∧ (∀ u, H 2003 u = if u = th then -1 else I 2003 u) ∧ (∀ u, H 2005 u = if u = th then 0 else I 2005 u)
def nwT (I M : vJ) (a th p S N : Nat) : Prop := fr [2200, 2206, 2263, 2186, 2187, 2188, 2190, 2191, 2192, 2193, 2194, 2195, 2196] [(2075, 7731)] I M ∧ M 2075 7731 = (th : Int) + 1 ∧ (∀ b, M 2200 b = if b = a then (S : Int) + 1 else I 2200 b) ∧ (∀ q, M 2206 q = if q = 160 * a + S then 4 * (th : Int) else I 2206 q) ∧ (∀ j, j < p → M 2263 j = I 2206 (160 * a + S + j)) ∧ (∀ u, M 2186 u = if u = th then 0 else I 2186 u) ∧ (∀ u, M 2187 u = if u = th then 0 else I 2187 u) ∧ (∀ u, M 2188 u = if u = th then -1 else I 2188 u) ∧ (∀ u, M 2190 u = if u = th then 0 else I 2190 u) ∧ (∀ u, M 2191 u = if u = th then 0 else I 2191 u) ∧ (∀ u, M 2192 u = if u = th then -1 else I 2192 u) ∧ (∀ u, M 2193 u = if u = th then 0 else I 2193 u) ∧ (∀ u, M 2194 u = if u = th then (N : Int) else I 2194 u) ∧ (∀ u, M 2195 u = if u = th then 0 else I 2195 u) ∧ (∀ u, M 2196 u = if u = th then 0 else I 2196 u)
section
variable {d d' : Nat} {Y Y' : vY} {I I' : vJ} {K : vE → Prop}
theorem c_starts0 {t m o th p T0 N : Nat} (hL : vL Y) (h8 : t < 8) (th8 : th < 8) (tt : t ≠ th) (hth : I 1990 3390 = th) (hbg : I 1990 3403 < 30000) (hb0 : 0 ≤ I 1990 3403) (hN : I 1990 3388 = N) (mb : m < 24) (ho : Y.1 1989 m = o ∧ 2297 ≤ o ∧ Y.2.1 o = 15) (hp : I o 3844 = p) (p4 : p ≤ 4) (hT : I 1994 t = ((T0 + p : Nat) : Int)) (Tb : T0 + p ≤ 46087) (dis : T0 + p ≤ 8 + 5760 * th ∨ 8 + 5760 * th + 4 ≤ T0) (kd : ∀ j, j < p → 0 ≤ I 1992 (T0 + j) ∧ I 1992 (T0 + j) ≤ 2)
    (hQ : ∀ H : vJ, nwC I H t th p T0 N → vW (d + 1) 161 (0, [vr 1990, vi th, vi m], [], (H, Y)) (vWC (d + 2) 179 108 3 [vr 1990, vi t, vi m, vi th, vi p, vi p] [] K)) :
    vW (d + 2) 179 (0, [vr 1990, vi t, vi m, vu, vu, vu], [], (I, Y)) K := by
  rw [m179_0 hL, hth, if_neg (by rw [w32_id (by omega) (by omega), w32_id (by decide) (by decide), w32_id (by omega) (by omega), w32_id (by decide) (by decide)]; omega), b179_22 hL, b159_0 hL (by omega) (by omega), hth]
  simp only [tn0, vWC_s, Nat.reduceAdd, hN]
  have o1990 : (1990 : Nat) ≠ o := by omega
  have nO : ∀ (x1 x2 x3 x4 : Int), up (up (up (up (up (up (up (up (up I 1990 3390 x1) 1994 th x2) 1995 th 0) 1996 th 0) 2000 th 0) 2001 th 0) 2002 th x3) 2003 th x4) 2005 th 0 o 3844 = p := fun x1 x2 x3 x4 => by
    rw [up_cell _ (by omega), up_cell _ (by omega), up_cell _ (by omega), up_cell _ (by omega), up_cell _ (by omega), up_cell _ (by omega), up_cell _ (by omega), up_cell _ (by omega), up_cell _ (by omega)]; exact hp
  rw [b179_26 hL (by omega) (by omega) (by rw [tn0, ho.1]; omega) (by rw [tn0, ho.1]; exact ho.2.2) (by omega) (by omega)]
  simp only [tn0, ho.1, nO]
  have z94 : up (up (up (up (up (up (up (up (up I 1990 3390 ((th : Int) + 1)) 1994 th (8 + (th : Int) * 5760)) 1995 th 0) 1996 th 0) 2000 th 0) 2001 th 0) 2002 th (N : Int)) 2003 th (-1)) 2005 th 0 1994 t - p = (T0 : Int) := by
    rw [up_cell _ (by decide), up_cell _ (by decide), up_cell _ (by decide), up_cell _ (by decide), up_cell _ (by decide), up_cell _ (by decide), up_cell _ (by decide), up_place _ _ tt, up_cell _ (by decide), hT]; omega
  rw [z94]
  have fB : fr [1994, 1995, 1996, 2000, 2001, 2002, 2003, 2005] [(1990, 3390)] I (up (up (up (up (up (up (up (up (up (up I 1990 3390 ((th : Int) + 1)) 1994 th (8 + (th : Int) * 5760)) 1995 th 0) 1996 th 0) 2000 th 0) 2001 th 0) 2002 th (N : Int)) 2003 th (-1)) 2005 th 0) 1994 t T0) := fr_upL (fr_upL (fr_upL (fr_upL (fr_upL (fr_upL (fr_upL (fr_upL (fr_upL (fr_upP (fr_refl _ _ _) rfl _) rfl _ _) rfl _ _) rfl _ _) rfl _ _) rfl _ _) rfl _ _) rfl _ _) rfl _ _) rfl _ _
  have b0 : up (up (up (up (up (up (up (up (up (up I 1990 3390 ((th : Int) + 1)) 1994 th (8 + (th : Int) * 5760)) 1995 th 0) 1996 th 0) 2000 th 0) 2001 th 0) 2002 th (N : Int)) 2003 th (-1)) 2005 th 0) 1994 t T0 1990 3390 = (th : Int) + 1 := by
    rw [up_cell _ (by decide), up_cell _ (by decide), up_cell _ (by decide), up_cell _ (by decide), up_cell _ (by decide), up_cell _ (by decide), up_cell _ (by decide), up_cell _ (by decide), up_cell _ (by decide), up_same]
  have b1 : ∀ u, up (up (up (up (up (up (up (up (up (up I 1990 3390 ((th : Int) + 1)) 1994 th (8 + (th : Int) * 5760)) 1995 th 0) 1996 th 0) 2000 th 0) 2001 th 0) 2002 th (N : Int)) 2003 th (-1)) 2005 th 0) 1994 t T0 1994 u = if u = t then (T0 : Int) else if u = th then ((8 + 5760 * th : Nat) : Int) else I 1994 u := fun u => by
    rw [up_at, up_cell _ (by decide), up_cell _ (by decide), up_cell _ (by decide), up_cell _ (by decide), up_cell _ (by decide), up_cell _ (by decide), up_cell _ (by decide), up_at, up_cell _ (by decide), show (8 : Int) + (th : Int) * 5760 = ((8 + 5760 * th : Nat) : Int) by omega]
  have b2 : ∀ u, up (up (up (up (up (up (up (up (up (up I 1990 3390 ((th : Int) + 1)) 1994 th (8 + (th : Int) * 5760)) 1995 th 0) 1996 th 0) 2000 th 0) 2001 th 0) 2002 th (N : Int)) 2003 th (-1)) 2005 th 0) 1994 t T0 1995 u = if u = th then 0 else I 1995 u := fun u => by simp only [up_app, Nat.reduceEqDiff, false_and, and_false, true_and, and_true, if_true, if_false, Nat.add_left_cancel_iff, Nat.add_right_cancel_iff, Nat.add_eq_left, Nat.left_eq_add]
  have b3 : ∀ u, up (up (up (up (up (up (up (up (up (up I 1990 3390 ((th : Int) + 1)) 1994 th (8 + (th : Int) * 5760)) 1995 th 0) 1996 th 0) 2000 th 0) 2001 th 0) 2002 th (N : Int)) 2003 th (-1)) 2005 th 0) 1994 t T0 1996 u = if u = th then 0 else I 1996 u := fun u => by simp only [up_app, Nat.reduceEqDiff, false_and, and_false, true_and, and_true, if_true, if_false, Nat.add_left_cancel_iff, Nat.add_right_cancel_iff, Nat.add_eq_left, Nat.left_eq_add]
  have b4 : ∀ u, up (up (up (up (up (up (up (up (up (up I 1990 3390 ((th : Int) + 1)) 1994 th (8 + (th : Int) * 5760)) 1995 th 0) 1996 th 0) 2000 th 0) 2001 th 0) 2002 th (N : Int)) 2003 th (-1)) 2005 th 0) 1994 t T0 2000 u = if u = th then 0 else I 2000 u := fun u => by simp only [up_app, Nat.reduceEqDiff, false_and, and_false, true_and, and_true, if_true, if_false, Nat.add_left_cancel_iff, Nat.add_right_cancel_iff, Nat.add_eq_left, Nat.left_eq_add]
  have b5 : ∀ u, up (up (up (up (up (up (up (up (up (up I 1990 3390 ((th : Int) + 1)) 1994 th (8 + (th : Int) * 5760)) 1995 th 0) 1996 th 0) 2000 th 0) 2001 th 0) 2002 th (N : Int)) 2003 th (-1)) 2005 th 0) 1994 t T0 2001 u = if u = th then 0 else I 2001 u := fun u => by simp only [up_app, Nat.reduceEqDiff, false_and, and_false, true_and, and_true, if_true, if_false, Nat.add_left_cancel_iff, Nat.add_right_cancel_iff, Nat.add_eq_left, Nat.left_eq_add]
  have b6 : ∀ u, up (up (up (up (up (up (up (up (up (up I 1990 3390 ((th : Int) + 1)) 1994 th (8 + (th : Int) * 5760)) 1995 th 0) 1996 th 0) 2000 th 0) 2001 th 0) 2002 th (N : Int)) 2003 th (-1)) 2005 th 0) 1994 t T0 2002 u = if u = th then (N : Int) else I 2002 u := fun u => by simp only [up_app, Nat.reduceEqDiff, false_and, and_false, true_and, and_true, if_true, if_false, Nat.add_left_cancel_iff, Nat.add_right_cancel_iff, Nat.add_eq_left, Nat.left_eq_add]
  have b7 : ∀ u, up (up (up (up (up (up (up (up (up (up I 1990 3390 ((th : Int) + 1)) 1994 th (8 + (th : Int) * 5760)) 1995 th 0) 1996 th 0) 2000 th 0) 2001 th 0) 2002 th (N : Int)) 2003 th (-1)) 2005 th 0) 1994 t T0 2003 u = if u = th then -1 else I 2003 u := fun u => by simp only [up_app, Nat.reduceEqDiff, false_and, and_false, true_and, and_true, if_true, if_false, Nat.add_left_cancel_iff, Nat.add_right_cancel_iff, Nat.add_eq_left, Nat.left_eq_add]
  have b8 : ∀ u, up (up (up (up (up (up (up (up (up (up I 1990 3390 ((th : Int) + 1)) 1994 th (8 + (th : Int) * 5760)) 1995 th 0) 1996 th 0) 2000 th 0) 2001 th 0) 2002 th (N : Int)) 2003 th (-1)) 2005 th 0) 1994 t T0 2005 u = if u = th then 0 else I 2005 u := fun u => by simp only [up_app, Nat.reduceEqDiff, false_and, and_false, true_and, and_true, if_true, if_false, Nat.add_left_cancel_iff, Nat.add_right_cancel_iff, Nat.add_eq_left, Nat.left_eq_add]
  generalize up (up (up (up (up (up (up (up (up (up I 1990 3390 ((th : Int) + 1)) 1994 th (8 + (th : Int) * 5760)) 1995 th 0) 1996 th 0) 2000 th 0) 2001 th 0) 2002 th (N : Int)) 2003 th (-1)) 2005 th 0) 1994 t T0 = Ib at fB b0 b1 b2 b3 b4 b5 b6 b7 b8 ⊢
  have x92 := fr_row fB 1992 (fun _ => rfl)
  have x93 := fr_row fB 1993 (fun _ => rfl)
  refine c_args (d := d) (Ib := Ib) (t := t) (m := m) (th := th) (p := p) (T0 := T0) hL h8 th8 tt (by rw [b1, if_pos rfl]) (by rw [b1, if_neg (fun e => tt e.symm), if_pos rfl]) p4 Tb dis (fun j hj => by rw [x92]; exact kd j hj) (fun J f1 f2 f3 f4 => ?_) p 0 Ib (by omega) (fr_refl _ _ _) (fun q => by rw [if_neg (by omega)]) (fun q => by rw [if_neg (by omega)]) (fun u => ?_)
  · rw [b179_98 hL, c_push (T := T0) hL h8 (by rw [f4, if_neg tt, b1, if_pos rfl]) (by omega) (by decide)]
    simp only [vWC_n, Nat.reduceAdd]
    rw [b179_105 hL]
    refine hQ _ ⟨fr_upL (fr_upL (fr_upL (fr_trans (fr_weak fB (by decide) (by decide)) (fr_weak f1 (by decide) (by decide))) rfl _ _) rfl _ _) rfl _ _, ?_, fun q => ?_, fun q => ?_, fun u => ?_, fun u => ?_, fun u => ?_, fun u => ?_, fun u => ?_, fun u => ?_, fun u => ?_, fun u => ?_⟩
    · rw [up_cell _ (by decide), up_cell _ (by decide), up_cell _ (by decide), f1 1990 _ rfl]; exact b0
    · rw [up_cell _ (by decide), up_cell _ (by decide), up_at, f2, x92]
    · rw [up_cell _ (by decide), up_at, up_cell _ (by decide), f3, x93]
    · rw [up_at, up_cell _ (by decide), up_cell _ (by decide), f4, b1]
      by_cases z : u = t
      · rw [if_pos z, if_pos z]
      · rw [if_neg z, if_neg z, if_neg z]
        by_cases y : u = th
        · rw [if_pos y, if_pos y]
        · rw [if_neg y, if_neg y, if_neg y]
    · rw [up_cell _ (by decide), up_cell _ (by decide), up_cell _ (by decide), f1 1995 _ rfl, b2]
    · rw [up_cell _ (by decide), up_cell _ (by decide), up_cell _ (by decide), f1 1996 _ rfl, b3]
    · rw [up_cell _ (by decide), up_cell _ (by decide), up_cell _ (by decide), f1 2000 _ rfl, b4]
    · rw [up_cell _ (by decide), up_cell _ (by decide), up_cell _ (by decide), f1 2001 _ rfl, b5]
    · rw [up_cell _ (by decide), up_cell _ (by decide), up_cell _ (by decide), f1 2002 _ rfl, b6]
    · rw [up_cell _ (by decide), up_cell _ (by decide), up_cell _ (by decide), f1 2003 _ rfl, b7]
    · rw [up_cell _ (by decide), up_cell _ (by decide), up_cell _ (by decide), f1 2005 _ rfl, b8]
  · rw [b1]
    by_cases z : u = th
    · rw [if_neg (by omega), if_pos z, if_pos z]; rfl
    · rw [if_neg z, if_neg z]
theorem t_starts0 {a m th p S N : Nat} (hL : vL Y) (ha : a < 320) (th8 : th < 8) (hth : I 2075 7731 = th) (hbg : I 2075 7727 < 30000) (hb0 : 0 ≤ I 2075 7727) (hN : I 2075 7729 = N) (p4 : p ≤ 4) (hS : I 2200 a = ((S + p : Nat) : Int)) (hb : S + p ≤ 159)
    (hQ : ∀ M : vJ, nwT I M a th p S N → vW d' 401 (0, [vr 2075, vi th, vi m, vi 0, vu, vu], [], (M, Y)) (vWC (d' + 1) 400 89 3 [vr 2075, vi m, vi N, vi th, vu] [] (vWC (d' + 2) 431 47 3 [vr 2075, vi a, vi m, vi p] [] K))) :
    vW (d' + 2) 431 (0, [vr 2075, vi a, vi m, vi p], [], (I, Y)) K := by
  rw [m431_0 hL, hth, if_neg (by rw [w32_id (by omega) (by omega), w32_id (by decide) (by decide), w32_id (by omega) (by omega), w32_id (by decide) (by decide)]; omega), b431_22 hL]
  refine t_take (d := d') (S := S) (p := p) hL ha hS (by omega) p4 (fun J g1 g2 g3 => ?_)
  simp only [vWC_n, Nat.reduceAdd]
  rw [b431_28 hL, g1 2075 _ rfl, hth, b399_0]
  simp only [vWC_s, Nat.reduceAdd]
  rw [w32_id (by omega) (by omega), b431_38 hL, t_push (S := S) hL ha (by rw [g2, if_pos rfl]) (by omega)]
  simp only [vWC_n, Nat.reduceAdd]
  rw [b431_41 hL, up_cell _ (by decide), up_cell _ (by decide), g1 2075 _ rfl, hN]
  have e4 : (th : Int) * 4 = 4 * (th : Int) := Int.mul_comm _ _
  rw [e4]
  have G1 : fr [2200, 2206, 2263] [] I (up (up J 2206 (160 * a + S) (4 * (th : Int))) 2200 a ((S : Int) + 1)) := fr_upL (fr_upL (fr_weak g1 (by decide) (by decide)) rfl _ _) rfl _ _
  have z0 : ∀ b, up (up J 2206 (160 * a + S) (4 * (th : Int))) 2200 a ((S : Int) + 1) 2200 b = if b = a then (S : Int) + 1 else I 2200 b := fun b => by
    rw [up_at, up_cell _ (by decide), g2]
    by_cases z : b = a
    · rw [if_pos z, if_pos z]
    · rw [if_neg z, if_neg z, if_neg z]
  have z6 : ∀ q, up (up J 2206 (160 * a + S) (4 * (th : Int))) 2200 a ((S : Int) + 1) 2206 q = if q = 160 * a + S then 4 * (th : Int) else I 2206 q := fun q => by
    rw [up_cell _ (by decide), up_at, g1 2206 _ rfl]
  have z3 : ∀ j, j < p → up (up J 2206 (160 * a + S) (4 * (th : Int))) 2200 a ((S : Int) + 1) 2263 j = I 2206 (160 * a + S + j) := fun j hj => by
    rw [up_cell _ (by decide), up_cell _ (by decide)]; exact g3 j hj
  have zt : up (up J 2206 (160 * a + S) (4 * (th : Int))) 2200 a ((S : Int) + 1) 2075 7731 = th := by rw [up_cell _ (by decide), up_cell _ (by decide), g1 2075 _ rfl]; exact hth
  generalize up (up J 2206 (160 * a + S) (4 * (th : Int))) 2200 a ((S : Int) + 1) = G at G1 z0 z6 z3 zt ⊢
  rw [b400_0 hL (by omega) (by omega), zt]
  simp only [tn0]
  refine hQ _ ⟨fr_upL (fr_upL (fr_upL (fr_upL (fr_upL (fr_upL (fr_upL (fr_upL (fr_upL (fr_upL (fr_upP (fr_weak G1 (by decide) (by decide)) rfl _) rfl _ _) rfl _ _) rfl _ _) rfl _ _) rfl _ _) rfl _ _) rfl _ _) rfl _ _) rfl _ _) rfl _ _, ?_, fun b => ?_, fun q => ?_, fun j hj => ?_, fun u => ?_, fun u => ?_, fun u => ?_, fun u => ?_, fun u => ?_, fun u => ?_, fun u => ?_, fun u => ?_, fun u => ?_, fun u => ?_⟩
  · simp only [up_app, Nat.reduceEqDiff, false_and, and_false, true_and, and_true, if_true, if_false, Nat.add_left_cancel_iff, Nat.add_right_cancel_iff, Nat.add_eq_left, Nat.left_eq_add]
  · simp only [up_app, Nat.reduceEqDiff, false_and, and_false, true_and, and_true, if_true, if_false, Nat.add_left_cancel_iff, Nat.add_right_cancel_iff, Nat.add_eq_left, Nat.left_eq_add]; exact z0 b
  · simp only [up_app, Nat.reduceEqDiff, false_and, and_false, true_and, and_true, if_true, if_false, Nat.add_left_cancel_iff, Nat.add_right_cancel_iff, Nat.add_eq_left, Nat.left_eq_add]; exact z6 q
  · simp only [up_app, Nat.reduceEqDiff, false_and, and_false, true_and, and_true, if_true, if_false, Nat.add_left_cancel_iff, Nat.add_right_cancel_iff, Nat.add_eq_left, Nat.left_eq_add]; exact z3 j hj
  · simp only [up_app, Nat.reduceEqDiff, false_and, and_false, true_and, and_true, if_true, if_false, Nat.add_left_cancel_iff, Nat.add_right_cancel_iff, Nat.add_eq_left, Nat.left_eq_add, fr_row G1 2186 (fun _ => rfl)]
  · simp only [up_app, Nat.reduceEqDiff, false_and, and_false, true_and, and_true, if_true, if_false, Nat.add_left_cancel_iff, Nat.add_right_cancel_iff, Nat.add_eq_left, Nat.left_eq_add, fr_row G1 2187 (fun _ => rfl)]
  · simp only [up_app, Nat.reduceEqDiff, false_and, and_false, true_and, and_true, if_true, if_false, Nat.add_left_cancel_iff, Nat.add_right_cancel_iff, Nat.add_eq_left, Nat.left_eq_add, fr_row G1 2188 (fun _ => rfl)]
  · simp only [up_app, Nat.reduceEqDiff, false_and, and_false, true_and, and_true, if_true, if_false, Nat.add_left_cancel_iff, Nat.add_right_cancel_iff, Nat.add_eq_left, Nat.left_eq_add, fr_row G1 2190 (fun _ => rfl)]
  · simp only [up_app, Nat.reduceEqDiff, false_and, and_false, true_and, and_true, if_true, if_false, Nat.add_left_cancel_iff, Nat.add_right_cancel_iff, Nat.add_eq_left, Nat.left_eq_add, fr_row G1 2191 (fun _ => rfl)]
  · simp only [up_app, Nat.reduceEqDiff, false_and, and_false, true_and, and_true, if_true, if_false, Nat.add_left_cancel_iff, Nat.add_right_cancel_iff, Nat.add_eq_left, Nat.left_eq_add, fr_row G1 2192 (fun _ => rfl)]
  · simp only [up_app, Nat.reduceEqDiff, false_and, and_false, true_and, and_true, if_true, if_false, Nat.add_left_cancel_iff, Nat.add_right_cancel_iff, Nat.add_eq_left, Nat.left_eq_add, fr_row G1 2193 (fun _ => rfl)]
  · simp only [up_app, Nat.reduceEqDiff, false_and, and_false, true_and, and_true, if_true, if_false, Nat.add_left_cancel_iff, Nat.add_right_cancel_iff, Nat.add_eq_left, Nat.left_eq_add, fr_row G1 2194 (fun _ => rfl)]
  · simp only [up_app, Nat.reduceEqDiff, false_and, and_false, true_and, and_true, if_true, if_false, Nat.add_left_cancel_iff, Nat.add_right_cancel_iff, Nat.add_eq_left, Nat.left_eq_add, fr_row G1 2195 (fun _ => rfl)]
  · simp only [up_app, Nat.reduceEqDiff, false_and, and_false, true_and, and_true, if_true, if_false, Nat.add_left_cancel_iff, Nat.add_right_cancel_iff, Nat.add_eq_left, Nat.left_eq_add, fr_row G1 2196 (fun _ => rfl)]
end
