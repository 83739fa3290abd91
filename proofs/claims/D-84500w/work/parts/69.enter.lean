/-! ===== an activation comes: enters, enter, up to the way from its ENTRY ===== -/
theorem fil_row (I : vJ) {c b : Nat} (h : b ≠ c) (lo hi : Nat) (v : Int) : fil I c lo hi v b = I b := by
  funext j; exact if_neg (fun q => h q.1)
theorem fil_at (I : vJ) (c lo hi : Nat) (v : Int) (j : Nat) : fil I c lo hi v c j = if lo ≤ j ∧ j < hi then v else I c j := by
  unfold fil; simp only [true_and]
section
variable {d d' : Nat} {I I' : vJ} {Y Y' : vY}
theorem c_act {Q : vE → Prop} {t A : Nat} (hL : vL Y) (ht : t < 8) (hA : I 1995 t = (A : Int) + 1) : vW d 163 (0, [vr 1990, vi t], [], (I, Y)) Q ↔ Q (.inl (some (vi ((40 * t + A : Nat) : Int))), (I, Y)) := by
  have e : (t : Int) * 40 + ((A : Int) + 1) - 1 = ((40 * t + A : Nat) : Int) := by omega
  simp (disch := (first | assumption | omega | (simp only [up_app, Nat.reduceEqDiff, false_and, and_false, true_and, and_true, if_true, if_false, Nat.add_left_cancel_iff, Nat.add_right_cancel_iff, Nat.add_eq_left, Nat.left_eq_add, hA, tn0, tn1, tn2, tn3, tn4, tn5, tn6, tn7, tn8, tn9]; omega))) only [b163_0, hA, e, vWC_n, vWC_s, vWC_x, if01a, if01b, if_pos, if_neg, tn0, tn1, tn2, tn3, tn4, tn5, tn6, tn7, tn8, tn9, w32_id, w64_id, Nat.reduceAdd, reduceIte, Int.reduceLT, Int.reduceLE, Int.reduceEq, Int.reduceNe, Int.reduceAdd, Int.reduceSub, Int.reduceMul, Int.reduceNeg, Int.reduceToNat, ne_eq, not_true_eq_false, not_false_eq_true, true_and, and_true, false_and, and_false, true_or, or_true, false_or, or_false, if_true, if_false, and_self, or_self, ite_self]
/-- the names of an activation -/
theorem c_names {Q : vE → Prop} {t T p nn o : Nat} {x2 x3 x5 : Int} (hL : vL Y) (ht : t < 8) (ho : o ≠ 0 ∧ Y.2.1 o = 15 ∧ 2297 ≤ o) (hn : I o 3847 = ((p + nn : Nat) : Int)) (hpn : p + nn ≤ 16) (hT : T + nn < 46088) (hT0 : I 1994 t = (T : Int))
    (hQ : ∀ J : vJ, (∀ c, c ≠ 1992 → c ≠ 1993 → c ≠ 1994 → J c = I c) → (∀ q, J 1992 q = if T ≤ q ∧ q < T + nn then 0 else I 1992 q) → (∀ q, J 1993 q = if T ≤ q ∧ q < T + nn then 0 else I 1993 q) → (∀ u, J 1994 u = if u = t then ((T + nn : Nat) : Int) else I 1994 u) → vW (d + 2) 162 (116, [vr 1990, vi t, vi x2, vi x3, vr o, vi x5, vi ((p + nn : Nat) : Int)], [], (J, Y)) Q) :
    vW (d + 2) 162 (93, [vr 1990, vi t, vi x2, vi x3, vr o, vi x5, vi p], [], (I, Y)) Q := by
  obtain ⟨o1, o2, o3⟩ := ho
  have loop : ∀ (m i : Nat) (J : vJ), i + m = nn → (∀ c, c ≠ 1992 → c ≠ 1993 → c ≠ 1994 → J c = I c) → (∀ q, J 1992 q = if T ≤ q ∧ q < T + i then 0 else I 1992 q) → (∀ q, J 1993 q = if T ≤ q ∧ q < T + i then 0 else I 1993 q) → (∀ u, J 1994 u = if u = t then ((T + i : Nat) : Int) else I 1994 u) → vW (d + 2) 162 (93, [vr 1990, vi t, vi x2, vi x3, vr o, vi x5, vi ((p + i : Nat) : Int)], [], (J, Y)) Q := by
    intro m
    induction m with
    | zero =>
      intro i J hi j0 j1 j2 j3
      have hi : i = nn := by omega
      subst hi
      have e : J o 3847 = ((p + i : Nat) : Int) := by rw [j0 o (by omega) (by omega) (by omega)]; exact hn
      rw [b162_93 o1 o2, e, if_pos (Int.le_refl _)]
      exact hQ J j0 j1 j2 j3
    | succ m ih =>
      intro i J hi j0 j1 j2 j3
      have e : J o 3847 = ((p + nn : Nat) : Int) := by rw [j0 o (by omega) (by omega) (by omega)]; exact hn
      rw [b162_93 o1 o2, e, if_neg (by rw [w32_id (by omega) (by omega), w32_id (by omega) (by omega)]; omega)]
      rw [b162_103 hL, c_push (T := T + i) hL ht (by rw [j3, if_pos rfl]) (by omega) (by decide)]
      simp only [vWC_n, Nat.reduceAdd]
      rw [b162_110]
      rw [show ((p + i : Nat) : Int) + 1 = ((p + (i + 1) : Nat) : Int) by omega]
      refine ih (i + 1) _ (by omega) (fun c c1 c2 c3 => ?_) (fun q => ?_) (fun q => ?_) (fun u => ?_)
      · rw [up_row _ c3, up_row _ c2, up_row _ c1]; exact j0 c c1 c2 c3
      · rw [up_cell _ (by decide), up_cell _ (by decide), up_at, j1]
        by_cases z : q = T + i
        · rw [if_pos z, if_pos (by omega)]
        · rw [if_neg z]
          by_cases z2 : T ≤ q ∧ q < T + i
          · rw [if_pos z2, if_pos (by omega)]
          · rw [if_neg z2, if_neg (by omega)]
      · rw [up_cell _ (by decide), up_at, up_cell _ (by decide), j2]
        by_cases z : q = T + i
        · rw [if_pos z, if_pos (by omega)]
        · rw [if_neg z]
          by_cases z2 : T ≤ q ∧ q < T + i
          · rw [if_pos z2, if_pos (by omega)]
          · rw [if_neg z2, if_neg (by omega)]
      · rw [up_at, up_cell _ (by decide), up_cell _ (by decide), j3]
        by_cases z : u = t
        · rw [if_pos z, if_pos z]; omega
        · rw [if_neg z, if_neg z, if_neg z]
  refine loop nn 0 I (by omega) (fun _ _ _ _ => rfl) (fun q => by rw [if_neg (by omega)]) (fun q => by rw [if_neg (by omega)]) (fun u => ?_)
  by_cases z : u = t
  · rw [if_pos z, z]; exact hT0
  · rw [if_neg z]
/-- what an activation's coming puts in the house -/
def etC (I J : vJ) (t A a m tr T p nn nd : Nat) : Prop := fr [1963, 1968, 1992, 1993, 1994, 1995, 2006, 2007, 2009, 2010, 2011, 2012] [(1990, 3403)] I J ∧ (∀ q, J 1992 q = if T ≤ q ∧ q < T + nn then 0 else I 1992 q) ∧ (∀ q, J 1993 q = if T ≤ q ∧ q < T + nn then 0 else I 1993 q) ∧ (∀ u, J 1994 u = if u = t then ((T + nn : Nat) : Int) else I 1994 u) ∧ (∀ u, J 1995 u = if u = t then (A : Int) + 1 else I 1995 u) ∧ (∀ b, J 2006 b = if b = a then (m : Int) else I 2006 b) ∧ (∀ b, J 2007 b = if b = a then (nd : Int) else I 2007 b) ∧ (∀ b, J 2009 b = if b = a then (T : Int) - p else I 2009 b) ∧ (∀ b, J 2010 b = if b = a then (tr : Int) else I 2010 b) ∧ (∀ b, J 2011 b = if b = a then 0 else I 2011 b) ∧ (∀ b, J 2012 b = if b = a then 0 else I 2012 b) ∧ (∀ b, J 1968 b = if b = m then I 1968 b + 1 else I 1968 b) ∧ (∀ b, J 1963 b = if b = tr then I 1963 b + 1 else I 1963 b) ∧ J 1990 3403 = I 1990 3403 + 1
theorem c_enter1 {Q : vE → Prop} {t A a m tr T p nn nd o w : Nat} (hL : vL Y) (ht : t < 8) (hA : I 1995 t = (A : Int)) (hA2 : A < 40) (ha : a = 40 * t + A) (hm : m < 24) (htr : tr < 200) (ho : Y.1 1989 m = o ∧ Y.2.1 o = 15 ∧ 2297 ≤ o) (hp : I o 3844 = p) (hn : I o 3847 = ((p + nn : Nat) : Int)) (hpn : p + nn ≤ 16) (hT0 : I 1994 t = (T : Int)) (hT : T + nn < 46088) (hnd : I o 3850 = nd) (hnd2 : nd < 700) (hw : I 48 nd = w)
    (hQ : ∀ J : vJ, etC I J t A a m tr T p nn nd → vW (d + 1) 164 (0, [vr 1990, vi t, vi w, vu, vu, vu, vu], [], (J, Y)) (vWC (d + 2) 162 173 3 [vr 1990, vi t, vi m, vi tr, vr o, vi a, vi w] [] Q)) :
    vW (d + 2) 162 (0, [vr 1990, vi t, vi m, vi tr, vu, vu, vu], [], (I, Y)) Q := by
  obtain ⟨o1, o2, o3⟩ := ho
  have o4 : o ≠ 0 := by omega
  simp (disch := (first | assumption | omega | (simp only [up_app, Nat.reduceEqDiff, false_and, and_false, true_and, and_true, if_true, if_false, Nat.add_left_cancel_iff, Nat.add_right_cancel_iff, Nat.add_eq_left, Nat.left_eq_add, hA, tn0, tn1, tn2, tn3, tn4, tn5, tn6, tn7, tn8, tn9]; omega))) only [b162_0, hA, o1, vWC_n, vWC_s, vWC_x, if01a, if01b, if_pos, if_neg, tn0, tn1, tn2, tn3, tn4, tn5, tn6, tn7, tn8, tn9, w32_id, w64_id, Nat.reduceAdd, reduceIte, Int.reduceLT, Int.reduceLE, Int.reduceEq, Int.reduceNe, Int.reduceAdd, Int.reduceSub, Int.reduceMul, Int.reduceNeg, Int.reduceToNat, ne_eq, not_true_eq_false, not_false_eq_true, true_and, and_true, false_and, and_false, true_or, or_true, false_or, or_false, if_true, if_false, and_self, or_self, ite_self]
  rw [c_act (A := A) hL ht (by rw [up_same])]
  rw [← ha]
  simp only [vWC_s, Nat.reduceAdd]
  have m0 : ∀ c, c ≠ 1990 → c ≠ 1995 → up (up I 1990 3403 (I 1990 3403 + 1)) 1995 t ((A : Int) + 1) c = I c := fun c c1 c2 => by rw [up_row _ c2, up_row _ c1]
  have m0b : up (up I 1990 3403 (I 1990 3403 + 1)) 1995 t ((A : Int) + 1) 1990 = up I 1990 3403 (I 1990 3403 + 1) 1990 := up_row _ (by decide) _ _
  have m0c : ∀ u, up (up I 1990 3403 (I 1990 3403 + 1)) 1995 t ((A : Int) + 1) 1995 u = if u = t then (A : Int) + 1 else I 1995 u := fun u => by rw [up_at, up_cell _ (by decide)]
  generalize up (up I 1990 3403 (I 1990 3403 + 1)) 1995 t ((A : Int) + 1) = M0 at m0 m0b m0c
  rw [b162_33 hL (by omega) (by omega) (by omega) (by omega) o4 o2]
  simp only [tn0]
  rw [m0 1994 (by decide) (by decide), hT0, up_cell _ (show o ≠ 2006 by omega), m0 o (by omega) (by omega), hp]
  have m1 : ∀ c, c ≠ 2006 → c ≠ 2009 → c ≠ 2010 → c ≠ 2011 → c ≠ 2012 → up (up (up (up (up M0 2006 a (m : Int)) 2009 a ((T : Int) - p)) 2010 a (tr : Int)) 2011 a 0) 2012 a 0 c = M0 c := fun c c1 c2 c3 c4 c5 => by rw [up_row _ c5, up_row _ c4, up_row _ c3, up_row _ c2, up_row _ c1]
  have n1 : ∀ b, up (up (up (up (up M0 2006 a (m : Int)) 2009 a ((T : Int) - p)) 2010 a (tr : Int)) 2011 a 0) 2012 a 0 2006 b = if b = a then (m : Int) else I 2006 b := fun b => by rw [up_cell _ (by decide), up_cell _ (by decide), up_cell _ (by decide), up_cell _ (by decide), up_at, m0 _ (by decide) (by decide)]
  have n2 : ∀ b, up (up (up (up (up M0 2006 a (m : Int)) 2009 a ((T : Int) - p)) 2010 a (tr : Int)) 2011 a 0) 2012 a 0 2009 b = if b = a then (T : Int) - p else I 2009 b := fun b => by rw [up_cell _ (by decide), up_cell _ (by decide), up_cell _ (by decide), up_at, up_cell _ (by decide), m0 _ (by decide) (by decide)]
  have n3 : ∀ b, up (up (up (up (up M0 2006 a (m : Int)) 2009 a ((T : Int) - p)) 2010 a (tr : Int)) 2011 a 0) 2012 a 0 2010 b = if b = a then (tr : Int) else I 2010 b := fun b => by rw [up_cell _ (by decide), up_cell _ (by decide), up_at, up_cell _ (by decide), up_cell _ (by decide), m0 _ (by decide) (by decide)]
  have n4 : ∀ b, up (up (up (up (up M0 2006 a (m : Int)) 2009 a ((T : Int) - p)) 2010 a (tr : Int)) 2011 a 0) 2012 a 0 2011 b = if b = a then 0 else I 2011 b := fun b => by rw [up_cell _ (by decide), up_at, up_cell _ (by decide), up_cell _ (by decide), up_cell _ (by decide), m0 _ (by decide) (by decide)]
  have n5 : ∀ b, up (up (up (up (up M0 2006 a (m : Int)) 2009 a ((T : Int) - p)) 2010 a (tr : Int)) 2011 a 0) 2012 a 0 2012 b = if b = a then 0 else I 2012 b := fun b => by rw [up_at, up_cell _ (by decide), up_cell _ (by decide), up_cell _ (by decide), up_cell _ (by decide), m0 _ (by decide) (by decide)]
  generalize up (up (up (up (up M0 2006 a (m : Int)) 2009 a ((T : Int) - p)) 2010 a (tr : Int)) 2011 a 0) 2012 a 0 = M1 at m1 n1 n2 n3 n4 n5
  have mo : M1 o = I o := by rw [m1 o (by omega) (by omega) (by omega) (by omega) (by omega), m0 o (by omega) (by omega)]
  rw [mo, hp]
  refine c_names (p := p) (nn := nn) (T := T) hL ht ⟨o4, o2, o3⟩ (by rw [mo]; exact hn) hpn hT (by rw [m1 _ (by decide) (by decide) (by decide) (by decide) (by decide), m0 _ (by decide) (by decide)]; exact hT0) (fun J j0 j1 j2 j3 => ?_)
  have jo : J o 3850 = nd := by rw [j0 o (by omega) (by omega) (by omega), mo]; exact hnd
  have J48 : J 48 = I 48 := by rw [j0 48 (by decide) (by decide) (by decide), m1 48 (by decide) (by decide) (by decide) (by decide) (by decide), m0 48 (by decide) (by decide)]
  simp (disch := (first | assumption | omega | (simp (disch := omega) only [tn0, up_same, up_cell, up_place, jo]; omega))) only [b162_116, tn0]
  simp (disch := omega) only [up_cell, jo, tn0]
  rw [J48, hw]
  have rI : ∀ c, c ≠ 1992 → c ≠ 1993 → c ≠ 1994 → c ≠ 2006 → c ≠ 2009 → c ≠ 2010 → c ≠ 2011 → c ≠ 2012 → c ≠ 1990 → c ≠ 1995 → J c = I c := fun c a1 a2 a3 a4 a5 a6 a7 a8 a9 a10 => by rw [j0 c a1 a2 a3, m1 c a4 a5 a6 a7 a8, m0 c a9 a10]
  refine hQ _ ⟨?_, fun q => ?_, fun q => ?_, fun u => ?_, fun u => ?_, fun b => ?_, fun b => ?_, fun b => ?_, fun b => ?_, fun b => ?_, fun b => ?_, fun b => ?_, fun b => ?_, ?_⟩
  · refine fr_upL (fr_upL (fr_upL ?_ rfl _ _) rfl _ _) rfl _ _
    intro c f hf
    by_cases z : c = 1990
    · subst z
      rw [j0 _ (by decide) (by decide) (by decide), m1 _ (by decide) (by decide) (by decide) (by decide) (by decide), m0b]
      refine up_place _ _ ?_ _
      intro e; subst e; cases hf
    · rw [rI c (fun e => by subst e; cases hf) (fun e => by subst e; cases hf) (fun e => by subst e; cases hf) (fun e => by subst e; cases hf) (fun e => by subst e; cases hf) (fun e => by subst e; cases hf) (fun e => by subst e; cases hf) (fun e => by subst e; cases hf) z (fun e => by subst e; cases hf)]
  · rw [up_cell _ (by decide), up_cell _ (by decide), up_cell _ (by decide), j1, m1 _ (by decide) (by decide) (by decide) (by decide) (by decide), m0 _ (by decide) (by decide)]
  · rw [up_cell _ (by decide), up_cell _ (by decide), up_cell _ (by decide), j2, m1 _ (by decide) (by decide) (by decide) (by decide) (by decide), m0 _ (by decide) (by decide)]
  · rw [up_cell _ (by decide), up_cell _ (by decide), up_cell _ (by decide), j3, m1 _ (by decide) (by decide) (by decide) (by decide) (by decide), m0 _ (by decide) (by decide)]
  · rw [up_cell _ (by decide), up_cell _ (by decide), up_cell _ (by decide), j0 _ (by decide) (by decide) (by decide), m1 _ (by decide) (by decide) (by decide) (by decide) (by decide), m0c]
  · rw [up_cell _ (by decide), up_cell _ (by decide), up_cell _ (by decide), j0 _ (by decide) (by decide) (by decide), n1]
  · rw [up_at, up_cell _ (by decide), up_cell _ (by decide), rI 2007 (by decide) (by decide) (by decide) (by decide) (by decide) (by decide) (by decide) (by decide) (by decide) (by decide)]
  · rw [up_cell _ (by decide), up_cell _ (by decide), up_cell _ (by decide), j0 _ (by decide) (by decide) (by decide), n2]
  · rw [up_cell _ (by decide), up_cell _ (by decide), up_cell _ (by decide), j0 _ (by decide) (by decide) (by decide), n3]
  · rw [up_cell _ (by decide), up_cell _ (by decide), up_cell _ (by decide), j0 _ (by decide) (by decide) (by decide), n4]
  · rw [up_cell _ (by decide), up_cell _ (by decide), up_cell _ (by decide), j0 _ (by decide) (by decide) (by decide), n5]
  · rw [up_cell _ (by decide), up_cell _ (by decide), up_at, rI 1968 (by decide) (by decide) (by decide) (by decide) (by decide) (by decide) (by decide) (by decide) (by decide) (by decide)]
    by_cases z : b = m
    · rw [if_pos z, if_pos z, z]
    · rw [if_neg z, if_neg z]
  · rw [up_cell _ (by decide), up_at, up_cell _ (by decide), rI 1963 (by decide) (by decide) (by decide) (by decide) (by decide) (by decide) (by decide) (by decide) (by decide) (by decide)]
    by_cases z : b = tr
    · rw [if_pos z, if_pos z, z]
    · rw [if_neg z, if_neg z]
  · rw [up_cell _ (by decide), up_cell _ (by decide), up_cell _ (by decide), j0 _ (by decide) (by decide) (by decide), m1 _ (by decide) (by decide) (by decide) (by decide) (by decide), m0b, up_same]
/-- the slots of an activation in the model -/
theorem t_slots {Q : vE → Prop} {X t m a p : Nat} {x3 : Int} (hL : vL Y) (hX : Y.1 2075 7689 = X) (hX2 : X = 2081 ∨ X = 2119) (hV : vreg Y 2081 38 (Y.1 2075 7689)) (hm : m < 24) (ha : a < 320) (hp : I (X + 2) m = p) (hp4 : p ≤ 4)
    (hQ : ∀ J : vJ, fr [2205] [] I J → (∀ q, J 2205 q = if 16 * a ≤ q ∧ q < 16 * a + 16 then (if q - 16 * a < p then I 2263 (q - 16 * a) else 0) else I 2205 q) → vW d 401 (95, [vr 2075, vi t, vi m, vi x3, vi a, vi 16], [], (J, Y)) Q) :
    vW d 401 (44, [vr 2075, vi t, vi m, vi x3, vi a, vi 0], [], (I, Y)) Q := by
  have loop : ∀ (r i : Nat) (J : vJ), i + r = 16 → fr [2205] [] I J → (∀ q, J 2205 q = if 16 * a ≤ q ∧ q < 16 * a + i then (if q - 16 * a < p then I 2263 (q - 16 * a) else 0) else I 2205 q) → vW d 401 (44, [vr 2075, vi t, vi m, vi x3, vi a, vi (i : Int)], [], (J, Y)) Q := by
    intro r
    induction r with
    | zero =>
      intro i J hi f1 f2
      have hi : i = 16 := by omega
      subst hi
      rw [b401_44, if_pos (by decide)]
      exact hQ J f1 f2
    | succ r ih =>
      intro i J hi f1 f2
      have jp : J (X + 2) m = p := by rw [fr_out f1 2075 2200 (by rfl) (by omega) (by omega)]; exact hp
      have jg : J 2263 = I 2263 := fr_row f1 2263 (fun _ => rfl)
      rcases Nat.lt_or_ge i p with z | z
      · rw [b401_44, if_neg (by rw [w32_id (by omega) (by omega), w32_id (by omega) (by omega)]; omega)]
        rw [b401_51 hL hV (by omega) (by omega), hX]
        simp only [tn0, jp]
        have ix : 16 * (a : Int) + (i : Int) = ((16 * a + i : Nat) : Int) := by omega
        rw [ix]
        rw [if_neg (by rw [w32_id (by omega) (by omega), w32_id (by omega) (by omega)]; omega), b401_77 hL (by omega) (by omega), b401_88 hL (by omega) (by omega)]
        simp only [tn0, jg]
        rw [show (i : Int) + 1 = ((i + 1 : Nat) : Int) by omega]
        refine ih (i + 1) _ (by omega) (fr_upL f1 rfl _ _) (fun q => ?_)
        rw [up_at, f2]
        by_cases y : q = 16 * a + i
        · subst y
          rw [if_pos rfl, if_pos (by omega), show 16 * a + i - 16 * a = i by omega, if_pos z]
        · rw [if_neg y]
          by_cases y2 : 16 * a ≤ q ∧ q < 16 * a + i
          · rw [if_pos y2, if_pos (show 16 * a ≤ q ∧ q < 16 * a + (i + 1) by omega)]
          · rw [if_neg y2, if_neg (by omega)]
      · rw [b401_44, if_neg (by rw [w32_id (by omega) (by omega), w32_id (by omega) (by omega)]; omega)]
        rw [b401_51 hL hV (by omega) (by omega), hX]
        simp only [tn0, jp]
        have ix : 16 * (a : Int) + (i : Int) = ((16 * a + i : Nat) : Int) := by omega
        rw [ix]
        rw [if_pos (by rw [w32_id (by omega) (by omega), w32_id (by omega) (by omega)]; omega), b401_87, b401_88 hL (by omega) (by omega)]
        simp only [tn0]
        rw [show (i : Int) + 1 = ((i + 1 : Nat) : Int) by omega]
        refine ih (i + 1) _ (by omega) (fr_upL f1 rfl _ _) (fun q => ?_)
        rw [up_at, f2]
        by_cases y : q = 16 * a + i
        · subst y
          rw [if_pos rfl, if_pos (by omega), show 16 * a + i - 16 * a = i by omega, if_neg (Nat.not_lt.mpr z)]
        · rw [if_neg y]
          by_cases y2 : 16 * a ≤ q ∧ q < 16 * a + i
          · rw [if_pos y2, if_pos (show 16 * a ≤ q ∧ q < 16 * a + (i + 1) by omega)]
          · rw [if_neg y2, if_neg (by omega)]
  exact loop 16 0 I (by omega) (fr_refl _ _ _) (fun q => by rw [if_neg (by omega)])
/-- what it puts in the model ahead of its place in the tree -/
def etT (I J : vJ) (t A a m p : Nat) : Prop := fr [2186, 2197, 2200, 2204, 2205] [(2075, 7727)] I J ∧ (∀ u, J 2186 u = if u = t then (A : Int) + 1 else I 2186 u) ∧ (∀ b, J 2197 b = if b = a then (m : Int) else I 2197 b) ∧ (∀ b, J 2200 b = if b = a then 0 else I 2200 b) ∧ (∀ b, J 2204 b = if b = a then 0 else I 2204 b) ∧ (∀ q, J 2205 q = if 16 * a ≤ q ∧ q < 16 * a + 16 then (if q - 16 * a < p then I 2263 (q - 16 * a) else 0) else I 2205 q) ∧ J 2075 7727 = I 2075 7727 + 1
theorem t_enter1 {Q : vE → Prop} {X t A a m p : Nat} {x3 : Int} (hL : vL Y) (hX : Y.1 2075 7689 = X) (hX2 : X = 2081 ∨ X = 2119) (hV : vreg Y 2081 38 (Y.1 2075 7689)) (ht : t < 8) (hA : I 2186 t = (A : Int)) (hA2 : A < 40) (ha : a = 40 * t + A) (hm : m < 24) (hp : I (X + 2) m = p) (hp4 : p ≤ 4)
    (hQ : ∀ J : vJ, etT I J t A a m p → vW d 402 (0, [vr 2075, vi m, vi x3, vu], [], (J, Y)) (vWC (d + 1) 401 120 3 [vr 2075, vi t, vi m, vi x3, vi a, vi 16] [vi a, vr 2201] Q)) :
    vW (d + 1) 401 (0, [vr 2075, vi t, vi m, vi x3, vu, vu], [], (I, Y)) Q := by
  have ix : 40 * (t : Int) + (A : Int) = ((40 * t + A : Nat) : Int) := by omega
  simp (disch := (first | assumption | omega | (simp only [up_app, Nat.reduceEqDiff, false_and, and_false, true_and, and_true, if_true, if_false, Nat.add_left_cancel_iff, Nat.add_right_cancel_iff, Nat.add_eq_left, Nat.left_eq_add, hA, tn0, tn1, tn2, tn3, tn4, tn5, tn6, tn7, tn8, tn9]; omega))) only [b401_0, hA, ix, vWC_n, vWC_s, vWC_x, if01a, if01b, if_pos, if_neg, tn0, tn1, tn2, tn3, tn4, tn5, tn6, tn7, tn8, tn9, w32_id, w64_id, Nat.reduceAdd, reduceIte, Int.reduceLT, Int.reduceLE, Int.reduceEq, Int.reduceNe, Int.reduceAdd, Int.reduceSub, Int.reduceMul, Int.reduceNeg, Int.reduceToNat, ne_eq, not_true_eq_false, not_false_eq_true, true_and, and_true, false_and, and_false, true_or, or_true, false_or, or_false, if_true, if_false, and_self, or_self, ite_self]
  rw [← ha]
  have m0 : ∀ c, c ≠ 2186 → c ≠ 2075 → c ≠ 2197 → up (up (up I 2186 t ((A : Int) + 1)) 2075 7727 (I 2075 7727 + 1)) 2197 a (m : Int) c = I c := fun c c1 c2 c3 => by rw [up_row _ c3, up_row _ c2, up_row _ c1]
  have n0 : fr [2186, 2197, 2200, 2204, 2205] [(2075, 7727)] I (up (up (up I 2186 t ((A : Int) + 1)) 2075 7727 (I 2075 7727 + 1)) 2197 a (m : Int)) := fr_upL (fr_upP (fr_upL (fr_refl _ _ _) rfl _ _) rfl _) rfl _ _
  have n1 : ∀ u, up (up (up I 2186 t ((A : Int) + 1)) 2075 7727 (I 2075 7727 + 1)) 2197 a (m : Int) 2186 u = if u = t then (A : Int) + 1 else I 2186 u := fun u => by rw [up_cell _ (by decide), up_cell _ (by decide), up_at]
  have n2 : ∀ b, up (up (up I 2186 t ((A : Int) + 1)) 2075 7727 (I 2075 7727 + 1)) 2197 a (m : Int) 2197 b = if b = a then (m : Int) else I 2197 b := fun b => by rw [up_at, up_cell _ (by decide), up_cell _ (by decide)]
  have n3 : up (up (up I 2186 t ((A : Int) + 1)) 2075 7727 (I 2075 7727 + 1)) 2197 a (m : Int) 2075 7727 = I 2075 7727 + 1 := by rw [up_cell _ (by decide), up_same]
  generalize up (up (up I 2186 t ((A : Int) + 1)) 2075 7727 (I 2075 7727 + 1)) 2197 a (m : Int) = M0 at m0 n0 n1 n2 n3
  refine t_slots (p := p) hL hX hX2 hV hm (by omega) (by rw [m0 _ (by omega) (by omega) (by omega)]; exact hp) hp4 (fun J j0 j1 => ?_)
  rw [b401_95 hL (by omega) (by omega)]
  simp only [tn0]
  refine hQ _ ⟨fr_upL (fr_upL (fr_trans n0 (fr_weak j0 (by decide) (by decide))) rfl _ _) rfl _ _, fun u => ?_, fun b => ?_, fun b => ?_, fun b => ?_, fun q => ?_, ?_⟩
  · rw [up_cell _ (by decide), up_cell _ (by decide), j0 2186 u rfl, n1]
  · rw [up_cell _ (by decide), up_cell _ (by decide), j0 2197 b rfl, n2]
  · rw [up_cell _ (by decide), up_at, j0 2200 b rfl, m0 _ (by decide) (by decide) (by decide)]
  · rw [up_at, up_cell _ (by decide), j0 2204 b rfl, m0 _ (by decide) (by decide) (by decide)]
  · rw [up_cell _ (by decide), up_cell _ (by decide), j1, m0 2263 (by decide) (by decide) (by decide), m0 2205 (by decide) (by decide) (by decide)]
  · rw [up_cell _ (by decide), up_cell _ (by decide), j0 2075 _ rfl, n3]
/-- and behind it, up to the way from ENTRY -/
def etT2 (I J : vJ) (a m s nd : Nat) : Prop := fr [2201, 2239, 2253, 2198, 2202, 2203] [] I J ∧ (∀ b, J 2201 b = if b = a then (s : Int) else I 2201 b) ∧ (∀ b, J 2239 b = if b = s then I 2239 b + 1 else I 2239 b) ∧ (∀ b, J 2253 b = if b = m then I 2253 b + 1 else I 2253 b) ∧ (∀ b, J 2198 b = if b = a then (nd : Int) else I 2198 b) ∧ (∀ b, J 2202 b = if b = a then (nd : Int) else I 2202 b) ∧ (∀ b, J 2203 b = if b = a then 0 else I 2203 b)
theorem t_enter2 {Q : vE → Prop} {X t a m s nd w : Nat} {x3 x5 : Int} (hL : vL Y) (hX : Y.1 2075 7689 = X) (hX2 : X = 2081 ∨ X = 2119) (hV : vreg Y 2081 38 (Y.1 2075 7689)) (ha : a < 320) (hm : m < 24) (hs : s < 200) (hnd : I (X + 4) m = nd) (hnd2 : nd < 700) (hw : I (X + 20) nd = w)
    (hQ : ∀ J : vJ, etT2 I J a m s nd → vW d 403 (0, [vr 2075, vi a, vi w, vu, vu, vu], [], (J, Y)) (vWC (d + 1) 401 200 3 [vr 2075, vi t, vi m, vi x3, vi a, vi nd] [] Q)) :
    vW (d + 1) 401 (123, [vr 2075, vi t, vi m, vi x3, vi a, vi x5], [vi s, vi a, vr 2201], (I, Y)) Q := by
  have x4 : X + 4 ≠ 2201 ∧ X + 4 ≠ 2239 ∧ X + 4 ≠ 2253 := by omega
  have x20 : X + 20 ≠ 2201 ∧ X + 20 ≠ 2239 ∧ X + 20 ≠ 2253 ∧ X + 20 ≠ 2198 ∧ X + 20 ≠ 2202 ∧ X + 20 ≠ 2203 := by omega
  simp (disch := (first | assumption | omega | (simp (disch := omega) only [tn0, up_same, up_cell, up_place, hX, hnd]; omega))) only [b401_123, tn0]
  simp (disch := omega) only [up_same, up_cell, hX, hnd, tn0, hw]
  refine hQ _ ⟨fr_upL (fr_upL (fr_upL (fr_upL (fr_upL (fr_upL (fr_refl _ _ _) rfl _ _) rfl _ _) rfl _ _) rfl _ _) rfl _ _) rfl _ _, fun b => ?_, fun b => ?_, fun b => ?_, fun b => ?_, fun b => ?_, fun b => ?_⟩
  · simp (disch := omega) only [up_cell, up_at]
  · simp (disch := omega) only [up_cell, up_at]
    by_cases z : b = s
    · rw [if_pos z, if_pos z, z]
    · rw [if_neg z, if_neg z]
  · simp (disch := omega) only [up_cell, up_at]
    by_cases z : b = m
    · rw [if_pos z, if_pos z, z]
    · rw [if_neg z, if_neg z]
  · simp (disch := omega) only [up_cell, up_at]
  · simp (disch := omega) only [up_cell, up_at]
  · simp (disch := omega) only [up_cell, up_at]
end
