/-! ===== a way is gone: all but the locks ===== -/
/-- what a loop's node tells, in both houses -/
theorem gL_of {I I' : vJ} {X Nn Lp : Nat} (hG : gL I I' X Nn Lp) {x : Nat} (hx : x < Nn) : (I 41 x = -1 ∧ I' (X + 15) x = -1) ∨ (0 ≤ I 41 x ∧ I 41 x < Lp) ∧ I' (X + 15) x = I 54 (I 41 x).toNat := by
  rcases hG.2.1 x hx with ⟨a1, a2⟩ | ⟨k, a1, a2, a3⟩
  · exact Or.inl ⟨a1, a2⟩
  · refine Or.inr ⟨by omega, ?_⟩
    rw [a2]; exact a3
theorem gL_ar {I I' : vJ} {X Nn Lp : Nat} (hG : gL I I' X Nn Lp) : ∀ k : Nat, k < Lp → I 55 k = -1 ∨ 0 ≤ I 55 k ∧ I 55 k < k := by
  intro k hk
  obtain ⟨_, _, _, _, a8⟩ := hG.2.2.1 k hk
  rcases a8 with ⟨z, _⟩ | ⟨j, z1, z2, _⟩
  · exact Or.inl z
  · exact Or.inr (by omega)
theorem gL_arT {I I' : vJ} {X Nn Lp : Nat} (hG : gL I I' X Nn Lp) : ∀ k : Nat, k < Lp → (0 ≤ I 54 k ∧ I 54 k < Nn) ∧ (I 55 k = -1 ∧ I' (X + 18) (I 54 k).toNat = -1 ∨ 0 ≤ I 55 k ∧ I 55 k < k ∧ I' (X + 18) (I 54 k).toNat = I 54 (I 55 k).toNat) := by
  intro k hk
  obtain ⟨a1, _, _, _, a8⟩ := hG.2.2.1 k hk
  refine ⟨a1, ?_⟩
  rcases a8 with z | ⟨j, z1, z2, z3⟩
  · exact Or.inl z
  · refine Or.inr ⟨by omega, by omega, ?_⟩
    rw [z2]; exact z3
theorem gL_inj {I I' : vJ} {X Nn Lp : Nat} (hG : gL I I' X Nn Lp) : ∀ i j, i < Lp → j < Lp → I 54 i = I 54 j → i = j := by
  intro i j hi hj e
  have a1 := (hG.2.2.1 i hi).2.2.2.1
  have a2 := (hG.2.2.1 j hj).2.2.2.1
  rw [e] at a1
  omega
theorem gL_is {I I' : vJ} {X Nn Lp : Nat} (hG : gL I I' X Nn Lp) : ∀ v : Nat, v < Nn → I' (X + 26) v = 1 → (0 ≤ I 41 v ∧ I 41 v < Lp) ∧ I 54 (I 41 v).toNat = v ∧ I' (X + 19) v = I 56 (I 41 v).toNat - 1 ∧ 1 ≤ I 56 (I 41 v).toNat ∧ I 56 (I 41 v).toNat ≤ 12 := by
  intro v hv e
  obtain ⟨k, k1, k2⟩ := hG.2.2.2.2 v hv e
  obtain ⟨_, ⟨a3, a4, a5⟩, _, a7, _⟩ := hG.2.2.1 k k1
  rw [k2] at a7 a5
  simp only [tn0] at a7 a5
  rw [a7]
  simp only [tn0]
  exact ⟨by omega, k2, a5, a3, a4⟩
theorem gL_si {I I' : vJ} {X Nn Lp : Nat} (hG : gL I I' X Nn Lp) : ∀ v : Nat, v < Nn → I 41 v ≠ -1 → I 54 (I 41 v).toNat = v → I' (X + 26) v = 1 := by
  intro v hv e3 e4
  rcases gL_of hG hv with z | z
  · exact absurd z.1 e3
  · obtain ⟨_, _, a6, _⟩ := hG.2.2.1 (I 41 v).toNat (by omega)
    rw [e4] at a6
    exact a6
/-- the house's, the model's memory when loops are left, entered, turned -/
def goC3 (I J : vJ) (w a x y : Nat) (ex ey : Bool) : vJ := tuC (enC (lvC (I 55) (fun k => I 2014 (12 * a + (I 56 k - 1).toNat)) (hw (I 52 w) (I 38 x)) (I 41 y) 301 J (I 41 x)) a (I 41 y) (I 56 (I 41 y).toNat - 1).toNat ey) a (I 41 x) (I 56 (I 41 x).toNat - 1).toNat ex
def goT3 (I J : vJ) (w a x y : Nat) (ex ey : Bool) : vJ := enT (tuT (lvT (I 55) (I 54) (fun k => I 2014 (12 * a + (I 56 k - 1).toNat)) (hw (I 52 w) (I 38 x)) (I 41 y) 301 J (I 41 x)) a x (I 56 (I 41 x).toNat - 1).toNat ex) a y (I 56 (I 41 y).toNat - 1).toNat ey
theorem goC3_fr (I J : vJ) (w a x y : Nat) (ex ey : Bool) : fr [1970, 1971, 1972, 1973, 1975, 1976, 1977, 1978, 2014] [] J (goC3 I J w a x y ex ey) := by
  unfold goC3
  exact tuC_fr (enC_fr (fr_weak (lvC_fr (hw_lt _ _) 301 J _ (fr_refl _ _ _)) (by decide) (by decide)) rfl rfl _ _ _ _) rfl rfl _ _ _ _
theorem goT3_fr (I J : vJ) (w a x y : Nat) (ex ey : Bool) : fr [2241, 2242, 2209, 2243, 2244, 2245, 2246, 2247, 2248] [] J (goT3 I J w a x y ex ey) := by
  unfold goT3
  exact enT_fr (tuT_fr (fr_weak (lvT_fr (hw_lt _ _) 301 J _ (fr_refl _ _ _)) (by decide) (by decide)) rfl rfl _ _ _ _) rfl rfl _ _ _ _
section
variable {d d' : Nat} {I I' : vJ} {Y Y' : vY}
/-- the model from its first place to the path -/
theorem t_go1 {X w a x y Nn Lp : Nat} {ex ey : Bool} (hL' : vL Y') (hX : Y'.1 2075 7689 = X) (hX2 : X = 2081 ∨ X = 2119) (hV : vreg Y' 2081 38 (Y'.1 2075 7689)) (hG : gL I I' X Nn Lp) (hS : wayS I I' X w x y) (hxN : x < Nn) (hyN : y < Nn) (ha : a < 320)
    (hlo : loR I I' Lp (fun l => (I 54 l).toNat)) (hT : ∀ j, j < 3840 → I 2014 j = I' 2209 j ∧ 0 ≤ I 2014 j ∧ I 2014 j < 90000000)
    (hey : ey = true ↔ I' (X + 26) y = 1 ∧ I 53 w = 0) (hex : ex = true ↔ I 52 w = 1 ∧ I' (X + 26) x = 1) :
    ∃ z : Int, ∀ K : vE → Prop, vW (d' + 4) 403 (0, [vr 2075, vi a, vi w, vu, vu, vu], [], (I', Y')) K ↔ vW (d' + 4) 403 (216, [vr 2075, vi a, vi w, vi x, vi y, vi z], [], (goT3 I (prT I' w) w a x y ex ey, Y')) K := by
  obtain ⟨⟨w1, w2, w3⟩, ⟨w4, w5, w6, w7⟩, ⟨w8, w9, w10⟩, ⟨w11, w12⟩, ⟨w13, w14, w15⟩, ⟨w16, w17, w18⟩, w19, w20⟩ := hS
  have T0 : ∀ c, c ≠ 2183 → c ≠ 2075 → prT I' w c = I' c := fun c a1 a2 => by
    unfold prT; split
    · rw [up_row _ a1]
    · rw [up_row _ a2, up_row _ a1]
  have hXb : ∀ j, j < 38 → X + j < 2170 ∧ X + j ≠ 2183 ∧ X + j ≠ 2075 := fun j hj => by
    clear w12 w20 hey hex hlo hT hG
    omega
  have T0x : ∀ j, j < 38 → prT I' w (X + j) = I' (X + j) := fun j hj => T0 (X + j) (hXb j hj).2.1 (hXb j hj).2.2
  simp only [t_probe (a := a) hL' hX hX2 hV w1 (by rw [← w19]; exact w20) ⟨w6, w2⟩ w7]
  have hgx := gL_of hG hxN
  have hgy := gL_of hG hyN
  have hlx := gL_is hG x hxN
  have hly := gL_is hG y hyN
  have g3x := hG.2.2.2.1 x hxN
  have g3y := hG.2.2.2.1 y hyN
  have hnn : ∀ k : Nat, k < Lp → (1 ≤ I 56 k ∧ I 56 k ≤ 12) ∧ I' (X + 19) (I 54 k).toNat = I 56 k - 1 ∧ 0 ≤ I 2014 (12 * a + (I 56 k - 1).toNat) ∧ I 2014 (12 * a + (I 56 k - 1).toNat) < 100000000 ∧ I 2014 (12 * a + (I 56 k - 1).toNat) = I' 2209 (12 * a + (I 56 k - 1).toNat) := by
    intro k hk
    obtain ⟨_, ⟨a3, a4, a5⟩, _⟩ := hG.2.2.1 k hk
    have q := hT (12 * a + (I 56 k - 1).toNat) (by clear w12 w20 hgx hgy hey hex hlo hT g3x g3y; omega)
    exact ⟨⟨a3, a4⟩, a5, q.2.1, by clear w12 w20 hgx hgy hey hex hlo hT g3x g3y; omega, q.1⟩
  have rl : ∀ j, j < Lp → (-1 ≤ I' 2243 (I 54 j).toNat ∧ I' 2243 (I 54 j).toNat < 100000000) ∧ (-1 ≤ I' 2244 (I 54 j).toNat ∧ I' 2244 (I 54 j).toNat < 100000000) := fun j hj => by
    have q := hlo.2.2 j hj
    have q1 := q.2.2.1
    have q2 := q.2.2.2.1
    simp only at q1 q2
    rw [← q1.1, ← q2.1]
    exact ⟨q1.2, q2.2⟩
  have hgx2 : I 41 x < 300 := by
    have := hG.1.2
    clear w12 w20 hey hex hlo hT g3x g3y
    rcases hgx with q | q <;> omega
  obtain ⟨z, hz⟩ := t_leaves (d' := d' + 2) (I' := prT I' w) (Y' := Y') (X := X) (w := w) (a := a) (x := x) (y := y) (Lp := Lp) (Nn := Nn) (so := I 52 w) (ku := I 38 x) (ky := I 41 y) (ar := I 55) (ln := I 54) (n := fun k => I 2014 (12 * a + (I 56 k - 1).toNat)) hL' hX hX2 hV hG.1.2 hG.1.1 ha w2 w3 w1
    (by rw [T0x 24 (by decide)]; exact ⟨w8.symm, w9, w10⟩) (by rw [T0x 9 (by decide)]; exact ⟨w13.symm, w14, w15⟩) (by rw [T0x 15 (by decide)]; exact hgy) (by rw [T0x 18 (by decide)]; exact gL_arT hG) (gL_inj hG)
    (fun k hk => by
      have q := hnn k hk
      rw [T0x 19 (by decide), T0 2209 (by decide) (by decide)]
      refine ⟨by clear w12 w20 hgx hgy hey hex hlo hT g3x g3y; omega, ?_, q.2.2.1, q.2.2.2.1⟩
      rw [q.2.1]; exact q.2.2.2.2) 300 (prT I' w) (I 41 x) (I' (X + 15) x) hgx hgx2 (fr_refl _ _ _) (fun j hj => by
      have q := rl j hj
      rw [T0 2243 (by decide) (by decide), T0 2244 (by decide) (by decide)]
      exact q)
  refine ⟨z, fun K => ?_⟩
  rw [hz]
  have tf2 := lvT_fr (ar := I 55) (ln := I 54) (n := fun k => I 2014 (12 * a + (I 56 k - 1).toNat)) (ky := I 41 y) (hw_lt (I 52 w) (I 38 x)) (300 + 1) (prT I' w) (I 41 x) (fr_refl [2243, 2244, 2245, 2246, 2247, 2248] [] (prT I' w))
  unfold goT3
  generalize lvT (I 55) (I 54) (fun k => I 2014 (12 * a + (I 56 k - 1).toNat)) (hw (I 52 w) (I 38 x)) (I 41 y) (300 + 1) (prT I' w) (I 41 x) = T2 at tf2
  have T2x : ∀ j, j < 38 → T2 (X + j) = I' (X + j) := fun j hj => by
    rw [fr_lt tf2 (b := 2243) (by decide) (Nat.lt_trans (hXb j hj).1 (by decide))]; exact T0x j hj
  refine t_ent (d := d' + 4) (I := T2) (Y := Y') (X := X) (w := w) (a := a) (x := x) (y := y) (dx := (I 56 (I 41 x).toNat - 1).toNat) (dy := (I 56 (I 41 y).toNat - 1).toNat) (so := I 52 w) (z5 := z) (ey := ey) (ex := ex) hL' hX hX2 hV ha w2 w3 w1 (by rw [T2x 24 (by decide)]; exact ⟨w8.symm, w9, w10⟩) (by rw [T2x 25 (by decide), ← w11]; exact w12) (by rw [T2x 26 (by decide)]; exact g3x) (by rw [T2x 26 (by decide)]; exact g3y) (by rw [T2x 26 (by decide), T2x 19 (by decide)]; intro e; have q := hlx e; clear w12 w20 hgx hgy hey hex hlo hT g3x g3y hlx hly; omega) (by rw [T2x 26 (by decide), T2x 19 (by decide)]; intro e; have q := hly e; clear w12 w20 hgx hgy hey hex hlo hT g3x g3y hlx hly; omega) (by rw [T2x 26 (by decide), T2x 25 (by decide), ← w11]; exact hey) (by rw [T2x 26 (by decide)]; exact hex)
/-- the house from behind the path to its end -/
theorem c_go2 {J : vJ} {Q : vE → Prop} {X t w a x y Nn Lp : Nat} {ex ey : Bool} (hL : vL Y) (hG : gL I I' X Nn Lp) (hS : wayS I I' X w x y) (hxN : x < Nn) (hyN : y < Nn) (ha : a < 320)
    (hlo : loR I I' Lp (fun l => (I 54 l).toNat)) (hT : ∀ j, j < 3840 → 0 ≤ I 2014 j ∧ I 2014 j < 90000000) (hJ : ∀ c, c = 38 ∨ c = 41 ∨ 50 ≤ c ∧ c ≤ 56 ∨ 1970 ≤ c ∧ c ≤ 1978 ∨ c = 2014 → J c = I c)
    (hey : ey = true ↔ I' (X + 26) y = 1 ∧ I 53 w = 0) (hex : ex = true ↔ I 52 w = 1 ∧ I' (X + 26) x = 1) :
    vW (d + 2) 164 (208, [vr 1990, vi t, vi w, vi a, vi x, vi y, vu], [], (J, Y)) Q ↔ Q (.inl none, (goC3 I J w a x y ex ey, Y)) := by
  obtain ⟨⟨w1, w2, w3⟩, ⟨w4, w5, w6, w7⟩, ⟨w8, w9, w10⟩, ⟨w11, w12⟩, ⟨w13, w14, w15⟩, ⟨w16, w17, w18⟩, w19, w20⟩ := hS
  have j38 := hJ 38 (by decide)
  have j41 := hJ 41 (by decide)
  have j52 := hJ 52 (by decide)
  have j53 := hJ 53 (by decide)
  have j54 := hJ 54 (by decide)
  have j55 := hJ 55 (by decide)
  have j56 := hJ 56 (by decide)
  have j2014 := hJ 2014 (by decide)
  have hgx := gL_of hG hxN
  have hgy := gL_of hG hyN
  have hLp := hG.1.2
  have hx1 : I 41 x = -1 ∨ 0 ≤ I 41 x ∧ I 41 x < Lp := by rcases hgx with q | q; exact Or.inl q.1; exact Or.inr q.1
  have hy1 : I 41 y = -1 ∨ 0 ≤ I 41 y ∧ I 41 y < Lp := by rcases hgy with q | q; exact Or.inl q.1; exact Or.inr q.1
  have b1 : vW (d + 2) 164 (208, [vr 1990, vi t, vi w, vi a, vi x, vi y, vu], [], (J, Y)) Q ↔ vW (d + 2) 164 (220, [vr 1990, vi t, vi w, vi a, vi x, vi y, vi (I 41 x)], [], (J, Y)) Q := by
    rw [b164_208 hL (by omega) (by omega)]
    simp only [tn0, j41]
  rw [b1]
  clear b1
  have hn : ∀ k : Nat, k < Lp → (1 ≤ J 56 k ∧ J 56 k ≤ 12) ∧ I 2014 (12 * a + (I 56 k - 1).toNat) = J 2014 (12 * a + (J 56 k - 1).toNat) ∧ 0 ≤ I 2014 (12 * a + (I 56 k - 1).toNat) ∧ I 2014 (12 * a + (I 56 k - 1).toNat) < 100000000 := by
    intro k hk
    obtain ⟨_, ⟨a3, a4, a5⟩, _⟩ := hG.2.2.1 k hk
    have q := hT (12 * a + (I 56 k - 1).toNat) (by clear w12 w20 hgx hgy hey hex hlo hT hJ; omega)
    rw [j56, j2014]
    exact ⟨⟨a3, a4⟩, rfl, q.1, by clear w12 w20 hgx hgy hey hex hlo hT hJ; omega⟩
  have rl : ∀ j, j < Lp → (-1 ≤ J 1972 j ∧ J 1972 j < 100000000) ∧ (-1 ≤ J 1973 j ∧ J 1973 j < 100000000) := fun j hj => by
    have q := hlo.2.2 j hj
    rw [hJ 1972 (by decide), hJ 1973 (by decide)]
    exact ⟨q.2.2.1.2, q.2.2.2.1.2⟩
  have hx2 : I 41 x < 300 := by
    clear w12 w20 hey hex hlo hT hgx hgy hJ
    rcases hx1 with q | q <;> omega
  rw [c_leaves (d := d) (I := J) (Y := Y) (t := t) (w := w) (a := a) (x := x) (y := y) (Lp := Lp) (so := I 52 w) (ku := I 38 x) (ky := I 41 y) (n := fun k => I 2014 (12 * a + (I 56 k - 1).toNat)) hL hLp ha w2 w3 w1 (by rw [j52]; exact ⟨rfl, w9, w10⟩) (by rw [j38]; exact ⟨rfl, w14, w15⟩) (by rw [j41]; exact ⟨rfl, hy1⟩) (by rw [j55]; exact gL_ar hG) hn 300 J (I 41 x) hx1 hx2 (fr_refl _ _ _) rl Q]
  rw [j55]
  have cf := lvC_fr (ar := I 55) (n := fun k => I 2014 (12 * a + (I 56 k - 1).toNat)) (ky := I 41 y) (hw_lt (I 52 w) (I 38 x)) (300 + 1) J (I 41 x) (fr_refl [1972, 1973, 1975, 1976, 1977, 1978] [] J)
  unfold goC3
  generalize lvC (I 55) (fun k => I 2014 (12 * a + (I 56 k - 1).toNat)) (hw (I 52 w) (I 38 x)) (I 41 y) (300 + 1) J (I 41 x) = C2 at cf
  have c41 : C2 41 = I 41 := (fr_row cf 41 (fun _ => rfl)).trans j41
  have c52 : C2 52 = I 52 := (fr_row cf 52 (fun _ => rfl)).trans j52
  have c53 : C2 53 = I 53 := (fr_row cf 53 (fun _ => rfl)).trans j53
  have c54 : C2 54 = I 54 := (fr_row cf 54 (fun _ => rfl)).trans j54
  have c56 : C2 56 = I 56 := (fr_row cf 56 (fun _ => rfl)).trans j56
  have nd : ∀ v : Nat, v < Nn → I 41 v = -1 ∨ 0 ≤ I 41 v ∧ I 41 v < Lp → I 41 v ≠ -1 → 0 ≤ I 54 (I 41 v).toNat ∧ I 54 (I 41 v).toNat < 700 ∧ I 56 (I 41 v).toNat = ((I 56 (I 41 v).toNat - 1).toNat : Nat) + 1 ∧ (I 56 (I 41 v).toNat - 1).toNat < 12 := by
    intro v hv q1 q2
    obtain ⟨⟨a1, a2⟩, ⟨a3, a4, a5⟩, _⟩ := hG.2.2.1 (I 41 v).toNat (by rcases q1 with q | q; exact absurd q q2; clear w12 w20 hgx hgy hey hex hlo hT hJ hx1 hy1; omega)
    have := hG.1.1
    clear w12 w20 hgx hgy hey hex hlo hT hJ hx1 hy1 q1
    exact ⟨a1, by omega, by omega, by omega⟩
  refine c_ent (d := d + 2) (I := C2) (Y := Y) (t := t) (w := w) (a := a) (x := x) (y := y) (dx := (I 56 (I 41 x).toNat - 1).toNat) (dy := (I 56 (I 41 y).toNat - 1).toNat) (kx := I 41 x) (ky := I 41 y) (so := I 52 w) (ey := ey) (ex := ex) hL ha w2 w3 w1 (by rw [c52]; exact ⟨rfl, w9, w10⟩) (by rw [c53]; exact w12) (by rw [c41]) ?_ ?_ ?_ ?_ ?_ ?_
  · rcases hx1 with q | q; exact Or.inl q; exact Or.inr ⟨q.1, by clear w12 w20 hgx hgy hey hex hlo hT hJ hy1; omega⟩
  · rcases hy1 with q | q; exact Or.inl q; exact Or.inr ⟨q.1, by clear w12 w20 hgx hgy hey hex hlo hT hJ hx1; omega⟩
  · rw [c54, c56]; exact nd x hxN hx1
  · rw [c54, c56]; exact nd y hyN hy1
  · rw [c54, c53, hey]
    constructor
    · intro q
      have r := gL_is hG y hyN q.1
      exact ⟨by clear w12 w20 hgx hgy hey hex hlo hT hJ hx1 hy1; omega, r.2.1, q.2⟩
    · intro q
      exact ⟨gL_si hG y hyN q.1 q.2.1, q.2.2⟩
  · rw [c54, hex]
    constructor
    · intro q
      have r := gL_is hG x hxN q.2
      exact ⟨q.1, by clear w12 w20 hgx hgy hey hex hlo hT hJ hx1 hy1; omega, r.2.1⟩
    · intro q
      exact ⟨q.1, gL_si hG x hxN q.2.1 q.2.2⟩
end
