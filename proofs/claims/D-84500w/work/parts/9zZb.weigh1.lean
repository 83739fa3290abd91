/-! ===== weigh: weights by depth, in both houses ===== -/
set_option maxRecDepth 20000
set_option maxHeartbeats 4000000
def t10 : Nat → Int
  | 0 => 1
  | n + 1 => t10 n * 10
theorem t10_b {n : Nat} (h : n ≤ 9) : 0 ≤ t10 n ∧ t10 n < 2147483648 := by
  have : n = 0 ∨ n = 1 ∨ n = 2 ∨ n = 3 ∨ n = 4 ∨ n = 5 ∨ n = 6 ∨ n = 7 ∨ n = 8 ∨ n = 9 := by omega
  rcases this with q | q | q | q | q | q | q | q | q | q <;> subst q <;> decide
def mnD (x y : Int) : Nat := (if (if y < x then y else x) < 9 then (if y < x then y else x) else 9).toNat
def bdW (s x y : Int) : Int := if s = 3 then 0 else t10 (mnD x y)
theorem mnD_9 (x y : Int) : mnD x y ≤ 9 := by
  unfold mnD
  split <;> split <;> omega
theorem bdW_b (s x y : Int) : 0 ≤ bdW s x y ∧ bdW s x y < 2147483648 := by
  unfold bdW
  split
  · decide
  · exact t10_b (mnD_9 x y)
section
variable {d : Nat} {Y : vY} {I J : vJ} {P : vE → Prop} {Nn p q o X : Nat} {f t : Nat → Nat} {dp : Nat → Int}
/-- depths of nodes, in both houses -/
def dpR (I : vJ) (Nn : Nat) (dp : Nat → Int) : Prop := ∀ n, n < Nn → (0 ≤ dp n ∧ dp n ≤ 100) ∧ (I 41 n = -1 ∧ dp n = 0 ∨ 0 ≤ I 41 n ∧ I 41 n < 260 ∧ I 56 (I 41 n).toNat = dp n)
theorem c_106 (hL : vL Y) (hN : Nn ≤ 700) (h : dpR I Nn dp) {n : Nat} (hn : n < Nn) : An d 106 [vr 35, vi (n : Int)] I Y (dp n) := fun P => by
  obtain ⟨_, h2⟩ := h n hn
  rw [b106_0 hL (by omega) (by omega), tn0]
  rcases h2 with ⟨e1, e2⟩ | ⟨e1, e2, e3⟩
  · rw [e1, if_neg (fun q => q rfl), b106_10, b106_25, e2]
  · rw [if_pos (by rw [w32_id (by omega) (by omega), show w32 (-1) = -1 from by decide]; omega), b106_14 hL (by omega) (by omega) (by rw [tn0]; exact e1) (by rw [tn0]; exact e2), tn0, e3, b106_25]
theorem c_ten {x2 : Int} {D : Nat} (hD : D ≤ 9) (hQ : ∀ x4 : Int, vW d 111 (78, [vr 57, vr o, vi x2, vi (t10 D), vi x4], [], (I, Y)) P) : ∀ (s j : Nat), j + s = D → vW d 111 (62, [vr 57, vr o, vi x2, vi (t10 j), vi ((s : Nat) : Int)], [], (I, Y)) P := by
  intro s
  induction s with
  | zero =>
    intro j hj
    have e : j = D := by omega
    subst e
    rw [b111_62, if_pos (by decide)]
    exact hQ _
  | succ s ih =>
    intro j hj
    rw [b111_62, if_neg (by rw [w32_id (by omega) (by omega)]; omega), b111_67, show ((s + 1 : Nat) : Int) + -1 = ((s : Nat) : Int) by omega]
    exact ih (j + 1) (by omega)
theorem min_504 {x y : Int} (hx : 0 ≤ x ∧ x ≤ 100) (hy : 0 ≤ y ∧ y ≤ 100) : vW d 504 (0, [vi x, vi y], [], (I, Y)) P ↔ P (.inl (some (vi (if y < x then y else x))), (I, Y)) := by
  rw [m504_0, w32_id (by omega) (by omega), w32_id (by omega) (by omega), b504_10]
/-- the house: weights by depth of a member's ways -/
theorem c_byd (hL : vL Y) (hN : Nn ≤ 700) (ho : 2297 ≤ o ∧ Y.2.1 o = 15 ∧ I o 3852 = p ∧ I o 3853 = (q : Int) - p) (hpq : p ≤ q ∧ q ≤ 2100) (hd : dpR I Nn dp) (hft : ∀ v, p ≤ v → v < q → (I 50 v = f v ∧ f v < Nn) ∧ (I 51 v = t v ∧ t v < Nn) ∧ 0 ≤ I 52 v ∧ I 52 v ≤ 3)
    (hQ : ∀ (J : vJ) (x2 : Int) (x3 x4 : vV), fr [58] [] I J → (∀ v, p ≤ v → v < q → J 58 v = bdW (I 52 v) (dp (f v)) (dp (t v))) → (∀ v, ¬ (p ≤ v ∧ v < q) → J 58 v = I 58 v) → vW (d + 1) 111 (108, [vr 57, vr o, vi x2, x3, x4], [], (J, Y)) P) :
    vW (d + 1) 111 (0, [vr 57, vr o, vu, vu, vu], [], (I, Y)) P := by
  have key : ∀ (s w : Nat) (J : vJ) (x3 x4 : vV), w + s = q → p ≤ w → fr [58] [] I J → (∀ v, p ≤ v → v < w → J 58 v = bdW (I 52 v) (dp (f v)) (dp (t v))) → (∀ v, ¬ (p ≤ v ∧ v < q) → J 58 v = I 58 v) → vW (d + 1) 111 (5, [vr 57, vr o, vi (w : Int), x3, x4], [], (J, Y)) P := by
    intro s
    induction s with
    | zero =>
      intro w J x3 x4 hs hw F h1 h2
      have e : w = q := by omega
      subst e
      rw [b111_5 (by omega) ho.2.1, fr_ge F 2297 (by rfl) ho.1, ho.2.2.1, ho.2.2.2, if_pos (by rw [show (p : Int) + ((w : Int) - p) = w by omega]; exact Int.le_refl _)]
      exact hQ J _ _ _ F h1 h2
    | succ s ih =>
      intro w J x3 x4 hs hw F h1 h2
      obtain ⟨⟨f1, f2⟩, ⟨t1, t2⟩, s1, s2⟩ := hft w hw (by omega)
      have hdJ : dpR J Nn dp := by
        unfold dpR at *
        rw [fr_row F 41 (fun _ => rfl), fr_row F 56 (fun _ => rfl)]; exact hd
      have b1 := (hd (f w) f2).1
      have b2 := (hd (t w) t2).1
      have bm : 0 ≤ (if dp (t w) < dp (f w) then dp (t w) else dp (f w)) ∧ (if dp (t w) < dp (f w) then dp (t w) else dp (f w)) ≤ 100 := by split <;> omega
      have e50 : J 50 w = f w := by rw [F 50 _ rfl]; exact f1
      have e51 : J 51 w = t w := by rw [F 51 _ rfl]; exact t1
      have e52 : J 52 w = I 52 w := F 52 _ rfl
      rw [b111_5 (by omega) ho.2.1, fr_ge F 2297 (by rfl) ho.1, ho.2.2.1, ho.2.2.2, if_neg (by rw [show (p : Int) + ((q : Int) - p) = q by omega, w32_id (by omega) (by omega), w32_id (by omega) (by omega)]; omega), b111_18 hL (by omega) (by omega), tn0, e50, c_106 hL hN hdJ f2]
      simp only [vWC_s, Nat.reduceAdd]
      rw [b111_38 hL (by omega) (by omega), tn0, e51, c_106 hL hN hdJ t2]
      simp only [vWC_s, Nat.reduceAdd]
      rw [b111_54, min_504 b1 b2]
      simp only [vWC_s, Nat.reduceAdd]
      rw [b111_57, min_504 (by omega) bm]
      simp only [vWC_s, Nat.reduceAdd]
      have eD : (if (if dp (t w) < dp (f w) then dp (t w) else dp (f w)) < 9 then (if dp (t w) < dp (f w) then dp (t w) else dp (f w)) else 9) = ((mnD (dp (f w)) (dp (t w)) : Nat) : Int) := by
        unfold mnD
        split <;> split <;> omega
      rw [b111_60, eD]
      refine c_ten (D := mnD (dp (f w)) (dp (t w))) (mnD_9 _ _) (fun x4' => ?_) _ 0 (by omega)
      have ew : (w : Int) + 1 = ((w + 1 : Nat) : Int) := by omega
      have put : ∀ v : Int, v = bdW (I 52 w) (dp (f w)) (dp (t w)) → vW (d + 1) 111 (101, [vr 57, vr o, vi (w : Int), vi (t10 (mnD (dp (f w)) (dp (t w)))), vi x4'], [vi v, vi (w : Int), vr 58], (J, Y)) P := fun v ev => by
        rw [b111_101 hL (by omega) (by omega), tn0, ew]
        refine ih (w + 1) _ _ _ (by omega) (by omega) (fr_upL F rfl _ _) (fun u u1 u2 => ?_) (fun u hu => by rw [up_at, if_neg (by omega)]; exact h2 u hu)
        rw [up_at]
        by_cases z : u = w
        · rw [if_pos z, z]; exact ev
        · rw [if_neg z]; exact h1 u u1 (by omega)
      rw [b111_78 hL (by omega) (by omega), tn0, e52, w32_id (by omega) (by omega)]
      by_cases z : I 52 w = 3
      · rw [if_neg (fun q => q z), b111_96]
        exact put 0 (by unfold bdW; rw [if_pos z])
      · rw [if_pos (show I 52 w ≠ w32 3 from z), b111_100]
        exact put _ (by unfold bdW; rw [if_neg z])
  rw [b111_0 (by omega) ho.2.1, ho.2.2.1]
  exact key (q - p) p I vu vu (by omega) (Nat.le_refl _) (fr_refl _ _ _) (fun v v1 v2 => by omega) (fun v _ => rfl)
/-- the model: the weight of a way -/
theorem t_byd (hL : vL Y) (hX : Y.1 2075 7689 = X) (hV : vreg Y 2081 38 X) {w : Nat} (hw : w < 3200) (h24 : 0 ≤ I (X + 24) w ∧ I (X + 24) w ≤ 3) (hf : I (X + 22) w = f w ∧ f w < 1400) (ht : I (X + 23) w = t w ∧ t w < 1400) (hd : (I (X + 14) (f w) = dp (f w) ∧ 0 ≤ dp (f w) ∧ dp (f w) ≤ 100) ∧ I (X + 14) (t w) = dp (t w) ∧ 0 ≤ dp (t w) ∧ dp (t w) ≤ 100) :
    vW (d + 1) 353 (0, [vr 2075, vi (w : Int), vu, vu, vu, vu], [], (I, Y)) P ↔ P (.inl (some (vl (bdW (I (X + 24) w) (dp (f w)) (dp (t w))))), (I, Y)) := by
  have hV' : vreg Y 2081 38 (Y.1 2075 7689) := by rw [hX]; exact hV
  rw [b353_0 hL hV' (by omega) (by omega), hX, tn0, w32_id (by omega) (by omega)]
  unfold bdW
  by_cases z : I (X + 24) w = 3
  · rw [if_neg (fun q => q z), b353_13, if_pos z]
  · have bm : 0 ≤ (if dp (t w) < dp (f w) then dp (t w) else dp (f w)) ∧ (if dp (t w) < dp (f w) then dp (t w) else dp (f w)) ≤ 100 := by split <;> omega
    rw [if_pos (show I (X + 24) w ≠ w32 3 from z), if_neg z, b353_15 hL hV' (by omega) (by omega) (by rw [hX, tn0, hf.1]; omega) (by rw [hX, tn0, hf.1]; omega) (by rw [hX, tn0, ht.1]; omega) (by rw [hX, tn0, ht.1]; omega), hX, tn0, hf.1, ht.1, tn0, tn0, hd.1.1, hd.2.1, min_504 hd.1.2 hd.2.2]
    simp only [vWC_s, Nat.reduceAdd]
    rw [b353_54, min_504 (by omega) bm]
    simp only [vWC_s, Nat.reduceAdd]
    have eD : (if (if dp (t w) < dp (f w) then dp (t w) else dp (f w)) < 9 then (if dp (t w) < dp (f w) then dp (t w) else dp (f w)) else 9) = ((mnD (dp (f w)) (dp (t w)) : Nat) : Int) := by
      unfold mnD
      split <;> split <;> omega
    have d9 := mnD_9 (dp (f w)) (dp (t w))
    rw [b353_57, eD]
    have key : ∀ (s j : Nat), j + s = mnD (dp (f w)) (dp (t w)) → (vW (d + 1) 353 (63, [vr 2075, vi (w : Int), vi ((mnD (dp (f w)) (dp (t w)) : Nat) : Int), vl (t10 j), vu, vi (j : Int)], [], (I, Y)) P ↔ P (.inl (some (vl (t10 (mnD (dp (f w)) (dp (t w)))))), (I, Y))) := by
      intro s
      induction s with
      | zero =>
        intro j hj
        have e : j = mnD (dp (f w)) (dp (t w)) := by omega
        rw [b353_63, if_pos (by rw [e]; exact Int.le_refl _), b353_81, e]
      | succ s ih =>
        intro j hj
        rw [b353_63, if_neg (by rw [w32_id (by omega) (by omega), w32_id (by omega) (by omega)]; omega), b353_69, show (j : Int) + 1 = ((j + 1 : Nat) : Int) by omega, Int.mul_comm 10 (t10 j)]
        exact ih (j + 1) (by omega)
    exact key (mnD (dp (f w)) (dp (t w))) 0 (Nat.zero_add _)
end
