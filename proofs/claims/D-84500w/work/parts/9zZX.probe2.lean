/-! ===== probes: which ways have one, in both houses ===== -/
set_option maxRecDepth 20000
set_option maxHeartbeats 4000000
/-- whether the k-th way in order gets a probe -/
def flG (f t od : Nat → Nat) (a k : Nat) : Int := if lbC f t od a k (f (od k)) = lbC f t od a k (t (od k)) then 1 else 0
theorem flG_01 (f t od : Nat → Nat) (a k : Nat) : flG f t od a k = 0 ∨ flG f t od a k = 1 := by
  unfold flG; split
  · exact Or.inr rfl
  · exact Or.inl rfl
/-- the order as a row of numbers -/
theorem sE_inj {wt : Nat → Int} {p n : Nat} {a : Nat → Int} (h : sE wt p n a) {i j : Nat} (hi : i < n) (hj : j < n) (e : a i = a j) : i = j := by
  apply Classical.byContradiction
  intro q
  by_cases z : i < j
  · have := h.2.1 i j z hj
    rw [e] at this
    unfold prc at this
    omega
  · have := h.2.1 j i (by omega) hi
    rw [e] at this
    unfold prc at this
    omega
theorem sE_sum {wt : Nat → Int} {p n : Nat} {a : Nat → Int} (h : sE wt p n a) (g : Nat → Int) : sW (fun i => g (a i).toNat) n = sW (fun j => g (p + j)) n := by
  have e1 : sW (fun i => g (a i).toNat) n = sW (fun i => sW (fun j => if a i = ((p + j : Nat) : Int) then g (p + j) else 0) n) n := sW_congr n (fun i hi => by
    obtain ⟨v, v1, v2, v3⟩ := h.1 i hi
    show g (a i).toNat = sW (fun j => if a i = ((p + j : Nat) : Int) then g (p + j) else 0) n
    rw [sW_ind (p := v - p) (f := fun j => if a i = ((p + j : Nat) : Int) then g (p + j) else 0) n (by omega) (fun j _ hj => if_neg (by rw [v1]; omega))]
    show g (a i).toNat = if a i = ((p + (v - p) : Nat) : Int) then g (p + (v - p)) else 0
    rw [if_pos (by rw [v1]; omega), v1, tn0, show p + (v - p) = v by omega])
  rw [e1, sW_comm (f := fun i j => if a i = ((p + j : Nat) : Int) then g (p + j) else 0) n]
  refine sW_congr n (fun j hj => ?_)
  show sW (fun i => if a i = ((p + j : Nat) : Int) then g (p + j) else 0) n = g (p + j)
  obtain ⟨i, i1, i2⟩ := h.2.2 (p + j) (by omega) (by omega)
  rw [sW_ind (p := i) (f := fun i => if a i = ((p + j : Nat) : Int) then g (p + j) else 0) n i1 (fun i' hi' hii => if_neg (fun q => hii (sE_inj h hi' i1 (by rw [q, i2]))))]
  show (if a i = ((p + j : Nat) : Int) then g (p + j) else 0) = g (p + j)
  rw [if_pos i2]
section
variable {d : Nat} {Y : vY} {I : vJ} {P : vE → Prop} {wt : Nat → Int} {a b p q o : Nat} {f t : Nat → Nat}
/-- the house: roots of a member's nodes, END and FAILED joined to ENTRY -/
theorem c_uf0 {x2 : Int} (hL : vL Y) (ho : 2297 ≤ o ∧ Y.2.1 o = 15 ∧ I o 3850 = a ∧ I o 3851 = (b : Int) - a) (hab : a + 3 ≤ b ∧ b ≤ 700)
    (hQ : ∀ (J : vJ) (x2 : Int), fr [60] [] I J → (∃ lb dp, ufR (J 60) a b lb dp ∧ eqL a b lb (lb0 a)) → vW (d + 2) 112 (63, [vr 57, vr o, vi x2, vi 0, vu, vu], [], (J, Y)) P) :
    vW (d + 2) 112 (0, [vr 57, vr o, vu, vu, vu, vu], [], (I, Y)) P := by
  have key : ∀ (s n : Nat) (J : vJ), n + s = b → a ≤ n → fr [60] [] I J → (∀ i : Nat, a ≤ i → i < n → J 60 i = (i : Int)) → vW (d + 2) 112 (5, [vr 57, vr o, vi (n : Int), vu, vu, vu], [], (J, Y)) P := by
    intro s
    induction s with
    | zero =>
      intro n J hs ha F h
      have e : n = b := by omega
      subst e
      have jo : J o = I o := fr_ge F 2297 (by rfl) ho.1
      have U0 : ufR (J 60) a n (fun i => i) (fun _ => 0) := fun i i1 i2 => ⟨⟨i1, i2, rfl⟩, i, h i i1 i2, ⟨i1, i2⟩, ⟨fun _ => rfl, fun _ => rfl⟩, rfl, fun q => absurd rfl q⟩
      rw [b112_5 (by omega) ho.2.1, jo, ho.2.2.1, ho.2.2.2, if_pos (by rw [show (a : Int) + ((n : Int) - a) = n by omega]; exact Int.le_refl _), b112_31 hL (by omega) ho.2.1, jo, ho.2.2.1, show (a : Int) + 1 = ((a + 1 : Nat) : Int) by omega, c_join (a := a) (b := n) hL (by omega) U0 ⟨by omega, by omega⟩ ⟨by omega, by omega⟩, if_neg (show ¬ a + 1 = a by omega)]
      simp only [vWC_s, Nat.reduceAdd]
      have F1 : fr [60] [] I (up J 60 (a + 1) (a : Int)) := fr_upL F rfl _ _
      have U1 := uf_join (g' := up J 60 (a + 1) (a : Int) 60) U0 (x := a + 1) (y := a) ⟨by omega, by omega⟩ ⟨by omega, by omega⟩ (show a + 1 ≠ a by omega) (fun i => up_at _ _ _ _ _)
      generalize up J 60 (a + 1) (a : Int) = J1 at F1 U1 ⊢
      have jo1 : J1 o = I o := fr_ge F1 2297 (by rfl) ho.1
      have l2 : (if a + 2 = a + 1 then a else a + 2) = a + 2 := if_neg (by omega)
      have l0 : (if a = a + 1 then a else a) = a := if_neg (by omega)
      rw [b112_45 hL (by omega) ho.2.1, jo1, ho.2.2.1, show (a : Int) + 2 = ((a + 2 : Nat) : Int) by omega, c_join (a := a) (b := n) hL (by omega) U1 ⟨by omega, by omega⟩ ⟨by omega, by omega⟩]
      simp only [l2, l0]
      rw [if_neg (show ¬ a + 2 = a by omega)]
      simp only [vWC_s, Nat.reduceAdd]
      have U2 := uf_join (g' := up J1 60 (a + 2) (a : Int) 60) U1 (x := a + 2) (y := a) ⟨by omega, by omega⟩ ⟨by omega, by omega⟩ (show (if a + 2 = a + 1 then a else a + 2) ≠ (if a = a + 1 then a else a) by rw [l2, l0]; omega) (fun i => by
        show up J1 60 (a + 2) (a : Int) 60 i = if i = (if a + 2 = a + 1 then a else a + 2) then (((if a = a + 1 then a else a) : Nat) : Int) else J1 60 i
        rw [up_at, l2, l0])
      rw [b112_59]
      refine hQ _ _ (fr_upL F1 rfl _ _) ⟨_, _, U2, fun i i' i1 i2 i3 i4 => ?_⟩
      show (if (if i = a + 1 then a else i) = (if a + 2 = a + 1 then a else a + 2) then (if a = a + 1 then a else a) else (if i = a + 1 then a else i)) = (if (if i' = a + 1 then a else i') = (if a + 2 = a + 1 then a else a + 2) then (if a = a + 1 then a else a) else (if i' = a + 1 then a else i')) ↔ lb0 a i = lb0 a i'
      rw [l2, l0]
      have e : ∀ i : Nat, (if (if i = a + 1 then a else i) = a + 2 then a else (if i = a + 1 then a else i)) = lb0 a i := fun i => by
        unfold lb0
        by_cases y1 : i = a + 1
        · rw [if_pos y1, if_neg (by omega), if_pos (Or.inl y1)]
        · rw [if_neg y1]
          by_cases y2 : i = a + 2
          · rw [if_pos y2, if_pos (Or.inr y2)]
          · rw [if_neg y2, if_neg (by omega)]
      rw [e, e]
    | succ s ih =>
      intro n J hs ha F h
      have jo : J o = I o := fr_ge F 2297 (by rfl) ho.1
      rw [b112_5 (by omega) ho.2.1, jo, ho.2.2.1, ho.2.2.2, if_neg (by rw [show (a : Int) + ((b : Int) - a) = b by omega, w32_id (by omega) (by omega), w32_id (by omega) (by omega)]; omega), b112_18 hL (by omega) (by omega), tn0, show (n : Int) + 1 = ((n + 1 : Nat) : Int) by omega]
      refine ih (n + 1) _ (by omega) (by omega) (fr_upL F rfl _ _) (fun i i1 i2 => ?_)
      rw [up_at]
      by_cases z : i = n
      · rw [if_pos z, z]
      · rw [if_neg z]; exact h i i1 (by omega)
  rw [b112_0 (by omega) ho.2.1, ho.2.2.1]
  exact key (b - a) a I (by omega) (Nat.le_refl _) (fr_refl _ _ _) (fun i i1 i2 => by omega)
/-- the house: probes of a member -/
theorem c_prb (hL : vL Y) (ho : 2297 ≤ o ∧ Y.2.1 o = 15 ∧ (I o 3850 = a ∧ I o 3851 = (b : Int) - a) ∧ I o 3852 = p ∧ I o 3853 = (q : Int) - p) (hab : a + 3 ≤ b ∧ b ≤ 700) (hpq : p ≤ q ∧ q ≤ 2100) (hw : ∀ v, p ≤ v → v < q → I 58 v = wt v ∧ 0 ≤ wt v ∧ wt v < 2147483648) (hft : ∀ v, p ≤ v → v < q → (I 50 v = f v ∧ a ≤ f v ∧ f v < b) ∧ I 51 v = t v ∧ a ≤ t v ∧ t v < b)
    (hQ : ∀ (J : vJ) (od : Nat → Nat), fr [59, 60, 61] [] I J → sE wt p (q - p) (fun i => (od i : Int)) → (∀ i, i < q - p → J 61 (od i) = flG f t od a i) → (∀ w, ¬ (p ≤ w ∧ w < q) → J 61 w = I 61 w) → P (.inl none, (J, Y))) :
    vW (d + 2) 112 (0, [vr 57, vr o, vu, vu, vu, vu], [], (I, Y)) P := by
  refine c_uf0 (d := d) (x2 := 0) hL ⟨ho.1, ho.2.1, ho.2.2.1.1, ho.2.2.1.2⟩ hab (fun J1 x2 F1 h1 => ?_)
  have jo1 : J1 o = I o := fr_ge F1 2297 (by rfl) ho.1
  have e58 : J1 58 = I 58 := fr_row F1 58 (fun _ => rfl)
  refine c_order (d := d) (wt := wt) (p := p) (q := q) hL ⟨ho.1, ho.2.1, by rw [jo1]; exact ho.2.2.2.1, by rw [jo1]; exact ho.2.2.2.2⟩ hpq (by rw [e58]; exact hw) (fun J2 x4 x5 F2 h2 => ?_) (q - p) 0 J1 vu vu (by omega) (fr_refl _ _ _) ⟨fun i hi => absurd hi (Nat.not_lt_zero _), fun i i' _ hi => absurd hi (Nat.not_lt_zero _), fun v v1 v2 => by omega⟩
  obtain ⟨od, hod⟩ : ∃ od : Nat → Nat, od = fun i => (J2 59 i).toNat := ⟨_, rfl⟩
  have o1 : ∀ i, i < q - p → J2 59 i = (od i : Int) ∧ p ≤ od i ∧ od i < q := fun i hi => by
    obtain ⟨v, v1, v2, v3⟩ := h2.1 i hi
    rw [hod]
    show J2 59 i = ((J2 59 i).toNat : Int) ∧ p ≤ (J2 59 i).toNat ∧ (J2 59 i).toNat < q
    rw [v1, tn0]
    exact ⟨rfl, v2, by omega⟩
  have sO : sE wt p (q - p) (fun i => (od i : Int)) := by
    refine ⟨fun i hi => ⟨od i, rfl, (o1 i hi).2.1, by have := (o1 i hi).2.2; omega⟩, fun i i' i1 i2 => ?_, fun v v1 v2 => ?_⟩
    · have w := h2.2.1 i i' i1 i2
      rw [(o1 i (by omega)).1, (o1 i' i2).1] at w
      exact w
    · obtain ⟨i, i1, i2⟩ := h2.2.2 v v1 v2
      exact ⟨i, i1, by show (od i : Int) = v; rw [← (o1 i i1).1]; exact i2⟩
  have F12 : fr [59, 60, 61] [] I J2 := fr_trans (fr_sub F1 (by rfl) (by rfl)) (fr_sub F2 (by rfl) (by rfl))
  have h3 : ∃ lb dp, ufR (J2 60) a b lb dp ∧ eqL a b lb (lbC f t od a 0) := by
    obtain ⟨lb, dp, u1, u2⟩ := h1
    exact ⟨lb, dp, by rw [fr_row F2 60 (fun _ => rfl)]; exact u1, u2⟩
  have key : ∀ (s k : Nat) (J : vJ) (x4 x5 : vV), k + s = q - p → fr [60, 61] [] J2 J → (∃ lb dp, ufR (J 60) a b lb dp ∧ eqL a b lb (lbC f t od a k)) → (∀ i, i < k → J 61 (od i) = flG f t od a i) → (∀ w, ¬ (p ≤ w ∧ w < q) → J 61 w = I 61 w) → vW (d + 2) 112 (150, [vr 57, vr o, vi x2, vi (k : Int), x4, x5], [], (J, Y)) P := by
    intro s
    induction s with
    | zero =>
      intro k J x4 x5 hk F h hfl ho61
      have e : k = q - p := by omega
      have FJ : fr [59, 60, 61] [] I J := fr_trans F12 (fr_sub F (by rfl) (by rfl))
      rw [b112_150 (by omega) ho.2.1, fr_ge FJ 2297 (by rfl) ho.1, ho.2.2.2.2, if_pos (by rw [show (q : Int) - p = (k : Int) by omega]; exact Int.le_refl _), b112_215]
      exact hQ J od FJ sO (fun i hi => hfl i (by omega)) ho61
    | succ s ih =>
      intro k J x4 x5 hk F h hfl ho61
      obtain ⟨lb, dp, u1, u2⟩ := h
      have FJ : fr [59, 60, 61] [] I J := fr_trans F12 (fr_sub F (by rfl) (by rfl))
      obtain ⟨k1, k2, k3⟩ := o1 k (by omega)
      obtain ⟨⟨f1, f2, f3⟩, t1, t2, t3⟩ := hft (od k) k2 k3
      have e59 : J 59 k = (od k : Int) := by rw [F 59 _ rfl]; exact k1
      have e50 : J 50 (od k) = f (od k) := by rw [FJ 50 _ rfl]; exact f1
      have e51 : J 51 (od k) = t (od k) := by rw [FJ 51 _ rfl]; exact t1
      rw [b112_150 (by omega) ho.2.1, fr_ge FJ 2297 (by rfl) ho.1, ho.2.2.2.2, if_neg (by rw [w32_id (by omega) (by omega), w32_id (by omega) (by omega)]; omega), b112_158 hL (by omega) (by omega) (by rw [tn0, e59]; omega) (by rw [tn0, e59]; omega), tn0, e59, tn0, e50, e51, c_join hL hab.2 u1 ⟨f2, f3⟩ ⟨t2, t3⟩]
      have ek : (k : Int) + 1 = ((k + 1 : Nat) : Int) := by omega
      have ne : ∀ i, i < k → od i ≠ od k := fun i hi q => by
        have := sE_inj sO (i := i) (j := k) (by omega) (by omega) (by show (od i : Int) = (od k : Int); rw [q])
        omega
      by_cases z : lb (f (od k)) = lb (t (od k))
      · have fl : flG f t od a k = 1 := by unfold flG; rw [if_pos ((u2 _ _ f2 f3 t2 t3).mp z)]
        rw [if_pos z]
        simp only [vWC_s, Nat.reduceAdd]
        rw [b112_200, if_neg (by decide), b112_203, b112_208 hL (by omega) (by omega) (Or.inr rfl), tn0, ek]
        refine ih (k + 1) _ _ _ (by omega) (fr_upL F rfl _ _) ⟨lb, dp, by rw [up_row _ (by decide)]; exact u1, eq_same u2 ⟨f2, f3⟩ ⟨t2, t3⟩ z⟩ (fun i hi => ?_) (fun w hw => ?_)
        · rw [up_at]
          by_cases y : i = k
          · rw [y, if_pos rfl, fl]
          · rw [if_neg (ne i (by omega))]; exact hfl i (by omega)
        · rw [up_at, if_neg (fun q => hw (by rw [q]; exact ⟨k2, k3⟩))]; exact ho61 w hw
      · have fl : flG f t od a k = 0 := by unfold flG; rw [if_neg (fun q => z ((u2 _ _ f2 f3 t2 t3).mpr q))]
        rw [if_neg z]
        simp only [vWC_s, Nat.reduceAdd]
        rw [b112_200, if_pos (by decide), b112_207, b112_208 hL (by omega) (by omega) (Or.inl rfl), tn0, ek]
        refine ih (k + 1) _ _ _ (by omega) (fr_upL (fr_upL F rfl _ _) rfl _ _) ⟨_, _, uf_join (x := f (od k)) (y := t (od k)) u1 ⟨f2, f3⟩ ⟨t2, t3⟩ z (fun n => by rw [up_cell _ (by decide), up_at]), eq_join u2 ⟨f2, f3⟩ ⟨t2, t3⟩ z⟩ (fun i hi => ?_) (fun w hw => ?_)
        · rw [up_at]
          by_cases y : i = k
          · rw [y, if_pos rfl, fl]
          · rw [if_neg (ne i (by omega)), up_cell _ (by decide)]; exact hfl i (by omega)
        · rw [up_at, if_neg (fun q => hw (by rw [q]; exact ⟨k2, k3⟩)), up_cell _ (by decide)]; exact ho61 w hw
  rw [b112_148]
  exact key (q - p) 0 J2 x4 x5 (by omega) (fr_refl _ _ _) h3 (fun i hi => absurd hi (Nat.not_lt_zero _)) (fun w _ => by rw [F2 61 _ rfl, F1 61 _ rfl])
end
