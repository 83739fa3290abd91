/-! ===== probes: the model's, whole ===== -/
set_option maxRecDepth 20000
set_option maxHeartbeats 4000000
section
variable {d : Nat} {Y : vY} {I J : vJ} {P : vE → Prop} {wt : Nat → Int} {a b p q m mm X : Nat} {f t od : Nat → Nat}
/-- the model's ways of a member one behind the other -/
theorem t_ways (hL : vL Y) (hX : Y.1 2075 7689 = X) (hX2 : X = 2081 ∨ X = 2119) (hV : vreg Y 2081 38 X) (hm : m < 24) (hab : a + 3 ≤ b ∧ b ≤ 700) (hpq : p ≤ q ∧ q ≤ 2100) (sO : sE wt p (q - p) (fun i => (od i : Int))) (hwt : ∀ w, p ≤ w → w < q → I 2172 w = wt w ∧ 0 ≤ wt w ∧ wt w < 2147483648) (hft : ∀ v, p ≤ v → v < q → (I (X + 22) v = f v ∧ a ≤ f v ∧ f v < b) ∧ I (X + 23) v = t v ∧ a ≤ t v ∧ t v < b)
    {x4 x5 : Int}
    (hQ : ∀ J : vJ, fr [2173, 2174, 2175, 2176] [] I J → (∀ i, i < q - p → J 2173 (od i) = flG f t od a i) → (∀ w, ¬ (p ≤ w ∧ w < q) → J 2173 w = I 2173 w) → J 2174 m = sW (flG f t od a) (q - p) → (∀ j, j ≠ m → J 2174 j = I 2174 j) → P (.inl none, (J, Y))) :
    ∀ (s k : Nat) (J : vJ) (x9 x10 : vV), k + s = q - p → fr [2173, 2174, 2175, 2176] [] I J → (∀ n, a ≤ n → n < b → J 2175 n = lbC f t od a k n) → (∀ w, p ≤ w → w < q → (J 2176 w = 0 ∧ (∀ i, i < k → od i ≠ w)) ∨ (J 2176 w = 1 ∧ ∃ i, i < k ∧ od i = w)) → (∀ i, i < k → J 2173 (od i) = flG f t od a i) → (∀ w, ¬ (p ≤ w ∧ w < q) → J 2173 w = I 2173 w) → J 2174 m = sW (flG f t od a) k → (∀ j, j ≠ m → J 2174 j = I 2174 j) → vW (d + 1) 354 (118, [vr 2075, vi (m : Int), vi (a : Int), vi (b : Int), vi x4, vi x5, vi (p : Int), vi (q : Int), vi ((p + k : Nat) : Int), x9, x10], [], (J, Y)) P := by
  have o1 : ∀ i, i < q - p → p ≤ od i ∧ od i < q := fun i hi => by
    obtain ⟨v, v1, v2, v3⟩ := sO.1 i hi
    have v1 : (od i : Int) = v := v1
    omega
  have lb := lbC_b (a := a) (b := b) (p := p) (q := q) (f := f) (t := t) (od := od) (fun i hi => by
    obtain ⟨⟨_, f2⟩, _, t2⟩ := hft (od i) (o1 i hi).1 (o1 i hi).2
    exact ⟨f2, t2⟩) hab.1
  intro s
  induction s with
  | zero =>
    intro k J x9 x10 hk F hl hk6 hf ho h4 h5
    have e : k = q - p := by omega
    rw [b354_118, if_pos (by rw [show ((p + k : Nat) : Int) = (q : Int) by omega]; exact Int.le_refl _), b354_261]
    exact hQ J F (fun i hi => hf i (by omega)) ho (by rw [h4, e]) h5
  | succ s ih =>
    intro k J x9 x10 hk F hl hk6 hf ho h4 h5
    obtain ⟨k1, k2⟩ := o1 k (by omega)
    obtain ⟨⟨f1, f2, f3⟩, t1, t2, t3⟩ := hft (od k) k1 k2
    have r22 : J (X + 22) = I (X + 22) := fr_out F 2081 2173 (by rfl) (by omega) (by omega)
    have r23 : J (X + 23) = I (X + 23) := fr_out F 2081 2173 (by rfl) (by omega) (by omega)
    have r72 : J 2172 = I 2172 := fr_row F 2172 (fun _ => rfl)
    rw [b354_118, if_neg (by rw [w32_id (by omega) (by omega), w32_id (by omega) (by omega)]; omega), b354_125]
    refine t_best (d := d + 1) (wt := wt) (od := od) hL hpq.2 sO hpq.1 (by omega) (by rw [r72]; exact hwt) hk6 ?_
    have ne : ∀ i, i < k → od i ≠ od k := fun i hi q => by
      have := sE_inj sO (i := i) (j := k) (by omega) (by omega) (by show (od i : Int) = (od k : Int); rw [q])
      omega
    rw [b354_182 hL (by omega) (by omega) (by rw [hX]; exact hV), hX, tn0, up_cell _ (by omega), up_cell _ (by omega), r22, r23, f1, t1]
    have ex : ((p + k : Nat) : Int) + 1 = ((p + (k + 1) : Nat) : Int) := by omega
    -- what is left when the two are joined or not
    have rest : ∀ (K : vJ) (fl : Int), (fl = 0 ∨ fl = 1) → flG f t od a k = fl → fr [2175, 2176] [] J K → (∀ n, a ≤ n → n < b → K 2175 n = lbC f t od a (k + 1) n) → (∀ w, K 2176 w = if w = od k then 1 else J 2176 w) → vW (d + 1) 354 (230, [vr 2075, vi (m : Int), vi (a : Int), vi (b : Int), vi x4, vi x5, vi (p : Int), vi (q : Int), vi ((p + k : Nat) : Int), vi (od k : Int), vi (q : Int)], [vi fl, vi (od k : Int), vr 2173], (K, Y)) P := by
      intro K fl f01 efl FK hl2 h76
      have nx : ∀ (s3 : Int), s3 = fl → vW (d + 1) 354 (253, [vr 2075, vi (m : Int), vi (a : Int), vi (b : Int), vi x4, vi x5, vi (p : Int), vi (q : Int), vi ((p + k : Nat) : Int), vi (od k : Int), vi (q : Int)], [vi s3, vi (up K 2173 (od k) fl 2174 m), vi (m : Int), vr 2174], (up K 2173 (od k) fl, Y)) P := by
        intro s3 e3
        rw [b354_253 hL (by omega) (by omega), tn0, ex, up_cell _ (by decide), e3, FK 2174 _ rfl, h4]
        refine ih (k + 1) _ _ _ (by omega) (fr_upL (fr_upL (fr_trans F (fr_sub FK (by rfl) (by rfl))) rfl _ _) rfl _ _) (fun n n1 n2 => ?_) (fun w w1 w2 => ?_) (fun i hi => ?_) (fun w hw => ?_) ?_ (fun j hj => ?_)
        · rw [up_cell _ (by decide), up_cell _ (by decide)]; exact hl2 n n1 n2
        · rw [up_cell _ (by decide), up_cell _ (by decide), h76]
          by_cases z : w = od k
          · rw [if_pos z]; exact Or.inr ⟨rfl, k, by omega, z.symm⟩
          · rw [if_neg z]
            rcases hk6 w w1 w2 with ⟨l1, l2⟩ | ⟨l1, i, l2, l3⟩
            · refine Or.inl ⟨l1, fun i hi q => ?_⟩
              by_cases y : i = k
              · rw [y] at q; exact z q.symm
              · exact l2 i (by omega) q
            · exact Or.inr ⟨l1, i, by omega, l3⟩
        · rw [up_cell _ (by decide), up_at]
          by_cases y : i = k
          · rw [y, if_pos rfl, efl]
          · rw [if_neg (ne i (by omega)), FK 2173 _ rfl]; exact hf i (by omega)
        · rw [up_cell _ (by decide), up_at, if_neg (fun q => hw (by rw [q]; exact ⟨k1, k2⟩)), FK 2173 _ rfl]; exact ho w hw
        · rw [up_same]
          show sW (flG f t od a) k + fl = sW (flG f t od a) k + flG f t od a k
          rw [efl]
        · rw [up_place _ _ hj, up_cell _ (by decide), FK 2174 _ rfl]; exact h5 j hj
      rw [b354_230 hL (by omega) (by omega) f01, tn0, b354_231 hL (by omega) (by omega) (by omega) (by omega), tn0, tn0, up_same]
      rcases f01 with z | z
      · rw [z, if_pos (by decide), b354_252]
        have := nx 0 z.symm
        rw [z] at this
        exact this
      · rw [z, if_neg (by decide), b354_248]
        have := nx 1 z.symm
        rw [z] at this
        exact this
    have h76 : ∀ w, up J 2176 (od k) 1 2176 w = if w = od k then 1 else J 2176 w := fun w => up_at _ _ _ _ _
    refine t_joins (L := lbC f t od a k) hL (by omega) (fun n n1 n2 => ⟨by rw [up_cell _ (by decide)]; exact hl n n1 n2, by have := lb k (by omega) n n1 n2; omega⟩) ⟨f2, f3⟩ ⟨t2, t3⟩ (fun z => ?_) (fun z J2 F2 h2 => ?_)
    · simp only [vWC_s, Nat.reduceAdd]
      rw [b354_222, if_neg (by decide), b354_225]
      refine rest _ 1 (Or.inr rfl) (by unfold flG; rw [if_pos z]) (fr_upL (fr_refl _ _ _) rfl _ _) (fun n n1 n2 => ?_) h76
      rw [up_cell _ (by decide), hl n n1 n2]
      show _ = (((if lbC f t od a k n = lbC f t od a k (t (od k)) then lbC f t od a k (f (od k)) else lbC f t od a k n : Nat)) : Int)
      by_cases y : lbC f t od a k n = lbC f t od a k (t (od k))
      · rw [if_pos y, y, z]
      · rw [if_neg y]
    · simp only [vWC_s, Nat.reduceAdd]
      rw [b354_222, if_pos (by decide), b354_229]
      refine rest J2 0 (Or.inl rfl) (by unfold flG; rw [if_neg z]) (fr_trans (fr_upL (fr_refl _ _ _) rfl _ _) (fr_sub F2 (by rfl) (by rfl))) (fun n n1 n2 => h2 n n1 n2) (fun w => by rw [F2 2176 _ rfl]; exact h76 w)
/-- the model: probes of a member -/
theorem t_prb (hL : vL Y) (hX : Y.1 2075 7689 = X) (hX2 : X = 2081 ∨ X = 2119) (hV : vreg Y 2081 38 X) (hmb : mbT I X mm m a b p q) (hab : a + 3 ≤ b ∧ b ≤ 700) (hpq : p ≤ q ∧ q ≤ 2100) (sO : sE wt p (q - p) (fun i => (od i : Int))) (hwt : ∀ w, p ≤ w → w < q → I 2172 w = wt w ∧ 0 ≤ wt w ∧ wt w < 2147483648) (hft : ∀ v, p ≤ v → v < q → (I (X + 22) v = f v ∧ a ≤ f v ∧ f v < b) ∧ I (X + 23) v = t v ∧ a ≤ t v ∧ t v < b)
    (hQ : ∀ J : vJ, fr [2173, 2174, 2175, 2176] [] I J → (∀ i, i < q - p → J 2173 (od i) = flG f t od a i) → (∀ w, ¬ (p ≤ w ∧ w < q) → J 2173 w = I 2173 w) → J 2174 m = sW (flG f t od a) (q - p) → (∀ j, j ≠ m → J 2174 j = I 2174 j) → P (.inl none, (J, Y))) :
    vW (d + 1) 354 (0, [vr 2075, vi (m : Int), vu, vu, vu, vu, vu, vu, vu, vu, vu], [], (I, Y)) P := by
  have m24 : m < 24 := by have := hmb.1; omega
  rw [b354_0 hL (by rw [hX]; exact hV) (by omega) (by omega), mb_355 hL hX hV hmb, hX, tn0, hmb.2.1.1]
  simp only [vWC_s, Nat.reduceAdd]
  rw [b354_15]
  have key : ∀ (s n : Nat) (J : vJ), n + s = b → a ≤ n → fr [2175] [] I J → (∀ i : Nat, a ≤ i → i < n → J 2175 i = (i : Int)) → vW (d + 1) 354 (19, [vr 2075, vi (m : Int), vi (a : Int), vi (b : Int), vi (n : Int), vu, vu, vu, vu, vu, vu], [], (J, Y)) P := by
    intro s
    induction s with
    | succ s ih =>
      intro n J hs hn F h
      rw [b354_19, if_neg (by rw [w32_id (by omega) (by omega), w32_id (by omega) (by omega)]; omega), b354_25 hL (by omega) (by omega), tn0, show (n : Int) + 1 = ((n + 1 : Nat) : Int) by omega]
      refine ih (n + 1) _ (by omega) (by omega) (fr_upL F rfl _ _) (fun i i1 i2 => ?_)
      rw [up_at]
      by_cases z : i = n
      · rw [if_pos z, z]
      · rw [if_neg z]; exact h i i1 (by omega)
    | zero =>
      intro n J hs hn F h
      have e : n = b := by omega
      subst e
      rw [b354_19, if_pos (Int.le_refl _), b354_40 hL, show (a : Int) + 1 = ((a + 1 : Nat) : Int) by omega]
      refine t_joins (a := a) (b := n) (L := fun i => i) hL (by omega) (fun i i1 i2 => ⟨h i i1 i2, by show i < 1400; omega⟩) (x := a) (y := a + 1) ⟨Nat.le_refl _, by omega⟩ ⟨by omega, by omega⟩ (fun q => absurd q (by show ¬ a = a + 1; omega)) (fun _ J1 F1 h1 => ?_)
      simp only [vWC_s, Nat.reduceAdd]
      rw [b354_50 hL, show (a : Int) + 2 = ((a + 2 : Nat) : Int) by omega]
      have l2 : (if a + 2 = a + 1 then a else a + 2) = a + 2 := if_neg (by omega)
      have l0 : (if a = a + 1 then a else a) = a := if_neg (by omega)
      refine t_joins (a := a) (b := n) (L := fun i => if i = a + 1 then a else i) hL (by omega) (fun i i1 i2 => ⟨h1 i i1 i2, by show (if i = a + 1 then a else i) < 1400; split <;> omega⟩) (x := a) (y := a + 2) ⟨Nat.le_refl _, by omega⟩ ⟨by omega, by omega⟩ (fun q => absurd q (by show ¬ (if a = a + 1 then a else a) = (if a + 2 = a + 1 then a else a + 2); rw [l2, l0]; omega)) (fun _ J2 F2 h2 => ?_)
      simp only [vWC_s, Nat.reduceAdd]
      have F02 : fr [2175] [] I J2 := fr_trans F (fr_trans F1 F2)
      have mb2 := mb_fr hmb hX2 (fr_sub F02 (by rfl) (by rfl))
      rw [b354_62 hL (by rw [hX]; exact hV) (by omega) (by omega), mb_357 hL hX hV mb2, hX, tn0, mb2.2.2.1]
      simp only [vWC_s, Nat.reduceAdd]
      rw [b354_80 hL (by omega) (by omega), tn0]
      have z6 : ∀ (s w : Nat) (K : vJ), w + s = q → p ≤ w → fr [2174, 2176] [] J2 K → (∀ u, p ≤ u → u < w → K 2176 u = 0) → K 2174 m = 0 → (∀ j, j ≠ m → K 2174 j = I 2174 j) → vW (d + 1) 354 (93, [vr 2075, vi (m : Int), vi (a : Int), vi (n : Int), vi 1, vi 1, vi (p : Int), vi (q : Int), vi (w : Int), vu, vu], [], (K, Y)) P := by
        intro s
        induction s with
        | succ s ih =>
          intro w K hs hw FK k1 k2 k3
          rw [b354_93, if_neg (by rw [w32_id (by omega) (by omega), w32_id (by omega) (by omega)]; omega), b354_100 hL (by omega) (by omega), tn0, show (w : Int) + 1 = ((w + 1 : Nat) : Int) by omega]
          refine ih (w + 1) _ (by omega) (by omega) (fr_upL FK rfl _ _) (fun u u1 u2 => ?_) (by rw [up_cell _ (by decide)]; exact k2) (fun j hj => by rw [up_cell _ (by decide)]; exact k3 j hj)
          rw [up_at]
          by_cases z : u = w
          · rw [if_pos z]
          · rw [if_neg z]; exact k1 u u1 (by omega)
        | zero =>
          intro w K hs hw FK k1 k2 k3
          have e : w = q := by omega
          subst e
          rw [b354_93, if_pos (Int.le_refl _), b354_114]
          have FIK : fr [2173, 2174, 2175, 2176] [] I K := fr_trans (fr_sub F02 (by rfl) (by rfl)) (fr_sub FK (by rfl) (by rfl))
          exact t_ways (d := d) (wt := wt) (od := od) hL hX hX2 hV m24 hab hpq sO hwt hft hQ (w - p) 0 K vu vu (by omega) FIK (fun i i1 i2 => by
            rw [FK 2175 _ rfl, h2 i i1 i2]
            show (((if (if i = a + 1 then a else i) = (if a + 2 = a + 1 then a else a + 2) then (if a = a + 1 then a else a) else (if i = a + 1 then a else i) : Nat)) : Int) = ((lb0 a i : Nat) : Int)
            rw [l2, l0]
            unfold lb0
            by_cases y1 : i = a + 1
            · rw [if_pos y1, if_neg (by omega), if_pos (Or.inl y1)]
            · rw [if_neg y1]
              by_cases y2 : i = a + 2
              · rw [if_pos y2, if_pos (Or.inr y2)]
              · rw [if_neg y2, if_neg (by omega)]) (fun u u1 u2 => Or.inl ⟨k1 u u1 u2, fun i hi => absurd hi (Nat.not_lt_zero _)⟩) (fun i hi => absurd hi (Nat.not_lt_zero _)) (fun u _ => by rw [FK 2173 _ rfl, F02 2173 _ rfl]) k2 k3
      exact z6 (q - p) p _ (by omega) (Nat.le_refl _) (fr_upL (fr_refl _ _ _) rfl _ _) (fun u u1 u2 => by omega) (up_same _ _ _ _) (fun j hj => by rw [up_place _ _ hj, F02 2174 _ rfl])
  exact key (b - a) a I (by omega) (Nat.le_refl _) (fr_refl _ _ _) (fun i i1 i2 => by omega)
end
