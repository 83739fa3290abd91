/-! ===== bound: the formula of a member ===== -/
set_option maxRecDepth 20000
set_option maxHeartbeats 4000000
/-- how many terms below k are there -/
def nzN (c : Nat → Int) : Nat → Nat
  | 0 => 0
  | k + 1 => nzN c k + (if c k = 0 then 0 else 1)
theorem nz_mono {c : Nat → Int} {a : Nat} : ∀ b, a ≤ b → nzN c a ≤ nzN c b := by
  intro b
  induction b with
  | zero => intro h; have : a = 0 := by omega
            rw [this]; exact Nat.le_refl _
  | succ b ih =>
    intro h
    by_cases z : a = b + 1
    · rw [z]; exact Nat.le_refl _
    · have := ih (by omega)
      show nzN c a ≤ nzN c b + _
      omega
theorem nz_le {c : Nat → Int} : ∀ b, nzN c b ≤ b := by
  intro b
  induction b with
  | zero => exact Nat.le_refl _
  | succ b ih =>
    show nzN c b + (if c b = 0 then 0 else 1) ≤ b + 1
    split <;> omega
theorem nz_inj {c : Nat → Int} {a b : Nat} (ha : c a ≠ 0) (hb : c b ≠ 0) (e : nzN c a = nzN c b) : a = b := by
  have step : ∀ x y : Nat, c x ≠ 0 → x < y → nzN c x < nzN c y := fun x y hx h => by
    have m := nz_mono (c := c) (a := x + 1) y (by omega)
    have : nzN c (x + 1) = nzN c x + 1 := by show nzN c x + _ = _; rw [if_neg hx]
    omega
  by_cases z : a < b
  · have := step a b ha z; omega
  · by_cases y : b < a
    · have := step b a hb y; omega
    · omega
/-- what load settles of a member's formula -/
def bdM (I I' : vJ) (Y : vY) (X m : Nat) : Prop := (I 76 m = 2 ∧ I' 2283 m = 1 ∧ I' 2284 m = -1 ∧ ∃ f : Nat, Y.1 75 m = f ∧ (vreg Y 80 2 f ∧ (69 ≤ f ∧ f + 1 < 1960 ∨ 2297 ≤ f ∧ f + 1 < Y.2.2.2.1)) ∧ ∀ k, k < 70 → I (f + 1) k = I' 2282 (70 * m + k) ∧ 0 ≤ I' 2282 (70 * m + k) ∧ I' 2282 (70 * m + k) ≤ 1000000000000) ∨ (inI (I 76 m) ∧ I 76 m ≠ 2 ∧ inI (I' 2283 m) ∧ I' 2283 m ≠ 1 ∧ (∀ k, k < 70 → I' 2282 (70 * m + k) = 0) ∧ ∃ n n' : Nat, I 77 m = n ∧ n < 700 ∧ I' 2284 m = n' ∧ n' < 1400 ∧ I 2061 n = I' (X + 10) n')
def pwR (I I' : vJ) : Prop := ∀ j, j < 280 → I 71 j = I' 2280 j ∧ 0 ≤ I 71 j ∧ I 71 j ≤ 4
/-- a run that comes to its end answers but once -/
theorem anl_of {d z : Nat} {la : List vV} {I : vJ} {Y : vY} {v : Int} (h : ∀ P : vE → Prop, P (.inl (some (vl v)), (I, Y)) → vW d z (0, la, [], (I, Y)) P) : AnL d z la I Y v := fun P => ⟨fun hw => by
  obtain ⟨r, hr, hp⟩ := hw
  obtain ⟨r2, hr2, e⟩ := h (fun q => q = (.inl (some (vl v)), (I, Y))) rfl
  have := vR_det hr hr2
  rw [this, e] at hp
  exact hp, h P⟩
section
variable {d d' : Nat} {Y : vY} {I I' : vJ} {mm X m f : Nat}
/-- terms of a formula -/
theorem c_terms (hf : vreg Y 80 2 f) (h0 : ∀ k, k < 70 → 0 ≤ I (f + 1) k ∧ I (f + 1) k ≤ 1000000000000) : An d 44 [vr 18, vr f, vu, vu] I Y ((nzN (I (f + 1)) 70 : Nat) : Int) := fun P => by
  have key : ∀ (s k : Nat), k + s = 70 → (vW d 44 (4, [vr 18, vr f, vi ((nzN (I (f + 1)) k : Nat) : Int), vi (k : Int)], [], (I, Y)) P ↔ P (.inl (some (vi ((nzN (I (f + 1)) 70 : Nat) : Int))), (I, Y))) := by
    intro s
    induction s with
    | zero =>
      intro k hk
      have e : k = 70 := by omega
      subst e
      rw [b44_4, if_pos (by decide), b44_35]
    | succ s ih =>
      intro k hk
      have c0 := h0 k (by omega)
      rw [b44_4, if_neg (by rw [w32_id (by omega) (by omega), w32_id (by omega) (by omega)]; omega), b44_10 hf (by omega) (by omega), tn0, show w64 0 = 0 from by decide, w64_id (by omega) (by omega)]
      have en : ((nzN (I (f + 1)) k : Nat) : Int) + (if I (f + 1) k = 0 then 0 else 1) = ((nzN (I (f + 1)) (k + 1) : Nat) : Int) := by
        show _ = ((nzN (I (f + 1)) k + (if I (f + 1) k = 0 then 0 else 1) : Nat) : Int)
        split <;> omega
      by_cases z : I (f + 1) k = 0
      · rw [if_pos (by omega), b44_26, b44_27, show (k : Int) + 1 = ((k + 1 : Nat) : Int) by omega]
        rw [if_pos z] at en
        rw [en]
        exact ih (k + 1) (by omega)
      · rw [if_neg (by omega), b44_22, b44_27, show (k : Int) + 1 = ((k + 1 : Nat) : Int) by omega]
        rw [if_neg z] at en
        rw [en]
        exact ih (k + 1) (by omega)
  rw [b44_0]
  exact key 70 0 (by omega)
/-- the model goes through a formula's terms -/
theorem t_terms {b c : Int} {K : Nat → Int} {P : vE → Prop} (hL : vL Y) (hm : m < 24) (hb : inI b) (hK : ∀ k, k < 70 → I' 2282 (70 * m + k) = K k ∧ 0 ≤ K k ∧ K k ≤ 1000000000000)
    (hQ : ∀ x5 : Int, (x5 = -1 ∧ (∀ k, k < 70 → ¬ (K k ≠ 0 ∧ ((nzN K k : Nat) : Int) = b)) ∨ ∃ k : Nat, k < 70 ∧ K k ≠ 0 ∧ ((nzN K k : Nat) : Int) = b ∧ x5 = k) → vW (d' + 1) 478 (67, [vr 2075, vi (m : Int), vi b, vi c, vi ((nzN K 70 : Nat) : Int), vi x5, vi ((70 : Nat) : Int)], [], (I', Y)) P) :
    vW (d' + 1) 478 (12, [vr 2075, vi (m : Int), vi b, vi c, vu, vu, vu], [], (I', Y)) P := by
  have key : ∀ (s k : Nat) (x5 : Int), k + s = 70 → (x5 = -1 ∧ (∀ i, i < k → ¬ (K i ≠ 0 ∧ ((nzN K i : Nat) : Int) = b)) ∨ ∃ i : Nat, i < k ∧ K i ≠ 0 ∧ ((nzN K i : Nat) : Int) = b ∧ x5 = i) → vW (d' + 1) 478 (21, [vr 2075, vi (m : Int), vi b, vi c, vi ((nzN K k : Nat) : Int), vi x5, vi (k : Int)], [], (I', Y)) P := by
    intro s
    induction s with
    | zero =>
      intro k x5 hk h
      have e : k = 70 := by omega
      subst e
      rw [b478_21, if_pos (by decide)]
      exact hQ x5 h
    | succ s ih =>
      intro k x5 hk h
      obtain ⟨k1, k2, k3⟩ := hK k (by omega)
      have nl := nz_le (c := K) k
      have ek : (k : Int) + 1 = ((k + 1 : Nat) : Int) := by omega
      rw [b478_21, if_neg (by rw [w32_id (by omega) (by omega), w32_id (by omega) (by omega)]; omega), b478_28 hL (by omega) (by omega), show ((70 : Int) * (m : Int) + (k : Int)).toNat = 70 * m + k by omega, k1, show w64 0 = 0 from by decide, w64_id (by omega) (by omega)]
      by_cases z : K k = 0
      · have en : nzN K (k + 1) = nzN K k := by show nzN K k + _ = _; rw [if_pos z]; rfl
        rw [if_neg (fun q => q z), b478_45, b478_61, ek, ← en]
        refine ih (k + 1) x5 (by omega) ?_
        rcases h with ⟨h1, h2⟩ | ⟨i, i1, i2, i3, i4⟩
        · refine Or.inl ⟨h1, fun i hi q => ?_⟩
          by_cases y : i = k
          · rw [y] at q; exact q.1 z
          · exact h2 i (by omega) q
        · exact Or.inr ⟨i, by omega, i2, i3, i4⟩
      · have en : ((nzN K k : Nat) : Int) + 1 = ((nzN K (k + 1) : Nat) : Int) := by
          show _ = ((nzN K k + (if K k = 0 then 0 else 1) : Nat) : Int)
          rw [if_neg z]; omega
        rw [if_pos z, b478_48, w32_id (show -2147483648 ≤ ((nzN K k : Nat) : Int) by omega) (by omega), w32_id hb.1 hb.2]
        by_cases y : ((nzN K k : Nat) : Int) = b
        · rw [if_neg (fun q => q y), b478_54, b478_58, b478_61, ek, en]
          exact ih (k + 1) _ (by omega) (Or.inr ⟨k, by omega, z, y, rfl⟩)
        · rw [if_pos y, b478_58, b478_61, ek, en]
          refine ih (k + 1) x5 (by omega) ?_
          rcases h with ⟨h1, h2⟩ | ⟨i, i1, i2, i3, i4⟩
          · refine Or.inl ⟨h1, fun i hi q => ?_⟩
            by_cases t : i = k
            · rw [t] at q; exact y q.2
            · exact h2 i (by omega) q
          · exact Or.inr ⟨i, by omega, i2, i3, i4⟩
  rw [b478_12]
  exact key 70 0 (-1) (by omega) (Or.inl ⟨rfl, fun i hi => absurd hi (Nat.not_lt_zero _)⟩)
/-- the house finds the i-th term -/
theorem c_term {b c : Int} {x4 : Int} {P : vE → Prop} (hf : vreg Y 80 2 f) (h0 : ∀ k, k < 70 → 0 ≤ I (f + 1) k ∧ I (f + 1) k ≤ 1000000000000) (hb : 0 ≤ b ∧ b < ((nzN (I (f + 1)) 70 : Nat) : Int))
    (hQ : ∀ (k : Nat) (x7 : Int), k < 70 → I (f + 1) k ≠ 0 → ((nzN (I (f + 1)) k : Nat) : Int) = b → vW (d + 1) 43 (214, [vr 18, vi (m : Int), vi b, vi c, vi x4, vr f, vi (k : Int), vi x7], [], (I, Y)) P) :
    vW (d + 1) 43 (161, [vr 18, vi (m : Int), vi b, vi c, vi x4, vr f, vu, vu], [], (I, Y)) P := by
  have key : ∀ (s k : Nat) (x7 : Int), k + s = 70 → x7 = b - ((nzN (I (f + 1)) k : Nat) : Int) → ((nzN (I (f + 1)) k : Nat) : Int) ≤ b → vW (d + 1) 43 (167, [vr 18, vi (m : Int), vi b, vi c, vi x4, vr f, vi (k : Int), vi x7], [], (I, Y)) P := by
    intro s
    induction s with
    | zero =>
      intro k x7 hk h1 h2
      have e : k = 70 := by omega
      subst e
      omega
    | succ s ih =>
      intro k x7 hk h1 h2
      have c0 := h0 k (by omega)
      have nl := nz_le (c := I (f + 1)) 70
      have ek : (k : Int) + 1 = ((k + 1 : Nat) : Int) := by omega
      have wx : w32 x7 = x7 := w32_id (by omega) (by omega)
      rw [b43_167 hf (by omega) (by omega), tn0, show w64 0 = 0 from by decide, w64_id (by omega) (by omega)]
      by_cases z : I (f + 1) k = 0
      · have en : nzN (I (f + 1)) (k + 1) = nzN (I (f + 1)) k := by show nzN (I (f + 1)) k + _ = _; rw [if_pos z]; rfl
        rw [if_pos z, b43_185 hf (by omega) (by omega), tn0, show w64 0 = 0 from by decide, w64_id (by omega) (by omega), if_pos (by omega), b43_204, b43_205, ek]
        clear wx
        exact ih (k + 1) _ (by omega) (by rw [en]; omega) (by rw [en]; exact h2)
      · have en : nzN (I (f + 1)) (k + 1) = nzN (I (f + 1)) k + 1 := by show nzN (I (f + 1)) k + _ = _; rw [if_neg z]
        rw [if_neg z, b43_180, wx]
        clear wx
        by_cases y : x7 ≤ 0
        · rw [if_pos y]
          exact hQ k x7 (by omega) z (by omega)
        · rw [if_neg y, b43_185 hf (by omega) (by omega), tn0, show w64 0 = 0 from by decide, w64_id (by omega) (by omega), if_neg (by omega), b43_200, b43_205, ek]
          exact ih (k + 1) _ (by omega) (by rw [en]; omega) (by rw [en]; omega)
  rw [b43_161]
  exact key 70 0 b (by omega) (by show b = b - ((0 : Nat) : Int); omega) (by show ((0 : Nat) : Int) ≤ b; omega)
theorem q_bound {a b c : Int} (ha : inI a) (hb : inI b) (hc : inI c) (hL : vL Y) (hM : isM I I' Y mm) (hS : mm ≠ 0 → Y.1 2075 7689 = X ∧ vreg Y 2081 38 X ∧ pwR I I' ∧ ∀ m, m < mm → bdM I I' Y X m) : ∃ v, AnL (d + 2) 43 [vr 18, vi a, vi b, vi c, vu, vu, vu, vu] I Y v ∧ AnL (d' + 2) 478 [vr 2075, vi a, vi b, vi c, vu, vu, vu] I' Y v := by
  have cm := fun P => c_mem (d := d) hL ha hM P
  have tm := fun P => t_mem (d' := d') hL ha hM P
  have mm24 := hM.2.1
  have i4 : inI 4 := by unfold inI; omega
  have wb : w32 b = b := w32_id hb.1 hb.2
  have wc : w32 c = c := w32_id hc.1 hc.2
  by_cases z : 0 ≤ a ∧ a ≤ (mm : Int) - 1
  · obtain ⟨m, hm⟩ : ∃ m : Nat, a = m := ⟨a.toNat, by omega⟩
    subst hm
    have m1 : m < mm := by omega
    rw [if_pos z] at cm tm
    obtain ⟨tX, tV, pw, hB⟩ := hS (by omega)
    have hT0 : ∀ P : vE → Prop, vW (d' + 2) 478 (0, [vr 2075, vi (m : Int), vi b, vi c, vu, vu, vu], [], (I', Y)) P ↔ vW (d' + 2) 478 (12, [vr 2075, vi (m : Int), vi b, vi c, vu, vu, vu], [], (I', Y)) P := fun P => by
      rw [b478_0 hL, tm]
      simp only [vWC_s, Nat.reduceAdd]
      rw [b478_5, if_pos (by decide)]
    have hH0 : ∀ P : vE → Prop, vW (d + 2) 43 (0, [vr 18, vi (m : Int), vi b, vi c, vu, vu, vu, vu], [], (I, Y)) P ↔ vW (d + 2) 43 (12, [vr 18, vi (m : Int), vi b, vi c, vu, vu, vu, vu], [], (I, Y)) P := fun P => by
      rw [b43_0 hL, cm]
      simp only [vWC_s, Nat.reduceAdd]
      rw [b43_5, if_pos (by decide)]
    rcases hB m m1 with ⟨s1, s2, s3, f, f1, ⟨f2, _⟩, f3⟩ | ⟨s0, s1, s2, s3, s4, n, n', n1, n2, n3, n4, n5⟩
    · have h0 : ∀ k, k < 70 → 0 ≤ I (f + 1) k ∧ I (f + 1) k ≤ 1000000000000 := fun k hk => by
        obtain ⟨q1, q2, q3⟩ := f3 k hk
        rw [q1]; exact ⟨q2, q3⟩
      have hK : ∀ k, k < 70 → I' 2282 (70 * m + k) = I (f + 1) k ∧ 0 ≤ I (f + 1) k ∧ I (f + 1) k ≤ 1000000000000 := fun k hk => ⟨(f3 k hk).1.symm, h0 k hk⟩
      have nl := nz_le (c := I (f + 1)) 70
      have hH1 : ∀ P : vE → Prop, vW (d + 2) 43 (12, [vr 18, vi (m : Int), vi b, vi c, vu, vu, vu, vu], [], (I, Y)) P ↔ vW (d + 2) 43 (43, [vr 18, vi (m : Int), vi b, vi c, vi 1, vr f, vu, vu], [], (I, Y)) P := fun P => by
        rw [b43_12 hL (by omega) (by omega), tn0, s1, if_neg (fun q => q rfl), b43_25, b43_30 hL (by omega) (by omega), tn0, f1]
      have ct := fun P => c_terms (d := d + 1) (I := I) f2 h0 P
      by_cases b1 : b = -1
      · have hT1 : ∀ (v : Int), (∀ (x5 : Int) (P : vE → Prop), vW (d' + 2) 478 (72, [vr 2075, vi (m : Int), vi b, vi c, vi ((nzN (I (f + 1)) 70 : Nat) : Int), vi x5, vi ((70 : Nat) : Int)], [], (I', Y)) P ↔ P (.inl (some (vl v)), (I', Y))) → AnL (d' + 2) 478 [vr 2075, vi (m : Int), vi b, vi c, vu, vu, vu] I' Y v := fun v hv => anl_of (fun P hP => by
          rw [hT0]
          refine t_terms (d' := d' + 1) (K := I (f + 1)) hL (by omega) hb hK (fun x5 _ => ?_)
          rw [b478_67, wb, if_neg (fun q => q b1), hv]
          exact hP)
        have hH2 : ∀ P : vE → Prop, vW (d + 2) 43 (0, [vr 18, vi (m : Int), vi b, vi c, vu, vu, vu, vu], [], (I, Y)) P ↔ vW (d + 2) 43 (48, [vr 18, vi (m : Int), vi b, vi c, vi 1, vr f, vu, vu], [], (I, Y)) P := fun P => by
          rw [hH0, hH1, b43_43, wb, if_neg (fun q => q b1)]
        by_cases c0 : c = 0
        · refine ⟨1, fun P => ?_, hT1 1 (fun x5 P => ?_)⟩
          · rw [hH2, b43_48, wc, if_neg (fun q => q c0), b43_52, if_neg (by decide), b43_57, b43_126]
          · rw [b478_72, wc, if_neg (fun q => q c0), b478_76 hL (by omega) (by omega), tn0, s2, if_neg (fun q => q rfl), b478_86, b478_146]
        · by_cases c1 : c = 1
          · refine ⟨-1, fun P => ?_, hT1 (-1) (fun x5 P => ?_)⟩
            · rw [hH2, b43_48, wc, if_pos c0, b43_65, wc, if_neg (fun q => q c1), b43_70, if_neg (by decide), b43_75, b43_126]
            · rw [b478_72, wc, if_pos c0, b478_94, wc, if_neg (fun q => q c1), b478_99 hL (by omega) (by omega), tn0, s3, if_neg (by decide), b478_108, b478_146]
          · by_cases c2 : c = 2
            · refine ⟨((nzN (I (f + 1)) 70 : Nat) : Int), fun P => ?_, hT1 _ (fun x5 P => ?_)⟩
              · rw [hH2, b43_48, wc, if_pos c0, b43_65, wc, if_pos (show c ≠ w32 1 from c1), b43_99, wc, if_neg (fun q => q c2), b43_104, if_neg (by decide), b43_109 hL, ct]
                simp only [vWC_s, Nat.reduceAdd]
                rw [b43_115, w32_id (by omega) (by omega), b43_126]
              · rw [b478_72, wc, if_pos c0, b478_94, wc, if_pos (show c ≠ w32 1 from c1), b478_132, wc, if_neg (fun q => q c2), b478_137, w32_id (by omega) (by omega), b478_146]
            · refine ⟨-1, fun P => ?_, hT1 (-1) (fun x5 P => ?_)⟩
              · rw [hH2, b43_48, wc, if_pos c0, b43_65, wc, if_pos (show c ≠ w32 1 from c1), b43_99, wc, if_pos (show c ≠ w32 2 from c2), b43_123, b43_126]
              · rw [b478_72, wc, if_pos c0, b478_94, wc, if_pos (show c ≠ w32 1 from c1), b478_132, wc, if_pos (show c ≠ w32 2 from c2), b478_143, b478_146]
      · have hH2 : ∀ P : vE → Prop, vW (d + 2) 43 (0, [vr 18, vi (m : Int), vi b, vi c, vu, vu, vu, vu], [], (I, Y)) P ↔ if 0 ≤ c ∧ c ≤ 4 then (if 0 ≤ b ∧ b ≤ ((nzN (I (f + 1)) 70 : Nat) : Int) - 1 then vW (d + 2) 43 (161, [vr 18, vi (m : Int), vi b, vi c, vi 1, vr f, vu, vu], [], (I, Y)) P else P (.inl (some (vl (-1))), (I, Y))) else P (.inl (some (vl (-1))), (I, Y)) := fun P => by
          rw [hH0, hH1, b43_43, wb, if_pos (show b ≠ w32 (-1) from b1), b43_127, if_neg (by decide), b43_132, c_in hc in0 i4]
          simp only [vWC_s, Nat.reduceAdd]
          rw [b43_138]
          by_cases y : 0 ≤ c ∧ c ≤ 4
          · rw [if_pos y, if_pos y, if_neg (by decide), b43_141 hL, ct]
            simp only [vWC_s, Nat.reduceAdd]
            rw [b43_149, c_in hb in0 (by unfold inI; omega)]
            simp only [vWC_s, Nat.reduceAdd]
            rw [b43_154]
            by_cases t : 0 ≤ b ∧ b ≤ ((nzN (I (f + 1)) 70 : Nat) : Int) - 1
            · rw [if_pos t, if_pos t, if_pos (by decide)]
            · rw [if_neg t, if_neg t, if_neg (by decide), b43_157]
          · rw [if_neg y, if_neg y, if_pos (by decide), b43_157]
        by_cases y : (0 ≤ c ∧ c ≤ 4) ∧ 0 ≤ b ∧ b ≤ ((nzN (I (f + 1)) 70 : Nat) : Int) - 1
        · obtain ⟨y1, y2⟩ := y
          have ex : ∃ k, k < 70 ∧ I (f + 1) k ≠ 0 ∧ ((nzN (I (f + 1)) k : Nat) : Int) = b := by
            apply Classical.byContradiction
            intro q
            have al : ∀ k, k ≤ 70 → ((nzN (I (f + 1)) k : Nat) : Int) ≤ b := by
              intro k
              induction k with
              | zero => intro _; show ((0 : Nat) : Int) ≤ b; omega
              | succ k ih =>
                intro hk
                have h1 := ih (by omega)
                show ((nzN (I (f + 1)) k + (if I (f + 1) k = 0 then 0 else 1) : Nat) : Int) ≤ b
                by_cases t : I (f + 1) k = 0
                · rw [if_pos t]; omega
                · rw [if_neg t]
                  by_cases w : ((nzN (I (f + 1)) k : Nat) : Int) = b
                  · exact absurd ⟨k, by omega, t, w⟩ q
                  · omega
            have := al 70 (Nat.le_refl _)
            omega
          obtain ⟨k, k1, k2, k3⟩ := ex
          obtain ⟨v, hv⟩ : ∃ v : Int, v = if c = 0 then I (f + 1) k else I 71 (4 * k + c.toNat - 1) := ⟨_, rfl⟩
          refine ⟨v, anl_of (fun P hP => ?_), anl_of (fun P hP => ?_)⟩
          · rw [hH2, if_pos y1, if_pos y2]
            refine c_term (d := d + 1) f2 h0 ⟨y2.1, by omega⟩ (fun k' x7 q1 q2 q3 => ?_)
            have e : k' = k := nz_inj q2 k2 (by omega)
            subst e
            rw [b43_214, wc]
            by_cases c0 : c = 0
            · rw [if_neg (fun q => q c0), b43_218 f2 (by omega) (by omega), tn0, b43_249]
              rw [hv, if_pos c0] at hP
              exact hP
            · have e1 : ((4 : Int) * (k' : Int) + c - 1).toNat = 4 * k' + c.toNat - 1 := by omega
              have pq := pw (4 * k' + c.toNat - 1) (by omega)
              rw [if_pos c0, b43_229 hL (by omega) (by omega), e1, w32_id (by omega) (by omega), b43_249]
              rw [hv, if_neg c0] at hP
              exact hP
          · rw [hT0]
            refine t_terms (d' := d' + 1) (K := I (f + 1)) hL (by omega) hb hK (fun x5 hx5 => ?_)
            have e5 : x5 = k := by
              rcases hx5 with ⟨_, q⟩ | ⟨k', q1, q2, q3, q4⟩
              · exact absurd ⟨k2, k3⟩ (q k k1)
              · have e : k' = k := nz_inj q2 k2 (by omega)
                rw [q4, e]
            subst e5
            rw [b478_67, wb, if_pos (show b ≠ w32 (-1) from b1), b478_147, if_neg (by rw [w32_id (by omega) (by omega)]; omega), b478_152, t_in hc in0 i4, if_pos y1]
            simp only [vWC_s, Nat.reduceAdd]
            rw [b478_158, if_pos (by decide), b478_165, wc]
            by_cases c0 : c = 0
            · rw [if_neg (fun q => q c0), b478_169 hL (by omega) (by omega), show ((70 : Int) * (m : Int) + (k : Int)).toNat = 70 * m + k by omega, (hK k k1).1, b478_198]
              rw [hv, if_pos c0] at hP
              exact hP
            · have e1 : ((4 : Int) * (k : Int) + c - 1).toNat = 4 * k + c.toNat - 1 := by omega
              have pq := pw (4 * k + c.toNat - 1) (by omega)
              rw [if_pos c0, b478_184 hL (by omega) (by omega), e1, ← pq.1, w32_id (by omega) (by omega), b478_198]
              rw [hv, if_neg c0] at hP
              exact hP
        · refine ⟨-1, fun P => ?_, anl_of (fun P hP => ?_)⟩
          · rw [hH2]
            by_cases y1 : 0 ≤ c ∧ c ≤ 4
            · rw [if_pos y1, if_neg (fun q => y ⟨y1, q⟩)]
            · rw [if_neg y1]
          · rw [hT0]
            refine t_terms (d' := d' + 1) (K := I (f + 1)) hL (by omega) hb hK (fun x5 hx5 => ?_)
            rw [b478_67, wb, if_pos (show b ≠ w32 (-1) from b1), b478_147]
            rcases hx5 with ⟨q, _⟩ | ⟨k, q1, q2, q3, q4⟩
            · rw [q, if_pos (by decide), b478_161]; exact hP
            · have y1 : ¬ (0 ≤ c ∧ c ≤ 4) := fun t => y ⟨t, by omega, by
                have m1 := nz_mono (c := I (f + 1)) (a := k + 1) 70 (by omega)
                have m2 : nzN (I (f + 1)) (k + 1) = nzN (I (f + 1)) k + 1 := by show nzN (I (f + 1)) k + _ = _; rw [if_neg q2]
                omega⟩
              rw [q4, if_neg (by rw [w32_id (by omega) (by omega)]; omega), b478_152, t_in hc in0 i4, if_neg y1]
              simp only [vWC_s, Nat.reduceAdd]
              rw [b478_158, if_neg (by decide), b478_161]; exact hP
    · have hK : ∀ k, k < 70 → I' 2282 (70 * m + k) = (fun _ => (0 : Int)) k ∧ 0 ≤ (fun _ => (0 : Int)) k ∧ (fun _ => (0 : Int)) k ≤ 1000000000000 := fun k hk => ⟨s4 k hk, show (0 : Int) ≤ 0 by decide, show (0 : Int) ≤ 1000000000000 by decide⟩
      have n0 : ∀ k, nzN (fun _ => (0 : Int)) k = 0 := by
        intro k
        induction k with
        | zero => rfl
        | succ k ih => show nzN (fun _ => (0 : Int)) k + _ = 0; rw [ih, if_pos rfl]
      have w6 : w32 (I 76 m) = I 76 m := w32_id s0.1 s0.2
      have w3 : w32 (I' 2283 m) = I' 2283 m := w32_id s2.1 s2.2
      obtain ⟨f, f1⟩ : ∃ f : Nat, Y.1 75 m = f := ⟨_, rfl⟩
      have hH1 : ∀ P : vE → Prop, vW (d + 2) 43 (0, [vr 18, vi (m : Int), vi b, vi c, vu, vu, vu, vu], [], (I, Y)) P ↔ vW (d + 2) 43 (43, [vr 18, vi (m : Int), vi b, vi c, vi 0, vr f, vu, vu], [], (I, Y)) P := fun P => by
        rw [hH0, b43_12 hL (by omega) (by omega), tn0, w6, if_pos (show I 76 m ≠ w32 2 from s1), b43_29, b43_30 hL (by omega) (by omega), tn0, f1]
      by_cases b1 : b = -1
      · have hT1 : ∀ (v : Int), (∀ (x5 : Int) (P : vE → Prop), vW (d' + 2) 478 (72, [vr 2075, vi (m : Int), vi b, vi c, vi ((0 : Nat) : Int), vi x5, vi ((70 : Nat) : Int)], [], (I', Y)) P ↔ P (.inl (some (vl v)), (I', Y))) → AnL (d' + 2) 478 [vr 2075, vi (m : Int), vi b, vi c, vu, vu, vu] I' Y v := fun v hv => anl_of (fun P hP => by
          rw [hT0]
          refine t_terms (d' := d' + 1) (K := fun _ => 0) hL (by omega) hb hK (fun x5 _ => ?_)
          rw [b478_67, wb, if_neg (fun q => q b1), n0, hv]
          exact hP)
        have hH2 : ∀ P : vE → Prop, vW (d + 2) 43 (0, [vr 18, vi (m : Int), vi b, vi c, vu, vu, vu, vu], [], (I, Y)) P ↔ vW (d + 2) 43 (48, [vr 18, vi (m : Int), vi b, vi c, vi 0, vr f, vu, vu], [], (I, Y)) P := fun P => by
          rw [hH1, b43_43, wb, if_neg (fun q => q b1)]
        by_cases c0 : c = 0
        · refine ⟨0, fun P => ?_, hT1 0 (fun x5 P => ?_)⟩
          · rw [hH2, b43_48, wc, if_neg (fun q => q c0), b43_52, if_pos (by decide), b43_61, b43_126]
          · rw [b478_72, wc, if_neg (fun q => q c0), b478_76 hL (by omega) (by omega), tn0, w3, if_pos (show I' 2283 m ≠ w32 1 from s3), b478_90, b478_146]
        · by_cases c1 : c = 1
          · refine ⟨w32 (I 2061 n), fun P => ?_, hT1 _ (fun x5 P => ?_)⟩
            · rw [hH2, b43_48, wc, if_pos c0, b43_65, wc, if_neg (fun q => q c1), b43_70, if_pos (by decide), b43_81 hL (by omega) (by omega) (by rw [tn0, n1]; omega) (by rw [tn0, n1]; omega), tn0, n1, tn0, b43_126]
            · rw [b478_72, wc, if_pos c0, b478_94, wc, if_neg (fun q => q c1), b478_99 hL (by omega) (by omega), tn0, n3, if_pos (by rw [w32_id (by omega) (by omega)]; omega), b478_114 hL (by rw [tX]; exact tV) (by omega) (by omega) (by rw [tn0, n3]; omega) (by rw [tn0, n3]; omega), tX, tn0, n3, tn0, n5, b478_146]
          · by_cases c2 : c = 2
            · refine ⟨0, fun P => ?_, hT1 0 (fun x5 P => ?_)⟩
              · rw [hH2, b43_48, wc, if_pos c0, b43_65, wc, if_pos (show c ≠ w32 1 from c1), b43_99, wc, if_neg (fun q => q c2), b43_104, if_pos (by decide), b43_119, b43_126]
              · rw [b478_72, wc, if_pos c0, b478_94, wc, if_pos (show c ≠ w32 1 from c1), b478_132, wc, if_neg (fun q => q c2), b478_137, b478_146]
                rfl
            · refine ⟨-1, fun P => ?_, hT1 (-1) (fun x5 P => ?_)⟩
              · rw [hH2, b43_48, wc, if_pos c0, b43_65, wc, if_pos (show c ≠ w32 1 from c1), b43_99, wc, if_pos (show c ≠ w32 2 from c2), b43_123, b43_126]
              · rw [b478_72, wc, if_pos c0, b478_94, wc, if_pos (show c ≠ w32 1 from c1), b478_132, wc, if_pos (show c ≠ w32 2 from c2), b478_143, b478_146]
      · refine ⟨-1, fun P => ?_, anl_of (fun P hP => ?_)⟩
        · rw [hH1, b43_43, wb, if_pos (show b ≠ w32 (-1) from b1), b43_127, if_pos (by decide), b43_157]
        · rw [hT0]
          refine t_terms (d' := d' + 1) (K := fun _ => 0) hL (by omega) hb hK (fun x5 hx5 => ?_)
          rw [b478_67, wb, if_pos (show b ≠ w32 (-1) from b1), b478_147]
          rcases hx5 with ⟨q, _⟩ | ⟨k, q1, q2, q3, q4⟩
          · rw [q, if_pos (by decide), b478_161]; exact hP
          · exact absurd rfl q2
  · rw [if_neg z] at cm tm
    refine ⟨-1, fun P => ?_, fun P => ?_⟩
    · rw [b43_0 hL, cm]
      simp only [vWC_s, Nat.reduceAdd]
      rw [b43_5, if_neg (by decide), b43_8]
    · rw [b478_0 hL, tm]
      simp only [vWC_s, Nat.reduceAdd]
      rw [b478_5, if_neg (by decide), b478_8]
end
section
variable {L : Nat} {x : Nat → Int} {SX : vJ → vJ → vY → Nat → Nat → Nat → Prop}
/-- SX tells the formulas -/
def sxB (SX : vJ → vJ → vY → Nat → Nat → Nat → Prop) : Prop := ∀ I I' Y mm X Nn, SX I I' Y mm X Nn → mm ≠ 0 → Y.1 2075 7689 = X ∧ vreg Y 2081 38 X ∧ pwR I I' ∧ ∀ m, m < mm → bdM I I' Y X m
theorem d_bound (hX : sxK SX) (hB : sxB SX) : oD32 (fun k I Y => LW L x SX k I I Y) := fun k _ a1 a2 a3 ha1 ha2 ha3 => o_askL hX (sL_c sG_18 (sL_c (sG_i _) (sL_c (sG_i _) (sL_c (sG_i _) (sL_c sG_u (sL_c sG_u (sL_c sG_u (sL_c sG_u (sL_nil _))))))))) (fun Y _ => (sL_c sG_m (sL_c (sG_i _) (sL_c (sG_i _) (sL_c (sG_i _) (sL_c sG_u (sL_c sG_u (sL_c sG_u (sL_nil _))))))))) (fun I I' Y h => by
  obtain ⟨⟨v1, _⟩, _, _, _, mm, X, Nn, Lp, C, nm, pr, ht, m1, m2, _⟩ := h
  exact q_bound (d := 1998) (d' := 1998) ha1 ha2 ha3 v1 m1 (fun z => hB _ _ _ _ _ _ m2 z))
end
