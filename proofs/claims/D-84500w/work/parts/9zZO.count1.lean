/-! ===== count: unknown ways of a forest are settled one by one (the house's Plan.solve) ===== -/
set_option maxRecDepth 20000
set_option maxHeartbeats 4000000
theorem sW_add {f g : Nat → Int} : ∀ n, sW (fun i => f i + g i) n = sW f n + sW g n := by
  intro n
  induction n with
  | zero => rfl
  | succ n ih =>
    show sW (fun i => f i + g i) n + (f n + g n) = (sW f n + f n) + (sW g n + g n)
    rw [ih]; omega
theorem sW_sub {f g : Nat → Int} : ∀ n, sW (fun i => f i - g i) n = sW f n - sW g n := by
  intro n
  induction n with
  | zero => rfl
  | succ n ih =>
    show sW (fun i => f i - g i) n + (f n - g n) = (sW f n + f n) - (sW g n + g n)
    rw [ih]; omega
theorem sW_comm {f : Nat → Nat → Int} (B : Nat) : ∀ A, sW (fun a => sW (fun b => f a b) B) A = sW (fun b => sW (fun a => f a b) A) B := by
  intro A
  induction A with
  | zero => exact (sW_zero B (fun _ _ => rfl)).symm
  | succ A ih =>
    show sW (fun a => sW (fun b => f a b) B) A + sW (fun b => f A b) B = sW (fun b => sW (fun a => f a b) A + f A b) B
    rw [ih, sW_add]
theorem sW_ind {f : Nat → Int} {p : Nat} (c : Nat) (hp : p < c) (h : ∀ i, i < c → i ≠ p → f i = 0) : sW f c = f p := by
  have z : sW (fun _ => (0 : Int)) c = 0 := sW_zero c (fun _ _ => rfl)
  have a : sW f c = sW (fun _ => (0 : Int)) c + f p := sW_one c hp h (by show f p = 0 + f p; omega)
  omega
theorem sW_two2 {f : Nat → Int} {p q : Nat} (c : Nat) (hp : p < c) (hq : q < c) (pq : p ≠ q) (h0 : ∀ i, i < c → 0 ≤ f i) (h1 : 1 ≤ f p) (h2 : 1 ≤ f q) : 2 ≤ sW f c := by
  have a : 2 ≤ sW (fun i => if i = p then (1 : Int) else if i = q then 1 else 0) c := sW_two c hp hq pq (fun i _ => by
    show 0 ≤ if i = p then (1 : Int) else if i = q then 1 else 0
    split
    · decide
    · split <;> decide) (if_pos rfl) (by show (if q = p then (1 : Int) else if q = q then 1 else 0) = 1; rw [if_neg (fun w => pq w.symm), if_pos rfl])
  have l : sW (fun i => if i = p then (1 : Int) else if i = q then 1 else 0) c ≤ sW f c := sW_le c (fun i hi => by
    show (if i = p then (1 : Int) else if i = q then 1 else 0) ≤ f i
    by_cases y : i = p
    · rw [if_pos y, y]; exact h1
    · rw [if_neg y]
      by_cases w : i = q
      · rw [if_pos w, w]; exact h2
      · rw [if_neg w]; exact h0 i hi)
  omega
theorem sW_only {f : Nat → Int} {w : Nat} (c : Nat) (hw : w < c) (h0 : ∀ i, i < c → 0 ≤ f i) (h1 : 1 ≤ f w) (hs : sW f c = 1) : f w = 1 ∧ ∀ i, i < c → i ≠ w → f i = 0 := by
  have g := (sW_ge c h0).2 w hw
  refine ⟨by omega, fun i hi iw => ?_⟩
  apply Classical.byContradiction
  intro q
  have := h0 i hi
  have := sW_two2 c hi hw iw h0 (by omega) h1
  omega
/-- unknown ends at a node; what unknown ways bring to it -/
def dgE (fo to : Nat → Int) (u : Nat → Bool) (n : Int) (e : Nat) : Int := if u e = true then (if fo e = n then 1 else 0) + (if to e = n then 1 else 0) else 0
def ntE (fo to c : Nat → Int) (u : Nat → Bool) (n : Int) (e : Nat) : Int := if u e = true then (if to e = n then c e else 0) - (if fo e = n then c e else 0) else 0
def dgU (fo to : Nat → Int) (u : Nat → Bool) (n : Int) : Int := sW (dgE fo to u n) 2102
def ntU (fo to c : Nat → Int) (u : Nat → Bool) (n : Int) : Int := sW (ntE fo to c u n) 2102
def muU (u : Nat → Bool) : Int := sW (fun e => if u e = true then 1 else 0) 2102
/-- one way less is unknown -/
def uDn (u : Nat → Bool) (w : Nat) : Nat → Bool := fun e => if e = w then false else u e
section
variable {fo to c : Nat → Int} {u : Nat → Bool} {w : Nat} {n : Int}
theorem dgE_nn (e : Nat) : 0 ≤ dgE fo to u n e ∧ dgE fo to u n e ≤ 2 := by
  unfold dgE
  split
  · split <;> split <;> decide
  · decide
theorem dgU_nn : 0 ≤ dgU fo to u n ∧ dgU fo to u n ≤ 4204 := by
  refine ⟨(sW_ge 2102 (fun e _ => (dgE_nn e).1)).1, ?_⟩
  have h : ∀ k, sW (dgE fo to u n) k ≤ 2 * k := by
    intro k
    induction k with
    | zero => exact Int.le_refl _
    | succ k ih =>
      have := (dgE_nn (fo := fo) (to := to) (u := u) (n := n) k).2
      show sW (dgE fo to u n) k + dgE fo to u n k ≤ _
      omega
  exact h 2102
theorem dg_at (hw : w < 2102) (hu : u w = true) (h : fo w = n ∨ to w = n) : 1 ≤ dgU fo to u n := by
  have g := (sW_ge 2102 (fun e _ => (dgE_nn (fo := fo) (to := to) (u := u) (n := n) e).1)).2 w hw
  have : 1 ≤ dgE fo to u n w := by
    unfold dgE
    rw [if_pos hu]
    rcases h with h | h
    · rw [if_pos h]; split <;> decide
    · rw [if_pos h]; split <;> decide
  unfold dgU
  omega
theorem leaf_from (hw : w < 2102) (hu : u w = true) (h : fo w = n) (hd : dgU fo to u n = 1) : ntU fo to c u n = - c w := by
  have h1 : 1 ≤ dgE fo to u n w := by
    unfold dgE
    rw [if_pos hu, if_pos h]; split <;> decide
  obtain ⟨a, b⟩ := sW_only 2102 hw (fun e _ => (dgE_nn (fo := fo) (to := to) (u := u) (n := n) e).1) h1 hd
  have tw : to w ≠ n := fun q => by
    unfold dgE at a
    rw [if_pos hu, if_pos h, if_pos q] at a
    exact absurd a (by decide)
  unfold ntU
  rw [sW_ind 2102 hw (fun e he ew => ?_)]
  · unfold ntE
    rw [if_pos hu, if_neg tw, if_pos h]; omega
  · have z := b e he ew
    unfold dgE at z
    unfold ntE
    by_cases q : u e = true
    · rw [if_pos q] at z ⊢
      rw [if_neg (fun y => by rw [if_pos y] at z; split at z <;> exact absurd z (by decide)), if_neg (fun y => by rw [if_pos y] at z; split at z <;> exact absurd z (by decide))]
      rfl
    · rw [if_neg q]
theorem leaf_to (hw : w < 2102) (hu : u w = true) (h : to w = n) (hd : dgU fo to u n = 1) : ntU fo to c u n = c w := by
  have h1 : 1 ≤ dgE fo to u n w := by
    unfold dgE
    rw [if_pos hu, if_pos h]; split <;> decide
  obtain ⟨a, b⟩ := sW_only 2102 hw (fun e _ => (dgE_nn (fo := fo) (to := to) (u := u) (n := n) e).1) h1 hd
  have tw : fo w ≠ n := fun q => by
    unfold dgE at a
    rw [if_pos hu, if_pos h, if_pos q] at a
    exact absurd a (by decide)
  unfold ntU
  rw [sW_ind 2102 hw (fun e he ew => ?_)]
  · unfold ntE
    rw [if_pos hu, if_neg tw, if_pos h]; omega
  · have z := b e he ew
    unfold dgE at z
    unfold ntE
    by_cases q : u e = true
    · rw [if_pos q] at z ⊢
      rw [if_neg (fun y => by rw [if_pos y] at z; split at z <;> exact absurd z (by decide)), if_neg (fun y => by rw [if_pos y] at z; split at z <;> exact absurd z (by decide))]
      rfl
    · rw [if_neg q]
theorem dg_less (hw : w < 2102) (hu : u w = true) : dgU fo to (uDn u w) n = dgU fo to u n - (if fo w = n then 1 else 0) - (if to w = n then 1 else 0) := by
  have a : dgU fo to u n = dgU fo to (uDn u w) n + ((if fo w = n then 1 else 0) + (if to w = n then 1 else 0)) := by
    refine sW_one 2102 hw (fun e _ ew => ?_) ?_
    · unfold dgE uDn; rw [if_neg ew]
    · unfold dgE uDn; rw [if_pos hu, if_pos rfl, if_neg (show ¬ (false = true) by decide)]; omega
  omega
theorem nt_less (hw : w < 2102) (hu : u w = true) : ntU fo to c (uDn u w) n = ntU fo to c u n - (if to w = n then c w else 0) + (if fo w = n then c w else 0) := by
  have a : ntU fo to c u n = ntU fo to c (uDn u w) n + ((if to w = n then c w else 0) - (if fo w = n then c w else 0)) := by
    refine sW_one 2102 hw (fun e _ ew => ?_) ?_
    · unfold ntE uDn; rw [if_neg ew]
    · unfold ntE uDn; rw [if_pos hu, if_pos rfl, if_neg (show ¬ (false = true) by decide)]; omega
  omega
theorem mu_less (hw : w < 2102) (hu : u w = true) : muU (uDn u w) = muU u - 1 := by
  have a : muU u = muU (uDn u w) + 1 := by
    refine sW_one 2102 hw (fun e _ ew => ?_) ?_
    · show (if u e = true then (1 : Int) else 0) = if uDn u w e = true then 1 else 0
      unfold uDn; rw [if_neg ew]
    · show (if u w = true then (1 : Int) else 0) = (if uDn u w w = true then 1 else 0) + 1
      unfold uDn; rw [if_pos hu, if_pos rfl, if_neg (by decide)]; rfl
  omega
theorem mu_nn : 0 ≤ muU u := (sW_ge 2102 (fun e _ => by show 0 ≤ if u e = true then (1 : Int) else 0; split <;> decide)).1
end
/-- the ends of a member's ways, with the two that are thought -/
def frF (I : vJ) (a : Nat) (e : Nat) : Int := if e = 2100 then (a : Int) + 1 else if e = 2101 then (a : Int) + 2 else I 50 e
def toF (I : vJ) (a : Nat) (e : Nat) : Int := if e = 2100 ∨ e = 2101 then (a : Int) else I 51 e
/-- the house's rows while counts are worked out: nodes a .. b, ways p .. q; u: what is not known yet -/
def svR (fo to c : Nat → Int) (a b p q : Nat) (u : Nat → Bool) (J : vJ) : Prop := (∀ e, u e = true → (p ≤ e ∧ e < q ∨ e = 2100 ∨ e = 2101) ∧ J 66 e = -1) ∧ (∀ e, u e = false → J 66 e = c e) ∧ ∀ n : Nat, a ≤ n → n < b → J 68 n = dgU fo to u n ∧ J 67 n + ntU fo to c u n = 0
section
variable {d : Nat} {Y : vY} {J : vJ} {P : vE → Prop} {fo to c : Nat → Int} {a b p q : Nat} {u : Nat → Bool} {e x y : Nat}
theorem c_settle (hL : vL Y) (hs : svR fo to c a b p q u J) (hq : q ≤ 2100) (hb : b ≤ 700) (hu : u e = true) (fx : fo e = x) (ty : to e = y) (hx : a ≤ x ∧ x < b) (hy : a ≤ y ∧ y < b)
    (hQ0 : 1 < dgU fo to u x → 1 < dgU fo to u y → P (.inl (some (vi 0)), (J, Y)))
    (hQ1 : ∀ J2 : vJ, fr [66, 67, 68] [] J J2 → svR fo to c a b p q (uDn u e) J2 → P (.inl (some (vi 1)), (J2, Y))) :
    vW (d + 1) 120 (0, [vr 57, vi e, vi x, vi y, vu], [], (J, Y)) P := by
  obtain ⟨s1, s2, s3⟩ := hs
  have e1 := (s1 e hu).1
  have e2 : e < 2102 := by omega
  obtain ⟨dx, nx⟩ := s3 x hx.1 hx.2
  obtain ⟨dy, ny⟩ := s3 y hy.1 hy.2
  have bx := dgU_nn (fo := fo) (to := to) (u := u) (n := (x : Int))
  have by' := dgU_nn (fo := fo) (to := to) (u := u) (n := (y : Int))
  have ax := dg_at (fo := fo) (to := to) (n := (x : Int)) e2 hu (Or.inl fx)
  have ay := dg_at (fo := fo) (to := to) (n := (y : Int)) e2 hu (Or.inr ty)
  have w1 : w32 1 = 1 := by decide
  have fin : (if dgU fo to u x ≠ 1 then - J 67 y else J 67 x) = c e → vW (d + 1) 120 (48, [vr 57, vi e, vi x, vi y, vu], [vi (c e)], (J, Y)) P := fun _ => by
    rw [b120_48 hL (by omega) (by omega) (by omega) (by omega) (by omega) (by omega), b119_0 hL (by omega) (by omega) (by omega) (by omega)]
    simp only [vWC_n, Nat.reduceAdd, tn0]
    rw [b120_86]
    refine hQ1 _ (fr_upL (fr_upL (fr_upL (fr_upL (fr_upL (fr_refl _ _ _) rfl _ _) rfl _ _) rfl _ _) rfl _ _) rfl _ _) ⟨fun i hi => ?_, fun i hf => ?_, fun n h1 h2 => ?_⟩
    · unfold uDn at hi
      by_cases z : i = e
      · rw [if_pos z] at hi; exact absurd hi (by decide)
      · rw [if_neg z] at hi
        obtain ⟨t1, t2⟩ := s1 i hi
        refine ⟨t1, ?_⟩
        rw [up_cell _ (by decide), up_cell _ (by decide), up_cell _ (by decide), up_cell _ (by decide), up_place _ _ z]
        exact t2
    · rw [up_cell _ (by decide), up_cell _ (by decide), up_cell _ (by decide), up_cell _ (by decide), up_at]
      by_cases z : i = e
      · rw [if_pos z, z]
      · rw [if_neg z]
        unfold uDn at hf
        rw [if_neg z] at hf
        exact s2 i hf
    · obtain ⟨dn, nn⟩ := s3 n h1 h2
      rw [dg_less e2 hu, nt_less e2 hu, fx, ty]
      have q1 : ((x : Int) = (n : Int)) ↔ n = x := by omega
      have q2 : ((y : Int) = (n : Int)) ↔ n = y := by omega
      simp only [q1, q2]
      refine ⟨?_, ?_⟩
      · simp only [up_at, up_cell _ (show (68 : Nat) ≠ 67 by decide), up_cell _ (show (68 : Nat) ≠ 66 by decide)]
        by_cases z1 : n = y
        · subst z1
          by_cases z2 : n = x
          · subst z2
            simp only [if_true]; omega
          · have z3 : ¬ x = n := fun w => z2 w.symm
            simp only [z2, if_true, if_false]; omega
        · by_cases z2 : n = x
          · subst z2
            simp only [z1, if_true, if_false]; omega
          · simp only [z1, z2, if_false]; omega
      · simp only [up_at, up_cell _ (show (67 : Nat) ≠ 68 by decide), up_cell _ (show (67 : Nat) ≠ 66 by decide)]
        by_cases z1 : n = y
        · subst z1
          by_cases z2 : n = x
          · subst z2
            simp only [if_true]; omega
          · simp only [z2, if_true, if_false]; omega
        · by_cases z2 : n = x
          · subst z2
            simp only [z1, if_true, if_false]; omega
          · simp only [z1, z2, if_false]; omega
  have go : dgU fo to u x = 1 ∨ dgU fo to u y = 1 → vW (d + 1) 120 (22, [vr 57, vi e, vi x, vi y, vu], [], (J, Y)) P := fun h => by
    rw [m120_22 hL (by omega) (by omega) (fun _ => by omega) (fun _ => by omega)]
    simp only [tn0]
    rw [dx, w1, w32_id (by omega) (by omega)]
    have ev : (if dgU fo to u x ≠ 1 then - J 67 y else J 67 x) = c e := by
      by_cases z : dgU fo to u x = 1
      · rw [if_neg (fun t => t z)]
        have := leaf_from (c := c) e2 hu fx z
        omega
      · rw [if_pos z]
        have := leaf_to (c := c) e2 hu ty (h.resolve_left z)
        omega
    rw [ev]
    exact fin ev
  rw [b120_0 hL (by omega) (by omega), tn0, dx, w1, w32_id (by omega) (by omega)]
  by_cases z : dgU fo to u x ≤ 1
  · rw [if_pos z]; exact go (Or.inl (by omega))
  · rw [if_neg z, b120_10 hL (by omega) (by omega), tn0, dy, w1, w32_id (by omega) (by omega)]
    by_cases z2 : dgU fo to u y ≤ 1
    · rw [if_pos z2]; exact go (Or.inr (by omega))
    · rw [if_neg z2, b120_20]
      exact hQ0 (by omega) (by omega)
end
