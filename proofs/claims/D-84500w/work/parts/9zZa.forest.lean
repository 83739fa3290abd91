/-! ===== probes: ways without one make a forest ===== -/
set_option maxRecDepth 20000
set_option maxHeartbeats 4000000
/-- every set of these ways that is not empty has a node with one end alone, other than a given one; lb: the same for both ends -/
def fsR (fo to : Nat → Int) (u : Nat → Bool) (lb : Nat → Nat) : Prop := (∀ e, u e = true → e < 2102 ∧ ∃ x y : Nat, fo e = x ∧ to e = y ∧ lb x = lb y) ∧ ∀ u' : Nat → Bool, (∀ e, u' e = true → u e = true) → ∀ r : Nat, (∃ e, u' e = true) → ∃ v : Nat, v ≠ r ∧ dgU fo to u' v = 1
section
variable {fo to : Nat → Int} {u : Nat → Bool} {lb lb' : Nat → Nat} {w x y : Nat}
theorem fs_side (h : fsR fo to u lb) (hw : w < 2102) (hu : u w = false) (hx : fo w = x) (hy : to w = y) (hne : lb x ≠ lb y) {u' : Nat → Bool} (hs : ∀ e, u' e = true → e ≠ w → u e = true) (hw' : u' w = true) {z z' r : Nat} (hz : (z = x ∧ z' = y) ∨ (z = y ∧ z' = x)) (hr : lb r ≠ lb z) : ∃ v : Nat, v ≠ r ∧ dgU fo to u' v = 1 := by
  obtain ⟨h1, h2⟩ := h
  have zz : lb z' ≠ lb z := by rcases hz with ⟨a, b⟩ | ⟨a, b⟩ <;> rw [a, b] <;> first | exact hne | exact fun q => hne q.symm
  have ends : ∀ e, u' e = true → e ≠ w → ∃ x' y' : Nat, fo e = x' ∧ to e = y' ∧ lb x' = lb y' := fun e he ew => (h1 e (hs e he ew)).2
  obtain ⟨uz, huz⟩ : ∃ uz : Nat → Bool, uz = fun e => decide (u' e = true ∧ e ≠ w ∧ lb (fo e).toNat = lb z) := ⟨_, rfl⟩
  have uz1 : ∀ e, uz e = true ↔ (u' e = true ∧ e ≠ w ∧ lb (fo e).toNat = lb z) := fun e => by rw [huz]; exact decide_eq_true_iff
  have touch : ∀ (e v : Nat), u' e = true → e ≠ w → lb v = lb z → (fo e = (v : Int) ∨ to e = (v : Int)) → uz e = true := fun e v he ew lv t => by
    obtain ⟨x', y', a1, a2, a3⟩ := ends e he ew
    refine (uz1 e).mpr ⟨he, ew, ?_⟩
    rw [a1, tn0]
    rcases t with t | t
    · have : x' = v := by omega
      rw [this]; exact lv
    · have : y' = v := by omega
      rw [a3, this]; exact lv
  have wend : ∀ v : Nat, v ≠ z → v ≠ z' → dgE fo to u' v w = 0 := fun v v1 v2 => by
    unfold dgE
    rw [if_pos hw', hx, hy]
    have q1 : ¬ (x : Int) = (v : Int) := by omega
    have q2 : ¬ (y : Int) = (v : Int) := by omega
    rw [if_neg q1, if_neg q2]; rfl
  have wz : dgE fo to u' z w = 1 := by
    unfold dgE
    rw [if_pos hw', hx, hy]
    have xy : x ≠ y := fun q => hne (by rw [q])
    rcases hz with ⟨a, _⟩ | ⟨a, _⟩
    · have q2 : ¬ (y : Int) = (z : Int) := by omega
      rw [if_pos (by rw [a]), if_neg q2]; rfl
    · have q2 : ¬ (x : Int) = (z : Int) := by omega
      rw [if_neg q2, if_pos (by rw [a])]; rfl
  by_cases ne : ∃ e, uz e = true
  · obtain ⟨v, v1, v2⟩ := h2 uz (fun e he => by
      have := (uz1 e).mp he
      exact hs e this.1 this.2.1) z ne
    have lv : lb v = lb z := by
      apply Classical.byContradiction
      intro q
      have : dgU fo to uz v = 0 := sW_zero 2102 (fun e _ => by
        unfold dgE
        by_cases t : uz e = true
        · obtain ⟨t1, t2, t3⟩ := (uz1 e).mp t
          obtain ⟨x', y', a1, a2, a3⟩ := ends e t1 t2
          rw [a1, tn0] at t3
          rw [if_pos t, a1, a2, if_neg (fun s => q (by rw [← t3]; congr 1; omega)), if_neg (fun s => q (by rw [← t3, a3]; congr 1; omega))]; rfl
        · rw [if_neg t])
      omega
    refine ⟨v, fun q => hr (by rw [← q]; exact lv), ?_⟩
    rw [← v2]
    refine sW_congr 2102 (fun e _ => ?_)
    by_cases ew : e = w
    · subst ew
      have f0 : ¬ uz e = true := fun t => ((uz1 e).mp t).2.1 rfl
      rw [wend v v1 (fun q => zz (by rw [← q]; exact lv))]
      unfold dgE
      rw [if_neg f0]
    · unfold dgE
      by_cases t : u' e = true
      · rw [if_pos t]
        by_cases s : fo e = (v : Int) ∨ to e = (v : Int)
        · rw [if_pos (touch e v t ew lv s)]
        · rw [if_neg (fun q => s (Or.inl q)), if_neg (fun q => s (Or.inr q))]
          split <;> rfl
      · rw [if_neg t, if_neg (fun q => t ((uz1 e).mp q).1)]
  · refine ⟨z, fun q => hr (by rw [← q]), ?_⟩
    unfold dgU
    rw [sW_ind (p := w) 2102 hw (fun e _ ew => ?_)]
    · exact wz
    · unfold dgE
      by_cases t : u' e = true
      · rw [if_pos t, if_neg (fun q => ne ⟨e, touch e z t ew rfl (Or.inl q)⟩), if_neg (fun q => ne ⟨e, touch e z t ew rfl (Or.inr q)⟩)]; rfl
      · rw [if_neg t]
/-- one way more, between parts that were apart -/
theorem fs_add (h : fsR fo to u lb) (hw : w < 2102) (hu : u w = false) (hx : fo w = x) (hy : to w = y) (hne : lb x ≠ lb y) (hc : ∀ n n', lb n = lb n' → lb' n = lb' n') (hxy : lb' x = lb' y) : fsR fo to (uUp u w) lb' := by
  refine ⟨fun e he => ?_, fun u' hs r ne => ?_⟩
  · unfold uUp at he
    by_cases z : e = w
    · rw [z]; exact ⟨hw, x, y, hx, hy, hxy⟩
    · rw [if_neg z] at he
      obtain ⟨a, x', y', b, c, d⟩ := h.1 e he
      exact ⟨a, x', y', b, c, hc _ _ d⟩
  · have hs2 : ∀ e, u' e = true → e ≠ w → u e = true := fun e he ew => by
      have := hs e he
      unfold uUp at this
      rw [if_neg ew] at this
      exact this
    by_cases z : u' w = true
    · by_cases q : lb r = lb y
      · exact fs_side h hw hu hx hy hne hs2 z (z := x) (z' := y) (Or.inl ⟨rfl, rfl⟩) (by rw [q]; exact fun t => hne t.symm)
      · exact fs_side h hw hu hx hy hne hs2 z (z := y) (z' := x) (Or.inr ⟨rfl, rfl⟩) q
    · exact h.2 u' (fun e he => hs2 e he (fun q => z (by rw [← q]; exact he))) r ne
theorem fs_lb (h : fsR fo to u lb) (hc : ∀ n, lb' n = lb n) : fsR fo to u lb' := ⟨fun e he => by
  obtain ⟨a, x', y', b, c, d⟩ := h.1 e he
  exact ⟨a, x', y', b, c, by rw [hc, hc]; exact d⟩, h.2⟩
theorem fs_fst (h : fsR fo to u lb) {u0 : Nat → Bool} (hs : ∀ e, u0 e = true → u e = true) : fstR fo to u0 := fun u' hu ne => by
  obtain ⟨v, _, v2⟩ := h.2 u' (fun e he => hs e (hu e he)) 0 ne
  apply Classical.byContradiction
  intro q
  have : dgU fo to u' v = 0 := sW_zero 2102 (fun e _ => by
    unfold dgE
    by_cases t : u' e = true
    · rw [if_pos t, if_neg (fun s => q ⟨e, t, Or.inl (by rw [s]; exact v2)⟩), if_neg (fun s => q ⟨e, t, Or.inr (by rw [s]; exact v2)⟩)]; rfl
    · rw [if_neg t])
  omega
end
/-- ways joined so far -/
def uS (f t od : Nat → Nat) (a : Nat) : Nat → Nat → Bool
  | 0 => uUp (uUp (fun _ => false) 2100) 2101
  | k + 1 => if flG f t od a k = 0 then uUp (uS f t od a k) (od k) else uS f t od a k
section
variable {I : vJ} {f t od : Nat → Nat} {a b p q : Nat} {wt : Nat → Int}
theorem uS_in : ∀ k e, uS f t od a k e = true → e = 2100 ∨ e = 2101 ∨ ∃ i, i < k ∧ od i = e := by
  intro k
  induction k with
  | zero =>
    intro e he
    have he : uUp (uUp (fun _ => false) 2100) 2101 e = true := he
    unfold uUp at he
    by_cases y : e = 2101
    · exact Or.inr (Or.inl y)
    · rw [if_neg y] at he
      by_cases z : e = 2100
      · exact Or.inl z
      · rw [if_neg z] at he; exact absurd (show false = true from he) (by decide)
  | succ k ih =>
    intro e he
    have he : (if flG f t od a k = 0 then uUp (uS f t od a k) (od k) else uS f t od a k) e = true := he
    by_cases z : flG f t od a k = 0
    · rw [if_pos z] at he
      unfold uUp at he
      by_cases y : e = od k
      · exact Or.inr (Or.inr ⟨k, by omega, y.symm⟩)
      · rw [if_neg y] at he
        rcases ih e he with g | g | ⟨i, i1, i2⟩
        · exact Or.inl g
        · exact Or.inr (Or.inl g)
        · exact Or.inr (Or.inr ⟨i, by omega, i2⟩)
    · rw [if_neg z] at he
      rcases ih e he with g | g | ⟨i, i1, i2⟩
      · exact Or.inl g
      · exact Or.inr (Or.inl g)
      · exact Or.inr (Or.inr ⟨i, by omega, i2⟩)
theorem uS_mono {e : Nat} : ∀ k, uS f t od a k e = true → uS f t od a (k + 1) e = true := fun k he => by
  show (if flG f t od a k = 0 then uUp (uS f t od a k) (od k) else uS f t od a k) e = true
  by_cases z : flG f t od a k = 0
  · rw [if_pos z]
    unfold uUp
    by_cases y : e = od k
    · rw [if_pos y]
    · rw [if_neg y]; exact he
  · rw [if_neg z]; exact he
theorem uS_le {e i : Nat} (h : uS f t od a i e = true) : ∀ k, i ≤ k → uS f t od a k e = true := by
  intro k
  induction k with
  | zero => intro hk; have : i = 0 := by omega
            subst this; exact h
  | succ k ih =>
    intro hk
    by_cases z : i = k + 1
    · subst z; exact h
    · exact uS_mono k (ih (by omega))
theorem fs_all (sO : sE wt p (q - p) (fun i => (od i : Int))) (hq : q ≤ 2100) (hft : ∀ v, p ≤ v → v < q → I 50 v = f v ∧ I 51 v = t v) : ∀ k, k ≤ q - p → fsR (frF I a) (toF I a) (uS f t od a k) (lbC f t od a k) := by
  intro k
  induction k with
  | zero =>
    intro _
    have e0 : fsR (frF I a) (toF I a) (fun _ => false) (fun n => n) := ⟨fun e he => absurd (show false = true from he) (by decide), fun u' hs r ne => by
      obtain ⟨e, he⟩ := ne
      exact absurd (show false = true from hs e he) (by decide)⟩
    have e1 := fs_add (w := 2100) (x := a + 1) (y := a) (lb' := fun n => if n = a + 1 then a else n) e0 (by decide) rfl (by show (a : Int) + 1 = ((a + 1 : Nat) : Int); omega) rfl (show a + 1 ≠ a by omega) (fun n n' h => by
      have h : n = n' := h
      rw [h]) (by show (if a + 1 = a + 1 then a else a + 1) = if a = a + 1 then a else a; rw [if_pos rfl, if_neg (by omega)])
    refine fs_add (w := 2101) (x := a + 2) (y := a) e1 (by decide) (by unfold uUp; rw [if_neg (by decide)]) (by show (a : Int) + 2 = ((a + 2 : Nat) : Int); omega) rfl ?_ (fun n n' h => ?_) ?_
    · show (if a + 2 = a + 1 then a else a + 2) ≠ if a = a + 1 then a else a
      rw [if_neg (by omega), if_neg (by omega)]; omega
    · have h : (if n = a + 1 then a else n) = if n' = a + 1 then a else n' := h
      show lb0 a n = lb0 a n'
      unfold lb0
      split at h <;> split at h <;> split <;> split <;> omega
    · show lb0 a (a + 2) = lb0 a a
      unfold lb0
      rw [if_pos (Or.inr rfl), if_neg (by omega)]
  | succ k ih =>
    intro hk
    have h := ih (by omega)
    obtain ⟨v, v1, v2, v3⟩ := sO.1 k (by omega)
    have v1 : (od k : Int) = v := v1
    obtain ⟨f1, t1⟩ := hft (od k) (by omega) (by omega)
    have ef : frF I a (od k) = (f (od k) : Int) := by unfold frF; rw [if_neg (by omega), if_neg (by omega)]; exact f1
    have et : toF I a (od k) = (t (od k) : Int) := by unfold toF; rw [if_neg (by omega)]; exact t1
    have st : ∀ n, lbC f t od a (k + 1) n = if lbC f t od a k n = lbC f t od a k (t (od k)) then lbC f t od a k (f (od k)) else lbC f t od a k n := fun n => rfl
    show fsR (frF I a) (toF I a) (if flG f t od a k = 0 then uUp (uS f t od a k) (od k) else uS f t od a k) (lbC f t od a (k + 1))
    by_cases z : lbC f t od a k (f (od k)) = lbC f t od a k (t (od k))
    · rw [if_neg (by unfold flG; rw [if_pos z]; decide)]
      refine fs_lb h (fun n => ?_)
      rw [st]
      by_cases y : lbC f t od a k n = lbC f t od a k (t (od k))
      · rw [if_pos y, y, z]
      · rw [if_neg y]
    · rw [if_pos (by unfold flG; rw [if_neg z])]
      refine fs_add h (by omega) ?_ ef et z (fun n n' e => ?_) ?_
      · cases hu : uS f t od a k (od k) with
        | false => rfl
        | true =>
          rcases uS_in k (od k) hu with g | g | ⟨i, i1, i2⟩
          · omega
          · omega
          · have := sE_inj sO (i := i) (j := k) (by omega) (by omega) (by show (od i : Int) = (od k : Int); rw [i2])
            omega
      · rw [st, st, e]
      · rw [st, st, if_neg z, if_pos rfl]
/-- the ways without probes make a forest -/
theorem fs_prb {J : vJ} (sO : sE wt p (q - p) (fun i => (od i : Int))) (hq : q ≤ 2100) (hft : ∀ v, p ≤ v → v < q → I 50 v = f v ∧ I 51 v = t v) (hfl : ∀ i, i < q - p → J 61 (od i) = flG f t od a i) : fstR (frF I a) (toF I a) (u9 (J 61) p q) := by
  refine fs_fst (fs_all (a := a) sO hq hft (q - p) (Nat.le_refl _)) (fun e he => ?_)
  unfold u9 uUp at he
  by_cases y : e = 2101
  · exact uS_le (i := 0) (by show uUp (uUp (fun _ => false) 2100) 2101 e = true; unfold uUp; rw [if_pos y]) _ (by omega)
  · rw [if_neg y] at he
    by_cases z : e = 2100
    · exact uS_le (i := 0) (by show uUp (uUp (fun _ => false) 2100) 2101 e = true; unfold uUp; rw [if_neg y, if_pos z]) _ (by omega)
    · rw [if_neg z] at he
      obtain ⟨e1, e2, e3⟩ := of_decide_eq_true he
      obtain ⟨i, i1, i2⟩ := sO.2.2 e e1 (by omega)
      have i2 : (od i : Int) = e := i2
      have i3 : od i = e := by omega
      refine uS_le (i := i + 1) ?_ _ (by omega)
      show (if flG f t od a i = 0 then uUp (uS f t od a i) (od i) else uS f t od a i) e = true
      rw [if_pos (by rw [← hfl i i1, i3]; exact e3)]
      unfold uUp
      rw [if_pos i3.symm]
end
