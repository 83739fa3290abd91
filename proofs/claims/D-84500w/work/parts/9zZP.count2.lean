/-! ===== count: Plan.solve from its start to its end ===== -/
set_option maxRecDepth 20000
set_option maxHeartbeats 4000000
theorem orB1 {s t : Int} (hs : s = 0 ∨ s = 1) (ht : t = 0 ∨ t = 1) : b32 (· ||| ·) s t = if s = 1 ∨ t = 1 then 1 else 0 := by
  rcases hs with h | h <;> rcases ht with g | g <;> subst h <;> subst g <;> decide
/-- one way more -/
def uUp (u : Nat → Bool) (w : Nat) : Nat → Bool := fun e => if e = w then true else u e
section
variable {fo to c : Nat → Int} {u : Nat → Bool} {w : Nat} {n : Int}
theorem dg_more (hw : w < 2102) (hu : u w = false) : dgU fo to (uUp u w) n = dgU fo to u n + ((if fo w = n then 1 else 0) + (if to w = n then 1 else 0)) := by
  refine sW_one 2102 hw (fun e _ ew => ?_) ?_
  · unfold dgE uUp; rw [if_neg ew]
  · unfold dgE uUp; rw [if_pos rfl, if_pos rfl, hu, if_neg (show ¬ (false = true) by decide)]; omega
theorem nt_more (hw : w < 2102) (hu : u w = false) : ntU fo to c (uUp u w) n = ntU fo to c u n + ((if to w = n then c w else 0) - (if fo w = n then c w else 0)) := by
  refine sW_one 2102 hw (fun e _ ew => ?_) ?_
  · unfold ntE uUp; rw [if_neg ew]
  · unfold ntE uUp; rw [if_pos rfl, if_pos rfl, hu, if_neg (show ¬ (false = true) by decide)]; omega
theorem dg_none (h : ∀ e, e < 2102 → u e = false) : dgU fo to u n = 0 := sW_zero 2102 (fun e he => by unfold dgE; rw [h e he, if_neg (by decide)])
theorem nt_none (h : ∀ e, e < 2102 → u e = false) : ntU fo to c u n = 0 := sW_zero 2102 (fun e he => by unfold ntE; rw [h e he, if_neg (by decide)])
theorem nt_both {k v : Nat → Bool} (h : ∀ e, e < 2102 → (v e = true ↔ u e = true ∨ k e = true)) (h2 : ∀ e, e < 2102 → ¬ (u e = true ∧ k e = true)) : ntU fo to c k n + ntU fo to c u n = ntU fo to c v n := by
  unfold ntU
  rw [← sW_add]
  refine sW_congr 2102 (fun e he => ?_)
  show ntE fo to c k n e + ntE fo to c u n e = ntE fo to c v n e
  unfold ntE
  have a := h e he
  have b := h2 e he
  by_cases x : u e = true
  · rw [if_pos x, if_pos (a.mpr (Or.inl x)), if_neg (fun y => b ⟨x, y⟩)]; omega
  · rw [if_neg x]
    by_cases y : k e = true
    · rw [if_pos y, if_pos (a.mpr (Or.inr y))]; omega
    · rw [if_neg y, if_neg (fun t => (a.mp t).elim x y)]; rfl
end
/-- a way of the member, or one of the two that are thought -/
abbrev isE (p q e : Nat) : Prop := p ≤ e ∧ e < q ∨ e = 2100 ∨ e = 2101
/-- a pass under way -/
def vsR (fo to c : Nat → Int) (a b p q : Nat) (u0 : Nat → Bool) (J0 : vJ) (seen : Nat → Prop) (s : Int) (u : Nat → Bool) (J : vJ) : Prop := svR fo to c a b p q u J ∧ (∀ e, u e = true → u0 e = true) ∧ (s = 0 ∧ J = J0 ∧ u = u0 ∧ (∀ e, seen e → u e = true → 1 < dgU fo to u (fo e) ∧ 1 < dgU fo to u (to e)) ∨ s = 1 ∧ muU u < muU u0)
section
variable {fo to c : Nat → Int} {a b p q : Nat} {u0 u : Nat → Bool} {J0 J J2 : vJ} {seen seen' : Nat → Prop} {s : Int} {e : Nat}
theorem vs_s (h : vsR fo to c a b p q u0 J0 seen s u J) : s = 0 ∨ s = 1 := h.2.2.elim (fun t => Or.inl t.1) (fun t => Or.inr t.1)
theorem vs_same (h : vsR fo to c a b p q u0 J0 seen s u J) (hx : ∀ i, seen' i → seen i ∨ i = e) (hn : u e = true → 1 < dgU fo to u (fo e) ∧ 1 < dgU fo to u (to e)) : vsR fo to c a b p q u0 J0 seen' s u J := by
  refine ⟨h.1, h.2.1, ?_⟩
  rcases h.2.2 with ⟨h1, h2, h3, h4⟩ | t
  · refine Or.inl ⟨h1, h2, h3, fun i hi hu => ?_⟩
    rcases hx i hi with z | z
    · exact h4 i z hu
    · subst z; exact hn hu
  · exact Or.inr t
theorem vs_less (h : vsR fo to c a b p q u0 J0 seen s u J) (he : e < 2102) (hu : u e = true) (h2 : svR fo to c a b p q (uDn u e) J2) : vsR fo to c a b p q u0 J0 seen' 1 (uDn u e) J2 := by
  refine ⟨h2, fun i hi => ?_, Or.inr ⟨rfl, ?_⟩⟩
  · unfold uDn at hi
    by_cases z : i = e
    · rw [if_pos z] at hi; exact absurd hi (by decide)
    · rw [if_neg z] at hi; exact h.2.1 i hi
  · rw [mu_less he hu]
    rcases h.2.2 with ⟨_, _, h3, _⟩ | t
    · rw [h3]; omega
    · omega
end
section
variable {d : Nat} {Y : vY} {I : vJ} {P : vE → Prop} {c : Nat → Int} {a b p q o : Nat}
/-- all that stands fast while counts of a member are worked out -/
def slF (I : vJ) (Y : vY) (c : Nat → Int) (a b p q o : Nat) : Prop := (2297 ≤ o ∧ Y.2.1 o = 15 ∧ I o 3850 = a ∧ I o 3851 = (b : Int) - a ∧ I o 3852 = p ∧ I o 3853 = (q : Int) - p) ∧ (a + 3 ≤ b ∧ b ≤ 700 ∧ p ≤ q ∧ q ≤ 2100) ∧ (∀ e, p ≤ e → e < q → (∃ x y : Nat, I 50 e = x ∧ I 51 e = y ∧ (a ≤ x ∧ x < b) ∧ a ≤ y ∧ y < b) ∧ (I 61 e = 0 ∨ I 61 e = 1 ∧ I 65 e = c e)) ∧ ∀ e, isE p q e → 0 ≤ c e ∧ c e < 2147483647
theorem slF_fr {J : vJ} (h : slF I Y c a b p q o) (F : fr [66, 67, 68] [] I J) : slF J Y c a b p q o := by
  obtain ⟨⟨h1, h2, h3, h4, h5, h6⟩, h7⟩ := h
  have eo : J o = I o := fr_ge F 2297 (by rfl) h1
  unfold slF
  rw [eo, fr_row F 50 (fun _ => rfl), fr_row F 51 (fun _ => rfl), fr_row F 61 (fun _ => rfl), fr_row F 65 (fun _ => rfl)]
  exact ⟨⟨h1, h2, h3, h4, h5, h6⟩, h7⟩
theorem frF_fr {J : vJ} (F : fr [66, 67, 68] [] I J) : frF J a = frF I a := by
  funext e; unfold frF; rw [fr_row F 50 (fun _ => rfl)]
theorem toF_fr {J : vJ} (F : fr [66, 67, 68] [] I J) : toF J a = toF I a := by
  funext e; unfold toF; rw [fr_row F 51 (fun _ => rfl)]
/-- the pass over the member's ways -/
theorem c_pass1 {u0 : Nat → Bool} {J0 : vJ} (hL : vL Y) (hS : slF I Y c a b p q o)
    (hQ : ∀ (s : Int) (u : Nat → Bool) (J : vJ), fr [66, 67, 68] [] I J → vsR (frF I a) (toF I a) c a b p q u0 J0 (fun e => p ≤ e ∧ e < q) s u J → vW (d + 2) 118 (335, [vr 57, vr o, vr 2066, vi s, vi q], [], (J, Y)) P) :
    ∀ (k x4 : Nat) (s : Int) (u : Nat → Bool) (J : vJ), x4 + k = q → p ≤ x4 → fr [66, 67, 68] [] I J → vsR (frF I a) (toF I a) c a b p q u0 J0 (fun e => p ≤ e ∧ e < x4) s u J → vW (d + 2) 118 (267, [vr 57, vr o, vr 2066, vi s, vi x4], [], (J, Y)) P := by
  intro k
  induction k with
  | zero =>
    intro x4 s u J hk hp F h
    have e : x4 = q := by omega
    subst e
    obtain ⟨⟨h1, h2, h3, h4, h5, h6⟩, ⟨g1, g2, g3, g4⟩, _⟩ := slF_fr hS F
    rw [b118_267 (by omega) h2, h5, h6, if_pos (by rw [show (p : Int) + ((x4 : Int) - p) = x4 by omega]; exact Int.le_refl _)]
    exact hQ s u J F h
  | succ k ih =>
    intro x4 s u J hk hp F h
    have SJ := slF_fr hS F
    obtain ⟨⟨h1, h2, h3, h4, h5, h6⟩, ⟨g1, g2, g3, g4⟩, g5, g6⟩ := SJ
    obtain ⟨⟨x, y, x1, y1, x2, y2⟩, _⟩ := g5 x4 hp (by omega)
    have s01 := vs_s h
    have e1 : (x4 : Int) + 1 = ((x4 + 1 : Nat) : Int) := by omega
    have fx : frF I a x4 = x := by unfold frF; rw [if_neg (by omega), if_neg (by omega), ← fr_row F 50 (fun _ => rfl)]; exact x1
    have ty : toF I a x4 = y := by unfold toF; rw [if_neg (by omega), ← fr_row F 51 (fun _ => rfl)]; exact y1
    rw [b118_267 (by omega) h2, h5, h6, if_neg (by rw [show (p : Int) + ((q : Int) - p) = q by omega, w32_id (by omega) (by omega), w32_id (by omega) (by omega)]; omega), b118_281 hL (by omega) (by omega), tn0]
    cases hu : u x4 with
    | false =>
      have e66 := h.1.2.1 x4 hu
      have cb := g6 x4 (Or.inl ⟨hp, by omega⟩)
      rw [e66, if_pos (by rw [w32_id (by omega) (by omega), show w32 (-1) = -1 from by decide]; omega), b118_326, b118_327, orB1 s01 (Or.inl rfl), e1]
      have es : (if s = 1 ∨ (0 : Int) = 1 then (1 : Int) else 0) = s := by
        rcases s01 with z | z
        · rw [z, if_neg (by decide)]
        · rw [z, if_pos (Or.inl rfl)]
      rw [es]
      exact ih (x4 + 1) s u J (by omega) (by omega) F (vs_same (e := x4) h (fun i hi => by
        by_cases z : i = x4
        · exact Or.inr z
        · exact Or.inl ⟨hi.1, by have := hi.2; omega⟩) (fun w => by rw [hu] at w; exact absurd w (by decide)))
    | true =>
      have e66 := (h.1.1 x4 hu).2
      rw [e66, if_neg (fun t => t rfl), b118_293 hL (by omega) (by omega), tn0, x1, y1]
      refine c_settle (d := d) (fo := frF I a) (to := toF I a) hL h.1 g4 g2 hu fx ty x2 y2 (fun z1 z2 => ?_) (fun J2 F2 h2' => ?_)
      · simp only [vWC_s, Nat.reduceAdd]
        rw [m118_319, if_pos (by decide), b118_327, orB1 s01 (Or.inl rfl), e1]
        have es : (if s = 1 ∨ (0 : Int) = 1 then (1 : Int) else 0) = s := by
          rcases s01 with z | z
          · rw [z, if_neg (by decide)]
          · rw [z, if_pos (Or.inl rfl)]
        rw [es]
        exact ih (x4 + 1) s u J (by omega) (by omega) F (vs_same (e := x4) h (fun i hi => by
          by_cases z : i = x4
          · exact Or.inr z
          · exact Or.inl ⟨hi.1, by have := hi.2; omega⟩) (fun _ => by rw [fx, ty]; exact ⟨z1, z2⟩))
      · simp only [vWC_s, Nat.reduceAdd]
        rw [m118_319, if_neg (by decide), b118_327, orB1 s01 (Or.inr rfl), if_pos (Or.inr rfl), e1]
        exact ih (x4 + 1) 1 _ J2 (by omega) (by omega) (fr_trans F F2) (vs_less h (by omega) hu h2')
/-- the pass over the two ways that are thought -/
theorem c_pass2 {u0 : Nat → Bool} {J0 : vJ} (hL : vL Y) (hS : slF I Y c a b p q o)
    (hQ : ∀ (s : Int) (u : Nat → Bool) (J : vJ), fr [66, 67, 68] [] I J → vsR (frF I a) (toF I a) c a b p q u0 J0 (isE p q) s u J → vW (d + 2) 118 (399, [vr 57, vr o, vr 2066, vi s, vi ((2 : Nat) : Int)], [], (J, Y)) P) :
    ∀ (k x4 : Nat) (s : Int) (u : Nat → Bool) (J : vJ), x4 + k = 2 → fr [66, 67, 68] [] I J → vsR (frF I a) (toF I a) c a b p q u0 J0 (fun e => p ≤ e ∧ e < q ∨ (2100 ≤ e ∧ e < 2100 + x4)) s u J → vW (d + 2) 118 (338, [vr 57, vr o, vr 2066, vi s, vi (x4 : Int)], [], (J, Y)) P := by
  intro k
  induction k with
  | zero =>
    intro x4 s u J hk F h
    have e : x4 = 2 := by omega
    subst e
    rw [b118_338, if_pos (by decide)]
    refine hQ s u J F (vs_same (e := 5000) h (fun i hi => Or.inl ?_) (fun w => ?_))
    · unfold isE at hi; omega
    · have := (h.1.1 5000 w).1; have := hS.2.1; omega
  | succ k ih =>
    intro x4 s u J hk F h
    obtain ⟨⟨h1, h2, h3, h4, h5, h6⟩, ⟨g1, g2, g3, g4⟩, g5, g6⟩ := slF_fr hS F
    have s01 := vs_s h
    have e1 : (x4 : Int) + 1 = ((x4 + 1 : Nat) : Int) := by omega
    have e0 : (2100 : Int) + (x4 : Int) = ((2100 + x4 : Nat) : Int) := by omega
    have em : isE p q (2100 + x4) := by unfold isE; omega
    have fx : frF I a (2100 + x4) = ((a + 1 + x4 : Nat) : Int) := by
      unfold frF
      by_cases z : x4 = 0
      · rw [if_pos (by omega)]; omega
      · rw [if_neg (by omega), if_pos (by omega)]; omega
    have ty : toF I a (2100 + x4) = ((a : Nat) : Int) := by unfold toF; rw [if_pos (by omega)]
    rw [b118_338, if_neg (by rw [w32_id (by omega) (by omega), w32_id (by omega) (by omega)]; omega), b118_344 hL (by omega) (by omega), e0, tn0]
    have nx : ∀ i, (p ≤ i ∧ i < q ∨ (2100 ≤ i ∧ i < 2100 + (x4 + 1))) → (p ≤ i ∧ i < q ∨ (2100 ≤ i ∧ i < 2100 + x4)) ∨ i = 2100 + x4 := fun i hi => by omega
    cases hu : u (2100 + x4) with
    | false =>
      have e66 := h.1.2.1 (2100 + x4) hu
      have cb := g6 (2100 + x4) em
      rw [e66, if_pos (by rw [w32_id (by omega) (by omega), show w32 (-1) = -1 from by decide]; omega), b118_390, b118_391, orB1 s01 (Or.inl rfl), e1]
      have es : (if s = 1 ∨ (0 : Int) = 1 then (1 : Int) else 0) = s := by
        rcases s01 with z | z
        · rw [z, if_neg (by decide)]
        · rw [z, if_pos (Or.inl rfl)]
      rw [es]
      exact ih (x4 + 1) s u J (by omega) F (vs_same (e := 2100 + x4) h nx (fun w => by rw [hu] at w; exact absurd w (by decide)))
    | true =>
      have e66 := (h.1.1 (2100 + x4) hu).2
      rw [e66, if_neg (fun t => t rfl), b118_360 hL (by omega) h2, h3, e0, show (a : Int) + 1 + (x4 : Int) = ((a + 1 + x4 : Nat) : Int) by omega]
      refine c_settle (d := d) (fo := frF I a) (to := toF I a) hL h.1 g4 g2 hu fx ty ⟨by omega, by omega⟩ ⟨Nat.le_refl _, by omega⟩ (fun z1 z2 => ?_) (fun J2 F2 h2' => ?_)
      · simp only [vWC_s, Nat.reduceAdd]
        rw [m118_383, if_pos (by decide), b118_391, orB1 s01 (Or.inl rfl), e1]
        have es : (if s = 1 ∨ (0 : Int) = 1 then (1 : Int) else 0) = s := by
          rcases s01 with z | z
          · rw [z, if_neg (by decide)]
          · rw [z, if_pos (Or.inl rfl)]
        rw [es]
        exact ih (x4 + 1) s u J (by omega) F (vs_same (e := 2100 + x4) h nx (fun _ => by rw [fx, ty]; exact ⟨z1, z2⟩))
      · simp only [vWC_s, Nat.reduceAdd]
        rw [m118_383, if_neg (by decide), b118_391, orB1 s01 (Or.inr rfl), if_pos (Or.inr rfl), e1]
        exact ih (x4 + 1) 1 _ J2 (by omega) (fr_trans F F2) (vs_less h (by omega) hu h2')
/-- a set of unknown ways that is not empty has a node with one end alone -/
def fstR (fo to : Nat → Int) (u0 : Nat → Bool) : Prop := ∀ u : Nat → Bool, (∀ e, u e = true → u0 e = true) → (∃ e, u e = true) → ∃ e, u e = true ∧ (dgU fo to u (fo e) = 1 ∨ dgU fo to u (to e) = 1)
/-- pass behind pass, till all is known -/
theorem c_passes {u9 : Nat → Bool} (hL : vL Y) (hS : slF I Y c a b p q o) (hF : fstR (frF I a) (toF I a) u9)
    (hQ : ∀ J : vJ, fr [66, 67, 68] [] I J → (∀ e, J 66 e = c e) → P (.inl none, (J, Y))) :
    ∀ (k : Nat) (u : Nat → Bool) (J : vJ) (x4 : vV), muU u ≤ k → (∀ e, u e = true → u9 e = true) → fr [66, 67, 68] [] I J → svR (frF I a) (toF I a) c a b p q u J → vW (d + 2) 118 (255, [vr 57, vr o, vr 2066, vi 1, x4], [], (J, Y)) P := by
  have pass : ∀ (k : Nat) (u : Nat → Bool) (J : vJ) (x4 : vV), muU u ≤ k → (∀ e, u e = true → u9 e = true) → fr [66, 67, 68] [] I J → svR (frF I a) (toF I a) c a b p q u J → (∀ (u2 : Nat → Bool) (J2 : vJ) (x : vV), muU u2 < muU u → (∀ e, u2 e = true → u9 e = true) → fr [66, 67, 68] [] I J2 → svR (frF I a) (toF I a) c a b p q u2 J2 → vW (d + 2) 118 (255, [vr 57, vr o, vr 2066, vi 1, x], [], (J2, Y)) P) → vW (d + 2) 118 (255, [vr 57, vr o, vr 2066, vi 1, x4], [], (J, Y)) P := by
    intro k u J x4 hk h9 F h hm
    obtain ⟨⟨h1, h2, h3, h4, h5, h6⟩, ⟨g1, g2, g3, g4⟩, g5, g6⟩ := slF_fr hS F
    rw [b118_255, if_neg (by decide), b118_259 (by omega) h2, h5]
    refine c_pass1 (d := d) (u0 := u) (J0 := J) hL hS (fun s u1 J1 F1 v1 => ?_) (q - p) p 0 u J (by omega) (Nat.le_refl _) F ⟨h, fun _ t => t, Or.inl ⟨rfl, rfl, rfl, fun e he => absurd he.2 (by omega)⟩⟩
    rw [b118_335]
    refine c_pass2 (d := d) (u0 := u) (J0 := J) hL hS (fun s2 u2 J2 F2 v2 => ?_) 2 0 s u1 J1 (by omega) F1 (vs_same (e := 5000) v1 (fun i hi => Or.inl (by omega)) (fun w => by have := (v1.1.1 5000 w).1; omega))
    rw [b118_399]
    rcases v2.2.2 with ⟨z1, z2, z3, z4⟩ | ⟨z1, z2⟩
    · rw [z1, b118_255, if_pos (by decide), b118_402]
      have no : ∀ e, u2 e = false := fun e => by
        cases hu : u2 e with
        | false => rfl
        | true =>
          obtain ⟨i, i1, i2⟩ := hF u2 (fun j hj => h9 j (v2.2.1 j hj)) ⟨e, hu⟩
          have w := z4 i (v2.1.1 i i1).1 i1
          rcases i2 with t | t <;> omega
      exact hQ J2 F2 (fun e => v2.1.2.1 e (no e))
    · rw [z1]
      exact hm u2 J2 _ z2 (fun e he => h9 e (v2.2.1 e he)) F2 v2.1
  intro k
  induction k with
  | zero =>
    intro u J x4 hk h9 F h
    exact pass 0 u J x4 hk h9 F h (fun u2 _ _ hu => by have := mu_nn (u := u2); omega)
  | succ k ih =>
    intro u J x4 hk h9 F h
    exact pass (k + 1) u J x4 hk h9 F h (fun u2 J2 x hu h92 F2 h2 => ih u2 J2 x (by omega) h92 F2 h2)
end
