/-! ===== the relation looks at its own cells alone ===== -/
set_option maxRecDepth 20000
set_option maxHeartbeats 4000000
/-- places that the relation of a run looks at, in both houses -/
def spC (c : Nat) : Prop := (35 ≤ c ∧ c < 66) ∨ (1960 ≤ c ∧ c < 2060 ∧ c ≠ 1965)
def spT (c f : Nat) : Prop := (2081 ≤ c ∧ c < 2180) ∨ (c = 2181 ∨ 2183 ≤ c ∧ c < 2277 ∧ c ≠ 2234 ∧ c ≠ 2259) ∨ (c = 2075 ∧ 7727 ≤ f ∧ f ≤ 7830)
def spD (Y : vY) (I I' J J' : vJ) : Prop := (∀ c, spC c → J c = I c) ∧ J 18 266 = I 18 266 ∧ (∀ c, 2297 ≤ c → Y.2.1 c = 15 → J c = I c) ∧ ∀ c f, spT c f → J' c f = I' c f
def sbC (c : Nat) : Bool := (Nat.ble 35 c && Nat.blt c 66) || (Nat.ble 1960 c && Nat.blt c 2060 && !(Nat.beq c 1965))
def sbT (c : Nat) : Bool := (Nat.ble 2081 c && Nat.blt c 2180) || Nat.beq c 2181 || (Nat.ble 2183 c && Nat.blt c 2277 && !(Nat.beq c 2234) && !(Nat.beq c 2259))
def sbF (q : Nat × Nat) : Bool := sbT q.1 || (Nat.beq q.1 2075 && (Nat.ble 7727 q.2 && Nat.ble q.2 7830))
theorem sbC_ok {c : Nat} (h : sbC c = true) : spC c := by
  unfold sbC at h
  simp only [Bool.or_eq_true, Bool.and_eq_true, Nat.ble_eq, Nat.blt_eq, Bool.not_eq_true', beq_eq_false_iff_ne, ne_eq] at h
  unfold spC
  rcases h with h | h
  · exact Or.inl h
  · refine Or.inr ⟨h.1.1, h.1.2, fun e => ?_⟩
    have := h.2
    rw [e] at this
    exact absurd this (by decide)
theorem sbT_ok {c : Nat} (h : sbT c = true) (f : Nat) : spT c f := by
  unfold sbT at h
  simp only [Bool.or_eq_true, Bool.and_eq_true, Nat.ble_eq, Nat.blt_eq, Bool.not_eq_true'] at h
  unfold spT
  rcases h with (h | h) | h
  · exact Or.inl h
  · exact Or.inr (Or.inl (Or.inl (Nat.eq_of_beq_eq_true h)))
  · refine Or.inr (Or.inl (Or.inr ⟨h.1.1.1, h.1.1.2, fun e => ?_, fun e => ?_⟩))
    · have := h.1.2
      rw [e] at this
      exact absurd this (by decide)
    · have := h.2
      rw [e] at this
      exact absurd this (by decide)
theorem sbF_ok {q : Nat × Nat} (h : sbF q = true) : spT q.1 q.2 := by
  unfold sbF at h
  rw [Bool.or_eq_true, Bool.and_eq_true, Bool.and_eq_true] at h
  rcases h with h | h
  · exact sbT_ok h _
  · exact Or.inr (Or.inr ⟨Nat.eq_of_beq_eq_true h.1, Nat.le_of_ble_eq_true h.2.1, Nat.le_of_ble_eq_true h.2.2⟩)
theorem su_sp {C : List Nat} {F : List (Nat × Nat)} {C' : List Nat} {F' : List (Nat × Nat)} {R : vJ → vJ → Prop} (s : su C F C' F' R) {Y : vY} {I J I' J' : vJ} (g : spD Y I I' J J') (e : ((C.all sbC && F.all (fun q => sbC q.1 || (Nat.beq q.1 18 && Nat.beq q.2 266))) && (C'.all sbT && F'.all sbF)) = true) (r : R I I') : R J J' := by
  rw [Bool.and_eq_true, Bool.and_eq_true, Bool.and_eq_true] at e
  refine s I I' J J' (fun c hc => g.1 c (sbC_ok (List.all_eq_true.mp e.1.1 c hc))) (fun q hq => ?_) (fun c hc => funext fun f => g.2.2.2 c f (sbT_ok (List.all_eq_true.mp e.2.1 c hc) f)) (fun q hq => g.2.2.2 q.1 q.2 (sbF_ok (List.all_eq_true.mp e.2.2 q hq))) r
  have w := List.all_eq_true.mp e.1.2 q hq
  rw [Bool.or_eq_true, Bool.and_eq_true] at w
  rcases w with w | w
  · rw [g.1 q.1 (sbC_ok w)]
  · rw [Nat.eq_of_beq_eq_true w.1, Nat.eq_of_beq_eq_true w.2]; exact g.2.1
theorem reR_ht {n : Int} {nm ht ht' : Nat → Nat} {X mm Nn Lp : Nat} {pr : Nat → Nat} {Y Y' : vY} {I I' : vJ} {u : Nat} (hS : ST I I' Y Y' X mm Nn Lp nm pr ht) (hh : ∀ k, k < 5000 → ht' k = ht k) (h : reR n nm ht X mm Nn I I' u) : reR n nm ht' X mm Nn I I' u := by
  obtain ⟨A, dl, a1, a2, a3, a4, a5⟩ := h
  refine ⟨A, dl, a1, a2, a3, fun k hk => ?_, a5⟩
  obtain ⟨pc, p1, p2, p3, p4, p5⟩ := a4 k hk
  refine ⟨pc, p1, p2, p3, p4, ?_⟩
  have ac := (a3 k (by omega)).2.1
  obtain ⟨_, _, cf, ct, _, _, _, n6, _, n8, _⟩ := hS.2.2.2.2.1 (I 2007 (40 * u + k)).toNat (by omega)
  rw [hh pc (by rw [n6] at p4; omega)]
  exact p5
section
variable {Y Y' : vY} {X mm Nn Lp : Nat} {nm pr ht : Nat → Nat} {I I' J J' : vJ} {th W N : Nat}
theorem AS_cong {ht' : Nat → Nat} (h : AS Y Y' X mm Nn Lp nm pr ht I I' th W N) (g : spD Y I I' J J') (h1 : ∀ k, k < 5000 → ht' k = ht k) (h2 : ht' 5000 = ht 5000) (h3 : agH ht' J J') : AS Y Y' X mm Nn Lp nm pr ht' J J' th W N := by
  obtain ⟨s1, s2, s3, s4, ⟨⟨s5, s6, s7⟩, s8, s9, s10⟩, s11⟩ := h
  have hX := s1.1.2.1
  have rC : ∀ c, sbC c = true → J c = I c := fun c e => g.1 c (sbC_ok e)
  have rT : ∀ c, sbT c = true → J' c = I' c := fun c e => funext fun f => g.2.2.2 c f (sbT_ok e f)
  have rF : ∀ f, 7727 ≤ f → f ≤ 7830 → J' 2075 f = I' 2075 f := fun f e e2 => g.2.2.2 2075 f (Or.inr (Or.inr ⟨rfl, e, e2⟩))
  have gR : agR Y I I' J J' := ⟨fun c a b => g.1 c (Or.inl ⟨a, by omega⟩), g.2.2.1, fun c a b => funext fun f => g.2.2.2 c f (Or.inl ⟨a, b⟩)⟩
  have gS : agS I I' J J' X := ⟨rC 38 rfl, rC 43 rfl, rC 62 rfl, gR.2.2 (X + 11) (by omega) (by omega), gR.2.2 (X + 12) (by omega) (by omega), gR.2.2 (X + 37) (by omega) (by omega), rT 2178 rfl, rT 2179 rfl, by rw [rC 1960 rfl]; exact Int.le_refl _⟩
  have SJ := ST_re s1 gR g.2.1 h3 h1
  refine ⟨SJ, su_sp su_LZ g rfl s2, ?_, ?_, ⟨⟨by rw [rC 1995 rfl]; exact s5, by rw [rC 1990 rfl]; exact s6, by rw [rC 1960 rfl]; exact s7⟩, by rw [rC 1990 rfl]; exact s8, by rw [rF _ (by decide) (by decide)]; exact s9, s10⟩, fun u hu => ?_⟩
  · obtain ⟨q1, q2, q3, q4, q5, q6, q7, q8, q9, q10, q11, q12, q13, q14, q15, q16, q17, q18, q19, q20⟩ := s3
    exact ⟨su_sp su_tR g rfl q1, su_sp su_pPath g rfl q2, su_sp su_loR g rfl q3, su_sp su_pArr g rfl q4, su_sp su_pStep g rfl q5, su_sp su_pKeep g rfl q6, su_sp su_pCost g rfl q7, su_sp su_pCalls g rfl q8, su_sp su_pMet g rfl q9, su_sp su_pPrint g rfl q10, su_sp su_pBegun g rfl q11, su_sp su_pLooks g rfl q12, su_sp su_pPar g rfl q13, su_sp su_pThr g rfl q14, su_sp su_pDone g rfl q15, su_sp su_pLast g rfl q16, su_sp su_pFor g rfl q17, su_sp su_pTurns g rfl q18, su_sp su_pSeed g rfl q19, su_sp su_pVars g rfl q20⟩
  · rw [h2]
    obtain ⟨⟨n, b1, b2⟩, b3, b4⟩ := s4
    have x1 := rT 2255 rfl
    have x2 := rT 2256 rfl
    refine ⟨⟨n, hR_same b1 (by rw [rC 1960 rfl]) (rC 1979 rfl) (rC 1980 rfl) (rC 1981 rfl) (rF _ (by decide) (by decide)) x1 x2 (rT 2257 rfl) (rT 2258 rfl), by rw [x1, x2]; exact b2⟩, by rw [rC 1990 rfl]; exact b3, ⟨fun j hj => ?_, tot_le b4.2 (rC 35 rfl) (rT 2183 rfl) (by rw [rC 1990 rfl])⟩⟩
    rw [rC 2014 rfl, rC 1990 rfl]; exact b4.1 j hj
  · have r := reR_ht s1 h1 (s11 u hu)
    rw [rC 1990 rfl]
    refine reR_ag r (Int.le_refl _) gS ⟨fun p _ _ => ⟨by rw [rC 1992 rfl], by rw [rC 1993 rfl]⟩, by rw [rC 1994 rfl], fun k _ => ⟨by rw [rC 2009 rfl], by rw [rC 2006 rfl], by rw [rT 2200 rfl]⟩, fun k i _ _ => by rw [rT 2205 rfl], fun k i _ _ => by rw [rT 2206 rfl]⟩ ⟨⟨by rw [rC 1995 rfl], by rw [rT 2186 rfl]⟩, fun k _ => ⟨by rw [rC 2006 rfl], by rw [rC 2007 rfl], by rw [rC 2008 rfl], by rw [rC 2010 rfl], by rw [rC 2011 rfl], by rw [rT 2197 rfl], by rw [rT 2198 rfl], by rw [rT 2199 rfl], by rw [rT 2201 rfl], by rw [rT 2202 rfl], by rw [rT 2203 rfl]⟩⟩ (by rw [rC 1996 rfl]) (by rw [rC 1997 rfl]) (by rw [rC 2005 rfl])
/-- the same between steps, with a new ghost -/
theorem RS_cong (h : RS Y Y' X mm Nn Lp nm pr ht I I' th W N) (g : spD Y I I' J J') : ∃ ht' : Nat → Nat, (∀ k, k < 5000 → ht' k = ht k) ∧ ht' 5000 = ht 5000 ∧ RS Y Y' X mm Nn Lp nm pr ht' J J' th W N := by
  obtain ⟨s, tau, A1, sv, hs⟩ := h
  obtain ⟨ht', h1, h2, h3⟩ := ghost ht (ht 5000) (up (up J 1990 3394 s) 1990 3389 (tau : Int)) (up J' 2075 7728 1)
  have e96 : J 1996 = I 1996 := g.1 1996 (sbC_ok rfl)
  have e90 : J 1990 = I 1990 := g.1 1990 (sbC_ok rfl)
  have eS : J' 2075 7728 = I' 2075 7728 := g.2.2.2 2075 _ (Or.inr (Or.inr ⟨rfl, by decide, by decide⟩))
  refine ⟨ht', h1, h2, s, tau, AS_cong A1 ⟨fun c hc => funext fun f => ?_, ?_, fun c hc hk => ?_, fun c f hc => ?_⟩ h1 h2 h3, by rw [eS, e96]; exact sv, by rw [eS, e90, e96]; exact hs⟩
  · unfold up
    by_cases z : c = 1990 ∧ f = 3389
    · rw [if_pos z, if_pos z]
    · rw [if_neg z, if_neg z]
      by_cases y : c = 1990 ∧ f = 3394
      · rw [if_pos y, if_pos y]
      · rw [if_neg y, if_neg y, g.1 c hc]
  · rw [up_cell _ (by decide), up_cell _ (by decide), up_cell _ (by decide), up_cell _ (by decide)]; exact g.2.1
  · rw [up_row _ (show c ≠ 1990 by omega), up_row _ (show c ≠ 1990 by omega), up_row _ (show c ≠ 1990 by omega), up_row _ (show c ≠ 1990 by omega)]; exact g.2.2.1 c hc hk
  · unfold up
    by_cases z : c = 2075 ∧ f = 7728
    · rw [if_pos z, if_pos z]
    · rw [if_neg z, if_neg z]; exact g.2.2.2 c f hc
end
