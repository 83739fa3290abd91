/-! ===== the cells that were there before (below 18) are never written ===== -/
def tL : Nat → Prop := fun c => c < 18
def tO (M : vM) (o : vO) : Prop := match o with
  | .inl (_, _, _, M') => sS tL M M'
  | .inr (.inl (_, M')) => M' = M
  | .inr (.inr (_, _, _, M')) => M' = M
theorem t_call {M : vM} {z n : Nat} {ls st : List vV} {o : vO} (h : vcall z n ls st M = some o) : tO M o := by
  unfold vcall at h
  split at h
  · cases h; rfl
  · cases h
theorem t_ld {M : vM} {t k pc : Nat} {ls st : List vV} {o : vO} (h : vld t k pc ls st M = some o) : tO M o := by
  unfold vld at h
  split at h
  · cases h; exact sS_refl _ _
  · cases h
theorem t_st1 {M : vM} {t k pc : Nat} {ls st : List vV} {o : vO} (h : vst1 t k pc ls st M = some o) : tO M o := by
  unfold vst1 at h
  split at h
  · split at h
    · split at h
      · cases h; exact sS_refl _ _
      · cases h
    · cases h
  · cases h
theorem t_st2 {M : vM} {k pc : Nat} {ls st : List vV} {o : vO} (h : vst2 k pc ls st M = some o) : tO M o := by
  unfold vst2 at h
  split at h
  · split at h
    · cases h; exact sS_refl _ _
    · cases h
  · cases h
theorem t_bin {M : vM} {f : Int → Int → Int} {pc : Nat} {ls st : List vV} {o : vO} (h : vbin f pc ls st M = some o) : tO M o := by
  unfold vbin at h
  split at h
  · cases h; exact sS_refl _ _
  · cases h
theorem t_bil {M : vM} {f : Int → Int → Int} {pc : Nat} {ls st : List vV} {o : vO} (h : vbil f pc ls st M = some o) : tO M o := by
  unfold vbil at h
  split at h
  · cases h; exact sS_refl _ _
  · cases h
theorem t_shl {M : vM} {f : Int → Int → Int} {pc : Nat} {ls st : List vV} {o : vO} (h : vshl f pc ls st M = some o) : tO M o := by
  unfold vshl at h
  split at h
  · cases h; exact sS_refl _ _
  · cases h
theorem t_ldc {M : vM} {n pc : Nat} {ls st : List vV} {o : vO} (h : vldc n pc ls st M = some o) : tO M o := by
  unfold vldc at h
  split at h
  · cases h; exact sS_refl _ _
  · cases h
theorem t_virt {M : vM} {n pc : Nat} {ls st : List vV} {o : vO} (h : vvirt n pc ls st M = some o) : tO M o := by
  unfold vvirt at h
  split at h
  · cases h
  · split at h
    · split at h
      · split at h
        · cases h; exact sS_refl _ _
        · cases h
      · cases h
    · split at h
      · split at h
        · exact t_call h
        · cases h
      · split at h
        · exact t_call h
        · cases h
theorem t_nC {M : vM} (h18 : 18 ≤ gZ M) (k n s : Nat) : sS tL M (nC M k n s) := by
  refine ⟨fun c hc => ⟨fun f => ?_, fun f => ?_⟩, fun c hc => ⟨?_, ?_⟩, Nat.le_succ _, Nat.le_add_right _ _⟩
  · rw [gI_nC]; exact if_neg (by intro q; unfold tL at hc; omega)
  · rw [gP_nC]; exact if_neg (by intro q; unfold tL at hc; omega)
  · rw [gK_nC]; exact if_neg (Nat.ne_of_lt hc)
  · rw [gN_nC]; exact if_neg (Nat.ne_of_lt hc)
theorem t_row : ∀ (m n : Nat) {M : vM} {a : Nat} (y : Nat), 18 ≤ gZ M → 18 ≤ a → sS tL M (vrow M a y n m) := by
  intro m
  induction m with
  | zero => intro n M a y _ _; exact sS_refl _ _
  | succ m ih =>
    intro n M a y h ha
    exact sS_trans (sS_trans (t_nC h _ _ _) (sS_sP (by unfold tL; omega) _ _)) (ih (n + 1) y (by show 18 ≤ gZ M + 1; omega) ha)
set_option maxHeartbeats 4000000
theorem t_step {M : vM} {rt len pc : Nat} {i : Instr} {ls st : List vV} {o : vO} (h18 : 18 ≤ gZ M) (h : vstep rt i len pc ls st M = some o) : tO M o := by
  cases i
  all_goals (try (exact Option.noConfusion h))
  all_goals (try (exact t_bin h))
  all_goals (try (exact t_bil h))
  all_goals (try (exact t_shl h))
  all_goals (try (exact t_ld h))
  all_goals (try (exact t_st1 h))
  all_goals (try (exact t_st2 h))
  all_goals (try (exact t_ldc h))
  all_goals (try (exact t_virt h))
  all_goals (simp only [vstep, vgo] at h)
  all_goals (repeat' (split at h))
  all_goals (try (exact t_call h))
  all_goals (cases h)
  all_goals first
    | exact sS_refl _ _
    | exact rfl
    | exact t_nC h18 _ _ _
    | exact sS_trans (t_nC h18 _ _ _) (t_row _ _ _ (Nat.le_succ_of_le h18) h18)
    | exact sS_sI (by unfold tL; omega) _ _
    | exact sS_sP (by unfold tL; omega) _ _
    | exact sS_cI _ _ (by unfold tL; omega) _ _
    | exact sS_cP _ _ (by unfold tL; omega) _ _
/-- a run writes no cell below 18, changes no kind and no length -/
theorem v_low : ∀ {n d y : Nat} {F : vF} {M' : vM} {o : Option vV ⊕ Nat}, 18 ≤ gZ F.2.2.2 → vexec n d y F = some (o, M') → sS tL F.2.2.2 M' := by
  intro n
  induction n with
  | zero => intro d y F M' o _ h; cases h
  | succ n ih =>
    intro d y F M' o hm h
    obtain ⟨pc, ls, st, M⟩ := F
    rw [vexec] at h
    cases hc : vcode y pc with
    | none => rw [hc] at h; cases h
    | some i =>
      obtain ⟨i, len⟩ := i
      rw [hc] at h
      simp only at h
      cases hs : vstep (vret y) i len pc ls st M with
      | none => rw [hs] at h; cases h
      | some q =>
        have g := t_step hm hs
        rw [hs] at h
        rcases q with ⟨pc1, ls1, st1, M1⟩ | ⟨v | a, M1⟩ | ⟨z, la, s1, M1⟩
        · exact sS_trans g (ih (F := (pc1, ls1, st1, M1)) (Nat.le_trans hm g.2.2.1) h)
        · have g : M1 = M := g
          subst g
          cases h
          exact sS_refl _ _
        · have g : M1 = M := g
          subst g
          simp only at h
          cases hh : vhan y pc (gK M1 a) with
          | none => rw [hh] at h; cases h
          | some p => rw [hh] at h; cases p with
            | none => cases h; exact sS_refl _ _
            | some p => exact ih (F := (p, ls, [vr a], M1)) hm h
        · have g : M1 = M := g
          subst g
          simp only at h
          cases d with
          | zero => cases h
          | succ d =>
            simp only at h
            cases hx : vexec n d z (0, la, [], M1) with
            | none => rw [hx] at h; cases h
            | some q =>
              rw [hx] at h
              obtain ⟨q, M2⟩ := q
              have k2 := ih (F := (0, la, [], M1)) hm hx
              have k1 : 18 ≤ gZ M2 := Nat.le_trans hm k2.2.2.1
              rcases q with v | a
              · exact sS_trans k2 (ih (F := (pc + len, ls, v.toList ++ s1, M2)) k1 h)
              · simp only at h
                cases hh : vhan y pc (gK M2 a) with
                | none => rw [hh] at h; cases h
                | some p => rw [hh] at h; cases p with
                  | none => cases h; exact k2
                  | some p => exact sS_trans k2 (ih (F := (p, ls, [vr a], M2)) k1 h)
theorem vR_low {d y : Nat} {F : vF} {M' : vM} {o : Option vV ⊕ Nat} (h18 : 18 ≤ gZ F.2.2.2) (h : vR d y F (o, M')) : sS tL F.2.2.2 M' := h.elim fun _ h => v_low h18 h
