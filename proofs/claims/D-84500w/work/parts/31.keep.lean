/-! ===== what a run keeps: cells of a set S that no value at hand and no cell outside S leads to ===== -/
def sG (S : Nat → Prop) (v : vV) : Prop := ∀ a, v = vr a → ¬ S a
def sL (S : Nat → Prop) (l : List vV) : Prop := ∀ v, v ∈ l → sG S v
def sM (S : Nat → Prop) (M : vM) : Prop := (∀ c f, ¬ S c → ¬ S (gP M c f)) ∧ (∀ c, S c → c < gZ M) ∧ ∀ c, c < 18 → ¬ S c
def sS (S : Nat → Prop) (M M' : vM) : Prop := (∀ c, S c → (∀ f, gI M' c f = gI M c f) ∧ ∀ f, gP M' c f = gP M c f) ∧ (∀ c, c < gZ M → gK M' c = gK M c ∧ gN M' c = gN M c) ∧ gZ M ≤ gZ M' ∧ gS M ≤ gS M'
theorem sG_vi (S : Nat → Prop) (x : Int) : sG S (.inl x) := fun _ h => by cases h
theorem sG_vl (S : Nat → Prop) (x : Int) : sG S (.inr (.inl x)) := fun _ h => by cases h
theorem sG_vu (S : Nat → Prop) (x : Unit) : sG S (.inr (.inr (.inr x))) := fun _ h => by cases h
theorem sG_vr (S : Nat → Prop) (a : Nat) : sG S (.inr (.inr (.inl a))) ↔ ¬ S a := ⟨fun h => h a rfl, fun h b e => by cases e; exact h⟩
theorem sL_nil (S : Nat → Prop) : sL S [] := fun _ h => by cases h
theorem sL_cons (S : Nat → Prop) (v : vV) (l : List vV) : sL S (v :: l) ↔ sG S v ∧ sL S l := by
  unfold sL; simp only [List.mem_cons]
  exact ⟨fun h => ⟨h v (Or.inl rfl), fun w hw => h w (Or.inr hw)⟩, fun h w hw => hw.elim (fun e => e ▸ h.1) (h.2 w)⟩
theorem sL_set {S : Nat → Prop} {l : List vV} {v : vV} (h : sL S l) (hv : sG S v) (i : Nat) : sL S (l.set i v) := by
  intro w hw
  rcases List.mem_or_eq_of_mem_set hw with q | q
  · exact h w q
  · exact q ▸ hv
theorem sS_refl (S : Nat → Prop) (M : vM) : sS S M M := ⟨fun _ _ => ⟨fun _ => rfl, fun _ => rfl⟩, fun _ _ => ⟨rfl, rfl⟩, Nat.le_refl _, Nat.le_refl _⟩
theorem sS_trans {S : Nat → Prop} {M M' M'' : vM} (h : sS S M M') (h' : sS S M' M'') : sS S M M'' :=
  ⟨fun c hc => ⟨fun f => ((h'.1 c hc).1 f).trans ((h.1 c hc).1 f), fun f => ((h'.1 c hc).2 f).trans ((h.1 c hc).2 f)⟩, fun c hc => ⟨((h'.2.1 c (Nat.lt_of_lt_of_le hc h.2.2.1)).1).trans (h.2.1 c hc).1, ((h'.2.1 c (Nat.lt_of_lt_of_le hc h.2.2.1)).2).trans (h.2.1 c hc).2⟩, Nat.le_trans h.2.2.1 h'.2.2.1, Nat.le_trans h.2.2.2 h'.2.2.2⟩
theorem sM_sI {S : Nat → Prop} {M : vM} (h : sM S M) (a k : Nat) (x : Int) : sM S (sI M a k x) := h
theorem sS_sI {S : Nat → Prop} {M : vM} {a : Nat} (ha : ¬ S a) (k : Nat) (x : Int) : sS S M (sI M a k x) :=
  ⟨fun c hc => ⟨fun f => by rw [gI_sI]; exact if_neg (by intro q; exact ha (q.1 ▸ hc)), fun _ => rfl⟩, fun _ _ => ⟨rfl, rfl⟩, Nat.le_refl _, Nat.le_refl _⟩
theorem sM_sP {S : Nat → Prop} {M : vM} (h : sM S M) (a k : Nat) {x : Nat} (hx : ¬ S x) : sM S (sP M a k x) := by
  refine ⟨fun c f hc => ?_, h.2⟩
  rw [gP_sP]; split
  · exact hx
  · exact h.1 c f hc
theorem sS_sP {S : Nat → Prop} {M : vM} {a : Nat} (ha : ¬ S a) (k x : Nat) : sS S M (sP M a k x) :=
  ⟨fun c hc => ⟨fun _ => rfl, fun f => by rw [gP_sP]; exact if_neg (by intro q; exact ha (q.1 ▸ hc))⟩, fun _ _ => ⟨rfl, rfl⟩, Nat.le_refl _, Nat.le_refl _⟩
theorem sN {S : Nat → Prop} {M : vM} (h : sM S M) : ¬ S (gZ M) := fun q => Nat.lt_irrefl _ (h.2.1 _ q)
theorem sM_nC {S : Nat → Prop} {M : vM} (h : sM S M) (k n s : Nat) : sM S (nC M k n s) := by
  refine ⟨fun c f hc => ?_, fun c hc => Nat.lt_succ_of_lt (h.2.1 c hc), h.2.2⟩
  rw [gP_nC]; split
  · exact h.2.2 0 (by decide)
  · exact h.1 c f hc
theorem sS_nC {S : Nat → Prop} {M : vM} (h : sM S M) (k n s : Nat) : sS S M (nC M k n s) := by
  refine ⟨fun c hc => ⟨fun f => ?_, fun f => ?_⟩, fun c hc => ⟨?_, ?_⟩, ?_, ?_⟩
  · rw [gI_nC]; exact if_neg (by intro q; exact sN h (q ▸ hc))
  · rw [gP_nC]; exact if_neg (by intro q; exact sN h (q ▸ hc))
  · rw [gK_nC, if_neg (Nat.ne_of_lt hc)]
  · rw [gN_nC, if_neg (Nat.ne_of_lt hc)]
  · exact Nat.le_succ _
  · exact Nat.le_add_right _ _
theorem sM_cI {S : Nat → Prop} {M : vM} (h : sM S M) (a i b j n : Nat) : sM S (cI M a i b j n) := h
theorem sS_cI {S : Nat → Prop} {M : vM} (a i : Nat) {b : Nat} (hb : ¬ S b) (j n : Nat) : sS S M (cI M a i b j n) :=
  ⟨fun c hc => ⟨fun f => by rw [gI_cI]; exact if_neg (by intro q; exact hb (q.1 ▸ hc)), fun _ => rfl⟩, fun _ _ => ⟨rfl, rfl⟩, Nat.le_refl _, Nat.le_refl _⟩
theorem sM_cP {S : Nat → Prop} {M : vM} (h : sM S M) {a : Nat} (ha : ¬ S a) (i b j n : Nat) : sM S (cP M a i b j n) := by
  refine ⟨fun c f hc => ?_, h.2⟩
  rw [gP_cP]; split
  · exact h.1 _ _ ha
  · exact h.1 c f hc
theorem sS_cP {S : Nat → Prop} {M : vM} (a i : Nat) {b : Nat} (hb : ¬ S b) (j n : Nat) : sS S M (cP M a i b j n) :=
  ⟨fun c hc => ⟨fun _ => rfl, fun f => by rw [gP_cP]; exact if_neg (by intro q; exact hb (q.1 ▸ hc))⟩, fun _ _ => ⟨rfl, rfl⟩, Nat.le_refl _, Nat.le_refl _⟩
theorem s_row {S : Nat → Prop} : ∀ (m n : Nat) {M : vM} {a : Nat} (y : Nat), sM S M → ¬ S a → sM S (vrow M a y n m) ∧ sS S M (vrow M a y n m) := by
  intro m
  induction m with
  | zero => intro n M a y h _; exact ⟨h, sS_refl S M⟩
  | succ m ih =>
    intro n M a y h ha
    have h1 : sM S (sP (nC M 100 y y) a n (gZ M)) := sM_sP (sM_nC h _ _ _) _ _ (sN h)
    obtain ⟨g1, g2⟩ := ih (n + 1) y h1 ha
    exact ⟨g1, sS_trans (sS_trans (sS_nC h _ _ _) (sS_sP ha _ _)) g2⟩
def sO (S : Nat → Prop) (M : vM) (o : vO) : Prop := match o with
  | .inl (_, ls, st, M') => (sL S ls ∧ sL S st) ∧ sM S M' ∧ sS S M M'
  | .inr (.inl (.inl v, M')) => (∀ w, v = some w → sG S w) ∧ M' = M
  | .inr (.inl (.inr a, M')) => ¬ S a ∧ M' = M
  | .inr (.inr (_, la, st, M')) => (sL S la ∧ sL S st) ∧ M' = M
theorem sL_take {S : Nat → Prop} {l : List vV} (h : sL S l) (n : Nat) : sL S (l.take n) := fun v hv => h v (List.mem_of_mem_take hv)
theorem sL_drop {S : Nat → Prop} {l : List vV} (h : sL S l) (n : Nat) : sL S (l.drop n) := fun v hv => h v (List.mem_of_mem_drop hv)
theorem sL_vent {S : Nat → Prop} : ∀ (l : List vV) (n : Nat), sL S l → sL S (vent l n) := by
  intro l
  induction l with
  | nil => intro n _ v hv; rw [vent] at hv; rw [(List.mem_replicate.mp hv).2]; exact sG_vu S ()
  | cons v l ih =>
    intro n h
    rw [sL_cons] at h
    rcases v with x | x | x | x
    · exact (sL_cons _ _ _).mpr ⟨h.1, ih _ h.2⟩
    · exact (sL_cons _ _ _).mpr ⟨sG_vl S x, (sL_cons _ _ _).mpr ⟨sG_vu S (), ih _ h.2⟩⟩
    · exact (sL_cons _ _ _).mpr ⟨h.1, ih _ h.2⟩
    · exact (sL_cons _ _ _).mpr ⟨h.1, ih _ h.2⟩
theorem s_call {S : Nat → Prop} {M : vM} {z n : Nat} {ls st : List vV} {o : vO} (hst : sL S st) (h : vcall z n ls st M = some o) : sO S M o := by
  unfold vcall at h
  split at h
  · cases h
    exact ⟨⟨sL_vent _ _ (fun v hv => sL_take hst n v (List.mem_reverse.mp hv)), sL_drop hst n⟩, rfl⟩
  · cases h
theorem s_ld {S : Nat → Prop} {M : vM} {t k pc : Nat} {ls st : List vV} {o : vO} (hm : sM S M) (hls : sL S ls) (hst : sL S st) (h : vld t k pc ls st M = some o) : sO S M o := by
  unfold vld vget at h
  cases hg : ls[k]? with
  | none => rw [hg] at h; cases h
  | some v =>
    rw [hg] at h
    simp only at h
    split at h
    · next v' e =>
      split at e
      · cases e; cases h
        exact ⟨⟨hls, (sL_cons _ _ _).mpr ⟨hls v (List.mem_of_getElem? hg), hst⟩⟩, hm, sS_refl S M⟩
      · cases e
    · cases h
theorem s_st1 {S : Nat → Prop} {M : vM} {t k pc : Nat} {ls st : List vV} {o : vO} (hm : sM S M) (hls : sL S ls) (hst : sL S st) (h : vst1 t k pc ls st M = some o) : sO S M o := by
  unfold vst1 vput1 at h
  split at h
  · next v r =>
    rw [sL_cons] at hst
    split at h
    · split at h
      · next l e =>
        split at e
        · cases e; cases h
          exact ⟨⟨sL_set hls hst.1 k, hst.2⟩, hm, sS_refl S M⟩
        · cases e
      · cases h
    · cases h
  · cases h
theorem s_st2 {S : Nat → Prop} {M : vM} {k pc : Nat} {ls st : List vV} {o : vO} (hm : sM S M) (hls : sL S ls) (hst : sL S st) (h : vst2 k pc ls st M = some o) : sO S M o := by
  unfold vst2 vput2 at h
  split at h
  · next x r =>
    rw [sL_cons] at hst
    split at h
    · next l e =>
      split at e
      · cases e; cases h
        exact ⟨⟨sL_set (sL_set hls hst.1 k) (sG_vu S ()) _, hst.2⟩, hm, sS_refl S M⟩
      · cases e
    · cases h
  · cases h
theorem s_bin {S : Nat → Prop} {M : vM} {f : Int → Int → Int} {pc : Nat} {ls st : List vV} {o : vO} (hm : sM S M) (hls : sL S ls) (hst : sL S st) (h : vbin f pc ls st M = some o) : sO S M o := by
  unfold vbin at h
  split at h
  · cases h
    simp only [sL_cons] at hst
    exact ⟨⟨hls, (sL_cons _ _ _).mpr ⟨sG_vi S _, hst.2.2⟩⟩, hm, sS_refl S M⟩
  · cases h
theorem s_bil {S : Nat → Prop} {M : vM} {f : Int → Int → Int} {pc : Nat} {ls st : List vV} {o : vO} (hm : sM S M) (hls : sL S ls) (hst : sL S st) (h : vbil f pc ls st M = some o) : sO S M o := by
  unfold vbil at h
  split at h
  · cases h
    simp only [sL_cons] at hst
    exact ⟨⟨hls, (sL_cons _ _ _).mpr ⟨sG_vl S _, hst.2.2⟩⟩, hm, sS_refl S M⟩
  · cases h
theorem s_shl {S : Nat → Prop} {M : vM} {f : Int → Int → Int} {pc : Nat} {ls st : List vV} {o : vO} (hm : sM S M) (hls : sL S ls) (hst : sL S st) (h : vshl f pc ls st M = some o) : sO S M o := by
  unfold vshl at h
  split at h
  · cases h
    simp only [sL_cons] at hst
    exact ⟨⟨hls, (sL_cons _ _ _).mpr ⟨sG_vl S _, hst.2.2⟩⟩, hm, sS_refl S M⟩
  · cases h
theorem s_cons {S : Nat → Prop} (h18 : ∀ c, c < 18 → ¬ S c) : ∀ v, v ∈ vconsL → sG S v := by
  have h : ∀ v, v ∈ vconsL → (match v with | .inr (.inr (.inl a)) => Nat.blt a 18 | _ => true) = true := by decide
  intro v hv a e
  have := h v hv
  subst e
  exact h18 a (Nat.le_of_ble_eq_true this)
theorem s_stat {S : Nat → Prop} (h18 : ∀ c, c < 18 → ¬ S c) : ∀ v, v ∈ vstatL → sG S v := by
  have h : ∀ v, v ∈ vstatL → (match v with | .inr (.inr (.inl a)) => Nat.blt a 18 | _ => true) = true := by decide
  intro v hv a e
  have := h v hv
  subst e
  exact h18 a (Nat.le_of_ble_eq_true this)
theorem s_ldc {S : Nat → Prop} {M : vM} {n pc : Nat} {ls st : List vV} {o : vO} (hm : sM S M) (hls : sL S ls) (hst : sL S st) (h : vldc n pc ls st M = some o) : sO S M o := by
  unfold vldc vcons at h
  split at h
  · next v e =>
    cases h
    exact ⟨⟨hls, (sL_cons _ _ _).mpr ⟨s_cons hm.2.2 v (List.mem_of_getElem? e), hst⟩⟩, hm, sS_refl S M⟩
  · cases h
theorem sG_fv {S : Nat → Prop} {M : vM} {a : Nat} (hm : sM S M) (ha : ¬ S a) (f t : Nat) : sG S (vfv M a f t) := by
  unfold vfv
  split
  · exact sG_vl S _
  · split
    · exact (sG_vr S _).mpr (hm.1 a f ha)
    · exact sG_vi S _

theorem s_put1 {S : Nat → Prop} {ls l : List vV} {v : vV} {k : Nat} (hls : sL S ls) (hv : sG S v) (e : vput1 ls k v = some l) : sL S l := by
  unfold vput1 at e
  split at e
  · cases e; exact sL_set hls hv k
  · cases e
theorem s_virt {S : Nat → Prop} {M : vM} {n pc : Nat} {ls st : List vV} {o : vO} (hm : sM S M) (hls : sL S ls) (hst : sL S st) (h : vvirt n pc ls st M = some o) : sO S M o := by
  unfold vvirt at h
  split at h
  · cases h
  · split at h
    · split at h
      · split at h
        · cases h
          rw [sL_cons] at hst
          exact ⟨⟨hls, (sL_cons _ _ _).mpr ⟨(sG_vr S _).mpr (hm.2.2 16 (by decide)), hst.2⟩⟩, hm, sS_refl S M⟩
        · cases h
      · cases h
    · split at h
      · split at h
        · exact s_call hst h
        · cases h
      · split at h
        · exact s_call hst h
        · cases h
set_option maxHeartbeats 4000000
theorem s_step {S : Nat → Prop} {M : vM} {rt len pc : Nat} {i : Instr} {ls st : List vV} {o : vO} (hm : sM S M) (hls : sL S ls) (hst : sL S st) (h : vstep rt i len pc ls st M = some o) : sO S M o := by
  cases i
  all_goals (try (exact Option.noConfusion h))
  all_goals (try (exact s_bin hm hls hst h))
  all_goals (try (exact s_bil hm hls hst h))
  all_goals (try (exact s_shl hm hls hst h))
  all_goals (try (exact s_ld hm hls hst h))
  all_goals (try (exact s_st1 hm hls hst h))
  all_goals (try (exact s_st2 hm hls hst h))
  all_goals (try (exact s_ldc hm hls hst h))
  all_goals (try (exact s_virt hm hls hst h))
  all_goals (simp only [vstep, vgo] at h)
  all_goals (repeat' (split at h))
  all_goals (try (exact Option.noConfusion h))
  all_goals (try (exact s_call hst h))
  all_goals (cases h)
  all_goals (try simp only [sL_cons, sG_vr] at hst)
  all_goals (try simp only [sO, sL_cons, sG_vi, sG_vl, sG_vu, sG_vr, true_and, and_true])
  all_goals first
    | exact ⟨⟨hls, hst⟩, hm, sS_refl S M⟩
    | exact ⟨⟨hls, hst.2⟩, hm, sS_refl S M⟩
    | exact ⟨⟨hls, hst.2.2⟩, hm, sS_refl S M⟩
    | exact ⟨⟨hls, hm.1 _ _ hst.2.1, hst.2.2⟩, hm, sS_refl S M⟩
    | exact ⟨⟨hls, hm.2.2 0 (by decide), hst⟩, hm, sS_refl S M⟩
    | exact ⟨⟨hls, sG_fv hm hst.1 _ _, hst.2⟩, hm, sS_refl S M⟩
    | exact ⟨⟨hls, hst.2.2.2⟩, sM_sP hm _ _ hst.1, sS_sP hst.2.2.1 _ _⟩
    | exact ⟨⟨hls, sN hm, hst.2⟩, sM_nC hm _ _ _, sS_nC hm _ _ _⟩
    | exact ⟨⟨hls, sN hm, hst⟩, sM_nC hm _ _ _, sS_nC hm _ _ _⟩
    | exact hst.1
    | exact ⟨⟨hls, hst.2.2.2⟩, hm, sS_sI hst.2.2.1 _ _⟩
    | exact ⟨⟨hls, hst.2.2.2.2.2⟩, hm, sS_cI _ _ hst.2.2.1 _ _⟩
    | exact ⟨⟨hls, hst.2.2.2.2.2⟩, sM_cP hm hst.2.2.2.2.1 _ _ _ _, sS_cP _ _ hst.2.2.1 _ _⟩
    | exact ⟨⟨hls, sN hm, hst.2.2⟩, (s_row _ _ _ (sM_nC hm _ _ _) (sN hm)).1, sS_trans (sS_nC hm _ _ _) (s_row _ _ _ (sM_nC hm _ _ _) (sN hm)).2⟩
    | exact ⟨⟨hls, hst.2.2⟩, hm, sS_sI hst.2.1 _ _⟩
    | exact ⟨⟨hls, hst.2.2⟩, sM_sP hm _ _ hst.1, sS_sP hst.2.1 _ _⟩
    | (intro w e; cases e; done)
    | (intro w e; cases e; exact sG_vi S _)
    | (intro w e; cases e; exact sG_vl S _)
    | (intro w e; cases e; exact (sG_vr S _).mpr hst.1)
    | (refine ⟨⟨hls, ?_⟩, hm, sS_refl S M⟩; simp_all; done)
    | (next e => exact ⟨⟨hls, s_stat hm.2.2 _ (List.mem_of_getElem? e), hst⟩, hm, sS_refl S M⟩)
    | (next e => exact ⟨⟨s_put1 hls (sG_vi S _) e, hst⟩, hm, sS_refl S M⟩)

/-- a run keeps the cells of S -/
theorem v_keep {S : Nat → Prop} : ∀ {n d y pc : Nat} {ls st : List vV} {M M' : vM} {o : Option vV ⊕ Nat}, sM S M → sL S ls → sL S st → vexec n d y (pc, ls, st, M) = some (o, M') → sM S M' ∧ sS S M M' ∧ (∀ w, o = .inl (some w) → sG S w) ∧ (∀ a, o = .inr a → ¬ S a) := by
  intro n
  induction n with
  | zero => intro d y pc ls st M M' o _ _ _ h; cases h
  | succ n ih =>
    intro d y pc ls st M M' o hm hls hst h
    rw [vexec] at h
    cases hc : vcode y pc with
    | none => rw [hc] at h; cases h
    | some i =>
      obtain ⟨i, len⟩ := i
      rw [hc] at h
      simp only at h
      cases hs : vstep (vret y) i len pc ls st M with
      | none => rw [hs] at h; cases h
      | some q =>
        have g := s_step hm hls hst hs
        rw [hs] at h
        rcases q with ⟨pc1, ls1, st1, M1⟩ | ⟨v | a, M1⟩ | ⟨z, la, s1, M1⟩
        · obtain ⟨⟨g1, g2⟩, g3, g4⟩ := g
          obtain ⟨k1, k2, k3⟩ := ih g3 g1 g2 h
          exact ⟨k1, sS_trans g4 k2, k3⟩
        · obtain ⟨g1, g2⟩ := g
          subst g2
          cases h
          exact ⟨hm, sS_refl S _, fun w e => g1 w (by cases e; rfl), fun a e => by cases e⟩
        · obtain ⟨g1, g2⟩ := g
          subst g2
          simp only at h
          cases hh : vhan y pc (gK M1 a) with
          | none => rw [hh] at h; cases h
          | some p => rw [hh] at h; cases p with
            | none => cases h; exact ⟨hm, sS_refl S _, fun w e => (by cases e), fun b e => (by cases e; exact g1)⟩
            | some p => exact ih hm hls ((sL_cons _ _ _).mpr ⟨(sG_vr S _).mpr g1, sL_nil S⟩) h
        · obtain ⟨⟨g1, g2⟩, g3⟩ := g
          subst g3
          simp only at h
          cases d with
          | zero => cases h
          | succ d =>
            simp only at h
            cases hx : vexec n d z (0, la, [], M1) with
            | none => rw [hx] at h; cases h
            | some q =>
              rw [hx] at h
              obtain ⟨q, M2⟩ := q
              obtain ⟨k1, k2, k3, k4⟩ := ih hm g1 (sL_nil S) hx
              rcases q with v | a
              · have hv : sL S (v.toList ++ s1) := by
                  cases v with
                  | none => exact g2
                  | some w => exact (sL_cons _ _ _).mpr ⟨k3 w rfl, g2⟩
                obtain ⟨j1, j2, j3⟩ := ih k1 hls hv h
                exact ⟨j1, sS_trans k2 j2, j3⟩
              · simp only at h
                cases hh : vhan y pc (gK M2 a) with
                | none => rw [hh] at h; cases h
                | some p => rw [hh] at h; cases p with
                  | none => cases h; exact ⟨k1, k2, fun w e => (by cases e), fun b e => (by cases e; exact k4 _ rfl)⟩
                  | some p =>
                    obtain ⟨j1, j2, j3⟩ := ih k1 hls ((sL_cons _ _ _).mpr ⟨(sG_vr S _).mpr (k4 a rfl), sL_nil S⟩) h
                    exact ⟨j1, sS_trans k2 j2, j3⟩
theorem vR_keep {S : Nat → Prop} {d y : Nat} {ls : List vV} {M M' : vM} {o : Option vV ⊕ Nat} (hm : sM S M) (hls : sL S ls) (h : vR d y (0, ls, [], M) (o, M')) : sM S M' ∧ sS S M M' := by
  obtain ⟨n, h⟩ := h
  obtain ⟨h1, h2, _⟩ := v_keep hm hls (sL_nil S) h
  exact ⟨h1, h2⟩
