/-! ===== looks: activations, threads, the row; all that is reached ===== -/
set_option maxRecDepth 20000
set_option maxHeartbeats 4000000
/-- a thread's values, for the looks -/
def lkU (n : Int) (mm X : Nat) (nm : Nat → Nat) (I I' : vJ) (u : Nat) : Prop := ∃ A dl : Nat, (I' 2186 u = A ∧ A ≤ 40) ∧ thV n nm I I' u A dl ∧ (∀ k, k < A → ∃ mb : Nat, I 2006 (40 * u + k) = mb ∧ I' 2197 (40 * u + k) = mb ∧ mb < mm ∧ I' (X + 3) mb = nm mb) ∧ (0 < A → dl = 0 ∨ dl = 1 ∧ I' 2200 (40 * u + (A - 1)) = 1 ∧ 0 ≤ I' 2206 (160 * (40 * u + (A - 1))) ∧ I' 2206 (160 * (40 * u + (A - 1))) < 32 ∧ I' 2206 (160 * (40 * u + (A - 1))) % 4 = 0)
/-- what the looks look at -/
def lkB (Y' : vY) (X mm : Nat) (nm : Nat → Nat) (I I' : vJ) (th n E : Nat) : Prop := (Y'.1 2075 7689 = X ∧ (X = 2081 ∨ X = 2119) ∧ vreg Y' 2081 38 (Y'.1 2075 7689)) ∧ mm ≤ 24 ∧ (I 1960 3100 = nm 5000 ∧ I' X 7937 = nm 5000 ∧ nm 5000 ≤ 8) ∧ (I 1990 3390 = th ∧ I' 2075 7731 = th ∧ th ≤ 8) ∧ pVars I I' ∧ aR I I' n E ∧ ∀ u, u < th → lkU n mm X nm I I' u
section
variable {d d' : Nat} {Y Y' : vY} {I I' : vJ} {Q : vE → vE → Prop} {n : Nat}
theorem r_acts {X mm u A dl T : Nat} {V : Int} {nm : Nat → Nat} {b s : Nat → Nat} (hL : vL Y) (hL' : vL Y') (hn : n ≤ 300) (hX : Y'.1 2075 7689 = X) (hX2 : X = 2081 ∨ X = 2119) (hV : vreg Y' 2081 38 (Y'.1 2075 7689)) (mm24 : mm ≤ 24) (u8 : u < 8) (hA : I' 2186 u = A) (A40 : A ≤ 40) (hT : I 1994 u = T) (T4 : T ≤ 46088)
    (h1 : ∀ k, k < A → I' 2200 (40 * u + k) = s k ∧ nm (I 2006 (40 * u + k)).toNat ≤ 16 ∧ s k ≤ 128)
    (hp : ∀ k, k + 1 < A → b (k + 1) = b k + nm (I 2006 (40 * u + k)).toNat + s k)
    (hq : 0 < A → T + dl = b (A - 1) + nm (I 2006 (40 * u + (A - 1))).toNat + s (A - 1) ∧ dl ≤ s (A - 1))
    (hle : ∀ k, k + 1 < A → b k + nm (I 2006 (40 * u + k)).toNat + s k ≤ T)
    (h6 : ∀ k i, k < A → i < nm (I 2006 (40 * u + k)).toNat → vv n (I 1992 (b k + i)) (I 1993 (b k + i)) (I' 2205 (16 * (40 * u + k) + i)))
    (h7 : ∀ k i, k < A → (k + 1 < A → i < s k) → (k + 1 = A → i + dl < s k) → vv n (I 1992 (b k + nm (I 2006 (40 * u + k)).toNat + i)) (I 1993 (b k + nm (I 2006 (40 * u + k)).toNat + i)) (I' 2206 (160 * (40 * u + k) + i)))
    (hmb : ∀ k, k < A → ∃ mb : Nat, I 2006 (40 * u + k) = mb ∧ I' 2197 (40 * u + k) = mb ∧ mb < mm ∧ I' (X + 3) mb = nm mb)
    (hdl : 0 < A → dl = 0 ∨ dl = 1 ∧ I' 2200 (40 * u + (A - 1)) = 1 ∧ 0 ≤ I' 2206 (160 * (40 * u + (A - 1))) ∧ I' 2206 (160 * (40 * u + (A - 1))) < 32 ∧ I' 2206 (160 * (40 * u + (A - 1))) % 4 = 0)
    (hQ : ∀ (J J' : vJ) (y3 y4 : vV), lkQ I I' n J J' → vW (d + 1) 151 (125, [vr 1960, vr 1990, vi V, vi (u : Int), vi (T : Int), vu], [], (J, Y)) (fun r => vW (d' + 2) 454 (179, [vr 2075, vi (u : Int), vi (A : Int), y3, y4], [], (J', Y')) (fun r' => Q r r'))) :
    ∀ (m k : Nat) (J J' : vJ) (y3 y4 : vV), k + m = A → lkQ I I' n J J' → vW (d + 1) 151 (87, [vr 1960, vr 1990, vi V, vi (u : Int), vi ((if k < A then b k else T : Nat) : Int), vu], [], (J, Y)) (fun r => vW (d' + 2) 454 (71, [vr 2075, vi (u : Int), vi (k : Int), y3, y4], [], (J', Y')) (fun r' => Q r r')) := by
  intro m
  induction m with
  | zero =>
    intro k J J' y3 y4 hk h
    have hk : k = A := by omega
    have hm : ∀ P : vE → Prop, vW (d' + 2) 454 (71, [vr 2075, vi (u : Int), vi (k : Int), y3, y4], [], (J', Y')) P ↔ vW (d' + 2) 454 (179, [vr 2075, vi (u : Int), vi (A : Int), y3, y4], [], (J', Y')) P := fun P => by
      rw [b454_71 hL' (by omega) (by omega), tn0, h.2.2 2186 _ rfl, hA, hk, if_pos (Int.le_refl _)]
    simp only [hm]
    rw [if_neg (by omega), h151_87 hL (by omega) (by omega), tn0, h.2.1 1994 _ rfl, hT, if_pos (Int.le_refl _)]
    exact hQ J J' y3 y4 h
  | succ m ih =>
    intro k J J' y3 y4 hk h
    have kA : k < A := by omega
    obtain ⟨mb, b1, b2, b3, b4⟩ := hmb k kA
    have ea : (40 : Int) * (u : Int) + (k : Int) = ((40 * u + k : Nat) : Int) := by omega
    have hm : ∀ P : vE → Prop, vW (d' + 2) 454 (71, [vr 2075, vi (u : Int), vi (k : Int), y3, y4], [], (J', Y')) P ↔ vW (d' + 2) 454 (91, [vr 2075, vi (u : Int), vi (k : Int), vi ((40 * u + k : Nat) : Int), vi ((0 : Nat) : Int)], [], (J', Y')) P := fun P => by
      rw [b454_71 hL' (by omega) (by omega), tn0, h.2.2 2186 _ rfl, hA, if_neg (by rw [w32_id (by omega) (by omega), w32_id (by omega) (by omega)]; omega), b454_81, ea]
      exact Iff.rfl
    simp only [hm]
    have s1 := h1 k kA
    have q6 := h6 k
    have q7 := h7 k
    have qp := hp k
    have ql := hle k
    have qq := hq (by omega)
    rw [b1, tn0] at s1 q6 q7 qp ql
    rw [if_pos kA]
    -- how many of the pile are in both houses
    obtain ⟨e, e1, e2, e3, e4, e5⟩ : ∃ e : Nat, e ≤ s k ∧ (b k + nm mb + e ≤ T) ∧ (b k + nm mb + e = if k + 1 < A then b (k + 1) else T) ∧ (∀ i, i < e → vv n (I 1992 (b k + nm mb + i)) (I 1993 (b k + nm mb + i)) (I' 2206 (160 * (40 * u + k) + i))) ∧ (∀ j, e ≤ j → j < s k → 0 ≤ I' 2206 (160 * (40 * u + k) + j) ∧ I' 2206 (160 * (40 * u + k) + j) < 32 ∧ I' 2206 (160 * (40 * u + k) + j) % 4 = 0) := by
      by_cases z : k + 1 < A
      · refine ⟨s k, Nat.le_refl _, ql z, by rw [if_pos z]; exact (qp z).symm, fun i hi => q7 i kA (fun _ => hi) (fun e => absurd e (by omega)), fun j g1 g2 => absurd g2 (by omega)⟩
      · have kA1 : k = A - 1 := by omega
        rw [← kA1, b1, tn0] at qq
        refine ⟨s k - dl, by omega, by omega, by rw [if_neg z]; omega, fun i hi => q7 i kA (fun e => absurd e z) (fun _ => by omega), fun j g1 g2 => ?_⟩
        rcases hdl (by omega) with w | w
        · omega
        · rw [← kA1, s1.1] at w
          have j0 : j = 0 := by omega
          subst j0
          exact w.2.2
    refine r_names (u := u) (a := 40 * u + k) (b := b k) (T := T) (nk := nm mb) (mb := mb) hL hL' hn hX hX2 hV u8 (by omega) b2 (by omega) b4 s1.2.1 hT (by omega) T4 (fun i hi => q6 i kA hi) (fun K K' hK => ?_) (nm mb) 0 J J' (by omega) h
    clear hm q6 q7 h
    have hm : ∀ P : vE → Prop, vW (d' + 2) 454 (134, [vr 2075, vi (u : Int), vi (k : Int), vi ((40 * u + k : Nat) : Int), vi (nm mb : Int)], [], (K', Y')) P ↔ vW (d' + 2) 454 (137, [vr 2075, vi (u : Int), vi (k : Int), vi ((40 * u + k : Nat) : Int), vi ((0 : Nat) : Int)], [], (K', Y')) P := fun P => by
      rw [b454_134]
      exact Iff.rfl
    simp only [hm]
    clear hm
    refine r_pile (u := u) (a := 40 * u + k) (c := b k + nm mb) (T := T) (s := s k) (e := e) hL hL' hn u8 (by omega) s1.1 s1.2.2 e1 hT e2 T4 e4 (fun K K' hK => ?_) e 0 K K' (by omega) hK
    have hm : ∀ P : vE → Prop, vW (d' + 2) 454 (137, [vr 2075, vi (u : Int), vi (k : Int), vi ((40 * u + k : Nat) : Int), vi (e : Int)], [], (K', Y')) P ↔ vW (d' + 2) 454 (71, [vr 2075, vi (u : Int), vi ((k + 1 : Nat) : Int), vi ((40 * u + k : Nat) : Int), vi (s k : Int)], [], (K', Y')) P := fun P => by
      rw [r_rest hL' (by omega) (by rw [hK.2.2 2200 _ rfl]; exact s1.1) s1.2.2 (s k - e) e (by omega) (fun j g1 g2 => by rw [hK.2.2 2206 _ rfl]; exact e5 j g1 g2), b454_173]
      exact Iff.rfl
    simp only [hm]
    rw [e3]
    exact ih (k + 1) K K' _ _ (by omega) hK
/-- the threads -/
theorem r_thr {X mm th : Nat} {V : Int} {nm : Nat → Nat} (hL : vL Y) (hL' : vL Y') (hn : n ≤ 300) (hX : Y'.1 2075 7689 = X) (hX2 : X = 2081 ∨ X = 2119) (hV : vreg Y' 2081 38 (Y'.1 2075 7689)) (mm24 : mm ≤ 24) (t1 : I 1990 3390 = th) (t2 : I' 2075 7731 = th) (t8 : th ≤ 8) (hT : ∀ u, u < th → lkU n mm X nm I I' u)
    (hQ : ∀ (J J' : vJ) (x4 y2 y3 y4 : vV), lkQ I I' n J J' → vW (d + 1) 151 (131, [vr 1960, vr 1990, vi V, vi (th : Int), x4, vu], [], (J, Y)) (fun r => vW (d' + 2) 454 (185, [vr 2075, vi (th : Int), y2, y3, y4], [], (J', Y')) (fun r' => Q r r'))) :
    ∀ (m u : Nat) (J J' : vJ) (x4 y2 y3 y4 : vV), u + m = th → lkQ I I' n J J' → vW (d + 1) 151 (69, [vr 1960, vr 1990, vi V, vi (u : Int), x4, vu], [], (J, Y)) (fun r => vW (d' + 2) 454 (61, [vr 2075, vi (u : Int), y2, y3, y4], [], (J', Y')) (fun r' => Q r r')) := by
  intro m
  induction m with
  | zero =>
    intro u J J' x4 y2 y3 y4 hu h
    have hu : u = th := by omega
    have hm : ∀ P : vE → Prop, vW (d' + 2) 454 (61, [vr 2075, vi (u : Int), y2, y3, y4], [], (J', Y')) P ↔ vW (d' + 2) 454 (185, [vr 2075, vi (th : Int), y2, y3, y4], [], (J', Y')) P := fun P => by
      rw [b454_61 hL', h.2.2 2075 _ rfl, t2, hu, if_pos (Int.le_refl _)]
    simp only [hm]
    rw [hu, b151_69 (by decide) (lK hL 1990 13 rfl), h.2.1 1990 _ rfl, t1, if_pos (Int.le_refl _)]
    exact hQ J J' x4 y2 y3 y4 h
  | succ m ih =>
    intro u J J' x4 y2 y3 y4 hu h
    obtain ⟨A, dl, ⟨hA, A40⟩, ⟨b, s, h1, h2, h3, h4, h5, h6, h7⟩, hmb, hdl⟩ := hT u (by omega)
    have bd := thV_bd h2 h3 (fun k hk => ⟨(h1 k hk).2.2.1, (h1 k hk).2.2.2⟩)
    have bu := thV_up h3
    obtain ⟨T, eT, T4, hp0⟩ : ∃ T : Nat, I 1994 u = T ∧ T ≤ 46088 ∧ (if 0 < A then b 0 else T) = 8 + 5760 * u := by
      by_cases z : A = 0
      · exact ⟨8 + 5760 * u, by rw [h4 z]; omega, by omega, by rw [if_neg (by omega)]⟩
      · have q := h5 (by omega)
        have g := h1 (A - 1) (by omega)
        have w := bd (A - 1) (by omega)
        refine ⟨(b (A - 1) + nm (I 2006 (40 * u + (A - 1))).toNat + s (A - 1)) - dl, by omega, by omega, by rw [if_pos (by omega)]; exact h2 (by omega)⟩
    have e8 : (8 : Int) + (u : Int) * 5760 = (((if 0 < A then b 0 else T) : Nat) : Int) := by rw [hp0]; omega
    have hm : ∀ P : vE → Prop, vW (d' + 2) 454 (61, [vr 2075, vi (u : Int), y2, y3, y4], [], (J', Y')) P ↔ vW (d' + 2) 454 (71, [vr 2075, vi (u : Int), vi ((0 : Nat) : Int), y3, y4], [], (J', Y')) P := fun P => by
      rw [b454_61 hL', h.2.2 2075 _ rfl, t2, if_neg (by rw [w32_id (by omega) (by omega), w32_id (by omega) (by omega)]; omega), b454_69]
      exact Iff.rfl
    simp only [hm]
    rw [b151_69 (by decide) (lK hL 1990 13 rfl), h.2.1 1990 _ rfl, t1, if_neg (by rw [w32_id (by omega) (by omega), w32_id (by omega) (by omega)]; omega), b151_77, e8]
    refine r_acts (u := u) (A := A) (dl := dl) (T := T) (nm := nm) (b := b) (s := s) hL hL' hn hX hX2 hV mm24 (by omega) hA A40 eT T4 (fun k hk => ⟨(h1 k hk).2.1, (h1 k hk).2.2⟩) h3 (fun z => ?_) (fun k hk => ?_) h6 h7 hmb hdl (fun K K' z3 z4 hK => ?_) A 0 J J' _ _ (by omega) h
    · have q := h5 z
      clear h6 h7 hdl
      exact ⟨by omega, q.2⟩
    · have q := h5 (by omega)
      have w := bu (A - 1) k (by omega) (by omega)
      clear h6 h7 hdl
      omega
    · rw [b151_125]
      simp only [b454_179]
      exact ih (u + 1) K K' _ _ _ _ (by omega) hK
/-- the row of what is reached -/
theorem r_list {E : Nat} {V : Int} (hL : vL Y) (hL' : vL Y') (hA : aR I I' n E)
    (hQ : ∀ J J' : vJ, lkQ I I' n J J' → Q (.inl none, (J, Y)) (.inl none, (J', Y'))) :
    ∀ (m j : Nat) (J J' : vJ) (x4 x5 y2 y3 y4 : vV), j + m = n → lkQ I I' n J J' → (j : Int) ≤ J 1960 3099 → vW (d + 1) 151 (133, [vr 1960, vr 1990, vi V, vi (j : Int), x4, x5], [], (J, Y)) (fun r => vW (d' + 2) 454 (187, [vr 2075, vi (j : Int), y2, y3, y4], [], (J', Y')) (fun r' => Q r r')) := by
  obtain ⟨⟨n1, n2⟩, n3, ⟨n4, n5⟩, n6, n7, n8⟩ := hA
  intro m
  induction m with
  | zero =>
    intro j J J' x4 x5 y2 y3 y4 hj h hle
    obtain ⟨k, ⟨k1, k2⟩, k3, k4, k5⟩ := h.1
    have kn := mkR_le k3 k4
    have jk : (j : Int) = k := by omega
    have hm : ∀ P : vE → Prop, vW (d' + 2) 454 (187, [vr 2075, vi (j : Int), y2, y3, y4], [], (J', Y')) P ↔ P (.inl none, (J', Y')) := fun P => by
      rw [b454_187 hL', k2, jk, if_pos (Int.le_refl _), b454_252]
    simp only [hm]
    rw [b151_133 hL, k1, jk, if_pos (Int.le_refl _), b151_211]
    exact hQ J J' h
  | succ m ih =>
    intro j J J' x4 x5 y2 y3 y4 hj h hle
    obtain ⟨k, ⟨k1, k2⟩, k3, k4, k5⟩ := h.1
    have kn := mkR_le k3 k4
    by_cases z : j = k
    · have jk : (j : Int) = k := by omega
      have hm : ∀ P : vE → Prop, vW (d' + 2) 454 (187, [vr 2075, vi (j : Int), y2, y3, y4], [], (J', Y')) P ↔ P (.inl none, (J', Y')) := fun P => by
        rw [b454_187 hL', k2, jk, if_pos (Int.le_refl _), b454_252]
      simp only [hm]
      rw [b151_133 hL, k1, jk, if_pos (Int.le_refl _), b151_211]
      exact hQ J J' h
    · obtain ⟨x, x1, x2, x3, _⟩ := k3 j (by omega)
      obtain ⟨⟨a1, a2, _⟩, a3, a4, a5, a6, _⟩ := n7 x x1
      obtain ⟨F0, hF⟩ : ∃ F0 : Nat, I 2027 x = F0 := ⟨(I 2027 x).toNat, by omega⟩
      obtain ⟨S, hS⟩ : ∃ S : Nat, I 2028 x = S := ⟨(I 2028 x).toNat, by omega⟩
      have hm : ∀ P : vE → Prop, vW (d' + 2) 454 (187, [vr 2075, vi (j : Int), y2, y3, y4], [], (J', Y')) P ↔ vW (d' + 2) 454 (197, [vr 2075, vi (j : Int), vi ((0 : Nat) : Int), y3, y4], [], (J', Y')) P := fun P => by
        rw [b454_187 hL', k2, if_neg (by rw [w32_id (by omega) (by omega), w32_id (by omega) (by omega)]; omega), b454_195]
        exact Iff.rfl
      simp only [hm]
      rw [b151_133 hL, k1, if_neg (by rw [w32_id (by omega) (by omega), w32_id (by omega) (by omega)]; omega), h151_141 hL (by omega) (by omega) (by rw [tn0, x2]; omega) (by rw [tn0, x2]; omega), tn0, x2, tn0, h.2.1 2027 _ rfl, hF]
      refine r_els (x := x) (j0 := j) (F0 := F0) (S := S) (J0 := J) (J0' := J') hL hL' n3 x1 hF (by rw [← a1]; exact hF) hS (by rw [← a2]; exact hS) (by omega) (fun e he => n8 e (by omega)) (by omega) (fun K K' hK hG => ?_) S 0 J J' (by omega) h (lkG_refl _ _) (by omega) x3
      rw [b151_205]
      simp only [b454_246]
      exact ih (j + 1) K K' _ _ _ _ _ (by omega) hK (by have := hG.2; omega)
/-- all that is reached -/
theorem r_all {X mm th E : Nat} {nm : Nat → Nat} (hL : vL Y) (hL' : vL Y') (hB : lkB Y' X mm nm I I' th n E)
    (hQ : ∀ J J' : vJ, lkQ I I' n J J' → Q (.inl none, (J, Y)) (.inl none, (J', Y'))) :
    vW (d + 1) 151 (0, [vr 1960, vr 1990, vi (I 1960 3100), vu, vu, vu], [], (I, Y)) (fun r => vW (d' + 2) 454 (0, [vr 2075, vu, vu, vu, vu], [], (I', Y')) (fun r' => Q r r')) := by
  obtain ⟨⟨hX, hX2, hV⟩, mm24, ⟨v1, v2, v8⟩, ⟨t1, t2, t8⟩, hVs, hA, hT⟩ := hB
  have hA0 := hA
  obtain ⟨⟨n1, n2⟩, n3, _⟩ := hA
  refine r_clrC hL n3 n1 (fun J hJ j1 j2 => ?_)
  refine vW_swap.mpr ?_
  refine r_clrT hL' n3 n2 (fun J' hJ' i1 i2 => ?_)
  refine vW_swap.mp ?_
  have h0 : lkQ I I' n J J' := by
    refine ⟨⟨0, ⟨j1, i1⟩, fun j hj => absurd hj (Nat.not_lt_zero _), fun i j _ hj => absurd hj (Nat.not_lt_zero _), fun x hx => ⟨⟨by rw [(j2 x hx).1, i2 x hx], Or.inl (j2 x hx).1⟩, fun q => ?_, fun _ => (j2 x hx).2⟩⟩, hJ, hJ'⟩
    rw [(j2 x hx).1] at q
    exact absurd q (by decide)
  rw [v1]
  refine r_vars (X := X) (V := nm 5000) hL hL' n3 hX hX2 hV v2 v8 (fun v hv => ?_) (fun K K' hK => ?_) (nm 5000) 0 J J' (by omega) h0
  · have q := hVs v (by omega) (by omega)
    rw [n1] at q
    exact q
  · rw [b151_67]
    simp only [b454_59]
    refine r_thr (th := th) hL hL' n3 hX hX2 hV mm24 t1 t2 t8 hT (fun K K' z4 y2 y3 y4 hK => ?_) th 0 K K' _ _ _ _ (by omega) hK
    rw [b151_131]
    simp only [b454_185]
    refine r_list hL hL' hA0 hQ n 0 K K' _ _ _ _ _ (by omega) hK ?_
    obtain ⟨k, ⟨k1, _⟩, _⟩ := hK.1
    omega
end
