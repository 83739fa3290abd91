/-! ===== the law's pairs of calls: run, begin, look, held ===== -/
set_option maxRecDepth 20000
set_option maxHeartbeats 4000000
theorem frok_out {L : List Nat} {P : List (Nat × Nat)} (lo hi : Nat) {c : Nat} (e : (L.all (fun q => Nat.blt q lo || Nat.ble hi q) && P.all (fun q => Nat.blt q.1 lo || Nat.ble hi q.1)) = true) (h1 : lo ≤ c) (h2 : c < hi) (f : Nat) : frok L P c f = true := by
  have w : fr L P (fun _ _ => (0 : Int)) (fun c f => if frok L P c f = true then 0 else 1) := fun c f e => if_pos e
  have q : (if frok L P c f = true then (0 : Int) else 1) = 0 := congrFun (fr_out w lo hi e h1 h2) f
  by_cases z : frok L P c f = true
  · exact z
  · rw [if_neg z] at q; exact absurd q (by decide)
theorem frok_ge {L : List Nat} {P : List (Nat × Nat)} (b : Nat) {c : Nat} (e : (L.all (fun q => Nat.blt q b) && P.all (fun q => Nat.blt q.1 b)) = true) (h1 : b ≤ c) (f : Nat) : frok L P c f = true := by
  have w : fr L P (fun _ _ => (0 : Int)) (fun c f => if frok L P c f = true then 0 else 1) := fun c f e => if_pos e
  have q : (if frok L P c f = true then (0 : Int) else 1) = 0 := congrFun (fr_ge w b e h1) f
  by_cases z : frok L P c f = true
  · exact z
  · rw [if_neg z] at q; exact absurd q (by decide)
theorem frok_f {L : List Nat} {P : List (Nat × Nat)} {c f : Nat} (h1 : L.any (fun q => Nat.beq q c) = false) (lo hi : Nat) (e : P.all (fun p => !(Nat.beq p.1 c) || (Nat.ble lo p.2 && Nat.ble p.2 hi)) = true) (hf : f < lo ∨ hi < f) : frok L P c f = true := frok_ne h1 (fun p hp pc pf => by
  have w := List.all_eq_true.mp e p hp
  rw [pc, pf] at w
  have z : Nat.beq c c = true := Nat.beq_refl c
  rw [z] at w
  have w2 : (Nat.ble lo f && Nat.ble f hi) = true := w
  rw [Bool.and_eq_true] at w2
  have x1 := Nat.le_of_ble_eq_true w2.1
  have x2 := Nat.le_of_ble_eq_true w2.2
  omega)
/-- all that calls about a run put -/
def LB : List Nat := 2047 :: LC
def PB : List (Nat × Nat) := (18, 271) :: (1990, 3398) :: (1990, 3395) :: (1990, 3396) :: (1990, 3397) :: PC
def LBT : List Nat := 2181 :: LT
def PBT : List (Nat × Nat) := (2075, 7732) :: (2075, 7733) :: (2075, 7827) :: PM
def agB (I I' J J' : vJ) : Prop := (∀ c f, (c < 2075 ∨ 2297 ≤ c) → frok LB PB c f = true → J c f = I c f) ∧ ∀ c f, (2075 ≤ c ∧ c < 2297) → frok LBT PBT c f = true → J' c f = I' c f
section
variable {L : Nat} {x : Nat → Int} {SX : vJ → vJ → vY → Nat → Nat → Nat → Prop} {k : Nat} {I I' J J' : vJ} {Y : vY}
theorem LW_run {mm X Nn Lp C' : Nat} {nm pr ht' : Nat → Nat} (hX : sxK SX) (h : LW L x SX k I I' Y) (m1 : isM I I' Y mm) (m2 : SX I I' Y mm X Nn) (m3 : mm ≠ 0 → (X = 2081 ∨ X = 2119) ∧ LD I I' X Nn nm) (cv : cvR I I' X mm k) (g : agB I I' J J') (hC : C' ≤ 50000 * (k + 1)) (hv : J 18 271 = I 18 271 + 1 ∨ J 18 271 = I 18 271 ∧ J' 2183 = I' 2183 ∧ J 1990 3398 = I 1990 3398) (m5 : RT J J' Y mm X Nn Lp C' nm pr ht') : LW L x SX (k + 1) J J' Y := by
  obtain ⟨⟨v1, v2, v3, v4, v5, v6⟩, ⟨p1, p2, p3⟩, ⟨n, t1⟩, q1, _⟩ := h
  have a1 : ∀ c, 19 ≤ c → c < 65 → J c = I c := fun c a b => funext fun f => g.1 c f (by omega) (frok_out 19 65 (by rfl) a b f)
  have a2 : ∀ c, 66 ≤ c → c < 1960 → J c = I c := fun c a b => funext fun f => g.1 c f (by omega) (frok_out 66 1960 (by rfl) a b f)
  have a3 : ∀ c, 2060 ≤ c → c < 2075 → J c = I c := fun c a b => funext fun f => g.1 c f (by omega) (frok_out 2060 2075 (by rfl) a b f)
  have a4 : ∀ c, 2297 ≤ c → J c = I c := fun c a => funext fun f => g.1 c f (by omega) (frok_ge 2297 (by rfl) a f)
  have a5 : ∀ f, f ≠ 271 → J 18 f = I 18 f := fun f hf => g.1 18 f (by omega) (frok_f (by rfl) 271 271 (by rfl) (by omega))
  have b1 : ∀ c, 2076 ≤ c → c < 2181 → J' c = I' c := fun c a b => funext fun f => g.2 c f (by omega) (frok_out 2076 2181 (by rfl) a b f)
  have b2 : J' 2182 = I' 2182 := funext fun f => g.2 2182 f (by omega) (frok_out 2182 2183 (by rfl) (by decide) (by decide) f)
  have b3 : ∀ c, 2277 ≤ c → c < 2297 → J' c = I' c := fun c a b => funext fun f => g.2 c f (by omega) (frok_out 2277 2297 (by rfl) a b f)
  have b5 : ∀ f, (f < 7727 ∨ 7830 < f) → J' 2075 f = I' 2075 f := fun f hf => g.2 2075 f (by omega) (frok_f (by rfl) 7727 7830 (by rfl) hf)
  have sA : sxA Y I I' J J' := by
    refine ⟨fun c q => ?_, fun f f1 f2 => a5 f (by omega), fun c q => ?_, fun f q => b5 f (by omega)⟩
    · unfold stC at q
      by_cases z : 2297 ≤ c
      · exact a4 c z
      · by_cases y : c = 2061
        · rw [y]; exact a3 2061 (by decide) (by decide)
        · by_cases w : c < 65
          · exact a1 c (by omega) w
          · exact a2 c (by omega) (by omega)
    · unfold stT at q
      by_cases y : 2280 ≤ c
      · exact b3 c (by omega) (by omega)
      · exact b1 c (by omega) (by omega)
  have cvJ : cvR J J' X mm (k + 1) := by
    rcases hv with hv | ⟨hv1, hv2, hv3⟩
    · exact cv_new cv m1.2.1 hv (a3 2060 (by decide) (by decide))
    · exact cv_up (cv_ag cv hv1 (a3 2060 (by decide) (by decide)) hv3 (a1 35 (by decide) (by decide)) (a1 50 (by decide) (by decide)) (a2 66 (by decide) (by decide)) (fun z => b1 (X + 37) (by have := (m3 z).1; omega) (by have := (m3 z).1; omega)) hv2)
  refine ⟨⟨v1, v2, v3, v4, by omega, by omega⟩, ⟨fun j => by rw [g.1 1 j (by omega) rfl]; exact p1 j, p2, p3⟩, ⟨n, ?_⟩, ?_, mm, X, Nn, Lp, C', nm, pr, ht', ?_, hX I I' J J' Y mm X Nn m2 sA, fun z => ?_, ⟨hC, cvJ⟩, m5⟩
  · unfold tp at *
    rw [a5 _ (by decide), a1 19 (by decide) (by decide), b5 _ (by decide), b1 2076 (by decide) (by decide)]
    exact t1
  · refine ⟨?_, kp_of q1.2 (fun c a b => a3 c (by omega) b) (fun c a b => b3 c a (by omega))⟩
    have q1 := q1.1
    unfold pa at *
    rw [a3 2062 (by decide) (by decide), a3 2063 (by decide) (by decide), b1 2180 (by decide) (by decide), b2]
    exact q1
  · unfold isM at *
    rw [a5 _ (by decide), b5 _ (by decide), b1 (Y.1 2075 7689) (by omega) (by omega)]
    exact m1
  · obtain ⟨w1, w2⟩ := m3 z
    refine ⟨w1, ?_⟩
    unfold LD at *
    rw [g.1 1960 3100 (by omega) rfl, a5 _ (by decide), a1 35 (by decide) (by decide), b1 X (by omega) (by omega)]
    exact w2
end
section
variable {L : Nat} {x : Nat → Int} {SX : vJ → vJ → vY → Nat → Nat → Nat → Prop}
theorem agB_of {I I' J J' : vJ} (F1 : fr LB PB I J) (F2 : fr LBT PBT I' J') : agB I I' J J' := ⟨fun c f _ e => F1 c f e, fun c f _ e => F2 c f e⟩
/-- frok of a longer list -/
theorem frok_sub {L L' : List Nat} {P P' : List (Nat × Nat)} (e1 : L.all (fun q => L'.any (fun r => Nat.beq r q)) = true) (e2 : P.all (fun q => P'.any (fun r => Nat.beq r.1 q.1 && Nat.beq r.2 q.2)) = true) {c f : Nat} (h : frok L' P' c f = true) : frok L P c f = true := by
  have w : fr L P (fun _ _ => (0 : Int)) (fun c f => if frok L P c f = true then 0 else 1) := fun c f e => if_pos e
  have q : (if frok L P c f = true then (0 : Int) else 1) = 0 := fr_sub w e1 e2 c f h
  by_cases z : frok L P c f = true
  · exact z
  · rw [if_neg z] at q; exact absurd q (by decide)
theorem d_run (hX : sxK SX) : oD10 (fun k I Y => LW L x SX k I I Y) := fun k hk a1 ha1 => o_pair hX (sL_c sG_18 (sL_c (sG_i _) (sL_nil _))) (fun Y _ => (sL_c sG_m (sL_c (sG_i _) (sL_c sG_u (sL_nil _))))) (fun I I' Y h => by
  have h0 := h
  obtain ⟨⟨v1, _⟩, _, _, _, mm, X, Nn, Lp, C, nm, pr, ht, m1, m2, m3, m4, m5⟩ := h
  rcases m5 with ⟨r1, r2, _⟩ | ⟨r1, r2, th, W, N, r3, r4⟩
  · obtain ⟨b1, b2⟩ := n_run (d := 1999) (d' := 1999) ha1 v1 v1 r1 r2
    exact (b1 _).mpr ((b2 _).mpr ⟨_, _, I, I', rfl, rfl, rfl, LW_up h0⟩)
  · refine o_run (d := 1983) (d' := 1984) v1 v1 ha1 r3 r1 ⟨_, _, I, I', rfl, rfl, rfl, LW_up h0⟩ (fun ht' J J' th' W' N' v g1 g2 g3 g4 => ⟨v, v, J, J', rfl, rfl, rfl, LW_run hX h0 m1 m2 m3 m4.2 ⟨fun c f q e => ?_, fun c f q e => ?_⟩ (show C ≤ 50000 * (k + 1) by omega) (Or.inl (by rw [g4.1 18 271 (by omega) rfl, up_same])) (Or.inr ⟨?_, r2, th', W', N', g3, by rw [g2]; exact r4⟩)⟩)
    · rw [g4.1 c f q (frok_sub (by rfl) (by rfl) e)]
      unfold up
      rw [if_neg]
      rintro ⟨q1, q2⟩
      rw [q1, q2] at e
      exact absurd e (by decide)
    · exact g4.2 c f q (frok_sub (by rfl) (by rfl) e)
    · rw [g4.1 1990 3398 (by omega) rfl, up_cell _ (by decide)]; exact r1)
theorem d_look (hX : sxK SX) : oD20 (fun k I Y => LW L x SX k I I Y) := fun k hk => o_pair hX (sL_c sG_18 (sL_nil _)) (fun Y _ => (sL_c sG_m (sL_c sG_u (sL_c sG_u (sL_nil _))))) (fun I I' Y h => by
  have h0 := h
  obtain ⟨⟨v1, _⟩, _, _, _, mm, X, Nn, Lp, C, nm, pr, ht, m1, m2, m3, m4, m5⟩ := h
  rcases m5 with ⟨r1, r2, _⟩ | ⟨r1, r2, th, W, N, r3, r4⟩
  · obtain ⟨b1, b2⟩ := n_look (d := 2000) (d' := 2000) v1 v1 r1 r2
    exact (b1 _).mpr ((b2 _).mpr ⟨_, _, I, I', rfl, rfl, rfl, LW_up h0⟩)
  · refine o_look (d := 1997) (d' := 1997) v1 v1 r3 r1 (fun J J' n E v g3 g4 => ⟨v, v, J, J', rfl, rfl, rfl, LW_run hX h0 m1 m2 m3 m4.2 (agB_of (fr_sub g4.2.2.1 (by rfl) (by rfl)) (fr_sub g4.2.2.2 (by rfl) (by rfl))) (show C ≤ 50000 * (k + 1) by omega) (Or.inr ⟨g4.2.2.1 18 _ rfl, fr_row g4.2.2.2 2183 (fun _ => rfl), g4.2.2.1 1990 _ rfl⟩) (Or.inr ⟨?_, r2, th, W, N, g3, r4⟩)⟩)
    rw [g4.2.2.1 1990 _ rfl]; exact r1)
theorem d_held (hX : sxK SX) : oD23 (fun k I Y => LW L x SX k I I Y) := fun k hk a1 ha1 => o_pair hX (sL_c sG_18 (sL_c (sG_i _) (sL_nil _))) (fun Y _ => (sL_c sG_m (sL_c (sG_i _) (sL_nil _)))) (fun I I' Y h => by
  have h0 := h
  obtain ⟨⟨v1, _⟩, _, _, _, mm, X, Nn, Lp, C, nm, pr, ht, m1, m2, m3, m4, m5⟩ := h
  rcases m5 with ⟨r1, r2, _⟩ | ⟨r1, r2, th, W, N, r3, r4⟩
  · obtain ⟨b1, b2⟩ := n_held (d := 2000) (d' := 2000) (a := a1) v1 v1 r1 r2
    exact (b1 _).mpr ((b2 _).mpr ⟨_, _, I, I', rfl, rfl, rfl, LW_up h0⟩)
  · refine o_held (d := 1998) (d' := 1997) v1 v1 ha1 r3 r1 (m3 r2).2.1.2 (fun J J' v F1 F2 => ⟨v, v, J, J', rfl, rfl, rfl, LW_run (Lp := Lp) (pr := pr) (ht' := ht) hX h0 m1 m2 m3 m4.2 (agB_of (fr_sub F1 (by rfl) (by rfl)) (fr_sub F2 (by rfl) (by rfl))) (show C ≤ 50000 * (k + 1) by omega) (Or.inr ⟨F1 18 _ rfl, fr_row F2 2183 (fun _ => rfl), F1 1990 _ rfl⟩) (Or.inr ⟨?_, r2, th, W, N, ?_, r4⟩)⟩)
    · rw [F1 1990 _ rfl]; exact r1
    · obtain ⟨n, E, hA⟩ := (RS_open r3).2.2.1.2.2.2.1
      refine RS_lk (n := n) (E := E) r3 ⟨su_keep su_pLooks F1 F2 rfl (RS_open r3).2.2.1.2.2.2.2.2.2.2.2.2.2.2.1, ?_, fr_weak F1 (by decide) (by decide), fr_weak F2 (by decide) (by decide)⟩
      unfold aR at *
      rw [F1 18 266 rfl, F1 1990 3376 rfl, F1 1990 3377 rfl, F2 2075 7737 rfl, F2 2075 7738 rfl, fr_row F1 2027 (fun _ => rfl), fr_row F1 2028 (fun _ => rfl), fr_row F1 2029 (fun _ => rfl), fr_row F1 2030 (fun _ => rfl), fr_row F1 2031 (fun _ => rfl), fr_row F1 2032 (fun _ => rfl), fr_row F1 1985 (fun _ => rfl), fr_row F1 2033 (fun _ => rfl), fr_row F1 2034 (fun _ => rfl), fr_row F2 2223 (fun _ => rfl), fr_row F2 2224 (fun _ => rfl), fr_row F2 2225 (fun _ => rfl), fr_row F2 2226 (fun _ => rfl), fr_row F2 2227 (fun _ => rfl), fr_row F2 2228 (fun _ => rfl), fr_row F2 2229 (fun _ => rfl), fr_row F2 2230 (fun _ => rfl)]
      exact hA)
theorem d_begin (hX : sxK SX) : oD9 (fun k I Y => LW L x SX k I I Y) := fun k hk a1 a2 a3 a4 ha1 ha2 ha3 ha4 => o_pair hX (sL_c sG_18 (sL_c (sG_i _) (sL_c (sG_i _) (sL_c (sG_i _) (sL_c (sG_i _) (sL_nil _)))))) (fun Y _ => (sL_c sG_m (sL_c (sG_i _) (sL_c (sG_i _) (sL_c (sG_i _) (sL_c (sG_i _) (sL_c sG_u (sL_nil _)))))))) (fun I I' Y h => by
  have h0 := h
  obtain ⟨⟨v1, _⟩, _, _, q1, mm, X, Nn, Lp, C, nm, pr, ht, m1, m2, m3, m4, m5⟩ := h
  have hS : mm ≠ 0 → ST I I' Y Y X mm Nn Lp nm pr ht := fun z => by
    rcases m5 with ⟨_, _, _, r4⟩ | ⟨_, _, th, W, N, r3, _⟩
    · exact r4 z
    · exact (RS_open r3).1
  have hb : bgR I I' C := by
    rcases m5 with ⟨_, _, r3, _⟩ | ⟨_, _, th, W, N, r3, r4⟩
    · exact r3
    · obtain ⟨c1, c2, c3, c4, c5, c6, c7⟩ := RQ_bg (RS_open r3)
      exact ⟨c1, c2, c3, c4, fun j hj => ⟨(c5 j hj).1, (c5 j hj).2.1, by have := (c5 j hj).2.2; omega⟩, c6, c7⟩
  obtain ⟨nw, hnw⟩ : ∃ nw : Nat, mm ≠ 0 → I 35 1554 = nw ∧ nw ≤ 2100 := by
    by_cases z : mm = 0
    · exact ⟨0, fun q => absurd z q⟩
    · obtain ⟨nw, w⟩ := (m3 z).2.2.1
      exact ⟨nw, fun _ => w⟩
  obtain ⟨nw', hnw'⟩ : ∃ nw : Nat, mm ≠ 0 → I' X 7939 = nw ∧ nw ≤ 3200 ∧ I 35 1554 ≤ nw := by
    by_cases z : mm = 0
    · exact ⟨0, fun q => absurd z q⟩
    · obtain ⟨nw, w⟩ := (m3 z).2.2.2.1
      exact ⟨nw, fun _ => w⟩
  refine o_begin (d := 1989) (d' := 1990) (C := C) (nw := nw) (nw' := nw') (X := X) (Nn := Nn) (Lp := Lp) (nm := nm) (pr := pr) (ht := ht) v1 v1 ha1 ha2 ha3 ha4 m1 hS hb (by omega) q1.1 (fun z => (m3 z).2.1) (fun z => ⟨hnw z, ⟨(hnw' z).1, (hnw' z).2.1, by have := (hnw z).1; have := (hnw' z).2.2; omega⟩, (m3 z).2.2.2.2⟩) ⟨_, _, I, I', rfl, rfl, rfl, LW_up h0⟩ (fun ht' J J' z g1 g2 g3 g4 g5 => ?_)
  refine ⟨_, _, _, J', rfl, rfl, rfl, LW_run (C' := C + 50000) hX h0 m1 m2 m3 m4.2 (agB_of (fr_upP (fr_sub g4.1 (by rfl) (by rfl)) rfl _) (fr_sub g4.2 (by rfl) (by rfl))) (by omega) (Or.inl (by rw [up_same, g4.1 18 _ rfl])) (Or.inr ⟨?_, z, 1, 0, 0, g3, by omega⟩)⟩
  rw [up_cell _ (by decide)]; exact g5)
end
