/-! ===== begin, whole, in both houses ===== -/
set_option maxRecDepth 20000
set_option maxHeartbeats 8000000
theorem fr_sub2 {L L' : List Nat} {P P' : List (Nat × Nat)} {I J : vJ} (h : fr L P I J) (e1 : L.all (fun q => L'.any (fun r => Nat.beq r q)) = true) (e2 : P.all (fun q => L'.any (fun r => Nat.beq r q.1) || P'.any (fun r => Nat.beq r.1 q.1 && Nat.beq r.2 q.2)) = true) : fr L' P' I J := fun c f e => by
  unfold frok at e
  rw [Bool.and_eq_true] at e
  have e3 : L'.any (fun q => Nat.beq q c) = false := by
    have w := e.1
    cases hw : L'.any (fun q => Nat.beq q c)
    · rfl
    · rw [hw] at w; exact absurd w (by decide)
  have e4 : P'.any (fun q => Nat.beq q.1 c && Nat.beq q.2 f) = false := by
    have w := e.2
    cases hw : P'.any (fun q => Nat.beq q.1 c && Nat.beq q.2 f)
    · rfl
    · rw [hw] at w; exact absurd w (by decide)
  refine h c f (frok_ne ?_ (fun p hp pc pf => ?_))
  · cases hw : L.any (fun q => Nat.beq q c)
    · rfl
    · obtain ⟨q, hq, eq⟩ := List.any_eq_true.mp hw
      have eq : q = c := Nat.eq_of_beq_eq_true eq
      have w := List.all_eq_true.mp e1 q hq
      rw [eq, e3] at w
      exact w.symm
  · have w := List.all_eq_true.mp e2 p hp
    rw [pc, pf, e3, e4] at w
    exact absurd w (by decide)
section
variable {d d' : Nat} {Y Y' : vY} {X mm Nn Lp : Nat} {nm pr ht : Nat → Nat} {I I' : vJ} {Q : vE → vE → Prop}
/-- the model's turn behind begin -/
theorem bn_turn {G G' : vJ} {P : vE → Prop} (hL' : vL Y') (h : AS Y Y' X mm Nn Lp nm pr ht G G' 1 0 0) (h6 : G 1996 0 = 0 ∨ G 1996 0 = 3) (hQ : ∀ J' : vJ, RS Y Y' X mm Nn Lp nm pr ht G J' 1 0 0 → fr [] [(2075, 7728)] G' J' → P (.inl none, (J', Y'))) : vW (d' + 1) 409 (0, [vr 2075, vi 0, vu, vu, vu, vu], [], (G', Y')) P := by
  have h0 := h
  obtain ⟨s1, s2, s3, s4, ⟨_, s8, s9, s10⟩, s11⟩ := h
  obtain ⟨⟨e1, e2, e3⟩, _, ⟨u1, u2, u3⟩, st1⟩ := s3.2.2.2.2.2.2.2.2.2.2.2.2.2.2.2.2.2.2.1
  clear s1 s3 s4 s11
  obtain ⟨th1, th2, _⟩ := s2.1.1
  have q0 := (s2.1.2 0 (by decide)).1
  clear s2
  have tu : G 1990 3389 = ((0 : Nat) : Int) := by rw [th1] at u3; omega
  have tu' : G' 2075 7730 = ((0 : Nat) : Int) := by rw [← u1]; exact tu
  have hst : ∀ u, u < 1 → 0 ≤ G' 2187 u ∧ G' 2187 u ≤ 4 := fun u hu => by
    have : u = 0 := by omega
    rw [this, ← q0.1]; exact q0.2
  have g1 : up (up G 1990 3394 (G 1990 3394)) 1990 3389 ((0 : Nat) : Int) = G := by
    rw [up_self, ← tu, up_self]
  rcases h6 with z | z
  · have z' : G' 2187 0 = 0 := by rw [← q0.1]; exact z
    have ec : ce (G' 2187) 1 = 0 := by
      show 0 + (if 3 ≤ G' 2187 0 then 1 else 0) = 0
      rw [z', if_neg (by decide)]
    have eg : cg (G' 2187) 1 = 1 := by
      show 0 + (if G' 2187 0 = 0 then 1 else 0) = 1
      rw [if_pos z']
    rw [t_cnt hL' th2 (by decide) hst, b409_58, if_pos (by decide), b409_89 hL', th2, ec, eg, if_pos (by decide), b409_105, if_pos (by decide), m409_117 hL', if_pos (Or.inr (by decide)), b409_189 hL', tu', t_rdy hL' (by decide) (hst 0 (by decide)), if_pos z']
    simp only [vWC_s, Nat.reduceAdd]
    rw [b409_197, if_pos (by decide), t_241 hL' s9 (by decide), if_neg (by decide)]
    refine hQ G' ⟨G 1990 3394, 0, ?_, ?_, fun _ => ⟨rfl, tu.symm, z⟩⟩ (fr_refl _ _ _)
    · rw [g1, show up G' 2075 7728 1 = G' by rw [← st1]; exact up_self _ _ _]
      exact h0
    · rw [st1]
      unfold stv
      have a1 : ¬ allE (G 1996) 1 = 1 := fun q => by
        have w := (all_ce _ _).mp q
        have w2 : ce (G 1996) 1 = 0 := by
          show 0 + (if 3 ≤ G 1996 0 then 1 else 0) = 0
          rw [z, if_neg (by decide)]
        omega
      have a2 : anyG (G 1996) 1 = 1 := (any_cg _ _).mpr (by
        have w2 : cg (G 1996) 1 = 1 := by
          show 0 + (if G 1996 0 = 0 then 1 else 0) = 1
          rw [if_pos z]
        omega)
      rw [if_neg a1, if_pos a2, if_neg (by decide)]
  · have z' : G' 2187 0 = 3 := by rw [← q0.1]; exact z
    have ec : ce (G' 2187) 1 = 1 := by
      show 0 + (if 3 ≤ G' 2187 0 then 1 else 0) = 1
      rw [z', if_pos (by decide)]
    rw [t_cnt hL' th2 (by decide) hst, b409_58, if_pos (by decide), b409_89 hL', th2, ec, if_neg (by decide), b409_97 hL', b409_256]
    refine hQ _ ⟨G 1990 3394, 0, ?_, ?_, fun q => ?_⟩ (fr_upP (fr_refl _ _ _) rfl _)
    · rw [g1, up_up, show up G' 2075 7728 1 = G' by rw [← st1]; exact up_self _ _ _]
      exact h0
    · rw [up_same]
      unfold stv
      have a1 : allE (G 1996) 1 = 1 := (all_ce _ _).mpr (by
        show 0 + (if 3 ≤ G 1996 0 then 1 else 0) = 1
        rw [z, if_pos (by decide)])
      rw [if_pos a1]
    · rw [up_same] at q; exact absurd q (by decide)
/-- what begin leaves alone -/
def bnD (I I' J J' : vJ) : Prop := fr (2047 :: LC) ((1990, 3398) :: (1990, 3395) :: (1990, 3396) :: (1990, 3397) :: PC) I J ∧ fr (2181 :: LT) ((2075, 7732) :: (2075, 7733) :: (2075, 7827) :: PM) I' J'
theorem bn_all {m C nw nw' : Nat} {x2 x3 x4 : Int} (hL : vL Y) (hL' : vL Y') (hS : ST I I' Y Y' X mm Nn Lp nm pr ht) (hb : bgR I I' C) (C4 : C ≤ 4000000) (hpr : ∀ j : Nat, j < 18 → I 2062 j = I' 2180 j ∧ 0 ≤ I 2062 j ∧ I 2062 j ≤ 1000) (ha : ∀ j : Nat, j < 4 → I 2063 j = I' 2182 j ∧ -2147483647 ≤ I 2063 j ∧ I 2063 j ≤ 2147483647) (hV : I 1960 3100 = nm 5000) (hw : I 35 1554 = nw) (nw2 : nw ≤ 2100) (hw' : I' X 7939 = nw') (nw3 : nw' ≤ 3200) (nwl : nw ≤ nw') (hno : I' X 7938 = Nn) (hm : m < mm) (b2 : 0 ≤ x2 ∧ x2 < 2147483648) (b3 : x3 = 0 ∨ x3 = 1) (b4 : 0 ≤ x4 ∧ x4 < 2147483648)
    (hQ : ∀ (ht' : Nat → Nat) (J J' : vJ), (∀ k, k < 5000 → ht' k = ht k) → ht' 5000 = C → RS Y Y' X mm Nn Lp nm pr ht' J J' 1 0 0 → bnD I I' J J' → J 1990 3398 = 1 → Q (.inl none, (J, Y)) (.inl (some (vi 1)), (J', Y'))) :
    vW (d + 10) 157 (0, [vr 1990, vi (m : Int), vi x2, vi x3, vi x4, vr 2063, vr 2062, vi (nm 5000 : Int), vu, vu], [], (I, Y)) (fun r => vW (d' + 10) 397 (28, [vr 2075, vi (m : Int), vi x2, vi x3, vi x4, vu], [], (I', Y')) (fun r' => Q r r')) := by
  obtain ⟨hX, hX2, hV'⟩ := hS.1
  have mm24 : mm ≤ 24 := hS.2.1.1.1
  have V8 : nm 5000 ≤ 8 := hS.2.1.1.2.2.1
  have Nn7 : Nn ≤ 700 := hS.2.1.2
  obtain ⟨o, p, nn, nd, ho, ⟨p1, p2, p3, p4⟩, _⟩ := hS.2.2.2.2.2.2.1 m hm
  obtain ⟨n, u1, u2, u3, u4, u5⟩ := hb.2.2.2.2.2.2
  refine bg_house (d := d + 8) (n := n) (nw := nw) hL (by omega) ho p1 p3 V8 b2 hw nw2 u1 u2 u3 u4 u5 (fun H hC z65 => ?_)
  refine vW_swap.mpr ?_
  refine bg_model (d := d' + 8) (nn := Nn) (nw := nw') hL' hX hX2 hV' b2 hw' nw3 hno (by omega) (fun j hj => by have q := ha j hj; unfold inI; omega) (fun M hT z83 => ?_)
  obtain ⟨ht', h1, h2, h3⟩ := ghost ht C H M
  have c0 := hC.1
  have t0 := hT.1
  have SH : ST H M Y Y' X mm Nn Lp nm pr ht' := ST_re hS ⟨fun c a b => fr_out c0 35 65 (by rfl) a b, fun c a _ => fr_ge c0 2297 (by rfl) a, fun c a b => fr_out t0 2081 2180 (by rfl) a b⟩ (c0 18 _ rfl) h3 h1
  obtain ⟨PH, BH⟩ := bg_PT hS hb C4 hC hT hpr hV b2 b3 b4 (fun j hj => z65 j (by unfold wyN at hj; omega)) (fun j hj => z83 j (by unfold wyN at hj; omega))
  rw [← h2] at BH
  have th : H 1990 3398 = 1 := hC.2.1.1
  have NE := bn_pair (d := d) (d' := d') (Q := fun r q => vWC (d + 10) 157 318 3 [vr 1990, vi (m : Int), vi x2, vi x3, vi x4, vr 2063, vr 2062, vi (nm 5000 : Int), vi 0, vi (p : Int)] [] (fun r0 => vWC (d' + 10) 397 518 3 [vr 2075, vi (m : Int), vi x2, vi x3, vi x4, vi ((4 : Nat) : Int)] [] (fun r' => Q r0 r') q) r) hL hL' SH PH BH (by rw [c0 1960 _ rfl]; exact hV) hm p4 hC hT ha (fun G G' hA h6 hD => ?_)
  · obtain ⟨qq, hq, qq', hq', hB⟩ := NE
    exact ⟨qq', hq', vWC_mono (fun r' hr => vWC_out ((b157_314 hL).mpr ⟨qq, hq, hr⟩)) hB⟩
  · simp only [vWC_n, Nat.reduceAdd]
    rw [b157_321]
    rw [b397_521 hL']
    refine bn_turn (d' := d' + 8) hL' hA h6 (fun J' hR hF => ?_)
    simp only [vWC_n, Nat.reduceAdd]
    rw [b397_526]
    refine hQ ht' G J' h1 h2 hR ⟨fr_trans (fr_sub2 c0 (by rfl) (by rfl)) (fr_sub2 hD.1 (by rfl) (by rfl)), fr_trans (fr_sub2 t0 (by rfl) (by rfl)) (fr_trans (fr_sub2 hD.2 (by rfl) (by rfl)) (fr_sub2 hF (by rfl) (by rfl)))⟩ ?_
    rw [hD.1 1990 _ rfl]; exact th
end
