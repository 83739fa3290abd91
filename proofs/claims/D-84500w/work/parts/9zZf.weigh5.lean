/-! ===== weigh: the pair of calls ===== -/
set_option maxRecDepth 20000
set_option maxHeartbeats 4000000
section
variable {L : Nat} {x : Nat → Int} {SX : vJ → vJ → vY → Nat → Nat → Nat → Prop} {k : Nat} {I I' J K : vJ} {Y : vY}
/-- all that SX looks at, but weights and probes, is as it was -/
def sxZ (Y : vY) (I I' J J' : vJ) : Prop := (∀ c, stC Y c → (c < 58 ∨ 61 < c) → J c = I c) ∧ (∀ f, 266 ≤ f → f ≤ 270 → J 18 f = I 18 f) ∧ (∀ c, stT c → (c < 2172 ∨ 2176 < c) → J' c = I' c) ∧ ∀ f, (7682 ≤ f ∧ f < 7727) ∨ 7831 ≤ f → J' 2075 f = I' 2075 f
/-- SX is kept when weights and probes are put anew, alike in both houses -/
def sxW (SX : vJ → vJ → vY → Nat → Nat → Nat → Prop) : Prop := ∀ I I' J J' Y mm X Nn, SX I I' Y mm X Nn → mm ≠ 0 → sxZ Y I I' J J' → (∃ (Wn : Nat) (ns ws ls : Nat → Nat), wgS I I' Y mm X Nn Wn ns ws ls ∧ (∀ w, w < Wn → J 58 w = J' 2172 w ∧ J 61 w = J' 2173 w ∧ (J 61 w = 0 ∨ J 61 w = 1)) ∧ ∀ m, m < mm → J' 2174 m = prS (J 61) (ws m) (ws (m + 1) - ws m) ∧ fstR (frF I (ns m)) (toF I (ns m)) (u9 (J 61) (ws m) (ws (m + 1)))) → SX J J' Y mm X Nn
/-- SX tells what weigh needs; a text that is there has members -/
def sxG (SX : vJ → vJ → vY → Nat → Nat → Nat → Prop) : Prop := ∀ I I' Y mm X Nn, SX I I' Y mm X Nn → (mm = 0 → I' 2075 7691 = 0) ∧ (mm ≠ 0 → ∃ (Wn : Nat) (ns ws ls : Nat → Nat), wgS I I' Y mm X Nn Wn ns ws ls)
theorem LW_wg {mm X Nn Lp C Wn : Nat} {nm pr ht ns ws ls : Nat → Nat} (hX : sxW SX) (h : LW L x SX k I I' Y) (m1 : isM I I' Y mm) (m2 : SX I I' Y mm X Nn) (m3 : mm ≠ 0 → (X = 2081 ∨ X = 2119) ∧ LD I I' X Nn nm) (hC : C ≤ 50000 * k) (hb : bgR I I' C) (mz : mm ≠ 0) (hS : ST I I' Y Y X mm Nn Lp nm pr ht) (F1 : fr [58, 59, 60, 61, 66, 67, 68, 2060, 2066] [(1990, 3398), (18, 271)] I J) (F2 : fr [2172, 2173, 2174, 2175, 2176] [(2075, 7728)] I' K) (e1 : J 1990 3398 = 0) (e2 : K 2075 7728 = 0) (cv : cvR J K X mm (k + 1))
    (hG : wgS I I' Y mm X Nn Wn ns ws ls) (g1 : ∀ w, w < Wn → J 58 w = K 2172 w ∧ J 61 w = K 2173 w ∧ (J 61 w = 0 ∨ J 61 w = 1)) (g2 : ∀ m, m < mm → K 2174 m = prS (J 61) (ws m) (ws (m + 1) - ws m) ∧ fstR (frF I (ns m)) (toF I (ns m)) (u9 (J 61) (ws m) (ws (m + 1)))) : LW L x SX (k + 1) J K Y := by
  obtain ⟨⟨v1, v2, v3, v4, v5, v6⟩, ⟨p1, p2, p3⟩, ⟨n, t1⟩, q1, _⟩ := h
  have a0 : ∀ f, f ≠ 271 → J 18 f = I 18 f := fun f hf => F1 18 f (frok_ne rfl (fun p hp e => by
    simp only [List.mem_cons, List.not_mem_nil, or_false] at hp
    rcases hp with hp | hp
    · subst hp; exact absurd e (by decide)
    · subst hp; exact fun w => hf w.symm))
  have a1 : ∀ c, 19 ≤ c → c < 58 → J c = I c := fun c a b => fr_out F1 19 58 (by rfl) a b
  have a2 : ∀ c, 62 ≤ c → c < 66 → J c = I c := fun c a b => fr_out F1 62 66 (by rfl) a b
  have a3 : ∀ c, 69 ≤ c → c < 1990 → J c = I c := fun c a b => fr_out F1 69 1990 (by rfl) a b
  have a4 : ∀ c, 1991 ≤ c → c < 2060 → J c = I c := fun c a b => fr_out F1 1991 2060 (by rfl) a b
  have a5 : ∀ c, 2061 ≤ c → c < 2066 → J c = I c := fun c a b => fr_out F1 2061 2066 (by rfl) a b
  have a6 : ∀ c, 2067 ≤ c → J c = I c := fun c a => fr_ge F1 2067 (by rfl) a
  have b1 : ∀ c, 2076 ≤ c → c < 2172 → K c = I' c := fun c a b => fr_out F2 2076 2172 (by rfl) a b
  have b2 : ∀ c, 2177 ≤ c → c < 2297 → K c = I' c := fun c a b => fr_out F2 2177 2297 (by rfl) a b
  have b3 : ∀ f, f ≠ 7728 → K 2075 f = I' 2075 f := fun f hf => F2 2075 f (frok_ne rfl (fun p hp e => by simp only [List.mem_singleton] at hp; subst hp; exact fun w => hf w.symm))
  have sz : sxZ Y I I' J K := by
    refine ⟨fun c q r => ?_, fun f f1 f2 => a0 f (by omega), fun c q r => ?_, fun f q => b3 f (by omega)⟩
    · unfold stC at q
      by_cases z : c < 58
      · exact a1 c (by omega) z
      · by_cases y : c < 66
        · exact a2 c (by omega) y
        · by_cases w : c < 1990
          · exact a3 c (by omega) w
          · by_cases u : c = 2061
            · rw [u]; exact a5 2061 (by decide) (by decide)
            · exact a6 c (by omega)
    · unfold stT at q
      by_cases z : c < 2172
      · exact b1 c (by omega) z
      · exact b2 c (by omega) (by omega)
  have gW : agW Y I I' J K := by
    refine ⟨fun c p q r => ?_, fun c p _ => a6 c (by omega), fun c p q r => ?_, fun w hw => ?_⟩
    · by_cases z : c < 58
      · exact a1 c (by omega) z
      · exact a2 c (by omega) (by omega)
    · by_cases z : c < 2172
      · exact b1 c (by omega) z
      · exact b2 c (by omega) (by omega)
    · rw [hG.2.1] at hw
      exact (g1 w hw).2
  obtain ⟨ht2, h1, h2, h3⟩ := ghost ht (ht 5000) J K
  have S2 := ST_wt hS gW (a0 _ (by decide)) h3 h1
  have b : bgR J K C := by
    have e90 : bgR (fun c => if c = 1990 then I 1990 else J c) K C := bgR_cong hb (fun c a b => by
      by_cases y : c = 1990
      · rw [if_pos y, y]
      · rw [if_neg y]
        by_cases w : c < 1990
        · exact a3 c (by omega) w
        · exact a4 c (by omega) (by omega)) (fun c a b => b2 c (by omega) (by omega))
    exact e90
  refine ⟨⟨v1, v2, v3, v4, by omega, by omega⟩, ⟨fun j => by rw [fr_out F1 0 18 (by rfl) (Nat.zero_le _) (show 1 < 18 by decide)]; exact p1 j, p2, p3⟩, ⟨n, ?_⟩, ⟨?_, kp_of q1.2 (fun c a b => a6 c (by omega)) (fun c a b => b2 c (by omega) (by omega))⟩, mm, X, Nn, Lp, C, nm, pr, ht2, ?_, hX I I' J K Y mm X Nn m2 mz sz ⟨Wn, ns, ws, ls, hG, g1, g2⟩, fun z => ?_, ⟨by omega, cv⟩, Or.inl ⟨e1, e2, b, fun _ => S2⟩⟩
  · unfold tp at *
    rw [a0 _ (by decide), a1 19 (by decide) (by decide), b3 _ (by decide), b1 2076 (by decide) (by decide)]
    exact t1
  · have q1 := q1.1
    unfold pa at *
    rw [a5 2062 (by decide) (by decide), a5 2063 (by decide) (by decide), b2 2180 (by decide) (by decide), b2 2182 (by decide) (by decide)]
    exact q1
  · unfold isM at *
    rw [a0 _ (by decide), b3 _ (by decide), b1 (Y.1 2075 7689) (by omega) (by omega)]
    exact m1
  · obtain ⟨w1, w2⟩ := m3 z
    refine ⟨w1, ?_⟩
    unfold LD at *
    rw [a3 1960 (by decide) (by decide), a0 _ (by decide), a1 35 (by decide) (by decide), b1 X (by omega) (by omega)]
    exact w2
end
section
variable {d d' : Nat} {Y : vY} {I I' : vJ} {Q : vE → vE → Prop} {mm X Nn Wn th k : Nat} {ns ws ls : Nat → Nat}
theorem o_weigh {a : Int} (ha : inI a) (hL : vL Y) (hM : isM I I' Y mm) (hm0 : mm = 0 → I' 2075 7691 = 0) (hS : mm ≠ 0 → wgS I I' Y mm X Nn Wn ns ws ls) (cv : cvR I I' X mm k) (hr : (I 1990 3398 = 0 ∧ I' 2075 7728 = 0) ∨ (I 1990 3398 = 1 ∧ w32 (I' 2075 7728) ≠ 0 ∧ acL I I' X Nn th ∧ fwR I I' ∧ tot I I' ≤ 60000 ∧ k < 64))
    (hN : Q (.inl (some (vi (-1))), (I, Y)) (.inl (some (vi (-1))), (I', Y)))
    (hQ : ∀ (J K : vJ), mm ≠ 0 → fr [58, 59, 60, 61, 66, 67, 68, 2060, 2066] [(1990, 3398), (18, 271)] I J → fr [2172, 2173, 2174, 2175, 2176] [(2075, 7728)] I' K → J 1990 3398 = 0 → K 2075 7728 = 0 → cvR J K X mm (k + 1) → (∀ w, w < Wn → J 58 w = K 2172 w ∧ J 61 w = K 2173 w ∧ (J 61 w = 0 ∨ J 61 w = 1)) → (∀ m, m < mm → K 2174 m = prS (J 61) (ws m) (ws (m + 1) - ws m) ∧ fstR (frF I (ns m)) (toF I (ns m)) (u9 (J 61) (ws m) (ws (m + 1)))) → Q (.inl (some (vi 1)), (J, Y)) (.inl (some (vi 1)), (K, Y))) :
    vW (d + 4) 14 (0, [vr 18, vi a, vu], [], (I, Y)) (fun r => vW (d' + 2) 386 (0, [vr 2075, vi a, vu], [], (I', Y)) (fun r' => Q r r')) := by
  have i1 : inI 1 := by unfold inI; omega
  have wa : w32 a = a := w32_id ha.1 ha.2
  obtain ⟨_, mm24, mm1, hh⟩ := id hM
  have wm : w32 (I 18 266) = mm := by rw [mm1]; exact w32_id (by omega) (by omega)
  by_cases z : (0 ≤ a ∧ a ≤ 1) ∧ mm ≠ 0 ∧ (a = 1 → I 1990 3398 = 1)
  · obtain ⟨z1, z2, z3⟩ := z
    have hS := hS z2
    have has : w32 (I' 2075 7691) ≠ 0 := by
      rcases hh with ⟨q, _⟩ | ⟨_, q⟩
      · rw [q]; decide
      · exact absurd q z2
    have st : a = 1 → w32 (I 1990 3398) ≠ 0 ∧ w32 (I' 2075 7728) ≠ 0 := fun q => by
      rcases hr with ⟨r1, _⟩ | ⟨r1, r2, _⟩
      · have := z3 q
        rw [r1] at this
        exact absurd this (by decide)
      · rw [r1]; exact ⟨by decide, r2⟩
    have hT : ∀ P : vE → Prop, vW (d' + 2) 386 (0, [vr 2075, vi a, vu], [], (I', Y)) P ↔ vW (d' + 2) 386 (30, [vr 2075, vi a, vu], [], (I', Y)) P := fun P => by
      rw [b386_0 hL, if_neg has, b386_7, t_in ha in0 i1, if_pos z1]
      simp only [vWC_s, Nat.reduceAdd]
      rw [m386_13 hL, if_neg (fun q => by
        rcases q with q | ⟨q1, q2⟩
        · exact absurd q (by decide)
        · exact q2 (st (Classical.byContradiction (fun t => q1 (by rw [wa]; exact t)))).2)]
    simp only [hT]
    rw [b14_0, c_in ha in0 i1, if_pos z1]
    simp only [vWC_s, Nat.reduceAdd]
    rw [m14_6 hL, if_neg (fun q => by
      rcases q with q | q | ⟨q1, q2⟩
      · exact absurd q (by decide)
      · rw [wm] at q; omega
      · exact q2 (st (Classical.byContradiction (fun t => q1 (by rw [wa]; exact t)))).1), b14_33]
    have h01 : a = 0 ∨ a = 1 := by omega
    have hR : a = 1 → acL I I' X Nn th ∧ fwR I I' ∧ tot I I' ≤ 60000 ∧ k < 64 ∧ I 1990 3398 = 1 := fun q => by
      rcases hr with ⟨r1, _⟩ | ⟨r1, r2, r3, r4, r5, r6⟩
      · have := z3 q
        rw [r1] at this
        exact absurd this (by decide)
      · exact ⟨r3, r4, r5, r6, r1⟩
    have hwb : ∀ w, w < Wn → 0 ≤ wvF I I' X a w ∧ wvF I I' X a w < 2147483648 := fun w hw => by
      unfold wvF
      by_cases q : a = 0
      · rw [if_pos q]; exact bdW_b _ _ _
      · rw [if_neg q]
        obtain ⟨_, r4, r5, _⟩ := hR (by omega)
        have g := sW_ge (wyN I) (fun j hj => (r4.1 j hj).1)
        have h1 := g.2 w (by rw [hS.2.1]; exact hw)
        have h2 := (r4.1 w (by rw [hS.2.1]; exact hw)).1
        have h3 : sW (I' 2183) (wyN I) = tot I I' := rfl
        omega
    refine c_weigh (d := d) (th := th) (k := k) (how := a) hL hS ⟨mm1, mm24⟩ h01 hwb hR (fun J hJ => ?_) mm 0 I (by omega) ⟨fr_refl _ _ _, fun w hw => ?_, fun m' hm' => absurd hm' (Nat.not_lt_zero _), fun w _ => rfl, cv⟩
    · have ch : ∃ od : Nat → Nat → Nat, ∀ m, m < mm → sE (wvF I I' X a) (ws m) (ws (m + 1) - ws m) (fun i => (od m i : Int)) ∧ ∀ i, i < ws (m + 1) - ws m → J 61 (od m i) = flG (fun w => (I 50 w).toNat) (fun w => (I 51 w).toNat) (od m) (ns m) i := by
        have e : ∀ m, ∃ od : Nat → Nat, m < mm → sE (wvF I I' X a) (ws m) (ws (m + 1) - ws m) (fun i => (od i : Int)) ∧ ∀ i, i < ws (m + 1) - ws m → J 61 (od i) = flG (fun w => (I 50 w).toNat) (fun w => (I 51 w).toNat) od (ns m) i := fun m => by
          by_cases q : m < mm
          · obtain ⟨od, o1⟩ := hJ.2.2.1 m q
            exact ⟨od, fun _ => o1⟩
          · exact ⟨fun _ => 0, fun t => absurd t q⟩
        exact ⟨fun m => Classical.choose (e m), fun m hm => Classical.choose_spec (e m) hm⟩
      obtain ⟨od, hod⟩ := ch
      refine t_weigh (d := d') (how := a) (od := od) hL hS h01 hwb (fun m hm => (hod m hm).1) (fun K FK k1 k2 => ?_)
      obtain ⟨e1, e2⟩ := wg_end hS hJ hod k1 k2
      have j58 : ∀ c, c ≠ 1990 → c ≠ 18 → up (up J 1990 3398 0) 18 271 (J 18 271 + 1) c = J c := fun c c1 c2 => by rw [up_row _ c2, up_row _ c1]
      have k72 : ∀ c, c ≠ 2075 → up K 2075 7728 0 c = K c := fun c c1 => up_row _ c1 _ _
      refine hQ _ _ z2 (fr_upP (fr_upP (fr_sub hJ.1 (by rfl) (by rfl)) rfl _) rfl _) (fr_upP (fr_sub FK (by rfl) (by rfl)) rfl _) (by rw [up_cell _ (by decide)]; exact up_same _ _ _ _) (up_same _ _ _ _) ?_ (fun w hw => ?_) (fun m hm => ?_)
      · exact cv_new hJ.2.2.2.2 mm24 (up_same _ _ _ _) (j58 2060 (by decide) (by decide))
      · rw [j58 58 (by decide) (by decide), j58 61 (by decide) (by decide), k72 2172 (by decide), k72 2173 (by decide)]
        exact e1 w hw
      · rw [j58 61 (by decide) (by decide), k72 2174 (by decide)]
        exact e2 m hm
    · rw [hS.2.2.2.2.2] at hw
      exact absurd hw (Nat.not_lt_zero _)
  · have hT : ∀ P : vE → Prop, vW (d' + 2) 386 (0, [vr 2075, vi a, vu], [], (I', Y)) P ↔ P (.inl (some (vi (-1))), (I', Y)) := fun P => by
      by_cases h0 : mm = 0
      · rw [b386_0 hL, hm0 h0, if_pos (by decide), b386_28]
      · have has : w32 (I' 2075 7691) ≠ 0 := by
          rcases hh with ⟨q, _⟩ | ⟨_, q⟩
          · rw [q]; decide
          · exact absurd q h0
        rw [b386_0 hL, if_neg has, b386_7, t_in ha in0 i1]
        simp only [vWC_s, Nat.reduceAdd]
        rw [m386_13 hL, if_pos, b386_28]
        by_cases z1 : 0 ≤ a ∧ a ≤ 1
        · rw [if_pos z1]
          have a1 : a = 1 := Classical.byContradiction (fun q => z ⟨z1, h0, fun t => absurd t q⟩)
          refine Or.inr ⟨fun q => q (by rw [wa, a1]; decide), fun q => ?_⟩
          rcases hr with ⟨_, r2⟩ | ⟨r1, _⟩
          · rw [r2] at q; exact q (by decide)
          · exact z ⟨z1, h0, fun _ => r1⟩
        · rw [if_neg z1]; exact Or.inl (by decide)
    simp only [hT]
    rw [b14_0, c_in ha in0 i1]
    simp only [vWC_s, Nat.reduceAdd]
    rw [m14_6 hL, if_pos, b14_31]
    · exact hN
    · by_cases z1 : 0 ≤ a ∧ a ≤ 1
      · rw [if_pos z1]
        refine Or.inr ?_
        by_cases h0 : mm = 0
        · exact Or.inl (by rw [wm, h0]; rfl)
        · have a1 : a = 1 := Classical.byContradiction (fun q => z ⟨z1, h0, fun t => absurd t q⟩)
          refine Or.inr ⟨fun q => q (by rw [wa, a1]; decide), fun q => ?_⟩
          rcases hr with ⟨r1, _⟩ | ⟨r1, _⟩
          · rw [r1] at q; exact q (by decide)
          · exact z ⟨z1, h0, fun _ => r1⟩
      · rw [if_neg z1]; exact Or.inl (by decide)
end
section
variable {L : Nat} {x : Nat → Int} {SX : vJ → vJ → vY → Nat → Nat → Nat → Prop}
theorem d_weigh (hX : sxK SX) (hW : sxW SX) (hG : sxG SX) : oD6 (fun k I Y => LW L x SX k I I Y) := fun k hk a1 ha1 => o_pair hX (sL_c sG_18 (sL_c (sG_i _) (sL_c sG_u (sL_nil _)))) (fun Y _ => (sL_c sG_m (sL_c (sG_i _) (sL_c sG_u (sL_nil _))))) (fun I I' Y h => by
  have h0 := h
  obtain ⟨⟨v1, _⟩, _, _, _, mm, X, Nn, Lp, C, nm, pr, ht, m1, m2, m3, m4, m5⟩ := h
  obtain ⟨g1, g2⟩ := hG _ _ _ _ _ _ m2
  obtain ⟨Wn, ns, ws, ls, hS⟩ : ∃ (Wn : Nat) (ns ws ls : Nat → Nat), mm ≠ 0 → wgS I I' Y mm X Nn Wn ns ws ls := by
    by_cases z : mm = 0
    · exact ⟨0, fun _ => 0, fun _ => 0, fun _ => 0, fun q => absurd z q⟩
    · obtain ⟨Wn, ns, ws, ls, h⟩ := g2 z
      exact ⟨Wn, ns, ws, ls, fun _ => h⟩
  have hST : mm ≠ 0 → ST I I' Y Y X mm Nn Lp nm pr ht := fun z => by
    rcases m5 with ⟨_, _, _, r4⟩ | ⟨_, _, th, W, N, r3, _⟩
    · exact r4 z
    · exact (RS_open r3).1
  have hb : bgR I I' C := by
    rcases m5 with ⟨_, _, r3, _⟩ | ⟨_, _, th, W, N, r3, r4⟩
    · exact r3
    · obtain ⟨c1, c2, c3, c4, c5, c6, c7⟩ := RQ_bg (RS_open r3)
      exact ⟨c1, c2, c3, c4, fun j hj => ⟨(c5 j hj).1, (c5 j hj).2.1, by have := (c5 j hj).2.2; omega⟩, c6, c7⟩
  have fin : ∀ th, (I 1990 3398 = 0 ∧ I' 2075 7728 = 0) ∨ (I 1990 3398 = 1 ∧ w32 (I' 2075 7728) ≠ 0 ∧ acL I I' X Nn th ∧ fwR I I' ∧ tot I I' ≤ 60000 ∧ k < 64) → vW 2000 14 (0, [vr 18, vi a1, vu], [], (I, Y)) (fun r => vW 2000 386 (0, [vr 2075, vi a1, vu], [], (I', Y)) (fun r' => ∃ v v' J J', r = (.inl (some (vi v)), (J, Y)) ∧ r' = (.inl (some (vi v')), (J', Y)) ∧ w32 v = w32 v' ∧ LW L x SX (k + 1) J J' Y)) := fun th hr =>
    o_weigh (d := 1996) (d' := 1998) (th := th) ha1 v1 m1 g1 hS m4.2 hr ⟨_, _, I, I', rfl, rfl, rfl, LW_up h0⟩ (fun J K z f1 f2 e1 e2 cv q1 q2 => ⟨1, 1, J, K, rfl, rfl, rfl, LW_wg hW h0 m1 m2 m3 m4.1 hb z (hST z) f1 f2 e1 e2 cv (hS z) q1 q2⟩)
  rcases m5 with ⟨r1, r2, _⟩ | ⟨r1, r2, th, W, N, r3, r4⟩
  · exact fin 0 (Or.inl ⟨r1, r2⟩)
  · have q := RS_open r3
    have sb := (RQ_status (d := 0) (P := fun _ => True) v1 q).2
    have aL := acL_of q m1.2.1
    obtain ⟨_, _, ⟨_, _, _, _, _, _, _, _, ⟨_, fw⟩, _, ⟨_, bg1, bg2⟩, _⟩, ⟨_, _, _, hT⟩, ⟨_, _, N2, W2, _⟩, _⟩ := q
    exact fin th (Or.inr ⟨r1, by rw [w32_id (by omega) (by omega)]; omega, aL, fw, by omega, hk⟩))
end
