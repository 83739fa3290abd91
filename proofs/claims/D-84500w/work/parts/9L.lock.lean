/-! ===== node LOCK: a lock is taken, both houses ===== -/
set_option maxRecDepth 20000
set_option maxHeartbeats 4000000
section
variable {d d' : Nat} {Y Y' : vY} {X mm Nn Lp : Nat} {nm pr ht : Nat → Nat} {I I' : vJ} {th t A i W N : Nat} {Q QQ : vE → vE → Prop}
/-- what both houses have behind a lock taken: K, K' are the memories behind isBehind, M the model's ahead of it -/
theorem lk_new {K K' M JF JF' : vJ} {l kk E' : Nat} (h : IFs Y Y' X mm Nn Lp nm pr ht I I' th t A W N) (hl : l < 8) (hk : I 42 (I 2007 (40 * t + (A - 1))).toNat = kk) (hk2 : kk ≤ 10)
    (hS : sR JF JF' N E') (hE : JF 1990 3384 ≤ I 1990 3384 + 1)
    (F1 : fr [2041, 2042, 2043, 2017, 2018, 2019, 2020, 2024, 2026, 2012, 2013] [(1990, 3384)] I JF) (F2 : fr [2235, 2236, 2211, 2212, 2213, 2214, 2215, 2219, 2204, 2210] [(2075, 7798)] I' JF')
    (e1 : ∀ x, JF 2012 x = if x = 40 * t + (A - 1) then (kk : Int) + 1 else I 2012 x) (e2 : ∀ p, JF 2013 p = if p = (40 * t + (A - 1)) * 12 + kk then (l : Int) else I 2013 p) (e3 : ∀ x, JF' 2204 x = if x = 40 * t + (A - 1) then (kk : Int) + 1 else I' 2204 x) (e4 : ∀ q, JF' 2210 q = if q = 12 * (40 * t + (A - 1)) + kk then (l : Int) else I' 2210 q)
    (hR : lR JF JF') (o1 : JF 2017 l = t) (o2 : I 2017 l = -1 ∧ JF 2018 l = 1 ∨ I 2017 l = t ∧ JF 2018 l = I 2018 l + 1) (o3 : ∀ k, k ≠ l → JF 2017 k = I 2017 k ∧ JF 2018 k = I 2018 k) :
    IL Y Y' X mm Nn Lp nm pr ht JF JF' th t A W N ∧ JF 2012 (40 * t + (A - 1)) = (kk : Int) + 1 ∧ JF' 2204 (40 * t + (A - 1)) = (kk : Int) + 1 ∧ ∀ j : Nat, (j : Int) < (kk : Int) + 1 → JF 2013 ((40 * t + (A - 1)) * 12 + j) = JF' 2210 (12 * (40 * t + (A - 1)) + j) := by
  have lo := (IFs_IL h).2
  unfold loA at lo
  rw [hk] at lo
  have hkk : I 2012 (40 * t + (A - 1)) = kk := by rw [lo.2.2, lo.1]
  have hZ := LZ_take h.2.1 h.2.2.2.2.1.1 h.2.2.2.2.2.2.1.1 h.2.2.2.2.2.2.1.2.2.1 h.2.2.2.2.2.2.2.1.1 hl hkk hk2 F1 F2 e1 e2 (fun x hx => by rw [e3, if_neg hx]) (fun q hq => by rw [e4, if_neg hq]) hR o1 o2 o3
  refine ⟨IL_take h hZ F1 F2 hS hE (fun b _ _ hb => by rw [e1, if_neg hb]) (fun p hp => by rw [e2, if_neg (by omega)]) (fun b hb => by rw [e3, if_neg hb]) (fun p hp => by rw [e4, if_neg (by omega)]), by rw [e1, if_pos rfl], by rw [e3, if_pos rfl], fun j hj => ?_⟩
  rw [e2, e4]
  by_cases z : j = kk
  · rw [if_pos (by rw [z]), if_pos (by rw [z])]
  · rw [if_neg (by omega), if_neg (by omega)]
    exact lo.2.1 j (by rw [lo.1]; omega)
/-- the house takes it or has it once more, the model notes it -/
theorem lk_take {nd w l kk : Nat} {e : Int} {M : vJ} (hL : vL Y) (hL' : vL Y') (h : IFs Y Y' X mm Nn Lp nm pr ht I I' th t A W N) (hl : l < 8) (hk : I 42 (I 2007 (40 * t + (A - 1))).toNat = kk) (hk2 : kk ≤ 10) (hM : I 2017 l = -1 ∧ M = tkT I' l t ∨ I 2017 l = t ∧ M = up (up I' 2212 l (I' 2212 l + 1)) 2215 l (I' 2215 l + 1))
    (hQ : ∀ JF JF', IL Y Y' X mm Nn Lp nm pr ht JF JF' th t A W N → fr [2041, 2042, 2043, 2017, 2018, 2019, 2020, 2024, 2026, 2012, 2013] [(1990, 3384)] I JF → JF 2012 (40 * t + (A - 1)) = (kk : Int) + 1 ∧ JF' 2204 (40 * t + (A - 1)) = (kk : Int) + 1 ∧ (∀ j : Nat, (j : Int) < (kk : Int) + 1 → JF 2013 ((40 * t + (A - 1)) * 12 + j) = JF' 2210 (12 * (40 * t + (A - 1)) + j)) → vW (d' + 9) 450 (222, [vr 2075, vi t, vi ((40 * t + (A - 1) : Nat) : Int), vi nd, vi w, vl e, vu, vi l], [], (JF', Y')) (fun r' => Q (.inl (some (vi 0)), (JF, Y)) r')) :
    vW (d + 7) 192 (38, [vr 1990, vi t, vi l], [], (I, Y)) (fun r => vW (d' + 9) 450 (203, [vr 2075, vi t, vi ((40 * t + (A - 1) : Nat) : Int), vi nd, vi w, vl e, vu, vi l], [], (M, Y')) (fun r' => Q r r')) := by
  have lo := (IFs_IL h).2
  unfold loA at lo
  rw [hk] at lo
  have hkk : I 2012 (40 * t + (A - 1)) = kk := by rw [lo.2.2, lo.1]
  have h0 := h
  obtain ⟨s1, s2, s3, s4, ⟨s5, s6, s7, s8, s9, s10, s11⟩, s12, ⟨⟨r1, r2, r3, r4⟩, ⟨r5, r6⟩, r7, r8, r9⟩⟩ := h
  have th8 := s2.1.1.2.2
  have a3 : 40 * t + (A - 1) < 320 := by omega
  have hRl := s2.2.2.1 l hl
  have thr := s2.1.1.1
  have G0 : fr [2211, 2212, 2213, 2214, 2215, 2219] [] I' M := by
    rcases hM with q | q
    · rw [q.2]; exact fr_upL (fr_upL (fr_upL (fr_upL (fr_upL (fr_refl _ _ _) rfl _ _) rfl _ _) rfl _ _) rfl _ _) rfl _ _
    · rw [q.2]; exact fr_upL (fr_upL (fr_refl _ _ _) rfl _ _) rfl _ _
  obtain ⟨N0, E, sr⟩ := s3.2.2.2.2.1
  have eN : N0 = N := by have := sr.1.1; omega
  subst eN
  have sr2 : sR I M N0 E := by
    unfold sR at sr ⊢
    rw [G0 2075 _ rfl, G0 2075 7798 rfl, fr_row G0 2231 (fun _ => rfl), fr_row G0 2232 (fun _ => rfl), fr_row G0 2233 (fun _ => rfl), fr_row G0 2235 (fun _ => rfl), fr_row G0 2236 (fun _ => rfl)]
    exact sr
  have eE : E < 50000 := by
    have a := sr.2.1.1
    have b := s4.2.1
    have c := sa_nn (I 1995) t th
    omega
  have w25 := hRl.2.2.2.2.2.2.2.2.1
  rw [b192_38 hL (by omega) (by omega), tn0]
  have m414 : ∀ K : vE → Prop, vW (d' + 9) 450 (203, [vr 2075, vi t, vi ((40 * t + (A - 1) : Nat) : Int), vi nd, vi w, vl e, vu, vi l], [], (M, Y')) K ↔ vW (d' + 8) 414 (0, [vr 2075, vi (I 2025 l)], [], (M, Y')) (vWC (d' + 9) 450 211 3 [vr 2075, vi t, vi ((40 * t + (A - 1) : Nat) : Int), vi nd, vi w, vl e, vu, vi l] [] K) := fun K => by
    rw [b450_203 hL' (by omega) (by omega), tn0, G0 2220 _ rfl, w25.1]
  simp only [m414]
  apply vW_out
  refine s_behind (d := d + 5) (d' := d' + 7) (N := N0) (E := E) hL hL' sr2 s9 ⟨w25.2.1, by have := w25.2.2; omega⟩ eE (fun K K' E' k1 k2 k3 k4 => ?_)
  simp only [vWC_n, Nat.reduceAdd]
  have K1 : fr [2041, 2042, 2043, 2017, 2018, 2019, 2020, 2024, 2026, 2012, 2013] [(1990, 3384)] I K := fr_weak k3 (by decide) (by decide)
  have K2 : fr [2235, 2236, 2211, 2212, 2213, 2214, 2215, 2219, 2204, 2210] [(2075, 7798)] I' K' := fr_trans (fr_weak G0 (by decide) (by decide)) (fr_weak k4 (by decide) (by decide))
  have kE : K 1990 3384 ≤ I 1990 3384 + 1 := by
    have a := k1.2.1.1
    have b := sr.2.1.1
    omega
  have z17 : K 2017 l = I 2017 l := k3 2017 _ rfl
  have m416 : ∀ KK : vE → Prop, vW (d' + 9) 450 (214, [vr 2075, vi t, vi ((40 * t + (A - 1) : Nat) : Int), vi nd, vi w, vl e, vu, vi l], [], (K', Y')) KK ↔ vW (d' + 9) 450 (222, [vr 2075, vi t, vi ((40 * t + (A - 1) : Nat) : Int), vi nd, vi w, vl e, vu, vi l], [], (up (up K' 2210 (12 * (40 * t + (A - 1)) + kk) l) 2204 (40 * t + (A - 1)) ((kk : Int) + 1), Y')) KK := fun KK => by
    have x04 : K' 2204 (40 * t + (A - 1)) = kk := by rw [k4 2204 _ rfl, G0 2204 _ rfl]; exact lo.1
    have ix : 12 * ((40 * t + (A - 1) : Nat) : Int) + (kk : Int) = ((12 * (40 * t + (A - 1)) + kk : Nat) : Int) := by omega
    rw [b450_214 hL', b416_0 hL' (by omega) (by omega) (by rw [tn0, x04]; omega) (by rw [tn0, x04]; omega)]
    simp only [vWC_n, Nat.reduceAdd, tn0, x04, ix]
  have hP' : fr [2235, 2236, 2211, 2212, 2213, 2214, 2215, 2219, 2204, 2210] [(2075, 7798)] I' (up (up K' 2210 (12 * (40 * t + (A - 1)) + kk) l) 2204 (40 * t + (A - 1)) ((kk : Int) + 1)) := fr_upL (fr_upL K2 rfl _ _) rfl _ _
  have q3 : ∀ x, up (up K' 2210 (12 * (40 * t + (A - 1)) + kk) l) 2204 (40 * t + (A - 1)) ((kk : Int) + 1) 2204 x = if x = 40 * t + (A - 1) then (kk : Int) + 1 else I' 2204 x := fun x => by
    rw [up_at, up_cell _ (by decide), k4 2204 _ rfl, G0 2204 _ rfl]
  have q4 : ∀ q, up (up K' 2210 (12 * (40 * t + (A - 1)) + kk) l) 2204 (40 * t + (A - 1)) ((kk : Int) + 1) 2210 q = if q = 12 * (40 * t + (A - 1)) + kk then (l : Int) else I' 2210 q := fun q => by
    rw [up_cell _ (by decide), up_at, k4 2210 _ rfl, G0 2210 _ rfl]
  have qr : ∀ c, c ≠ 2210 → c ≠ 2204 → c ≠ 2235 → c ≠ 2236 → c ≠ 2075 → up (up K' 2210 (12 * (40 * t + (A - 1)) + kk) l) 2204 (40 * t + (A - 1)) ((kk : Int) + 1) c = M c := fun c c1 c2 c3 c4 c5 => by
    rw [up_row _ c2, up_row _ c1]
    exact fr_row k4 c (fun f => frok_of (fun q hq => by simp only [List.mem_cons, List.not_mem_nil, or_false] at hq; omega) (fun q hq => by simp only [List.mem_singleton] at hq; subst hq; intro z; exact c5 z.1.symm))
  have qS : ∀ JF : vJ, fr [2017, 2018, 2019, 2020, 2024, 2026, 2012, 2013] [] K JF → sR JF (up (up K' 2210 (12 * (40 * t + (A - 1)) + kk) l) 2204 (40 * t + (A - 1)) ((kk : Int) + 1)) N0 E' := fun JF fj => by
    unfold sR at k1 ⊢
    rw [fj 1990 _ rfl, fj 1990 3384 rfl, fr_row fj 2041 (fun _ => rfl), fr_row fj 2042 (fun _ => rfl), fr_row fj 2043 (fun _ => rfl), fr_row fj 2044 (fun _ => rfl), fr_row fj 2045 (fun _ => rfl), fr_row fj 2046 (fun _ => rfl), up_row _ (show (2075 : Nat) ≠ 2204 by decide), up_row _ (show (2075 : Nat) ≠ 2210 by decide), up_row _ (show (2231 : Nat) ≠ 2204 by decide), up_row _ (show (2231 : Nat) ≠ 2210 by decide), up_row _ (show (2232 : Nat) ≠ 2204 by decide), up_row _ (show (2232 : Nat) ≠ 2210 by decide), up_row _ (show (2233 : Nat) ≠ 2204 by decide), up_row _ (show (2233 : Nat) ≠ 2210 by decide), up_row _ (show (2235 : Nat) ≠ 2204 by decide), up_row _ (show (2235 : Nat) ≠ 2210 by decide), up_row _ (show (2236 : Nat) ≠ 2204 by decide), up_row _ (show (2236 : Nat) ≠ 2210 by decide)]
    exact k1
  simp only [m416]
  generalize up (up K' 2210 (12 * (40 * t + (A - 1)) + kk) l) 2204 (40 * t + (A - 1)) ((kk : Int) + 1) = JF' at hP' q3 q4 qr qS ⊢
  have g17 := qr 2211 (by decide) (by decide) (by decide) (by decide) (by decide)
  have g18 := qr 2212 (by decide) (by decide) (by decide) (by decide) (by decide)
  have g24 := qr 2213 (by decide) (by decide) (by decide) (by decide) (by decide)
  have g19 := qr 2214 (by decide) (by decide) (by decide) (by decide) (by decide)
  have g20 := qr 2215 (by decide) (by decide) (by decide) (by decide) (by decide)
  have g21 := qr 2216 (by decide) (by decide) (by decide) (by decide) (by decide)
  have g22 := qr 2217 (by decide) (by decide) (by decide) (by decide) (by decide)
  have g23 := qr 2218 (by decide) (by decide) (by decide) (by decide) (by decide)
  have g26 := qr 2219 (by decide) (by decide) (by decide) (by decide) (by decide)
  have g25 := qr 2220 (by decide) (by decide) (by decide) (by decide) (by decide)
  rw [b192_48 hL (by omega) (by omega), tn0, z17]
  rcases hM with ⟨o1, hM⟩ | ⟨o1, hM⟩
  · rw [o1, if_neg (by decide), b192_58 hL, c_takes (ac := A - 1) (kk := kk) hL (by omega) (by omega) (by rw [k3 1995 _ rfl, r1]; omega) (by omega) (by rw [k3 2012 _ rfl]; exact hkk) (by omega)]
    simp only [vWC_n, Nat.reduceAdd, b192_64]
    have T0 : fr [2017, 2018, 2019, 2020, 2024, 2026, 2012, 2013] [] K (tkC K l t (40 * t + (A - 1)) kk) := fr_upL (fr_upL (fr_upL (fr_upL (fr_upL (fr_upL (fr_upL (fr_refl _ _ _) rfl _ _) rfl _ _) rfl _ _) rfl _ _) rfl _ _) rfl _ _) rfl _ _
    have t12 : ∀ x, tkC K l t (40 * t + (A - 1)) kk 2012 x = if x = 40 * t + (A - 1) then (kk : Int) + 1 else I 2012 x := fun x => by simp only [tkC, up_app, Nat.reduceEqDiff, false_and, and_false, true_and, and_true, if_true, if_false, Nat.add_left_cancel_iff, Nat.add_right_cancel_iff, Nat.add_eq_left, Nat.left_eq_add, fr_row k3 2012 (fun _ => rfl)]
    have t13 : ∀ x, tkC K l t (40 * t + (A - 1)) kk 2013 x = if x = (40 * t + (A - 1)) * 12 + kk then (l : Int) else I 2013 x := fun x => by simp only [tkC, up_app, Nat.reduceEqDiff, false_and, and_false, true_and, and_true, if_true, if_false, Nat.add_left_cancel_iff, Nat.add_right_cancel_iff, Nat.add_eq_left, Nat.left_eq_add, fr_row k3 2013 (fun _ => rfl)]
    have t17 : ∀ x, tkC K l t (40 * t + (A - 1)) kk 2017 x = if x = l then (t : Int) else I 2017 x := fun x => by simp only [tkC, up_app, Nat.reduceEqDiff, false_and, and_false, true_and, and_true, if_true, if_false, Nat.add_left_cancel_iff, Nat.add_right_cancel_iff, Nat.add_eq_left, Nat.left_eq_add, fr_row k3 2017 (fun _ => rfl)]
    have t18 : ∀ x, tkC K l t (40 * t + (A - 1)) kk 2018 x = if x = l then 1 else I 2018 x := fun x => by simp only [tkC, up_app, Nat.reduceEqDiff, false_and, and_false, true_and, and_true, if_true, if_false, Nat.add_left_cancel_iff, Nat.add_right_cancel_iff, Nat.add_eq_left, Nat.left_eq_add, fr_row k3 2018 (fun _ => rfl)]
    have t19 : ∀ x, tkC K l t (40 * t + (A - 1)) kk 2019 x = if x = l then I 2019 l + 1 else I 2019 x := fun x => by simp only [tkC, up_app, Nat.reduceEqDiff, false_and, and_false, true_and, and_true, if_true, if_false, Nat.add_left_cancel_iff, Nat.add_right_cancel_iff, Nat.add_eq_left, Nat.left_eq_add, fr_row k3 2019 (fun _ => rfl)]
    have t26 : ∀ x, tkC K l t (40 * t + (A - 1)) kk 2026 x = if x = l then b32 (· ||| ·) (I 2026 l) (b32 (fun x y => x <<< (y &&& 31)) 1 t) else I 2026 x := fun x => by simp only [tkC, up_app, Nat.reduceEqDiff, false_and, and_false, true_and, and_true, if_true, if_false, Nat.add_left_cancel_iff, Nat.add_right_cancel_iff, Nat.add_eq_left, Nat.left_eq_add, fr_row k3 2026 (fun _ => rfl)]
    have t24 : ∀ x, tkC K l t (40 * t + (A - 1)) kk 2024 x = if x = l then (N0 : Int) else I 2024 x := fun x => by simp only [tkC, up_app, Nat.reduceEqDiff, false_and, and_false, true_and, and_true, if_true, if_false, Nat.add_left_cancel_iff, Nat.add_right_cancel_iff, Nat.add_eq_left, Nat.left_eq_add, fr_row k3 2024 (fun _ => rfl), k3 1990 3388 rfl, s7]
    have t20 : ∀ x, tkC K l t (40 * t + (A - 1)) kk 2020 x = I 2020 x := fun x => by simp only [tkC, up_app, Nat.reduceEqDiff, false_and, and_false, true_and, and_true, if_true, if_false, Nat.add_left_cancel_iff, Nat.add_right_cancel_iff, Nat.add_eq_left, Nat.left_eq_add, fr_row k3 2020 (fun _ => rfl)]
    have T1 := fr_trans K1 (fr_weak T0 (by decide) (by decide))
    generalize tkC K l t (40 * t + (A - 1)) kk = JF at T0 T1 t12 t13 t17 t18 t19 t20 t26 t24 ⊢
    have hR : lR JF JF' := fun k hk8 => by
      have w := s2.2.2.1 k hk8
      obtain ⟨⟨w1, w2, w3⟩, ⟨w4, w5, w6⟩, w7, w8, w9, w10, w11, w12, w13, w14⟩ := w
      rw [t17, t18, t19, t20, t26, t24, T1 2021 _ rfl, T1 2022 _ rfl, T1 2023 _ rfl, T1 2025 _ rfl, T1 1990 3388 rfl, T1 1990 3390 rfl, g17, g18, g24, g19, g20, g21, g22, g23, g26, g25, hM]
      simp only [tkT, up_app, Nat.reduceEqDiff, false_and, and_false, true_and, and_true, if_true, if_false, Nat.add_left_cancel_iff, Nat.add_right_cancel_iff, Nat.add_eq_left, Nat.left_eq_add]
      by_cases z : k = l
      · subst z
        simp only [if_true]
        exact ⟨⟨trivial, by omega, by omega⟩, ⟨trivial, by decide, by decide⟩, by rw [w7], w8, w9, w10, w11, fun _ => s8.symm, w13, by rw [w14]⟩
      · simp only [z, if_false]
        exact ⟨⟨w1, w2, w3⟩, ⟨w4, w5, w6⟩, w7, w8, w9, w10, w11, w12, w13, w14⟩
    obtain ⟨n1, n2⟩ := lk_new (K := K) (K' := K') (M := M) (kk := kk) (l := l) h0 hl hk hk2 (qS JF T0) (by rw [T0 1990 _ rfl]; exact kE) T1 hP' t12 t13 q3 q4 hR (by rw [t17, if_pos rfl]) (Or.inl ⟨o1, by rw [t18, if_pos rfl]⟩) (fun k hk9 => ⟨by rw [t17, if_neg hk9], by rw [t18, if_neg hk9]⟩)
    exact hQ JF JF' n1 T1 n2
  · rw [o1, if_pos (by rw [w32_id (by omega) (by omega), w32_id (by decide) (by decide)]; omega), b192_66 hL (by omega) (by omega), tn0, c_keeps (ac := A - 1) (kk := kk) hL (by omega) (by rw [up_cell _ (by decide), up_cell _ (by decide), k3 1995 _ rfl, r1]; omega) (by omega) (by rw [up_cell _ (by decide), up_cell _ (by decide), k3 2012 _ rfl]; exact hkk) (by omega)]
    simp only [vWC_n, Nat.reduceAdd, b192_92]
    have T0 : fr [2017, 2018, 2019, 2020, 2024, 2026, 2012, 2013] [] K (up (up (up (up K 2018 l (K 2018 l + 1)) 2020 l (K 2020 l + 1)) 2013 ((40 * t + (A - 1)) * 12 + kk) l) 2012 (40 * t + (A - 1)) ((kk : Int) + 1)) := fr_upL (fr_upL (fr_upL (fr_upL (fr_refl _ _ _) rfl _ _) rfl _ _) rfl _ _) rfl _ _
    have t12 : ∀ x, up (up (up (up K 2018 l (K 2018 l + 1)) 2020 l (K 2020 l + 1)) 2013 ((40 * t + (A - 1)) * 12 + kk) l) 2012 (40 * t + (A - 1)) ((kk : Int) + 1) 2012 x = if x = 40 * t + (A - 1) then (kk : Int) + 1 else I 2012 x := fun x => by simp only [up_app, Nat.reduceEqDiff, false_and, and_false, true_and, and_true, if_true, if_false, Nat.add_left_cancel_iff, Nat.add_right_cancel_iff, Nat.add_eq_left, Nat.left_eq_add, fr_row k3 2012 (fun _ => rfl)]
    have t13 : ∀ x, up (up (up (up K 2018 l (K 2018 l + 1)) 2020 l (K 2020 l + 1)) 2013 ((40 * t + (A - 1)) * 12 + kk) l) 2012 (40 * t + (A - 1)) ((kk : Int) + 1) 2013 x = if x = (40 * t + (A - 1)) * 12 + kk then (l : Int) else I 2013 x := fun x => by simp only [up_app, Nat.reduceEqDiff, false_and, and_false, true_and, and_true, if_true, if_false, Nat.add_left_cancel_iff, Nat.add_right_cancel_iff, Nat.add_eq_left, Nat.left_eq_add, fr_row k3 2013 (fun _ => rfl)]
    have t18 : ∀ x, up (up (up (up K 2018 l (K 2018 l + 1)) 2020 l (K 2020 l + 1)) 2013 ((40 * t + (A - 1)) * 12 + kk) l) 2012 (40 * t + (A - 1)) ((kk : Int) + 1) 2018 x = if x = l then I 2018 l + 1 else I 2018 x := fun x => by simp only [up_app, Nat.reduceEqDiff, false_and, and_false, true_and, and_true, if_true, if_false, Nat.add_left_cancel_iff, Nat.add_right_cancel_iff, Nat.add_eq_left, Nat.left_eq_add, fr_row k3 2018 (fun _ => rfl)]
    have t20 : ∀ x, up (up (up (up K 2018 l (K 2018 l + 1)) 2020 l (K 2020 l + 1)) 2013 ((40 * t + (A - 1)) * 12 + kk) l) 2012 (40 * t + (A - 1)) ((kk : Int) + 1) 2020 x = if x = l then I 2020 l + 1 else I 2020 x := fun x => by simp only [up_app, Nat.reduceEqDiff, false_and, and_false, true_and, and_true, if_true, if_false, Nat.add_left_cancel_iff, Nat.add_right_cancel_iff, Nat.add_eq_left, Nat.left_eq_add, fr_row k3 2020 (fun _ => rfl)]
    have t17 : ∀ x, up (up (up (up K 2018 l (K 2018 l + 1)) 2020 l (K 2020 l + 1)) 2013 ((40 * t + (A - 1)) * 12 + kk) l) 2012 (40 * t + (A - 1)) ((kk : Int) + 1) 2017 x = I 2017 x := fun x => by simp only [up_app, Nat.reduceEqDiff, false_and, and_false, true_and, and_true, if_true, if_false, Nat.add_left_cancel_iff, Nat.add_right_cancel_iff, Nat.add_eq_left, Nat.left_eq_add, fr_row k3 2017 (fun _ => rfl)]
    have t19 : ∀ x, up (up (up (up K 2018 l (K 2018 l + 1)) 2020 l (K 2020 l + 1)) 2013 ((40 * t + (A - 1)) * 12 + kk) l) 2012 (40 * t + (A - 1)) ((kk : Int) + 1) 2019 x = I 2019 x := fun x => by simp only [up_app, Nat.reduceEqDiff, false_and, and_false, true_and, and_true, if_true, if_false, Nat.add_left_cancel_iff, Nat.add_right_cancel_iff, Nat.add_eq_left, Nat.left_eq_add, fr_row k3 2019 (fun _ => rfl)]
    have t26 : ∀ x, up (up (up (up K 2018 l (K 2018 l + 1)) 2020 l (K 2020 l + 1)) 2013 ((40 * t + (A - 1)) * 12 + kk) l) 2012 (40 * t + (A - 1)) ((kk : Int) + 1) 2026 x = I 2026 x := fun x => by simp only [up_app, Nat.reduceEqDiff, false_and, and_false, true_and, and_true, if_true, if_false, Nat.add_left_cancel_iff, Nat.add_right_cancel_iff, Nat.add_eq_left, Nat.left_eq_add, fr_row k3 2026 (fun _ => rfl)]
    have t24 : ∀ x, up (up (up (up K 2018 l (K 2018 l + 1)) 2020 l (K 2020 l + 1)) 2013 ((40 * t + (A - 1)) * 12 + kk) l) 2012 (40 * t + (A - 1)) ((kk : Int) + 1) 2024 x = I 2024 x := fun x => by simp only [up_app, Nat.reduceEqDiff, false_and, and_false, true_and, and_true, if_true, if_false, Nat.add_left_cancel_iff, Nat.add_right_cancel_iff, Nat.add_eq_left, Nat.left_eq_add, fr_row k3 2024 (fun _ => rfl)]
    have T1 := fr_trans K1 (fr_weak T0 (by decide) (by decide))
    generalize up (up (up (up K 2018 l (K 2018 l + 1)) 2020 l (K 2020 l + 1)) 2013 ((40 * t + (A - 1)) * 12 + kk) l) 2012 (40 * t + (A - 1)) ((kk : Int) + 1) = JF at T0 T1 t12 t13 t17 t18 t19 t20 t26 t24 ⊢
    have lk := s2.2.2.2 t s5
    have b18 : I 2018 l < 999999 := by
      obtain ⟨B, ⟨b1, _, b3⟩, b4, _, _⟩ := lk
      have c := (b4.2 l hl).1 o1
      have eB : B = A := by omega
      subst eB
      have e8 : (if (l : Int) = (if t = 8 then (-1 : Int) else -1) then (1 : Int) else 0) = 0 := by
        rw [ite_self, if_neg (by omega)]
      rw [e8] at c
      have bd : ∀ (k : Nat), k ≤ B → ca (I 2013) (I 2012) l t k ≤ 12 * k := by
        intro k
        induction k with
        | zero => intro _; exact Int.le_refl _
        | succ k ih =>
          intro hk9
          have a := ih (by omega)
          have q := (b4.1 k (by omega)).1
          have cn := (cj_nn (I 2013) l ((40 * t + k) * 12) (I 2012 (40 * t + k)).toNat).2
          show ca (I 2013) (I 2012) l t k + cj (I 2013) l ((40 * t + k) * 12) (I 2012 (40 * t + k)).toNat ≤ _
          omega
      have := bd B (Nat.le_refl _)
      omega
    have hR : lR JF JF' := fun k hk8 => by
      have w := s2.2.2.1 k hk8
      obtain ⟨⟨w1, w2, w3⟩, ⟨w4, w5, w6⟩, w7, w8, w9, w10, w11, w12, w13, w14⟩ := w
      rw [t17, t18, t19, t20, t26, t24, T1 2021 _ rfl, T1 2022 _ rfl, T1 2023 _ rfl, T1 2025 _ rfl, T1 1990 3388 rfl, T1 1990 3390 rfl, g17, g18, g24, g19, g20, g21, g22, g23, g26, g25, hM]
      simp only [up_app, Nat.reduceEqDiff, false_and, and_false, true_and, and_true, if_true, if_false, Nat.add_left_cancel_iff, Nat.add_right_cancel_iff, Nat.add_eq_left, Nat.left_eq_add]
      by_cases z : k = l
      · subst z
        simp only [if_true]
        exact ⟨⟨w1, w2, w3⟩, ⟨by rw [w4], by omega, by omega⟩, w7, by rw [w8], w9, w10, w11, w12, w13, w14⟩
      · simp only [z, if_false]
        exact ⟨⟨w1, w2, w3⟩, ⟨w4, w5, w6⟩, w7, w8, w9, w10, w11, w12, w13, w14⟩
    obtain ⟨n1, n2⟩ := lk_new (K := K) (K' := K') (M := M) (kk := kk) (l := l) h0 hl hk hk2 (qS JF T0) (by rw [T0 1990 _ rfl]; exact kE) T1 hP' t12 t13 q3 q4 hR (by rw [t17]; exact o1) (Or.inr ⟨o1, by rw [t18, if_pos rfl]⟩) (fun k hk9 => ⟨t17 k, by rw [t18, if_neg hk9]⟩)
    exact hQ JF JF' n1 T1 n2
end
