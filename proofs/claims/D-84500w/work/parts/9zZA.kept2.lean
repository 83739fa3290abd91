/-! ===== kept as a pair of the law; pairs that answer a long ===== -/
set_option maxRecDepth 20000
set_option maxHeartbeats 4000000
theorem o_joinL {R : Nat → vJ → vJ → vY → Prop} {k z z' : Nat} {la la' : List vV} (h1 : sL cT la) (h2 : ∀ Y : vY, sepY Y → sL (cH Y) la') (hS : ∀ I I' Y, R k I I' Y → sepY Y)
    (hR1 : ∀ I I' J' Y, R k I I' Y → (∀ c, cT c → J' c = I' c) → R k I J' Y)
    (hR2 : ∀ I I' J Y, R (k + 1) I I' Y → (∀ c, cH Y c ∨ c < 18 → J c = I c) → R (k + 1) J I' Y)
    (hp : ∀ I I' Y, R k I I' Y → vW 2000 z (0, la, [], (I, Y)) (fun r => vW 2000 z' (0, la', [], (I', Y)) (fun r' => ∃ v v' J J', r = (.inl (some (vl v)), (J, Y)) ∧ r' = (.inl (some (vl v')), (J', Y)) ∧ w64 v = w64 v' ∧ R (k + 1) J J' Y))) :
    oL (fun I Y => R k I I Y) (fun I Y => R (k + 1) I I Y) z z' la la' := by
  intro I Y h
  have sp := hS I I Y h
  obtain ⟨r, hr, r', hr', v, v', J, J', e1, e2, e3, e4⟩ := hp I I Y h
  subst e1
  have kj : ∀ c, cT c → J c = I c := fun c hc => funext fun f => ((vR_keep (M := (I, Y)) (sep_T sp) h1 hr).2.1 c hc).1 f
  obtain ⟨r2, hr2, r2', hr2', v2, v2', J2, J2', e5, e6, e7, e8⟩ := hp I J Y (hR1 I I J Y h kj)
  subst e5
  have d := vR_det hr2 hr
  have dJ : J2 = J := congrArg (fun q : vE => q.2.1) d
  have dv : v2 = v := by
    have w : (Sum.inl (some (vl v2)) : Option vV ⊕ Nat) = Sum.inl (some (vl v)) := congrArg Prod.fst d
    exact Sum.inl.inj (Sum.inr.inj (Option.some.inj (Sum.inl.inj w)))
  subst dJ
  subst dv
  subst e6
  have kh : ∀ c, cH Y c ∨ c < 18 → J2' c = J2 c := fun c hc => funext fun f => by
    rcases hc with hc | hc
    · exact ((vR_keep (M := (J2, Y)) (sep_H sp) (h2 Y sp) hr2').2.1 c hc).1 f
    · exact ((vR_low (F := (0, la', [], (J2, Y))) (show 18 ≤ Y.2.2.2.1 by have := sp.1; omega) hr2').1 c (by unfold tL; exact hc)).1 f
  exact ⟨_, hr, v2, J2, Y, rfl, _, hr2', v2', J2', Y, rfl, e7, hR2 J2 J2' J2' Y e8 kh⟩
section
variable {L : Nat} {x : Nat → Int} {SX : vJ → vJ → vY → Nat → Nat → Nat → Prop} {k : Nat}
theorem o_askL {z z' : Nat} {la la' : List vV} (hX : sxK SX) (h1 : sL cT la) (h2 : ∀ Y : vY, sepY Y → sL (cH Y) la')
    (hp : ∀ I I' Y, LW L x SX k I I' Y → ∃ v, AnL 2000 z la I Y v ∧ AnL 2000 z' la' I' Y v) :
    oL (fun I Y => LW L x SX k I I Y) (fun I Y => LW L x SX (k + 1) I I Y) z z' la la' :=
  o_joinL (R := LW L x SX) h1 h2 (fun I I' Y h => h.1.2.1) (fun I I' J' Y h g => LW_cong hX h (fun _ _ => rfl) g) (fun I I' J Y h g => LW_cong hX h g (fun _ _ => rfl)) (fun I I' Y h => by
    obtain ⟨v, a1, a2⟩ := hp I I' Y h
    exact (a1 _).mpr ((a2 _).mpr ⟨v, v, I, I', rfl, rfl, rfl, LW_up h⟩))
end
section
variable {d d' : Nat} {Y : vY} {I I' : vJ}
theorem q_kept {x1 x2 x3 : Int} (h1 : inI x1) (h2 : inI x2) (h3 : inI x3) (hL : vL Y) (hK : pKeep I I') : ∃ v, AnL (d + 1) 40 [vr 18, vi x1, vi x2, vi x3, vu, vu] I Y v ∧ AnL (d' + 1) 475 [vr 2075, vi x1, vi x2, vi x3, vu, vu, vu, vu, vu] I' Y v := by
  have i3 : inI 3 := by unfold inI; omega
  by_cases z : 0 ≤ x1 ∧ x1 ≤ 3
  · obtain ⟨k, hk⟩ : ∃ k : Nat, x1 = k := ⟨x1.toNat, by omega⟩
    subst hk
    have k4 : k < 4 := by omega
    have kr : kR I I' (2048 + 3 * k) k := by
      have k5 : k = 0 ∨ k = 1 ∨ k = 2 ∨ k = 3 := by omega
      unfold pKeep at hK
      rcases k5 with e | e | e | e
      · subst e; exact hK.1
      · subst e; exact hK.2.1
      · subst e; exact hK.2.2.1
      · subst e; exact hK.2.2.2
    clear hK
    obtain ⟨y1, va⟩ := vreg_k hL k4
    have yk : Y.1 1991 ((k : Int)).toNat = 2048 + 3 * k := by rw [tn0]; exact y1
    have u1 : (0 : Int) ≤ (k : Int) := by omega
    have u2 : (k : Int) < 4 := by omega
    have hH : ∀ P : vE → Prop, vW (d + 1) 40 (0, [vr 18, vi (k : Int), vi x2, vi x3, vu, vu], [], (I, Y)) P ↔ vW (d + 1) 40 (22, [vr 18, vi (k : Int), vi x2, vi x3, vr (2048 + 3 * k), vu], [], (I, Y)) P := fun P => by
      rw [b40_0, c_in h1 in0 i3, if_pos z]
      simp only [vWC_s, Nat.reduceAdd]
      rw [b40_6, if_pos (by decide), b40_11 hL u1 u2, yk]
    have hT : ∀ P : vE → Prop, vW (d' + 1) 475 (0, [vr 2075, vi (k : Int), vi x2, vi x3, vu, vu, vu, vu, vu], [], (I', Y)) P ↔ vW (d' + 1) 475 (11, [vr 2075, vi (k : Int), vi x2, vi x3, vu, vu, vu, vu, vu], [], (I', Y)) P := fun P => by
      rw [b475_0, t_in h1 in0 i3, if_pos z]
      simp only [vWC_s, Nat.reduceAdd]
      rw [b475_6, if_pos (by decide)]
    generalize 2048 + 3 * k = a at *
    obtain ⟨⟨r1, r2, r3⟩, kA1, r4, r5, ⟨r6, r7⟩, ⟨r8, r9⟩, r10, _⟩ := kr
    have h3b := h3
    unfold inI at h3b
    have w3 : w32 x3 = x3 := w32_id h3b.1 h3b.2
    by_cases y : x2 = -1
    · subst y
      by_cases c0 : x3 = 0
      · subst c0
        exact ⟨w32 (I a 3588), fun P => by rw [hH, b40_22, if_neg (by decide), b40_27, if_pos (by decide), b40_64 va], fun P => by rw [hT, b475_11, if_neg (by decide), b475_16, if_pos (by decide), b475_56 hL u1 u2, tn0, r4]⟩
      by_cases c1 : x3 = 1
      · subst c1
        exact ⟨w32 (I a 3589), fun P => by rw [hH, b40_22, if_neg (by decide), b40_27, if_neg (by decide), if_pos (by decide), b40_71 va], fun P => by rw [hT, b475_11, if_neg (by decide), b475_16, if_neg (by decide), if_pos (by decide), b475_64 hL u1 u2, tn0, r5]⟩
      by_cases c2 : x3 = 2
      · subst c2
        exact ⟨w32 (I a 3587), fun P => by rw [hH, b40_22, if_neg (by decide), b40_27, if_neg (by decide), if_neg (by decide), if_pos (by decide), b40_78 va], fun P => by rw [hT, b475_11, if_neg (by decide), b475_16, if_neg (by decide), if_neg (by decide), if_pos (by decide), b475_72 hL u1 u2, tn0, r1]⟩
      by_cases c3 : x3 = 3
      · subst c3
        exact ⟨I a 3590, fun P => by rw [hH, b40_22, if_neg (by decide), b40_27, if_neg (by decide), if_neg (by decide), if_neg (by decide), if_pos (by decide), b40_85 va, w32_id r7.1 r7.2], fun P => by rw [hT, b475_11, if_neg (by decide), b475_16, if_neg (by decide), if_neg (by decide), if_neg (by decide), if_pos (by decide), b475_80 hL u1 u2, tn0, r6]⟩
      by_cases c4 : x3 = 4
      · subst c4
        exact ⟨I a 3591, fun P => by rw [hH, b40_22, if_neg (by decide), b40_27, if_neg (by decide), if_neg (by decide), if_neg (by decide), if_neg (by decide), if_pos (by decide), b40_92 va, w32_id r9.1 r9.2], fun P => by rw [hT, b475_11, if_neg (by decide), b475_16, if_neg (by decide), if_neg (by decide), if_neg (by decide), if_neg (by decide), if_pos (by decide), b475_87 hL u1 u2, tn0, r8]⟩
      by_cases c5 : x3 = 5
      · subst c5
        exact ⟨I a 3592, fun P => by rw [hH, b40_22, if_neg (by decide), b40_27, if_neg (by decide), if_neg (by decide), if_neg (by decide), if_neg (by decide), if_neg (by decide), b40_99, if_neg (by decide), b40_104 va, b40_113], fun P => by rw [hT, b475_11, if_neg (by decide), b475_16, if_neg (by decide), if_neg (by decide), if_neg (by decide), if_neg (by decide), if_neg (by decide), if_pos (by decide), b475_94 hL u1 u2, tn0, r10]⟩
      exact ⟨0, fun P => by rw [hH, b40_22, if_neg (by decide), b40_27, w3, if_neg c0, if_neg c1, if_neg c2, if_neg c3, if_neg c4, b40_99, w3, if_pos (show x3 ≠ w32 5 from c5), b40_112, b40_113], fun P => by rw [hT, b475_11, if_neg (by decide), b475_16, w3, if_neg c0, if_neg c1, if_neg c2, if_neg c3, if_neg c4, if_neg c5, b475_101]⟩
    · have h2b := h2
      unfold inI at h2b
      have w2 : w32 x2 = x2 := w32_id h2b.1 h2b.2
      obtain ⟨n, hn⟩ : ∃ n : Nat, I a 3587 = n := ⟨(I a 3587).toNat, by omega⟩
      have n8 : n ≤ 8 := by omega
      have hn' : I' 2269 k = n := by rw [← r1]; exact hn
      have hp : ∀ j, j < 8 → w32 (I (a + 2) j) = (fun j => w32 (I (a + 2) j)) j := fun _ _ => rfl
      have hq : ∀ j, j < 8 → w32 (I (a + 1) j) = (fun j => I (a + 1) j) j := fun j hj => w32_id (kA1 j hj).2.2.1 (kA1 j hj).2.2.2
      have hp' : ∀ j, j < 8 → w32 (I' 2276 (8 * k + j)) = (fun j => w32 (I (a + 2) j)) j := fun j hj => by rw [← (kA1 j hj).2.1]
      have hq2 : ∀ j, j < 8 → I' 2272 (8 * k + j) = (fun j => I (a + 1) j) j := fun j hj => (kA1 j hj).1.symm
      have hq' : ∀ j, j < 8 → w64 (I' 2272 (8 * k + j)) = (fun j => I (a + 1) j) j := fun j hj => by
        have b := (kA1 j hj).2.2
        unfold inI at b
        rw [← (kA1 j hj).1]
        exact w64_id (by omega) (by omega)
      have F := fun P => c_findr (d := d) (P := P) h2 va hn n8 hp hq
      have T := fun (c : x3 = 0 ∨ x3 = 1) P => t_findr (d' := d' + 1) (P := P) hL h2 c k4 hn' n8 hp' hq' hq2 n 0 vu vu vu vu (by omega)
      clear hp' hq' hq2
      have hH2 : ∀ P : vE → Prop, vW (d + 1) 40 (0, [vr 18, vi (k : Int), vi x2, vi x3, vu, vu], [], (I, Y)) P ↔ vW (d + 1) 40 (122, [vr 18, vi (k : Int), vi x2, vi x3, vr a, vi (fdR (fun i => rk (fun j => w32 (I (a + 2) j)) (fun j => I (a + 1) j) i n) x2 n 0)], [], (I, Y)) P := fun P => by
        rw [hH, b40_22, w2, if_pos (show x2 ≠ w32 (-1) from y), b40_114 va, F]
        simp only [vWC_s, Nat.reduceAdd]
        rw [b40_120]
      have hT2 : ∀ P : vE → Prop, vW (d' + 1) 475 (0, [vr 2075, vi (k : Int), vi x2, vi x3, vu, vu, vu, vu, vu], [], (I', Y)) P ↔ if (0 ≤ x2 ∧ x2 ≤ (n : Int) - 1) ∧ (0 ≤ x3 ∧ x3 ≤ 1) then vW (d' + 1) 475 (133, [vr 2075, vi (k : Int), vi x2, vi x3, vi 0, vu, vu, vu, vu], [], (I', Y)) P else P (.inl (some (vl 0)), (I', Y)) := fun P => by
        rw [hT, b475_11, w2, if_pos (show x2 ≠ w32 (-1) from y), b475_103 hL u1 u2, tn0, hn', t_in h2 in0 (by unfold inI; omega)]
        simp only [vWC_s, Nat.reduceAdd]
        rw [b475_116]
        by_cases v : 0 ≤ x2 ∧ x2 ≤ (n : Int) - 1
        · rw [if_pos v, if_neg (by decide), b475_119, t_in h3 in0 in1]
          simp only [vWC_s, Nat.reduceAdd]
          rw [b475_125]
          by_cases u : 0 ≤ x3 ∧ x3 ≤ 1
          · rw [if_pos u, if_pos (by decide), b475_130, if_pos ⟨v, u⟩]
          · rw [if_neg u, if_neg (by decide), b475_128, if_neg (fun w => u w.2)]
        · rw [if_neg v, if_pos (by decide), b475_128, if_neg (fun w => v w.1)]
      have fo : ¬ (0 ≤ x2 ∧ x2 ≤ (n : Int) - 1) → fdR (fun i => rk (fun j => w32 (I (a + 2) j)) (fun j => I (a + 1) j) i n) x2 n 0 = -1 := fun v => fdR_out n 0 (fun j _ jn e => by
        have b := rk_bd (fun j => w32 (I (a + 2) j)) (fun j => I (a + 1) j) j n
        have b3 := b.2.2 (by omega)
        have e2 : rk (fun j => w32 (I (a + 2) j)) (fun j => I (a + 1) j) j n = x2 := e
        omega)
      have fi := fdR_is (fun i => rk (fun j => w32 (I (a + 2) j)) (fun j => I (a + 1) j) i n) x2 n 0
      generalize fdR (fun i => rk (fun j => w32 (I (a + 2) j)) (fun j => I (a + 1) j) i n) x2 n 0 = f at *
      clear w2 F hH hT
      rcases fi with e | ⟨j, _, jn, e⟩
      · subst e
        refine ⟨0, fun P => by rw [hH2, b40_122, if_neg (by decide), b40_128, b40_166], fun P => ?_⟩
        rw [hT2]
        by_cases u : (0 ≤ x2 ∧ x2 ≤ (n : Int) - 1) ∧ (0 ≤ x3 ∧ x3 ≤ 1)
        · rw [if_pos u]
          refine Iff.trans (T (by omega) P) ?_
          rw [if_pos rfl]
        · rw [if_neg u]
      · subst e
        have v : 0 ≤ x2 ∧ x2 ≤ (n : Int) - 1 := by
          by_cases v : 0 ≤ x2 ∧ x2 ≤ (n : Int) - 1
          · exact v
          · exact absurd (fo v) (by omega)
        have jw : w32 (j : Int) ≠ w32 (-1) := by
          rw [w32_id (by omega) (by omega)]
          exact fun q => absurd (show (j : Int) = -1 from q) (by omega)
        by_cases c0 : x3 = 0
        · subst c0
          refine ⟨I (a + 1) j, fun P => by rw [hH2, b40_122, if_pos jw, b40_132, if_neg (by decide), b40_136 va (by omega) (by omega), tn0, b40_166, hq j (by omega)], fun P => ?_⟩
          rw [hT2, if_pos ⟨v, by omega⟩]
          refine Iff.trans (T (Or.inl rfl) P) ?_
          rw [if_neg (by omega), if_pos rfl, tn0]
        · by_cases c1 : x3 = 1
          · subst c1
            refine ⟨w32 (I (a + 2) j), fun P => by rw [hH2, b40_122, if_pos jw, b40_132, if_pos (by decide), b40_148, if_neg (by decide), b40_153 va (by omega) (by omega), tn0, b40_166], fun P => ?_⟩
            rw [hT2, if_pos ⟨v, by omega⟩]
            refine Iff.trans (T (Or.inr rfl) P) ?_
            rw [if_neg (by omega), if_neg (by decide), tn0]
          · exact ⟨0, fun P => by rw [hH2, b40_122, if_pos jw, b40_132, w3, if_pos c0, b40_148, w3, if_pos (show x3 ≠ w32 1 from c1), b40_165, b40_166], fun P => by rw [hT2, if_neg (fun w => by omega)]⟩
  · refine ⟨0, fun P => ?_, fun P => ?_⟩
    · rw [b40_0, c_in h1 in0 i3, if_neg z]
      simp only [vWC_s, Nat.reduceAdd]
      rw [b40_6, if_neg (by decide), b40_9]
    · rw [b475_0, t_in h1 in0 i3, if_neg z]
      simp only [vWC_s, Nat.reduceAdd]
      rw [b475_6, if_neg (by decide), b475_9]
end
section
variable {L : Nat} {x : Nat → Int} {SX : vJ → vJ → vY → Nat → Nat → Nat → Prop}
theorem d_kept (hX : sxK SX) : oD29 (fun k I Y => LW L x SX k I I Y) := fun k _ a1 a2 a3 ha1 ha2 ha3 => o_askL hX (sL_c sG_18 (sL_c (sG_i _) (sL_c (sG_i _) (sL_c (sG_i _) (sL_c sG_u (sL_c sG_u (sL_nil _))))))) (fun Y _ => (sL_c sG_m (sL_c (sG_i _) (sL_c (sG_i _) (sL_c (sG_i _) (sL_c sG_u (sL_c sG_u (sL_c sG_u (sL_c sG_u (sL_c sG_u (sL_nil _)))))))))) ) (fun I I' Y h => by
  obtain ⟨⟨v1, _⟩, _, _, _, mm, X, Nn, Lp, C, nm, pr, ht, m1, m2, _, _, m5⟩ := h
  refine q_kept (d := 1999) (d' := 1999) ha1 ha2 ha3 v1 ?_
  rcases m5 with ⟨_, _, r3, _⟩ | ⟨_, _, th, W, N, r3, _⟩
  · exact r3.2.2.2.2.2.1
  · exact (RS_open r3).2.2.1.2.2.2.2.2.1)
end
