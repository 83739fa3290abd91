/-! ===== the model chooses the next turn: the relation ahead of the house's choice ===== -/
set_option maxRecDepth 20000
set_option maxHeartbeats 4000000
def RM (Y Y' : vY) (X mm Nn Lp : Nat) (nm pr ht : Nat → Nat) (I I' : vJ) (th W N : Nat) : Prop := ∃ (s : Int) (tau t : Nat), AS Y Y' X mm Nn Lp nm pr ht (up (up I 1990 3394 s) 1990 3389 (tau : Int)) (up I' 2075 7728 1) th W N ∧ I' 2075 7728 = stv (I 1996) th N ∧ (t < th ∧ I 1990 3389 = t) ∧ ((0 ≤ I 1990 3394 ∧ I 1990 3394 < 2147483648) ∧ inI (I 1990 3395)) ∧ (I' 2075 7728 = 1 → nxT (I 1996) th t (I 1990 3395 ≠ 0) (I 1990 3394) tau s)
theorem m_turn {d' : Nat} {Y Y' : vY} {X mm Nn Lp : Nat} {nm pr ht : Nat → Nat} {I I' : vJ} {th W N : Nat} {Q : vE → Prop} (hL' : vL Y') (h : AS Y Y' X mm Nn Lp nm pr ht I I' th W N)
    (hQ : ∀ J' : vJ, RM Y Y' X mm Nn Lp nm pr ht I J' th W N → Q (.inl none, (J', Y'))) : vW (d' + 1) 409 (0, [vr 2075, vi 1, vu, vu, vu, vu], [], (I', Y')) Q := by
  have h0 := h
  obtain ⟨s1, s2, s3, s4, ⟨⟨s5, s6, s7⟩, s8, s9, s10⟩, s11⟩ := h
  obtain ⟨⟨e1, e2, e3⟩, fi, ⟨t1, t2, t3⟩, st1⟩ := s3.2.2.2.2.2.2.2.2.2.2.2.2.2.2.2.2.2.2.1
  clear s3 s4 s11 s1
  obtain ⟨th1, th2, th8⟩ := s2.1.1
  obtain ⟨t, ht⟩ : ∃ t : Nat, I 1990 3389 = t := ⟨(I 1990 3389).toNat, by omega⟩
  have tth : t < th := by omega
  have sq : ∀ u, u < th → I' 2187 u = I 1996 u ∧ 0 ≤ I 1996 u ∧ I 1996 u ≤ 4 := fun u hu => ⟨(s2.1.2 u hu).1.1.symm, (s2.1.2 u hu).1.2⟩
  clear s2
  have hst : ∀ u, u < th → 0 ≤ I' 2187 u ∧ I' 2187 u ≤ 4 := fun u hu => by rw [(sq u hu).1]; exact (sq u hu).2
  have cge : ∀ n, n ≤ th → cg (I' 2187) n = cg (I 1996) n := fun n hn => cg_congr (fun u hu => (sq u (by omega)).1)
  have cee : ce (I' 2187) th = ce (I 1996) th := ce_congr (fun u hu => (sq u hu).1)
  have tf : I' 2075 7827 = 0 ∨ I' 2075 7827 = 1 := by
    rcases fi with q | q
    · exact Or.inl q.2
    · exact Or.inr q.2.2
  have tnn : I' 2075 7827 ≠ 0 ↔ I 1990 3395 ≠ 0 := by
    rcases fi with q | q
    · rw [q.1, q.2]
    · exact ⟨fun _ => q.2.1, fun _ => by rw [q.2.2]; decide⟩
  have fin : inI (I 1990 3395) := by
    rcases fi with q | q
    · rw [q.1]; unfold inI; omega
    · exact q.1
  have htt : I' 2075 7730 = t := by rw [← t1]; exact ht
  have sb : 0 ≤ I' 2075 7740 ∧ I' 2075 7740 < 2147483648 := by rw [← e1]; exact ⟨e2, e3⟩
  have stid : ∀ (M : vJ) (x : Int), M 2075 7728 = 1 → up (up M 2075 7728 x) 2075 7728 1 = M := fun M x hM => by
    rw [up_up, ← hM]; exact up_self _ _ _
  by_cases hx : ce (I' 2187) th = th ∨ cg (I' 2187) th = 0
  · rw [t_over hL' th2 th8 hst tf hx]
    obtain ⟨s, hs, hM⟩ : ∃ s : Int, (0 ≤ s ∧ s < 2147483648) ∧ (if I' 2075 7827 = 0 then I' else up I' 2075 7740 (sdn (I' 2075 7740))) = up (up I' 2075 7740 s) 2075 7730 (t : Int) := by
      by_cases z : I' 2075 7827 = 0
      · refine ⟨I' 2075 7740, sb, ?_⟩
        rw [if_pos z, up_self, ← htt, up_self]
      · refine ⟨sdn (I' 2075 7740), sdn_ok sb.1 sb.2, ?_⟩
        rw [if_neg z]
        have e : up I' 2075 7740 (sdn (I' 2075 7740)) 2075 7730 = t := by rw [up_place _ _ (by decide)]; exact htt
        rw [← e, up_self]
    rw [hM]
    have A1 := AS_turn (s := s) h0 hs tth
    have M1 : up (up I' 2075 7740 s) 2075 7730 (t : Int) 2075 7728 = 1 := by rw [up_place _ _ (by decide), up_place _ _ (by decide)]; exact st1
    generalize up (up I' 2075 7740 s) 2075 7730 (t : Int) = M at A1 M1 ⊢
    have sv : stv (I 1996) th N = if ce (I' 2187) th = th then 2 else 3 := by
      unfold stv
      by_cases z : ce (I' 2187) th = th
      · rw [if_pos z, if_pos ((all_ce _ _).mpr (by rw [← cee]; exact z))]
      · have g0 := hx.resolve_left z
        rw [if_neg z, if_neg (fun q => z (by rw [cee]; exact (all_ce _ _).mp q)), if_neg (fun q => by
          have := (any_cg _ _).mp q
          rw [cge th (Nat.le_refl _)] at g0
          omega)]
    refine hQ _ ⟨s, t, t, by rw [stid _ _ M1]; exact A1, by rw [up_same, sv], ⟨tth, ht⟩, ⟨⟨e2, e3⟩, fin⟩, fun q => ?_⟩
    rw [up_same] at q
    by_cases z : ce (I' 2187) th = th
    · rw [if_pos z] at q; exact absurd q (by decide)
    · rw [if_neg z] at q; exact absurd q (by decide)
  · have hce : ce (I' 2187) th ≠ th := fun q => hx (Or.inl q)
    have hcg : 0 < cg (I' 2187) th := Nat.pos_of_ne_zero (fun q => hx (Or.inr q))
    obtain ⟨tau, s, nx⟩ := nxT_is (st := I' 2187) (th := th) (t := t) (tn := I' 2075 7827 ≠ 0) (seed := I' 2075 7740) hcg tth (Classical.em _)
    rw [t_turns hL' th2 th8 hst tth htt sb tf s9 s10 hce nx]
    have hs : 0 ≤ s ∧ s < 2147483648 := by
      rcases nx.2.2 with q | q
      · rw [q.2.1]; exact sb
      · rw [q.2.1]; exact sdn_ok sb.1 sb.2
    have nx2 : nxT (I 1996) th t (I 1990 3395 ≠ 0) (I 1990 3394) tau s := by
      obtain ⟨y1, y2, y3⟩ := nx
      rw [(sq tau y1).1] at y2
      rw [(sq t tth).1, cge tau (by omega), cge th (Nat.le_refl _), ← e1] at y3
      exact ⟨y1, y2, y3.imp (fun q => ⟨fun z => q.1 (tnn.mpr z), q.2⟩) (fun q => ⟨tnn.mp q.1, q.2⟩)⟩
    have A1 := AS_turn (s := s) (tau := tau) h0 hs nx.1
    have M1 : up (up I' 2075 7740 s) 2075 7730 (tau : Int) 2075 7728 = 1 := by rw [up_place _ _ (by decide), up_place _ _ (by decide)]; exact st1
    generalize up (up I' 2075 7740 s) 2075 7730 (tau : Int) = M at A1 M1 ⊢
    have sv : stv (I 1996) th N = if (N : Int) = 20000 then 4 else 1 := by
      unfold stv
      rw [if_neg (fun q => hce (by rw [cee]; exact (all_ce _ _).mp q)), if_pos ((any_cg _ _).mpr (by rw [← cge th (Nat.le_refl _)]; exact hcg))]
    by_cases z : N = 20000
    · rw [if_pos z]
      refine hQ _ ⟨s, tau, t, by rw [stid _ _ M1]; exact A1, by rw [up_same, sv, if_pos (by omega)], ⟨tth, ht⟩, ⟨⟨e2, e3⟩, fin⟩, fun q => ?_⟩
      rw [up_same] at q
      exact absurd q (by decide)
    · rw [if_neg z]
      refine hQ _ ⟨s, tau, t, ?_, by rw [M1, sv, if_neg (by omega)], ⟨tth, ht⟩, ⟨⟨e2, e3⟩, fin⟩, fun _ => nx2⟩
      rw [show up M 2075 7728 1 = M by rw [← M1]; exact up_self _ _ _]
      exact A1
/-- the house: its status, its choice -/
theorem h_turn {d : Nat} {Y Y' : vY} {X mm Nn Lp : Nat} {nm pr ht : Nat → Nat} {I I' : vJ} {th W N : Nat} {x1 x2 x3 x4 : Int} {Q : vE → Prop} (hL : vL Y) (h : RM Y Y' X mm Nn Lp nm pr ht I I' th W N)
    (hQ : ∀ J : vJ, RS Y Y' X mm Nn Lp nm pr ht J I' th W N → Q (.inl none, (J, Y))) : vW (d + 1) 174 (198, [vr 1990, vi x1, vi x2, vi x3, vi x4], [], (I, Y)) Q := by
  obtain ⟨s, tau, t, A1, sv, ⟨tth, ht⟩, ⟨hs, fin⟩, nx⟩ := h
  have r96 : up (up I 1990 3394 s) 1990 3389 (tau : Int) 1996 = I 1996 := by rw [up_row _ (by decide), up_row _ (by decide)]
  have th1 : I 1990 3390 = th := by
    have q := A1.2.1.1.1.1
    rw [up_place _ _ (by decide), up_place _ _ (by decide)] at q
    exact q
  have nw : I 1990 3388 = N := by
    have q := A1.2.2.2.2.1.2.1
    rw [up_place _ _ (by decide), up_place _ _ (by decide)] at q
    exact q
  have hN := A1.2.2.2.2.1.2.2.2
  have th8 := A1.2.1.1.1.2.2
  have hst : ∀ u, u < th → 0 ≤ I 1996 u ∧ I 1996 u ≤ 4 := fun u hu => by
    have q := (A1.2.1.1.2 u hu).1.2
    rw [r96] at q
    exact q
  rw [b174_198 hL, c_status hL th1 th8 nw hN hst]
  simp only [vWC_s, Nat.reduceAdd]
  rw [b174_202]
  by_cases z : stv (I 1996) th N = 1
  · have nx := nx (by rw [sv]; exact z)
    rw [if_neg (by rw [z]; exact fun q => q rfl), b174_206 hL, c_turns hL th1 th8 hst tth ht hs fin nx]
    simp only [vWC_n, Nat.reduceAdd]
    rw [b174_210]
    have f1 : up (up I 1990 3394 s) 1990 3389 (tau : Int) 1990 3394 = s := by rw [up_place _ _ (by decide), up_same]
    have f2 : up (up I 1990 3394 s) 1990 3389 (tau : Int) 1990 3389 = tau := up_same _ _ _ _
    generalize up (up I 1990 3394 s) 1990 3389 (tau : Int) = J at A1 r96 f1 f2 ⊢
    have g1 : up J 1990 3394 s = J := by rw [← f1]; exact up_self _ _ _
    have g2 : up J 1990 3389 (tau : Int) = J := by rw [← f2]; exact up_self _ _ _
    refine hQ J ⟨s, tau, by rw [g1, g2]; exact A1, by rw [r96]; exact sv, fun _ => ⟨f1.symm, f2.symm, by rw [r96]; exact nx.2.1⟩⟩
  · have s4 : 1 ≤ stv (I 1996) th N ∧ stv (I 1996) th N ≤ 4 := by
      unfold stv
      split
      · omega
      · split
        · split <;> omega
        · omega
    rw [if_pos (by rw [w32_id (by omega) (by omega), w32_id (by decide) (by decide)]; exact z), b174_210]
    exact hQ I ⟨s, tau, A1, sv, fun q => absurd (by rw [← sv]; exact q) z⟩
