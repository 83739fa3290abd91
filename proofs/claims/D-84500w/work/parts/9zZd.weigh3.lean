/-! ===== weigh: the house's members one behind the other ===== -/
set_option maxRecDepth 20000
set_option maxHeartbeats 4000000
/-- what weigh needs of what is settled -/
def wgS (I I' : vJ) (Y : vY) (mm X Nn Wn : Nat) (ns ws ls : Nat → Nat) : Prop := SDm I I' Y mm X Nn Wn ns ws ls ∧ wyN I = Wn ∧ (∀ m, m < mm → ctM I I' X m Nn Wn ns ws) ∧ (∀ n, n < Nn → 0 ≤ I' (X + 14) n ∧ I' (X + 14) n ≤ 100) ∧ (∀ w, w < Wn → 0 ≤ I 52 w ∧ I 52 w ≤ 3) ∧ ws 0 = 0
/-- weights: by depth, by counts -/
def wvF (I I' : vJ) (X : Nat) (how : Int) (w : Nat) : Int := if how = 0 then bdW (I 52 w) (I' (X + 14) (I 50 w).toNat) (I' (X + 14) (I 51 w).toNat) else I' 2183 w
theorem ws_mono {I I' : vJ} {Y : vY} {mm X Nn Wn : Nat} {ns ws ls : Nat → Nat} (h : SDm I I' Y mm X Nn Wn ns ws ls) {i : Nat} : ∀ j, i ≤ j → j ≤ mm → ws i ≤ ws j := by
  intro j
  induction j with
  | zero => intro h1 _; have : i = 0 := by omega
            rw [this]; exact Nat.le_refl _
  | succ j ih =>
    intro h1 h2
    by_cases z : i = j + 1
    · rw [z]; exact Nat.le_refl _
    · obtain ⟨o, _, _, w, _⟩ := h.2.2.1 j (by omega)
      exact Nat.le_trans (ih (by omega) (by omega)) w.2.2.2.1
section
variable {d : Nat} {Y : vY} {I I' : vJ} {P : vE → Prop} {mm X Nn Wn th k : Nat} {ns ws ls : Nat → Nat} {how : Int}
/-- the house when members below m are done -/
def wgI (I I' : vJ) (X mm : Nat) (ns ws : Nat → Nat) (how : Int) (k m : Nat) (J : vJ) : Prop := fr [58, 59, 60, 61, 66, 67, 68, 2060, 2066] [] I J ∧ (∀ w, w < ws m → J 58 w = wvF I I' X how w) ∧ (∀ m', m' < m → ∃ od : Nat → Nat, sE (wvF I I' X how) (ws m') (ws (m' + 1) - ws m') (fun i => (od i : Int)) ∧ ∀ i, i < ws (m' + 1) - ws m' → J 61 (od i) = flG (fun w => (I 50 w).toNat) (fun w => (I 51 w).toNat) od (ns m') i) ∧ (∀ w, ws m ≤ w → J 61 w = I 61 w) ∧ cvR J I' X mm k
/-- one member: its weights are there, its probes come -/
theorem c_wg1 {m o : Nat} {J : vJ} (hL : vL Y) (hS : wgS I I' Y mm X Nn Wn ns ws ls) (hm : m < mm) (ho : Y.1 1989 m = o) (hwb : ∀ w, w < Wn → 0 ≤ wvF I I' X how w ∧ wvF I I' X how w < 2147483648) {J1 : vJ} (h : wgI I I' X mm ns ws how k m J) (F1 : fr [58, 66, 67, 68, 2060, 2066] [] J J1) (h58 : ∀ w, w < ws (m + 1) → J1 58 w = wvF I I' X how w) (hcv : cvR J1 I' X mm k)
    (hQ : ∀ K : vJ, wgI I I' X mm ns ws how k (m + 1) K → P (.inl none, (K, Y))) :
    vW (d + 2) 112 (0, [vr 57, vr o, vu, vu, vu, vu], [], (J1, Y)) P := by
  obtain ⟨S, hW, hC, _, _⟩ := hS
  have hmo := fun i j => ws_mono (i := i) S j
  obtain ⟨_, ⟨_, s2, s3, s4, _⟩, s9, _⟩ := S
  obtain ⟨o', ⟨o1, o2, o3, o4⟩, ⟨g1, g2, _, g4, g5⟩, ⟨w1, w2, _, w4, w5⟩, _⟩ := s9 m hm
  have eo : o' = o := by rw [← o1]; exact ho
  subst eo
  obtain ⟨h1, h2, h3, h4, h5⟩ := h
  obtain ⟨⟨k0, k1, k2, k3⟩, _, _, c4, _⟩ := hC m hm
  have FI : fr [58, 59, 60, 61, 66, 67, 68, 2060, 2066] [] I J1 := fr_trans h1 (fr_sub F1 (by rfl) (by rfl))
  have jo : J1 o' = I o' := fr_ge FI 2297 (by rfl) o2
  refine c_prb (d := d) (wt := wvF I I' X how) (a := ns m) (b := ns (m + 1)) (p := ws m) (q := ws (m + 1)) (f := fun w => (I 50 w).toNat) (t := fun w => (I 51 w).toNat) hL ⟨o2, o4, ⟨by rw [jo]; exact g1, by rw [jo]; exact g2⟩, by rw [jo]; exact w1, by rw [jo]; exact w2⟩ ⟨k3, by omega⟩ ⟨w4, by omega⟩ (fun v v1 v2 => ⟨h58 v v2, hwb v (by omega)⟩) (fun v v1 v2 => ?_) (fun K od FK sO fl out => ?_)
  · obtain ⟨x, y, x1, y1, _, x2, y2, _⟩ := c4 v (by omega)
    have a1 := x2.mpr ⟨v1, v2⟩
    have a2 := y2.mpr ⟨v1, v2⟩
    show (J1 50 v = ((I 50 v).toNat : Int) ∧ ns m ≤ (I 50 v).toNat ∧ (I 50 v).toNat < ns (m + 1)) ∧ J1 51 v = ((I 51 v).toNat : Int) ∧ ns m ≤ (I 51 v).toNat ∧ (I 51 v).toNat < ns (m + 1)
    rw [FI 50 _ rfl, FI 51 _ rfl, x1, y1, tn0, tn0]
    exact ⟨⟨rfl, a1⟩, rfl, a2⟩
  · have j61 : J1 61 = J 61 := fr_row F1 61 (fun _ => rfl)
    refine hQ K ⟨fr_trans FI (fr_sub FK (by rfl) (by rfl)), fun w hw => by rw [FK 58 _ rfl]; exact h58 w hw, fun m' hm' => ?_, fun w hw => ?_, ?_⟩
    · by_cases z : m' = m
      · rw [z]; exact ⟨od, sO, fl⟩
      · obtain ⟨od', s', f'⟩ := h3 m' (by omega)
        refine ⟨od', s', fun i hi => ?_⟩
        obtain ⟨v, v1, v2, v3⟩ := s'.1 i hi
        have v1 : (od' i : Int) = v := v1
        have := hmo (m' + 1) m (by omega) (by omega)
        rw [out (od' i) (by omega), j61]
        exact f' i hi
    · have := hmo m (m + 1) (by omega) (by omega)
      rw [out w (by omega), j61]
      exact h4 w (by omega)
    · exact cv_ag hcv (FK 18 _ rfl) (fr_row FK 2060 (fun _ => rfl)) (FK 1990 _ rfl) (fr_row FK 35 (fun _ => rfl)) (fr_row FK 50 (fun _ => rfl)) (fr_row FK 66 (fun _ => rfl)) (fun _ => rfl) rfl
/-- all members -/
theorem c_weigh (hL : vL Y) (hS : wgS I I' Y mm X Nn Wn ns ws ls) (hmm : I 18 266 = mm ∧ mm ≤ 24) (h01 : how = 0 ∨ how = 1) (hwb : ∀ w, w < Wn → 0 ≤ wvF I I' X how w ∧ wvF I I' X how w < 2147483648)
    (hR : how = 1 → acL I I' X Nn th ∧ fwR I I' ∧ tot I I' ≤ 60000 ∧ k < 64 ∧ I 1990 3398 = 1)
    (hQ : ∀ J : vJ, wgI I I' X mm ns ws how k mm J → P (.inl (some (vi 1)), (up (up J 1990 3398 0) 18 271 (J 18 271 + 1), Y))) :
    ∀ (s m : Nat) (J : vJ), m + s = mm → wgI I I' X mm ns ws how k m J → vW (d + 4) 14 (35, [vr 18, vi how, vi (m : Int)], [], (J, Y)) P := by
  intro s
  induction s with
  | zero =>
    intro m J hs h
    have e : m = mm := by omega
    subst e
    rw [b14_35 hL, h.1 18 _ rfl, hmm.1, if_pos (Int.le_refl _), b14_87 hL]
    exact hQ J h
  | succ s ih =>
    intro m J hs h
    have hS0 := hS
    obtain ⟨S, hW, hC, hD, h52, _⟩ := hS
    have hmo := fun i j => ws_mono (i := i) S j
    obtain ⟨_, ⟨_, s2, s3, s4, _⟩, s9, sN, s10, _⟩ := S
    obtain ⟨o, ⟨o1, o2, o3, o4⟩, ⟨g1, g2, g3, g4, g5⟩, ⟨w1, w2, w3, w4, w5⟩, _⟩ := s9 m (by omega)
    have h0 := h
    obtain ⟨h1, h2, h3, h4, h5⟩ := h
    have jo : J o = I o := fr_ge h1 2297 (by rfl) o2
    have C0 := hC m (by omega)
    obtain ⟨⟨k0, k1, k2, k3⟩, c2, c3, c4, c5⟩ := hC m (by omega)
    have ex : Y.1 1989 ((m : Int)).toNat = o := by rw [tn0]; exact o1
    have nx : ∀ K : vJ, wgI I I' X mm ns ws how k (m + 1) K → vW (d + 4) 14 (81, [vr 18, vi how, vi (m : Int)], [], (K, Y)) P := fun K hK => by
      rw [b14_81, show (m : Int) + 1 = ((m + 1 : Nat) : Int) by omega]
      exact ih (m + 1) K (by omega) hK
    rw [b14_35 hL, h1 18 _ rfl, hmm.1, if_neg (by rw [w32_id (by omega) (by omega), w32_id (by omega) (by omega)]; omega), b14_43]
    rcases h01 with z | z
    · rw [z, if_neg (by decide), b14_47 hL (by omega) (by omega), ex]
      have dJ : dpR J Nn (I' (X + 14)) := fun n hn => by
        obtain ⟨_, _, n3⟩ := sN n hn
        rw [h1 41 _ rfl, fr_row h1 56 (fun _ => rfl)]
        refine ⟨hD n hn, ?_⟩
        rcases n3 with ⟨a, b⟩ | ⟨a, b, c⟩
        · exact Or.inl ⟨a, b⟩
        · exact Or.inr ⟨a, b, c.symm⟩
      refine c_byd (d := d + 2) (f := fun w => (I 50 w).toNat) (t := fun w => (I 51 w).toNat) (dp := I' (X + 14)) (p := ws m) (q := ws (m + 1)) (Nn := Nn) hL s2 ⟨o2, o4, by rw [jo]; exact w1, by rw [jo]; exact w2⟩ ⟨w4, by omega⟩ dJ (fun v v1 v2 => ?_) (fun J1 x2 x3 x4 F1 b1 b2 => ?_)
      · obtain ⟨x, y, x1, y1, ⟨xN, yN⟩, _⟩ := c4 v (by omega)
        show (J 50 v = ((I 50 v).toNat : Int) ∧ (I 50 v).toNat < Nn) ∧ (J 51 v = ((I 51 v).toNat : Int) ∧ (I 51 v).toNat < Nn) ∧ 0 ≤ J 52 v ∧ J 52 v ≤ 3
        rw [h1 50 _ rfl, h1 51 _ rfl, h1 52 _ rfl, x1, y1, tn0, tn0]
        exact ⟨⟨rfl, xN⟩, ⟨rfl, yN⟩, h52 v (by omega)⟩
      · rw [b111_108 hL]
        refine c_wg1 (d := d) (m := m) (o := o) hL hS0 (by omega) o1 hwb h0 (fr_sub F1 (by rfl) (by rfl)) (fun w hw => ?_) (cv_ag h5 (F1 18 _ rfl) (fr_row F1 2060 (fun _ => rfl)) (F1 1990 _ rfl) (fr_row F1 35 (fun _ => rfl)) (fr_row F1 50 (fun _ => rfl)) (fr_row F1 66 (fun _ => rfl)) (fun _ => rfl) rfl) (fun K hK => ?_)
        · by_cases y : ws m ≤ w
          · rw [b1 w y hw, h1 52 _ rfl]
            unfold wvF
            rw [if_pos z]
          · rw [b2 w (by omega)]; exact h2 w (by omega)
        · simp only [vWC_n, Nat.reduceAdd]
          rw [b111_113]
          simp only [vWC_n, Nat.reduceAdd]
          rw [b14_60]
          rw [z] at nx
          exact nx K (by rw [← z]; exact hK)
    · obtain ⟨hA, hf, hT, k64, hi⟩ := hR z
      rw [z, if_pos (by decide), b14_63 hL]
      have AJ : acL J I' X Nn th := by
        unfold acL at *
        rw [h1 1990 _ rfl, fr_row h1 1995 (fun _ => rfl), fr_row h1 2006 (fun _ => rfl), fr_row h1 2007 (fun _ => rfl), fr_row h1 38 (fun _ => rfl)]
        exact hA
      have eN : wyN J = wyN I := by unfold wyN; rw [fr_row h1 35 (fun _ => rfl)]
      have eu : u9 (J 61) (ws m) (ws (m + 1)) = u9 (I 61) (ws m) (ws (m + 1)) := by
        funext e
        unfold u9 uUp uB
        have : (ws m ≤ e ∧ e < ws (m + 1) ∧ J 61 e = 0) ↔ (ws m ≤ e ∧ e < ws (m + 1) ∧ I 61 e = 0) := ⟨fun t => ⟨t.1, t.2.1, by rw [← h4 e t.1]; exact t.2.2⟩, fun t => ⟨t.1, t.2.1, by rw [h4 e t.1]; exact t.2.2⟩⟩
        simp only [this]
      have CJ : ctM J I' X m Nn Wn ns ws := by
        unfold ctM at *
        rw [fr_row h1 38 (fun _ => rfl), fr_row h1 50 (fun _ => rfl), fr_row h1 51 (fun _ => rfl), eu]
        refine ⟨C0.1, C0.2.1, C0.2.2.1, C0.2.2.2.1, ?_⟩
        have e1 : frF J (ns m) = frF I (ns m) := by funext e; unfold frF; rw [fr_row h1 50 (fun _ => rfl)]
        have e2 : toF J (ns m) = toF I (ns m) := by funext e; unfold toF; rw [fr_row h1 51 (fun _ => rfl)]
        rw [e1, e2]; exact C0.2.2.2.2
      have eT : tot J I' = tot I I' := by unfold tot; rw [eN]
      have eI : ∀ n, inW J I' n = inW I I' n := fun n => by unfold inW; rw [eN, fr_row h1 51 (fun _ => rfl)]
      have eO : ∀ n, ouW J I' n = ouW I I' n := fun n => by unfold ouW; rw [eN, fr_row h1 50 (fun _ => rfl)]
      refine c_counts (d := d) (o := o) (ns := ns) (ws := ws) hL ⟨hmm.2, s2, s4⟩ ⟨⟨o1, o2, o3, o4⟩, ⟨by rw [jo]; exact g1, by rw [jo]; exact g2, g5⟩, by rw [jo]; exact w1, by rw [jo]; exact w2, w4, w5⟩ (fun e e1 e2 => ?_) CJ (by rw [eN]; exact hW) AJ (fun w hw => (hf.1 w (by rw [← eN]; exact hw)).1) (fun n hn => by rw [eI, eO]; exact hf.2 n (by rw [← fr_row h1 38 (fun _ => rfl)]; exact hn)) (by rw [eT]; exact hT) h5 k64 (by rw [h1 1990 _ rfl]; exact hi) (by omega) (fun J1 F1 hJ1 cJ => ?_)
      · rw [h4 e e1, h1 65 _ rfl]
        rcases (s10 e (by omega)).2.2.2 with q | q
        · exact Or.inl q
        · exact Or.inr ⟨q, (hf.1 e (by omega)).2 q⟩
      · simp only [vWC_n, Nat.reduceAdd]
        have jo1 : J1 o = I o := by rw [fr_ge F1 2297 (by rfl) o2]; exact jo
        rw [b14_68 hL (by omega) (by omega), ex, b121_0 (by omega) o4, jo1, w1]
        have lp : ∀ (s w : Nat) (K : vJ), w + s = ws (m + 1) → ws m ≤ w → fr [58] [] J1 K → (∀ v, v < w → K 58 v = wvF I I' X how v) → vW (d + 3) 121 (5, [vr 57, vr o, vi (w : Int)], [], (K, Y)) (vWC (d + 4) 14 78 3 [vr 18, vi 1, vi (m : Int)] [] P) := by
          intro s
          induction s with
          | zero =>
            intro w K hs hw FK h58
            have e : w = ws (m + 1) := by omega
            subst e
            rw [b121_5 (by omega) o4, fr_ge FK 2297 (by rfl) o2, jo1, w1, w2, if_pos (by rw [show (ws m : Int) + ((ws (m + 1) : Int) - ws m) = ws (m + 1) by omega]; exact Int.le_refl _), b121_36 hL]
            refine c_wg1 (d := d) (m := m) (o := o) hL hS0 (by omega) o1 hwb h0 (fr_trans (fr_sub F1 (by rfl) (by rfl)) (fr_sub FK (by rfl) (by rfl))) h58 ?_ (fun K2 hK => ?_)
            · exact cv_ag cJ (FK 18 _ rfl) (fr_row FK 2060 (fun _ => rfl)) (FK 1990 _ rfl) (fr_row FK 35 (fun _ => rfl)) (fr_row FK 50 (fun _ => rfl)) (fr_row FK 66 (fun _ => rfl)) (fun _ => rfl) rfl
            · simp only [vWC_n, Nat.reduceAdd]
              rw [b121_41]
              simp only [vWC_n, Nat.reduceAdd]
              rw [z] at nx
              exact nx K2 (by rw [← z]; exact hK)
          | succ s ih2 =>
            intro w K hs hw FK h58
            rw [b121_5 (by omega) o4, fr_ge FK 2297 (by rfl) o2, jo1, w1, w2, if_neg (by rw [show (ws m : Int) + ((ws (m + 1) : Int) - ws m) = ws (m + 1) by omega, w32_id (by omega) (by omega), w32_id (by omega) (by omega)]; omega), b121_18 hL (by omega) (by omega) (by omega), tn0, show (w : Int) + 1 = ((w + 1 : Nat) : Int) by omega]
            refine ih2 (w + 1) _ (by omega) (by omega) (fr_upL FK rfl _ _) (fun v hv => ?_)
            rw [up_at]
            by_cases y : v = w
            · rw [if_pos y, y, FK 66 _ rfl, hJ1 w hw (by omega)]
              unfold wvF
              rw [if_neg (by rw [z]; decide)]
            · rw [if_neg y]; exact h58 v (by omega)
        exact lp (ws (m + 1) - ws m) (ws m) J1 (by omega) (Nat.le_refl _) (fr_refl _ _ _) (fun v hv => by rw [F1 58 _ rfl]; exact h2 v hv)
end
