/-! ===== weigh: the model's half; what both leave ===== -/
set_option maxRecDepth 20000
set_option maxHeartbeats 4000000
section
variable {d : Nat} {Y : vY} {I I' : vJ} {P : vE → Prop} {mm X Nn Wn : Nat} {ns ws ls : Nat → Nat} {how : Int} {od : Nat → Nat → Nat}
/-- the model: all weights, then all probes -/
theorem t_weigh (hL : vL Y) (hS : wgS I I' Y mm X Nn Wn ns ws ls) (h01 : how = 0 ∨ how = 1) (hwb : ∀ w, w < Wn → 0 ≤ wvF I I' X how w ∧ wvF I I' X how w < 2147483648) (hod : ∀ m, m < mm → sE (wvF I I' X how) (ws m) (ws (m + 1) - ws m) (fun i => (od m i : Int)))
    (hQ : ∀ K : vJ, fr [2172, 2173, 2174, 2175, 2176] [] I' K → (∀ w, w < Wn → K 2172 w = wvF I I' X how w) → (∀ m, m < mm → (∀ i, i < ws (m + 1) - ws m → K 2173 (od m i) = flG (fun w => (I 50 w).toNat) (fun w => (I 51 w).toNat) (od m) (ns m) i) ∧ K 2174 m = sW (flG (fun w => (I 50 w).toNat) (fun w => (I 51 w).toNat) (od m) (ns m)) (ws (m + 1) - ws m)) → P (.inl (some (vi 1)), (up K 2075 7728 0, Y))) :
    vW (d + 2) 386 (30, [vr 2075, vi how, vu], [], (I', Y)) P := by
  have hS0 := hS
  obtain ⟨S, hW, hC, hD, h52, hw0⟩ := hS
  have hmo := fun i j => ws_mono (i := i) S j
  obtain ⟨⟨x1, x2, x3⟩, ⟨n1, s2, n3, s4, n5, n6, n7, n8⟩, s9, sN, s10, _⟩ := S
  have hV : vreg Y 2081 38 (Y.1 2075 7689) := by rw [x1]; exact x3
  have mem : ∀ (s m : Nat) (K : vJ), m + s = mm → fr [2172, 2173, 2174, 2175, 2176] [] I' K → (∀ w, w < Wn → K 2172 w = wvF I I' X how w) → (∀ m', m' < m → (∀ i, i < ws (m' + 1) - ws m' → K 2173 (od m' i) = flG (fun w => (I 50 w).toNat) (fun w => (I 51 w).toNat) (od m') (ns m') i) ∧ K 2174 m' = sW (flG (fun w => (I 50 w).toNat) (fun w => (I 51 w).toNat) (od m') (ns m')) (ws (m' + 1) - ws m')) → vW (d + 2) 386 (76, [vr 2075, vi how, vi (m : Int)], [], (K, Y)) P := by
    intro s
    induction s with
    | zero =>
      intro m K hs F h1 h2
      have e : m = mm := by omega
      subst e
      rw [b386_76 hL hV, x1, fr_out F 2081 2172 (by rfl) (show 2081 ≤ X by omega) (by omega), n7, if_pos (Int.le_refl _), b386_98 hL]
      exact hQ K F h1 h2
    | succ s ih =>
      intro m K hs F h1 h2
      obtain ⟨o, _, ⟨g1, g2, g3, g4, g5⟩, ⟨w1, w2, w3, w4, w5⟩, _⟩ := s9 m (by omega)
      obtain ⟨⟨k0, k1, k2, k3⟩, c2, c3, c4, _⟩ := hC m (by omega)
      have kx : ∀ j, j < 38 → K (X + j) = I' (X + j) := fun j hj => fr_out F 2081 2172 (by rfl) (show 2081 ≤ X + j by omega) (by omega)
      have kX : K X = I' X := fr_out F 2081 2172 (by rfl) (show 2081 ≤ X by omega) (by omega)
      have mb : mbT K X mm m (ns m) (ns (m + 1)) (ws m) (ws (m + 1)) := by
        unfold mbT
        rw [kX, kx 4 (by decide), kx 5 (by decide)]
        refine ⟨⟨n7, by omega, n8⟩, ⟨g3, ?_⟩, w3, ?_⟩
        · by_cases z : m + 1 < mm
          · rw [if_pos z]
            obtain ⟨_, _, ⟨_, _, q, _⟩, _⟩ := s9 (m + 1) z
            exact q
          · rw [if_neg z, n5, show m + 1 = mm by omega, n1]
        · by_cases z : m + 1 < mm
          · rw [if_pos z]
            obtain ⟨_, _, _, ⟨_, _, q, _⟩, _⟩ := s9 (m + 1) z
            exact q
          · rw [if_neg z, n6, show m + 1 = mm by omega, n3]
      rw [b386_76 hL hV, x1, kX, n7, if_neg (by rw [w32_id (by omega) (by omega), w32_id (by omega) (by omega)]; omega), b386_87 hL]
      refine t_prb (d := d) (wt := wvF I I' X how) (od := od m) (f := fun w => (I 50 w).toNat) (t := fun w => (I 51 w).toNat) hL x1 x2 x3 mb ⟨k3, by omega⟩ ⟨w4, by omega⟩ (hod m (by omega)) (fun w v1 v2 => ⟨h1 w (by omega), hwb w (by omega)⟩) (fun v v1 v2 => ?_) (fun K2 F2 f1 f2 f3 f4 => ?_)
      · obtain ⟨x, y, e1, e2, _, e3, e4, _⟩ := c4 v (by omega)
        have a1 := e3.mpr ⟨v1, v2⟩
        have a2 := e4.mpr ⟨v1, v2⟩
        obtain ⟨⟨q1, q2, _⟩, _⟩ := s10 v (by omega)
        show (K (X + 22) v = ((I 50 v).toNat : Int) ∧ ns m ≤ (I 50 v).toNat ∧ (I 50 v).toNat < ns (m + 1)) ∧ K (X + 23) v = ((I 51 v).toNat : Int) ∧ ns m ≤ (I 51 v).toNat ∧ (I 51 v).toNat < ns (m + 1)
        rw [kx 22 (by decide), kx 23 (by decide), ← q1, ← q2, e1, e2, tn0, tn0]
        exact ⟨⟨rfl, a1⟩, rfl, a2⟩
      · simp only [vWC_n, Nat.reduceAdd]
        rw [b386_92, show (m : Int) + 1 = ((m + 1 : Nat) : Int) by omega]
        refine ih (m + 1) K2 (by omega) (fr_trans F (fr_sub F2 (by rfl) (by rfl))) (fun w hw => by rw [F2 2172 _ rfl]; exact h1 w hw) (fun m' hm' => ?_)
        by_cases z : m' = m
        · rw [z]; exact ⟨f1, f3⟩
        · obtain ⟨q1, q2⟩ := h2 m' (by omega)
          refine ⟨fun i hi => ?_, by rw [f4 m' z]; exact q2⟩
          obtain ⟨v, v1, v2, v3⟩ := (hod m' (by omega)).1 i hi
          have v1 : (od m' i : Int) = v := v1
          have := hmo (m' + 1) m (by omega) (by omega)
          rw [f2 (od m' i) (by omega)]
          exact q1 i hi
  have way : ∀ (s w : Nat) (K : vJ), w + s = Wn → fr [2172] [] I' K → (∀ v, v < w → K 2172 v = wvF I I' X how v) → vW (d + 2) 386 (32, [vr 2075, vi how, vi (w : Int)], [], (K, Y)) P := by
    intro s
    induction s with
    | zero =>
      intro w K hs F h
      have e : w = Wn := by omega
      subst e
      rw [b386_32 hL hV, x1, fr_out F 2081 2172 (by rfl) (show 2081 ≤ X by omega) (by omega), n6, if_pos (Int.le_refl _), b386_74]
      exact mem mm 0 K (by omega) (fr_sub F (by rfl) (by rfl)) h (fun m' hm' => absurd hm' (Nat.not_lt_zero _))
    | succ s ih =>
      intro w K hs F h
      have kx : ∀ j, j < 38 → K (X + j) = I' (X + j) := fun j hj => fr_out F 2081 2172 (by rfl) (show 2081 ≤ X + j by omega) (by omega)
      have ew : (w : Int) + 1 = ((w + 1 : Nat) : Int) := by omega
      obtain ⟨⟨q1, q2, q3, _⟩, _⟩ := s10 w (by omega)
      have put : ∀ v : Int, v = wvF I I' X how w → vW (d + 2) 386 (67, [vr 2075, vi how, vi (w : Int)], [vl v, vi (w : Int), vr 2172], (K, Y)) P := fun v ev => by
        rw [b386_67 hL (by omega) (by omega), tn0, ew]
        refine ih (w + 1) _ (by omega) (fr_upL F rfl _ _) (fun u hu => ?_)
        rw [up_at]
        by_cases z : u = w
        · rw [if_pos z, z]; exact ev
        · rw [if_neg z]; exact h u (by omega)
      rw [b386_32 hL hV, x1, fr_out F 2081 2172 (by rfl) (show 2081 ≤ X by omega) (by omega), n6, if_neg (by rw [w32_id (by omega) (by omega), w32_id (by omega) (by omega)]; omega), b386_43 hL]
      rcases h01 with z | z
      · have m0 : 0 < mm := by
          apply Classical.byContradiction
          intro q
          have e : mm = 0 := by omega
          rw [e, hw0] at n3
          omega
        obtain ⟨_, _, _, c4, _⟩ := hC 0 m0
        obtain ⟨x, y, e1, e2, ⟨e3, e4⟩, _⟩ := c4 w (by omega)
        rw [if_neg (by rw [z]; decide), b386_52 hL, t_byd (d := d) (f := fun w => (I 50 w).toNat) (t := fun w => (I 51 w).toNat) (dp := I' (X + 14)) hL x1 x3 (by omega) (by rw [kx 24 (by decide), ← q3]; exact h52 w (by omega)) (by
          show K (X + 22) w = ((I 50 w).toNat : Int) ∧ (I 50 w).toNat < 1400
          rw [kx 22 (by decide), ← q1, e1, tn0]; exact ⟨rfl, by omega⟩) (by
          show K (X + 23) w = ((I 51 w).toNat : Int) ∧ (I 51 w).toNat < 1400
          rw [kx 23 (by decide), ← q2, e2, tn0]; exact ⟨rfl, by omega⟩) (by
          show (K (X + 14) (I 50 w).toNat = I' (X + 14) (I 50 w).toNat ∧ _) ∧ K (X + 14) (I 51 w).toNat = I' (X + 14) (I 51 w).toNat ∧ _
          rw [kx 14 (by decide), e1, e2, tn0, tn0]
          exact ⟨⟨rfl, hD x e3⟩, rfl, hD y e4⟩)]
        simp only [vWC_s, Nat.reduceAdd]
        rw [b386_57]
        refine put _ ?_
        unfold wvF
        rw [if_pos z, kx 24 (by decide), ← q3]
      · have hb := hwb w (by omega)
        have ev : wvF I I' X how w = I' 2183 w := by unfold wvF; rw [if_neg (by rw [z]; decide)]
        rw [ev] at hb
        rw [if_pos (by rw [z]; decide), b386_60 hL (by omega) (by omega), tn0, F 2183 _ rfl, w32_id (by omega) hb.2]
        exact put _ ev.symm
  rw [b386_30]
  exact way Wn 0 I' (by omega) (fr_refl _ _ _) (fun v hv => absurd hv (Nat.not_lt_zero _))
end
theorem pr_sW {f : Nat → Int} {a : Nat} : ∀ n, (∀ j, j < n → f (a + j) = 0 ∨ f (a + j) = 1) → prS f a n = sW (fun j => f (a + j)) n := by
  intro n
  induction n with
  | zero => intro _; rfl
  | succ n ih =>
    intro h
    show prS f a n + (if f (a + n) = 0 then 0 else 1) = sW (fun j => f (a + j)) n + f (a + n)
    rw [ih (fun j hj => h j (by omega))]
    rcases h n (by omega) with z | z
    · rw [z, if_pos rfl]
    · rw [z, if_neg (by decide)]
/-- what weigh leaves, in both houses -/
theorem wg_end {I I' J K : vJ} {Y : vY} {mm X Nn Wn k : Nat} {ns ws ls : Nat → Nat} {how : Int} {od : Nat → Nat → Nat} (hS : wgS I I' Y mm X Nn Wn ns ws ls) (h : wgI I I' X mm ns ws how k mm J) (hod : ∀ m, m < mm → sE (wvF I I' X how) (ws m) (ws (m + 1) - ws m) (fun i => (od m i : Int)) ∧ ∀ i, i < ws (m + 1) - ws m → J 61 (od m i) = flG (fun w => (I 50 w).toNat) (fun w => (I 51 w).toNat) (od m) (ns m) i) (h1 : ∀ w, w < Wn → K 2172 w = wvF I I' X how w) (h2 : ∀ m, m < mm → (∀ i, i < ws (m + 1) - ws m → K 2173 (od m i) = flG (fun w => (I 50 w).toNat) (fun w => (I 51 w).toNat) (od m) (ns m) i) ∧ K 2174 m = sW (flG (fun w => (I 50 w).toNat) (fun w => (I 51 w).toNat) (od m) (ns m)) (ws (m + 1) - ws m)) :
    (∀ w, w < Wn → J 58 w = K 2172 w ∧ J 61 w = K 2173 w ∧ (J 61 w = 0 ∨ J 61 w = 1)) ∧ ∀ m, m < mm → K 2174 m = prS (J 61) (ws m) (ws (m + 1) - ws m) ∧ fstR (frF I (ns m)) (toF I (ns m)) (u9 (J 61) (ws m) (ws (m + 1))) := by
  obtain ⟨S, hW, hC, _, _, hw0⟩ := hS
  have hmo := fun i j => ws_mono (i := i) S j
  obtain ⟨_, ⟨_, s2, n3, s4, _⟩, s9, _⟩ := S
  have find : ∀ (m : Nat), m ≤ mm → ∀ w, w < ws m → ∃ m', m' < m ∧ ws m' ≤ w ∧ w < ws (m' + 1) := by
    intro m
    induction m with
    | zero => intro _ w hw; rw [hw0] at hw; exact absurd hw (Nat.not_lt_zero _)
    | succ m ih =>
      intro hm w hw
      by_cases z : w < ws m
      · obtain ⟨m', a, b, c⟩ := ih (by omega) w z
        exact ⟨m', by omega, b, c⟩
      · exact ⟨m, by omega, by omega, hw⟩
  have one : ∀ m, m < mm → ∀ w, ws m ≤ w → w < ws (m + 1) → J 61 w = K 2173 w ∧ (J 61 w = 0 ∨ J 61 w = 1) := fun m hm w a b => by
    obtain ⟨s1, f1⟩ := hod m hm
    obtain ⟨i, i1, i2⟩ := s1.2.2 w a (by omega)
    have i2 : (od m i : Int) = w := i2
    have i3 : od m i = w := by omega
    have e1 := f1 i i1
    have e2 := (h2 m hm).1 i i1
    rw [i3] at e1 e2
    rw [e1, e2]
    exact ⟨rfl, flG_01 _ _ _ _ _⟩
  refine ⟨fun w hw => ?_, fun m hm => ⟨?_, ?_⟩⟩
  · obtain ⟨m, a, b, c⟩ := find mm (Nat.le_refl _) w (by omega)
    exact ⟨by rw [h1 w hw]; exact h.2.1 w (by omega), one m a w b c⟩
  · obtain ⟨s1, f1⟩ := hod m hm
    obtain ⟨o, _, _, ⟨_, _, _, w4, w5⟩, _⟩ := s9 m hm
    rw [(h2 m hm).2, pr_sW _ (fun j hj => (one m hm (ws m + j) (by omega) (by omega)).2), ← sE_sum s1 (J 61)]
    exact sW_congr _ (fun i hi => (f1 i hi).symm)
  · obtain ⟨s1, f1⟩ := hod m hm
    obtain ⟨o, _, _, ⟨_, _, _, w4, w5⟩, _⟩ := s9 m hm
    obtain ⟨_, _, _, c4, _⟩ := hC m hm
    exact fs_prb (f := fun w => (I 50 w).toNat) (t := fun w => (I 51 w).toNat) s1 (by omega) (fun v v1 v2 => by
      obtain ⟨x, y, x1, y1, _⟩ := c4 v (by omega)
      show I 50 v = ((I 50 v).toNat : Int) ∧ I 51 v = ((I 51 v).toNat : Int)
      rw [x1, y1, tn0, tn0]
      exact ⟨rfl, rfl⟩) f1
