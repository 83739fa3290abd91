/-! ===== what load settles beside: SX made concrete ===== -/
set_option maxRecDepth 20000
set_option maxHeartbeats 4000000
/-- all that questions about the text need; LOAD MUST GIVE IT -/
def SXc (I I' : vJ) (Y : vY) (mm X Nn : Nat) : Prop := fltR I I' ∧ (mm = 0 → I' 2075 7691 = 0) ∧ (mm ≠ 0 → ∃ (Wn : Nat) (ns ws ls : Nat → Nat), wgS I I' Y mm X Nn Wn ns ws ls ∧ (∀ m, m < mm → (-1 ≤ I' 2179 m ∧ I' 2179 m ≤ 1000000) ∧ (I' 2179 m ≠ -1 → spM I I' X m ns)) ∧ pwR I I' ∧ ∀ m, m < mm → bdM I I' Y X m)
section
variable {I I' J J' : vJ} {Y : vY} {mm X Nn : Nat}
theorem SX_gen (h : SXc I I' Y mm X Nn) (g : sxZ Y I I' J J') (hn : ∀ (Wn : Nat) (ns ws ls : Nat → Nat), wgS I I' Y mm X Nn Wn ns ws ls → mm ≠ 0 → (∀ w, w < Wn → J 58 w = J' 2172 w ∧ J 61 w = J' 2173 w ∧ (J 61 w = 0 ∨ J 61 w = 1)) ∧ ∀ m, m < mm → J' 2174 m = prS (J 61) (ws m) (ws (m + 1) - ws m) ∧ fstR (frF I (ns m)) (toF I (ns m)) (u9 (J 61) (ws m) (ws (m + 1)))) : SXc J J' Y mm X Nn := by
  obtain ⟨f1, f2, f3⟩ := h
  obtain ⟨a1, a2, a3, a4⟩ := g
  refine ⟨?_, fun z => ?_, fun z => ?_⟩
  · unfold fltR at *
    rw [a2 268 (by decide) (by decide), a2 269 (by decide) (by decide), a2 270 (by decide) (by decide), a4 7692 (by omega), a4 7693 (by omega), a4 7694 (by omega)]
    exact f1
  · rw [a4 _ (by decide)]; exact f2 z
  · obtain ⟨Wn, ns, ws, ls, W, P, pw, B⟩ := f3 z
    obtain ⟨n1, n2⟩ := hn Wn ns ws ls W z
    obtain ⟨⟨⟨x1, x2, x3⟩, h3, h4, h5, h6, h7, h8⟩, hW, hC, hD, h52, hw0⟩ := W
    have t : ∀ k, k < 38 → J' (X + k) = I' (X + k) := fun k hk => a3 _ (by unfold stT; omega) (by omega)
    have t0 : J' X = I' X := t 0 (by decide)
    have c : ∀ c, 20 ≤ c → c < 65 → (c < 58 ∨ 61 < c) → J c = I c := fun c p q r => a1 c (Or.inl ⟨p, q⟩) r
    have c61 : J 2061 = I 2061 := a1 2061 (by unfold stC; omega) (by omega)
    have q7 : J' 2177 = I' 2177 := a3 _ (by unfold stT; omega) (by omega)
    have q8 : J' 2178 = I' 2178 := a3 _ (by unfold stT; omega) (by omega)
    have q9 : J' 2179 = I' 2179 := a3 _ (by unfold stT; omega) (by omega)
    have r38 := c 38 (by decide) (by decide) (by decide)
    have r48 := c 48 (by decide) (by decide) (by decide)
    have r50 := c 50 (by decide) (by decide) (by decide)
    have r51 := c 51 (by decide) (by decide) (by decide)
    have r53 := c 53 (by decide) (by decide) (by decide)
    have r62 := c 62 (by decide) (by decide) (by decide)
    have r63 := c 63 (by decide) (by decide) (by decide)
    have r64 := c 64 (by decide) (by decide) (by decide)
    refine ⟨Wn, ns, ws, ls, ⟨⟨⟨x1, x2, x3⟩, by rw [t0]; exact h3, fun m hm => ?_, fun n hn' => ?_, fun w hw => ?_, fun n hn' => ?_, fun m hm => ?_⟩, ?_, fun m hm => ?_, ?_, ?_, hw0⟩, fun m hm => ?_, ?_, fun m hm => ?_⟩
    · obtain ⟨o, o1, o2, o3, o4, o5, o6, o7, o8, _⟩ := h4 m hm
      have e : J o = I o := a1 o (by unfold stC; omega) (by omega)
      refine ⟨o, o1, ?_⟩
      rw [e, t 4 (by decide), t 5 (by decide), t 7 (by decide), t 1 (by decide), t 2 (by decide), t 3 (by decide), c61, q9]
      exact ⟨o2, o3, o4, o5, o6, o7, o8, (n2 m hm).1⟩
    · rw [r38, c61, c 41 (by decide) (by decide) (by decide), c 56 (by decide) (by decide) (by decide), t 9 (by decide), t 10 (by decide), t 14 (by decide)]
      exact h5 n hn'
    · rw [r50, r51, c 52 (by decide) (by decide) (by decide), r53, t 22 (by decide), t 23 (by decide), t 24 (by decide), t 25 (by decide)]
      exact ⟨(h6 w hw).1, n1 w hw⟩
    · rw [c 54 (by decide) (by decide) (by decide), c 41 (by decide) (by decide) (by decide), t 26 (by decide)]
      exact h7 n hn'
    · rw [t 26 (by decide)]
      exact h8 m hm
    · unfold wyN at *
      rw [c 35 (by decide) (by decide) (by decide)]; exact hW
    · have e1 : frF J (ns m) = frF I (ns m) := by funext e; unfold frF; rw [r50]
      have e2 : toF J (ns m) = toF I (ns m) := by funext e; unfold toF; rw [r51]
      obtain ⟨k1, k2, k3, k4, _⟩ := hC m hm
      unfold ctM
      rw [r38, r50, r51, t 37 (by decide), e1, e2]
      exact ⟨k1, k2, k3, k4, (n2 m hm).2⟩
    · rw [t 14 (by decide)]; exact hD
    · rw [c 52 (by decide) (by decide) (by decide)]; exact h52
    · obtain ⟨p1, p2⟩ := P m hm
      rw [q9]
      refine ⟨p1, fun q => ?_⟩
      have e : ∀ w, enD J w = enD I w := fun w => by unfold enD; rw [r53, r51, r38]
      have e2 : ∀ w, ptD J w = ptD I w := fun w => by unfold ptD; rw [e, r62, r51]
      have p3 := p2 q
      unfold spM spN at *
      simp only [e, e2, r38, r48, r51, r53, r62, r63, r64, q7, q8, q9, t 20 (by decide), t 25 (by decide), t 23 (by decide), t 9 (by decide), t 26 (by decide)]
      exact p3
    · unfold pwR at *
      rw [a1 71 (by unfold stC; omega) (by omega), a3 2280 (by unfold stT; omega) (by omega)]
      exact pw
    · have b := B m hm
      unfold bdM at *
      rw [a1 76 (by unfold stC; omega) (by omega), a1 77 (by unfold stC; omega) (by omega), c61, a3 2282 (by unfold stT; omega) (by omega), a3 2283 (by unfold stT; omega) (by omega), a3 2284 (by unfold stT; omega) (by omega), t 10 (by decide)]
      rcases b with ⟨s1, s2, s3, f, f1, f2, f4⟩ | b
      · exact Or.inl ⟨s1, s2, s3, f, f1, f2, by rw [a1 (f + 1) (by unfold stC; have := f2.2; omega) (by have := f2.2; omega)]; exact f4⟩
      · exact Or.inr b
end
theorem SX_K : sxK SXc := fun I I' J J' Y mm X Nn h g => by
  obtain ⟨a1, a2, a3, a4⟩ := id g
  refine SX_gen h ⟨fun c p _ => a1 c p, a2, fun c p _ => a3 c p, a4⟩ (fun Wn ns ws ls W z => ?_)
  obtain ⟨⟨_, _, h4, _, h6, _⟩, _, hC, _⟩ := W
  rw [a1 58 (by unfold stC; omega), a1 61 (by unfold stC; omega), a3 2172 (by unfold stT; omega), a3 2173 (by unfold stT; omega), a3 2174 (by unfold stT; omega)]
  refine ⟨fun w hw => (h6 w hw).2, fun m hm => ⟨?_, (hC m hm).2.2.2.2⟩⟩
  obtain ⟨o, _, _, _, _, _, _, _, _, q⟩ := h4 m hm
  exact q
theorem SX_D : sxD SXc := fun I I' Y mm X Nn h => ⟨h.1, fun z => by
  obtain ⟨Wn, ns, ws, ls, W, _⟩ := h.2.2 z
  exact ⟨Wn, ns, ws, ls, W.1⟩⟩
theorem SX_P : sxP SXc := fun I I' Y mm X Nn h z => by
  obtain ⟨Wn, ns, ws, ls, W, P, _⟩ := h.2.2 z
  exact ⟨Wn, ns, ws, ls, W.1, P⟩
theorem SX_C : sxC SXc := fun I I' Y mm X Nn h z => by
  obtain ⟨Wn, ns, ws, ls, W, _⟩ := h.2.2 z
  exact ⟨Wn, ns, ws, ls, W.1, W.2.1, W.2.2.1⟩
theorem SX_B : sxB SXc := fun I I' Y mm X Nn h z => by
  obtain ⟨Wn, ns, ws, ls, W, _, pw, B⟩ := h.2.2 z
  exact ⟨W.1.1.1, W.1.1.2.2, pw, B⟩
theorem SX_G : sxG SXc := fun I I' Y mm X Nn h => ⟨h.2.1, fun z => by
  obtain ⟨Wn, ns, ws, ls, W, _⟩ := h.2.2 z
  exact ⟨Wn, ns, ws, ls, W⟩⟩
theorem SX_W : sxW SXc := fun I I' J J' Y mm X Nn h z g hw => by
  obtain ⟨Wn, ns, ws, ls, W, g1, g2⟩ := hw
  refine SX_gen h g (fun Wn' ns' ws' ls' W' _ => ?_)
  have eW : Wn' = Wn := by
    have a := W.1.2.1.2.2.2.2.2.1
    have b := W'.1.2.1.2.2.2.2.2.1
    omega
  subst eW
  have en : ∀ m, m ≤ mm → ns' m = ns m := fun m hm => by
    by_cases q : m < mm
    · obtain ⟨_, _, ⟨_, _, a, _⟩, _⟩ := W.1.2.2.1 m q
      obtain ⟨_, _, ⟨_, _, b, _⟩, _⟩ := W'.1.2.2.1 m q
      omega
    · have e : m = mm := by omega
      rw [e, W.1.2.1.1, W'.1.2.1.1]
  have ew : ∀ m, m ≤ mm → ws' m = ws m := fun m hm => by
    by_cases q : m < mm
    · obtain ⟨_, _, _, ⟨_, _, a, _⟩, _⟩ := W.1.2.2.1 m q
      obtain ⟨_, _, _, ⟨_, _, b, _⟩, _⟩ := W'.1.2.2.1 m q
      omega
    · have e : m = mm := by omega
      rw [e, W.1.2.1.2.2.1, W'.1.2.1.2.2.1]
  refine ⟨g1, fun m hm => ?_⟩
  rw [en m (by omega), ew m (by omega), ew (m + 1) (by omega)]
  exact g2 m hm
