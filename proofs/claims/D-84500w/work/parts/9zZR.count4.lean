/-! ===== count: what comes to a node goes on from it; the activations under way ===== -/
set_option maxRecDepth 20000
set_option maxHeartbeats 4000000
theorem sW_ext {f : Nat → Int} {n : Nat} : ∀ N, n ≤ N → (∀ j, n ≤ j → j < N → f j = 0) → sW f N = sW f n := by
  intro N
  induction N with
  | zero => intro h _; have : n = 0 := by omega
            rw [this]
  | succ N ih =>
    intro h h2
    by_cases z : n = N + 1
    · rw [z]
    · show sW f N + f N = _
      rw [ih (by omega) (fun j a b => h2 j a (by omega)), h2 N (by omega) (by omega)]; omega
/-- what load settles of a member for counts -/
def ctM (I I' : vJ) (X m Nn Wn : Nat) (ns ws : Nat → Nat) : Prop := (I 38 (ns m) = 0 ∧ I 38 (ns m + 1) = 1 ∧ I 38 (ns m + 2) = 2 ∧ ns m + 3 ≤ ns (m + 1)) ∧ (∀ n, ns m + 3 ≤ n → n < ns (m + 1) → 3 ≤ I 38 n) ∧ (∀ n, n < Nn → (I' (X + 37) n = m ↔ ns m ≤ n ∧ n < ns (m + 1))) ∧ (∀ w, w < Wn → ∃ x y : Nat, I 50 w = x ∧ I 51 w = y ∧ (x < Nn ∧ y < Nn) ∧ ((ns m ≤ x ∧ x < ns (m + 1)) ↔ (ws m ≤ w ∧ w < ws (m + 1))) ∧ ((ns m ≤ y ∧ y < ns (m + 1)) ↔ (ws m ≤ w ∧ w < ws (m + 1))) ∧ x ≠ ns m + 1 ∧ x ≠ ns m + 2) ∧ fstR (frF I (ns m)) (toF I (ns m)) (u9 (I 61) (ws m) (ws (m + 1)))
/-- activations at a node; counts, with those of the two ways that are thought -/
def acF (I' : vJ) (n : Nat) : Int := sW (lvA I' n) 320
def cF (I I' : vJ) (a : Nat) (e : Nat) : Int := if e = 2100 then inW I I' (a + 1) else if e = 2101 then inW I I' (a + 2) else I' 2183 e
def rB (p q : Nat) : Nat → Bool := fun e => decide (p ≤ e ∧ e < q)
theorem aB_r {p q : Nat} (hq : q ≤ 2100) : aB p q = uUp (uUp (rB p q) 2100) 2101 := by
  funext e
  unfold aB uUp rB
  by_cases y : e = 2101
  · rw [if_pos y]; exact decide_eq_true (Or.inr (Or.inr y))
  · rw [if_neg y]
    by_cases w : e = 2100
    · rw [if_pos w]; exact decide_eq_true (Or.inr (Or.inl w))
    · rw [if_neg w]
      refine decide_eq_decide.mpr ⟨fun t => ?_, fun t => Or.inl t⟩
      unfold isE at t
      omega
section
variable {I I' : vJ} {X m Nn Wn : Nat} {ns ws : Nat → Nat}
theorem nt_real (h : ctM I I' X m Nn Wn ns ws) (hW : wyN I = Wn) (hq : ws (m + 1) ≤ Wn) (hw2 : Wn ≤ 2100) {n : Nat} (n1 : ns m ≤ n) (n2 : n < ns (m + 1)) : ntU (frF I (ns m)) (toF I (ns m)) (cF I I' (ns m)) (rB (ws m) (ws (m + 1))) n = inW I I' n - ouW I I' n := by
  obtain ⟨_, _, _, h4, _⟩ := h
  unfold ntU inW ouW
  rw [hW, ← sW_sub, sW_ext (n := Wn) 2102 (by omega) (fun j a b => by
    unfold ntE rB
    rw [if_neg]
    intro t
    have := (of_decide_eq_true t).2
    omega)]
  refine sW_congr Wn (fun w hw => ?_)
  show ntE (frF I (ns m)) (toF I (ns m)) (cF I I' (ns m)) (rB (ws m) (ws (m + 1))) n w = (if I 51 w = (n : Int) then I' 2183 w else 0) - (if I 50 w = (n : Int) then I' 2183 w else 0)
  obtain ⟨x, y, x1, y1, _, x2, y2, _⟩ := h4 w hw
  have f1 : frF I (ns m) w = I 50 w := by unfold frF; rw [if_neg (by omega), if_neg (by omega)]
  have t1 : toF I (ns m) w = I 51 w := by unfold toF; rw [if_neg (by omega)]
  have c1 : cF I I' (ns m) w = I' 2183 w := by unfold cF; rw [if_neg (by omega), if_neg (by omega)]
  unfold ntE
  rw [f1, t1, c1]
  by_cases z : ws m ≤ w ∧ w < ws (m + 1)
  · rw [if_pos (show rB (ws m) (ws (m + 1)) w = true from decide_eq_true z)]
  · rw [if_neg (show ¬ rB (ws m) (ws (m + 1)) w = true from fun t => z (of_decide_eq_true t)), x1, y1, if_neg (fun t => z (y2.mp ⟨by omega, by omega⟩)), if_neg (fun t => z (x2.mp ⟨by omega, by omega⟩))]; rfl
/-- what comes to a node of the member goes on from it -/
theorem cn_all (h : ctM I I' X m Nn Wn ns ws) (hW : wyN I = Wn) (hp : ws m ≤ ws (m + 1)) (hq : ws (m + 1) ≤ Wn) (hw2 : Wn ≤ 2100) (hf : ∀ n : Nat, 3 ≤ I 38 n → inW I I' n - ouW I I' n = sW (lvA I' n) 320) (h0 : ∀ k, k < 3 → acF I' (ns m + k) = 0) {n : Nat} (n1 : ns m ≤ n) (n2 : n < ns (m + 1)) : bsA (acF I') (ns m) (ns (m + 1)) n + ntU (frF I (ns m)) (toF I (ns m)) (cF I I' (ns m)) (aB (ws m) (ws (m + 1))) n = 0 := by
  have h' := h
  obtain ⟨⟨k0, k1, k2, k3⟩, h2, h3, h4, _⟩ := h
  have q1 : rB (ws m) (ws (m + 1)) 2100 = false := decide_eq_false (fun t => by have := t.2; omega)
  have q2 : uUp (rB (ws m) (ws (m + 1))) 2100 2101 = false := by unfold uUp; rw [if_neg (by decide)]; exact decide_eq_false (fun t => by have := t.2; omega)
  have r0 : frF I (ns m) 2100 = (ns m : Int) + 1 := rfl
  have r1 : frF I (ns m) 2101 = (ns m : Int) + 2 := rfl
  have r2 : toF I (ns m) 2100 = (ns m : Int) := rfl
  have r3 : toF I (ns m) 2101 = (ns m : Int) := rfl
  have c0 : cF I I' (ns m) 2100 = inW I I' (ns m + 1) := rfl
  have c1 : cF I I' (ns m) 2101 = inW I I' (ns m + 2) := rfl
  have nt : ∀ i : Nat, ns m ≤ i → i < ns (m + 1) → ntU (frF I (ns m)) (toF I (ns m)) (cF I I' (ns m)) (aB (ws m) (ws (m + 1))) i = inW I I' i - ouW I I' i + ((if (ns m : Int) = (i : Int) then inW I I' (ns m + 1) else 0) - (if (ns m : Int) + 1 = (i : Int) then inW I I' (ns m + 1) else 0)) + ((if (ns m : Int) = (i : Int) then inW I I' (ns m + 2) else 0) - (if (ns m : Int) + 2 = (i : Int) then inW I I' (ns m + 2) else 0)) := fun i i1 i2 => by
    rw [aB_r (by omega), nt_more (by decide) q2, nt_more (by decide) q1, nt_real h' hW hq hw2 i1 i2, r0, r1, r2, r3, c0, c1]
  have ou : ∀ k, k = 1 ∨ k = 2 → ouW I I' (ns m + k) = 0 := fun k hk => by
    unfold ouW
    refine sW_zero _ (fun w hw => ?_)
    rw [hW] at hw
    obtain ⟨x, y, x1, _, _, _, _, x3, x4⟩ := h4 w hw
    show (if I 50 w = ((ns m + k : Nat) : Int) then I' 2183 w else 0) = 0
    rw [if_neg (by rw [x1]; omega)]
  have rest : ∀ i : Nat, ns m ≤ i → i < ns (m + 1) → i ≠ ns m → bsA (acF I') (ns m) (ns (m + 1)) i + ntU (frF I (ns m)) (toF I (ns m)) (cF I I' (ns m)) (aB (ws m) (ws (m + 1))) i = 0 := fun i i1 i2 i3 => by
    have t0 : ¬ ((ns m : Int) = (i : Int)) := by omega
    rw [nt i i1 i2, if_neg t0, if_neg t0]
    unfold bsA
    rw [if_pos i2, if_neg i3]
    by_cases y1 : i = ns m + 1
    · subst y1
      rw [ou 1 (Or.inl rfl), h0 1 (by decide), if_pos (show (ns m : Int) + 1 = ((ns m + 1 : Nat) : Int) by omega), if_neg (show ¬ (ns m : Int) + 2 = ((ns m + 1 : Nat) : Int) by omega)]; omega
    · by_cases y2 : i = ns m + 2
      · subst y2
        rw [ou 2 (Or.inr rfl), h0 2 (by decide), if_neg (show ¬ (ns m : Int) + 1 = ((ns m + 2 : Nat) : Int) by omega), if_pos (show (ns m : Int) + 2 = ((ns m + 2 : Nat) : Int) by omega)]; omega
      · rw [if_neg (show ¬ (ns m : Int) + 1 = (i : Int) by omega), if_neg (show ¬ (ns m : Int) + 2 = (i : Int) by omega)]
        have := hf i (h2 i (by omega) i2)
        unfold acF
        omega
  by_cases z : n = ns m
  · subst z
    have tot : sW (fun k => bsA (acF I') (ns m) (ns (m + 1)) (ns m + k) + ntU (frF I (ns m)) (toF I (ns m)) (cF I I' (ns m)) (aB (ws m) (ws (m + 1))) ((ns m + k : Nat) : Int)) (ns (m + 1) - ns m) = bsA (acF I') (ns m) (ns (m + 1)) (ns m + 0) + ntU (frF I (ns m)) (toF I (ns m)) (cF I I' (ns m)) (aB (ws m) (ws (m + 1))) ((ns m + 0 : Nat) : Int) := sW_ind (p := 0) (f := fun k => bsA (acF I') (ns m) (ns (m + 1)) (ns m + k) + ntU (frF I (ns m)) (toF I (ns m)) (cF I I' (ns m)) (aB (ws m) (ws (m + 1))) ((ns m + k : Nat) : Int)) _ (by omega) (fun k hk k0 => rest (ns m + k) (by omega) (by omega) (by omega))
    have sb : sW (fun k => bsA (acF I') (ns m) (ns (m + 1)) (ns m + k)) (ns (m + 1) - ns m) = 0 := by
      have e1 : sW (fun k => bsA (acF I') (ns m) (ns (m + 1)) (ns m + k)) (ns (m + 1) - ns m) = sW (fun k => (if k = 0 then sW (fun k => acF I' (ns m + k)) (ns (m + 1) - ns m) else 0) - acF I' (ns m + k)) (ns (m + 1) - ns m) := sW_congr _ (fun k hk => by
        show bsA (acF I') (ns m) (ns (m + 1)) (ns m + k) = (if k = 0 then sW (fun k => acF I' (ns m + k)) (ns (m + 1) - ns m) else 0) - acF I' (ns m + k)
        unfold bsA
        rw [if_pos (by omega)]
        by_cases k0 : k = 0
        · rw [if_pos (by omega), if_pos k0]; omega
        · rw [if_neg (by omega), if_neg k0]; omega)
      rw [e1, sW_sub, sW_ind (p := 0) (f := fun k => if k = 0 then sW (fun k => acF I' (ns m + k)) (ns (m + 1) - ns m) else 0) _ (by omega) (fun k _ k0 => if_neg k0)]
      show (if (0 : Nat) = 0 then sW (fun k => acF I' (ns m + k)) (ns (m + 1) - ns m) else 0) - _ = 0
      rw [if_pos rfl]; omega
    have sn : sW (fun k => ntU (frF I (ns m)) (toF I (ns m)) (cF I I' (ns m)) (aB (ws m) (ws (m + 1))) ((ns m + k : Nat) : Int)) (ns (m + 1) - ns m) = 0 := by
      unfold ntU
      rw [sW_comm (f := fun k e => ntE (frF I (ns m)) (toF I (ns m)) (cF I I' (ns m)) (aB (ws m) (ws (m + 1))) ((ns m + k : Nat) : Int) e) 2102]
      refine sW_zero 2102 (fun e he => ?_)
      show sW (fun k => ntE (frF I (ns m)) (toF I (ns m)) (cF I I' (ns m)) (aB (ws m) (ws (m + 1))) ((ns m + k : Nat) : Int) e) (ns (m + 1) - ns m) = 0
      by_cases u : aB (ws m) (ws (m + 1)) e = true
      · have ends : ∃ x y : Nat, frF I (ns m) e = ((ns m + x : Nat) : Int) ∧ toF I (ns m) e = ((ns m + y : Nat) : Int) ∧ x < ns (m + 1) - ns m ∧ y < ns (m + 1) - ns m := by
          by_cases y : e = 2101
          · subst y; exact ⟨2, 0, by rw [r1]; omega, by rw [r3]; omega, by omega, by omega⟩
          · by_cases w : e = 2100
            · subst w; exact ⟨1, 0, by rw [r0]; omega, by rw [r2]; omega, by omega, by omega⟩
            · have u2 := of_decide_eq_true u
              unfold isE at u2
              obtain ⟨x, y', x1, y1, _, x2, y2, _⟩ := h4 e (by omega)
              have a1 := x2.mpr ⟨by omega, by omega⟩
              have a2 := y2.mpr ⟨by omega, by omega⟩
              refine ⟨x - ns m, y' - ns m, ?_, ?_, by omega, by omega⟩
              · unfold frF; rw [if_neg w, if_neg y, x1]; omega
              · unfold toF; rw [if_neg (by omega), y1]; omega
        obtain ⟨x, y, ex, ey, lx, ly⟩ := ends
        have e1 : sW (fun k => ntE (frF I (ns m)) (toF I (ns m)) (cF I I' (ns m)) (aB (ws m) (ws (m + 1))) ((ns m + k : Nat) : Int) e) (ns (m + 1) - ns m) = sW (fun k => (if k = y then cF I I' (ns m) e else 0) - (if k = x then cF I I' (ns m) e else 0)) (ns (m + 1) - ns m) := sW_congr _ (fun k hk => by
          show ntE (frF I (ns m)) (toF I (ns m)) (cF I I' (ns m)) (aB (ws m) (ws (m + 1))) ((ns m + k : Nat) : Int) e = _
          unfold ntE
          rw [if_pos u, ex, ey]
          have t1 : (((ns m + y : Nat) : Int) = ((ns m + k : Nat) : Int)) ↔ k = y := by omega
          have t2 : (((ns m + x : Nat) : Int) = ((ns m + k : Nat) : Int)) ↔ k = x := by omega
          simp only [t1, t2])
        rw [e1, sW_sub, sW_ind (p := y) (f := fun k => if k = y then cF I I' (ns m) e else 0) _ ly (fun k _ k0 => if_neg k0), sW_ind (p := x) (f := fun k => if k = x then cF I I' (ns m) e else 0) _ lx (fun k _ k0 => if_neg k0)]
        show (if y = y then cF I I' (ns m) e else 0) - (if x = x then cF I I' (ns m) e else 0) = 0
        rw [if_pos rfl, if_pos rfl]; omega
      · exact sW_zero _ (fun k _ => by unfold ntE; rw [if_neg u])
    rw [sW_add, sb, sn] at tot
    exact tot.symm
  · exact rest n n1 n2 z
end
/-- where activations under way are -/
def acL (I I' : vJ) (X Nn th : Nat) : Prop := (I 1990 3390 = th ∧ I' 2075 7731 = th ∧ th ≤ 8) ∧ ∀ u, u < th → ∃ A : Nat, I 1995 u = A ∧ I' 2186 u = A ∧ A ≤ 40 ∧ ∀ k, k < A → ∃ mb nd : Nat, I 2006 (40 * u + k) = mb ∧ mb < 24 ∧ I 2007 (40 * u + k) = nd ∧ I' 2198 (40 * u + k) = nd ∧ nd < Nn ∧ I' (X + 37) nd = mb ∧ 3 ≤ I 38 nd
theorem lv_z {I I' : vJ} {X Nn th n u k : Nat} (h : acL I I' X Nn th) (hu : u < 8) (hk : k < 40) (hz : u < th → ∀ A : Nat, I' 2186 u = A → A ≤ k) : lvA I' n (40 * u + k) = 0 := by
  unfold lvA
  refine if_neg (fun q => ?_)
  rw [show (40 * u + k) / 40 = u by omega, show (40 * u + k) % 40 = k by omega, h.1.2.1] at q
  have z : u < th := by omega
  obtain ⟨A, _, a2, _⟩ := h.2 u z
  have := hz z A a2
  omega
theorem lv_nd {I I' : vJ} {X Nn th n u k A nd : Nat} (h : acL I I' X Nn th) (hu : u < th) (a2 : I' 2186 u = A) (hk : k < A) (A4 : A ≤ 40) (e : I' 2198 (40 * u + k) = nd) : lvA I' n (40 * u + k) = if n = nd then 1 else 0 := by
  unfold lvA
  rw [show (40 * u + k) / 40 = u by omega, show (40 * u + k) % 40 = k by omega, h.1.2.1, a2, e]
  by_cases z : n = nd
  · rw [if_pos z, if_pos ⟨⟨by omega, by omega⟩, by rw [z]⟩]
  · rw [if_neg z, if_neg (fun q => z (by have := q.2; omega))]
section
variable {d : Nat} {Y : vY} {I I' : vJ} {P : vE → Prop} {X m Nn th a b o : Nat}
/-- the house looks where activations of a member are -/
theorem c_at (hL : vL Y) (hA : acL I I' X Nn th) (ho : 2297 ≤ o ∧ Y.2.1 o = 15 ∧ I o 3850 = a ∧ I o 3851 = (b : Int) - a) (hab : a ≤ b ∧ b ≤ Nn ∧ Nn ≤ 700) (hm : m < 24) (h37 : ∀ n, n < Nn → (I' (X + 37) n = m ↔ a ≤ n ∧ n < b))
    (hQ : ∀ (J : vJ) (x3 : Int) (x4 : vV), fr [2066] [] I J → (∀ n, a ≤ n → n < b → J 2066 n = acF I' n) → vW (d + 1) 15 (147, [vr 18, vi m, vr o, vi x3, x4], [], (J, Y)) P) :
    vW (d + 1) 15 (36, [vr 18, vi m, vr o, vi (a : Int), vu], [], (I, Y)) P := by
  obtain ⟨⟨th1, th2, th8⟩, hA2⟩ := id hA
  have Jo : ∀ J : vJ, fr [2066] [] I J → J o = I o := fun J F => fr_ge F 2297 (by rfl) ho.1
  -- the rows of threads
  have thr : ∀ (s t : Nat) (J : vJ) (x4 : vV), t + s = th → fr [2066] [] I J → (∀ n, a ≤ n → n < b → J 2066 n = sW (lvA I' n) (40 * t)) → vW (d + 1) 15 (64, [vr 18, vi m, vr o, vi (t : Int), x4], [], (J, Y)) P := by
    intro s
    induction s with
    | zero =>
      intro t J x4 hs F h
      have e : t = th := by omega
      subst e
      rw [b15_64 hL, F 1990 _ rfl, th1, if_pos (Int.le_refl _)]
      refine hQ J _ x4 F (fun n n1 n2 => ?_)
      rw [h n n1 n2]
      unfold acF
      refine (sW_ext 320 (by omega) (fun j j1 j2 => ?_)).symm
      have e : j = 40 * (j / 40) + j % 40 := by omega
      rw [e]
      exact lv_z hA (by omega) (by omega) (fun q => by omega)
    | succ s ih =>
      intro t J x4 hs F h
      obtain ⟨A, a1, a2, a3, a4⟩ := hA2 t (by omega)
      rw [b15_64 hL, F 1990 _ rfl, th1, if_neg (by rw [w32_id (by omega) (by omega), w32_id (by omega) (by omega)]; omega), b15_75]
      have inn : ∀ (r k : Nat) (K : vJ), k + r = A → fr [2066] [] I K → (∀ n, a ≤ n → n < b → K 2066 n = sW (lvA I' n) (40 * t + k)) → vW (d + 1) 15 (78, [vr 18, vi m, vr o, vi (t : Int), vi (k : Int)], [], (K, Y)) P := by
        intro r
        induction r with
        | zero =>
          intro k K hr F2 h2
          have e : k = A := by omega
          subst e
          rw [b15_78 hL (by omega) (by omega), tn0, F2 1995 _ rfl, a1, if_pos (Int.le_refl _), b15_141, show (t : Int) + 1 = ((t + 1 : Nat) : Int) by omega]
          refine ih (t + 1) K _ (by omega) F2 (fun n n1 n2 => ?_)
          rw [h2 n n1 n2]
          refine (sW_ext (40 * (t + 1)) (by omega) (fun j j1 j2 => ?_)).symm
          have e : j = 40 * t + (j - 40 * t) := by omega
          rw [e]
          refine lv_z hA (by omega) (by omega) (fun _ A' hA' => ?_)
          rw [a2] at hA'
          omega
        | succ r ih2 =>
          intro k K hr F2 h2
          obtain ⟨mb, nd, c1, c2, c3, c4, c5, c6, _⟩ := a4 k (by omega)
          have e40 : ((t : Int) * 40 + (k : Int)).toNat = 40 * t + k := by omega
          have ek : (k : Int) + 1 = ((k + 1 : Nat) : Int) := by omega
          rw [b15_78 hL (by omega) (by omega), tn0, F2 1995 _ rfl, a1, if_neg (by rw [w32_id (by omega) (by omega), w32_id (by omega) (by omega)]; omega), b15_92 hL (by omega) (by omega), e40, F2 2006 _ rfl, c1, w32_id (show -2147483648 ≤ (mb : Int) by omega) (by omega), w32_id (show -2147483648 ≤ (m : Int) by omega) (by omega)]
          have st : ∀ n, sW (lvA I' n) (40 * t + (k + 1)) = sW (lvA I' n) (40 * t + k) + if n = nd then 1 else 0 := fun n => by
            show sW (lvA I' n) (40 * t + k) + lvA I' n (40 * t + k) = _
            rw [lv_nd hA (by omega) a2 (by omega) a3 c4]
          by_cases z : mb = m
          · have f7 : K 2007 (40 * t + k) = nd := by rw [F2 2007 _ rfl]; exact c3
            rw [if_neg (by omega), b15_111 hL (by omega) (by omega) (by rw [e40, f7]; omega) (by rw [e40, f7]; omega), e40, f7, tn0, b15_135, ek]
            refine ih2 (k + 1) _ (by omega) (fr_upL F2 rfl _ _) (fun n n1 n2 => ?_)
            rw [st, up_at, h2 n n1 n2]
            by_cases y : n = nd
            · subst y
              rw [if_pos rfl, if_pos rfl, h2 n n1 n2]
            · rw [if_neg y, if_neg y]; omega
          · rw [if_pos (by omega), b15_135, ek]
            refine ih2 (k + 1) K (by omega) F2 (fun n n1 n2 => ?_)
            rw [st, h2 n n1 n2, if_neg]
            · omega
            · intro y
              subst y
              have := (h37 n c5).mpr ⟨n1, n2⟩
              omega
      exact inn A 0 J (by omega) F (fun n n1 n2 => by rw [Nat.add_zero]; exact h n n1 n2)
  have zer : ∀ (s n : Nat) (J : vJ), n + s = b → a ≤ n → fr [2066] [] I J → (∀ i, a ≤ i → i < n → J 2066 i = 0) → vW (d + 1) 15 (36, [vr 18, vi m, vr o, vi (n : Int), vu], [], (J, Y)) P := by
    intro s
    induction s with
    | zero =>
      intro n J hs ha F h
      have e : n = b := by omega
      subst e
      rw [b15_36 (by omega) ho.2.1, Jo J F, ho.2.2.1, ho.2.2.2, if_pos (by rw [show (a : Int) + ((n : Int) - a) = n by omega]; exact Int.le_refl _), b15_62]
      exact thr th 0 J vu (by omega) F (fun i i1 i2 => h i i1 i2)
    | succ s ih =>
      intro n J hs ha F h
      rw [b15_36 (by omega) ho.2.1, Jo J F, ho.2.2.1, ho.2.2.2, if_neg (by rw [show (a : Int) + ((b : Int) - a) = b by omega, w32_id (by omega) (by omega), w32_id (by omega) (by omega)]; omega), b15_49 hL (by omega) (by omega), tn0, show (n : Int) + 1 = ((n + 1 : Nat) : Int) by omega]
      refine ih (n + 1) _ (by omega) (by omega) (fr_upL F rfl _ _) (fun i i1 i2 => ?_)
      rw [up_at]
      by_cases z : i = n
      · rw [if_pos z]
      · rw [if_neg z]; exact h i i1 (by omega)
  exact zer (b - a) a I (by omega) (Nat.le_refl _) (fr_refl _ _ _) (fun i i1 i2 => by omega)
end
