/-! ===== path: the question in both houses ===== -/
set_option maxRecDepth 20000
set_option maxHeartbeats 4000000
/-- what load settles of a member's paths -/
def spM (I I' : vJ) (X m : Nat) (ns : Nat → Nat) : Prop := (0 ≤ I' 2179 m ∧ I' 2179 m ≤ 1000000) ∧ (∀ n, ns m ≤ n → n < ns (m + 1) → I 38 n ≠ 1 → I 38 n ≠ 2 → spN I I' X n ∧ ∀ w : Nat, I 48 n ≤ w → (w : Int) < I 48 (n + 1) → enD I w = 0 → (ns m : Int) ≤ I 51 w ∧ I 51 w < ns (m + 1)) ∧ (I' 2178 (ns m) = 0 ∧ I 38 (ns m) ≠ 1 ∧ I 38 (ns m) ≠ 2) ∧ (∀ n, ns m ≤ n → n < ns (m + 1) → I' (X + 26) n = 1 → I 64 (hdN (I' (X + 26)) n) = I' 2178 n ∧ (0 ≤ I' 2178 n ∧ I' 2178 n ≤ 1000000) ∧ I 38 n ≠ 1 ∧ I 38 n ≠ 2) ∧ ∀ p : Int, 0 ≤ p → p < I' 2179 m → p - I' 2178 (pkN (I' (X + 26)) (I' 2178) p (ns m) (ns (m + 1) - ns m)) < I 62 (pkN (I' (X + 26)) (I' 2178) p (ns m) (ns (m + 1) - ns m))
section
variable {d d' : Nat} {Y : vY} {I I' : vJ} {mm X Nn Wn : Nat} {ns ws ls : Nat → Nat}
/-- the walk of a path that is there -/
theorem q_path1 {m : Nat} {p x3 : Int} (hL : vL Y) (S : SDm I I' Y mm X Nn Wn ns ws ls) (m1 : m < mm) (M : spM I I' X m ns) (h0 : 0 ≤ p) (h1 : p < I' 2179 m) : ∃ v : Int, (inI x3 → x3 < -1 → v = -1) ∧ An (d + 1) 124 [vr 57, vr (Y.1 1989 m), vi p, vi x3, vu, vu, vu, vu, vu, vu] I Y v ∧ ∀ P : vE → Prop, vW (d' + 1) 387 (35, [vr 2075, vi (m : Int), vi p, vi x3, vu, vu, vu, vu, vu], [], (I', Y)) P ↔ P (.inl (some (vi v)), (I', Y)) := by
  obtain ⟨⟨a1, a2⟩, a3, ⟨a4, a5, a6⟩, a7, a8⟩ := M
  have ip : inI p := by unfold inI; omega
  have tp := fun P => t_pkN (d := d') (P := P) (x3 := x3) hL S m1 ip (fun n u v w => by have q := (a7 n u v w).2.1; unfold inI; omega)
  obtain ⟨⟨t1, _, t3⟩, ⟨_, s2, _, _, _, _, _, s8⟩, s9, _, _, s10, s11⟩ := S
  obtain ⟨o, ⟨o1, o2, o3, o4⟩, ⟨g1, g2, g3, g4, g5⟩, ⟨w1, w2, w3, w4, w5⟩, ⟨l1, l2, l3, l4, l5⟩, _⟩ := s9 m m1
  have e0 := s11 m (by omega)
  have e1 := s11 (m + 1) (by omega)
  clear s11 s9
  have o0 : o ≠ 0 := by omega
  have h64 : ∀ l, ls m ≤ l → l < ls m + (ls (m + 1) - ls m) → inI (I 64 l) := fun l u v => by
    obtain ⟨n, n1, n2, n3, n4⟩ := hd_find (f := I' (X + 26)) (A := ns m) (l := l) (by omega) (ns (m + 1) - ns m) (ns (m + 1)) (by omega) (fun n hn => (s10 n (by omega)).1) (by omega)
    have q := a7 n n1 n2 n3
    rw [n4] at q
    rw [q.1]
    unfold inI; omega
  have cp := fun P => c_pkL (d := d + 1) (P := P) (o := o) (A := ls m) (r := ls (m + 1) - ls m) (p := p) (x3 := x3) hL o0 o4 ip l1 (by rw [l2]; omega) (by omega) h64
  have ps := pk_same (f := I' (X + 26)) (off := I' 2178) (o64 := I 64) (p := p) (A := ns m) (ns (m + 1) - ns m) (fun n u v => ⟨(s10 n (by omega)).1, fun w => (a7 n u (by omega) w).1⟩)
  rw [show ns m + (ns (m + 1) - ns m) = ns (m + 1) by omega, ← e0, ← e1] at ps
  have hR := a8 p h0 h1
  generalize pkN (I' (X + 26)) (I' 2178) p (ns m) (ns (m + 1) - ns m) = n at *
  have hG : ∀ n, (ns m ≤ n ∧ n < ns (m + 1) ∧ I 38 n ≠ 1 ∧ I 38 n ≠ 2) → n < 700 ∧ spN I I' X n := fun n q => ⟨by omega, (a3 n q.1 q.2.1 q.2.2.1 q.2.2.2).1⟩
  have hC : ∀ n w : Nat, (ns m ≤ n ∧ n < ns (m + 1) ∧ I 38 n ≠ 1 ∧ I 38 n ≠ 2) → I 48 n ≤ w → (w : Int) < I 48 (n + 1) → enD I w = 0 → (ns m ≤ (I 51 w).toNat ∧ (I 51 w).toNat < ns (m + 1) ∧ I 38 (I 51 w).toNat ≠ 1 ∧ I 38 (I 51 w).toNat ≠ 2) := fun n w q u v e => by
    have r := (a3 n q.1 q.2.1 q.2.2.1 q.2.2.2).2 w u v e
    unfold enD at e
    have z : ¬ (I 53 w = 1 ∨ I 38 (I 51 w).toNat = 1 ∨ I 38 (I 51 w).toNat = 2) := fun y => by
      rw [if_pos y] at e
      exact absurd e (by decide)
    exact ⟨by omega, by omega, fun y => z (Or.inr (Or.inl y)), fun y => z (Or.inr (Or.inr y))⟩
  have gn : (ns m ≤ n ∧ n < ns (m + 1) ∧ I 38 n ≠ 1 ∧ I 38 n ≠ 2) ∧ 0 ≤ p - I' 2178 n ∧ p - I' 2178 n ≤ 1000000 := by
    rcases ps with ⟨q1, _⟩ | ⟨q1, q2, q3, _, q5⟩
    · rw [q1, a4]
      exact ⟨⟨Nat.le_refl _, g4, a5, a6⟩, by omega, by omega⟩
    · have r := a7 n q1 q2 q3
      exact ⟨⟨q1, q2, r.2.2⟩, by omega, by omega⟩
  obtain ⟨v, v0, v1, v2⟩ := p_walk (d := d) (d' := d') (G := fun n => ns m ≤ n ∧ n < ns (m + 1) ∧ I 38 n ≠ 1 ∧ I 38 n ≠ 2) (X := X) (o := o) (m := m) (p := p) (x3 := x3) (x4 := pkL (I 64) p (ls m) (ls (m + 1) - ls m)) hL t1 t3 o0 o4 (by omega) (by rw [w1, w3]) hG hC 700 n (p - I' 2178 n) 0 (by omega) gn.1 gn.2.1 hR gn.2.2 (by omega) (by omega)
  refine ⟨v, v0, fun P => ?_, fun P => ?_⟩
  · rw [o1, cp]
    rcases ps with ⟨q1, q2⟩ | ⟨q1, q2, q3, q4, q5⟩
    · rw [q2] at v1 ⊢
      rw [b124_44, if_neg (by decide), b124_50, b124_63, b124_65, if_neg (by decide), b124_71 o0 o4, b124_88, g1, ← q1]
      have e : p - I' 2178 n = p := by rw [q1, a4, Int.sub_zero]
      rw [e] at v1
      exact v1 vu P
    · have r := a7 n q1 q2 q3
      have r2 := ((s10 n (by omega)).2 q3).1
      rw [q4] at v1 ⊢
      have hb := hd_mono (I' (X + 26)) (show n + 1 ≤ ns (m + 1) by omega)
      rw [hdN_1 q3, ← e1] at hb
      generalize hdN (I' (X + 26)) n = l at *
      have jw : w32 (l : Int) ≠ w32 (-1) := by
        rw [w32_id (by omega) (by omega)]
        exact fun q => absurd (show (l : Int) = -1 from q) (by omega)
      rw [b124_44, if_pos jw, b124_54 hL (by omega) (by omega), b124_63, b124_65, if_pos jw, b124_78 hL (by omega) (by omega), b124_88, tn0, r.1, r2]
      exact v1 vu P
  · rw [tp, b387_94 hL (by omega) (by omega), tn0]
    exact v2 vu P
end
