/-! ===== path: where a path begins ===== -/
set_option maxRecDepth 20000
set_option maxHeartbeats 4000000
/-- the last head, among t nodes from A on, whose paths begin at or below p (else A) -/
def pkN (f off : Nat → Int) (p : Int) (A : Nat) : Nat → Nat
  | 0 => A
  | t + 1 => if f (A + t) = 0 ∨ p < off (A + t) then pkN f off p A t else A + t
/-- the last loop, among t loops from A on, whose paths begin at or below p (else -1) -/
def pkL (off : Nat → Int) (p : Int) (A : Nat) : Nat → Int
  | 0 => -1
  | t + 1 => if p < off (A + t) then pkL off p A t else ((A + t : Nat) : Int)
/-- both choose alike -/
theorem pk_same {f off o64 : Nat → Int} {p : Int} {A : Nat} : ∀ t, (∀ n, A ≤ n → n < A + t → (f n = 0 ∨ f n = 1) ∧ (f n = 1 → o64 (hdN f n) = off n)) → (pkN f off p A t = A ∧ pkL o64 p (hdN f A) (hdN f (A + t) - hdN f A) = -1) ∨ (A ≤ pkN f off p A t ∧ pkN f off p A t < A + t ∧ f (pkN f off p A t) = 1 ∧ pkL o64 p (hdN f A) (hdN f (A + t) - hdN f A) = hdN f (pkN f off p A t) ∧ off (pkN f off p A t) ≤ p)
  | 0, _ => Or.inl ⟨rfl, by rw [Nat.add_zero, Nat.sub_self]; rfl⟩
  | t + 1, h => by
    have ih := pk_same (off := off) (o64 := o64) (p := p) t (fun n a b => h n a (by omega))
    have m := hd_mono f (show A ≤ A + t by omega)
    have e1 : A + (t + 1) = (A + t) + 1 := by omega
    have en : pkN f off p A (t + 1) = if f (A + t) = 0 ∨ p < off (A + t) then pkN f off p A t else A + t := rfl
    obtain ⟨h1, h2⟩ := h (A + t) (by omega) (by omega)
    rw [e1]
    rcases h1 with q | q
    · rw [hdN_0 q, en, if_pos (Or.inl q)]
      rcases ih with w | ⟨w1, w2, w3, w4, w5⟩
      · exact Or.inl w
      · exact Or.inr ⟨w1, by omega, w3, w4, w5⟩
    · have e2 : hdN f (A + t + 1) - hdN f A = (hdN f (A + t) - hdN f A) + 1 := by rw [hdN_1 q]; omega
      have e3 : hdN f A + (hdN f (A + t) - hdN f A) = hdN f (A + t) := by omega
      have el : pkL o64 p (hdN f A) (hdN f (A + t) - hdN f A + 1) = if p < o64 (hdN f A + (hdN f (A + t) - hdN f A)) then pkL o64 p (hdN f A) (hdN f (A + t) - hdN f A) else ((hdN f A + (hdN f (A + t) - hdN f A) : Nat) : Int) := rfl
      rw [e2, el, e3, h2 q, en]
      by_cases z : p < off (A + t)
      · rw [if_pos z, if_pos (Or.inr z)]
        rcases ih with w | ⟨w1, w2, w3, w4, w5⟩
        · exact Or.inl w
        · exact Or.inr ⟨w1, by omega, w3, w4, w5⟩
      · rw [if_neg z, if_neg (fun w => by rcases w with w | w; · rw [q] at w; exact absurd w (by decide)
                                          · exact z w)]
        exact Or.inr ⟨by omega, by omega, q, rfl, by omega⟩
section
variable {d d' : Nat} {Y : vY} {I I' : vJ}
theorem c_pkL {P : vE → Prop} {o A r : Nat} {p x3 : Int} (hL : vL Y) (o0 : o ≠ 0) (o4 : Y.2.1 o = 15) (hp : inI p) (a1 : I o 3854 = A) (a2 : I o 3855 = r) (a3 : A + r ≤ 260) (h64 : ∀ l, A ≤ l → l < A + r → inI (I 64 l)) : vW d 124 (0, [vr 57, vr o, vi p, vi x3, vu, vu, vu, vu, vu, vu], [], (I, Y)) P ↔ vW d 124 (44, [vr 57, vr o, vi p, vi x3, vi (pkL (I 64) p A r), vi ((A + r : Nat) : Int), vu, vu, vu, vu], [], (I, Y)) P := by
  have key : ∀ (s t : Nat), t + s = r → (vW d 124 (9, [vr 57, vr o, vi p, vi x3, vi (pkL (I 64) p A t), vi ((A + t : Nat) : Int), vu, vu, vu, vu], [], (I, Y)) P ↔ vW d 124 (44, [vr 57, vr o, vi p, vi x3, vi (pkL (I 64) p A r), vi ((A + r : Nat) : Int), vu, vu, vu, vu], [], (I, Y)) P) := by
    intro s
    induction s with
    | zero =>
      intro t ht
      have e : t = r := by omega
      subst e
      rw [b124_9 o0 o4, if_pos (by rw [a1, a2, w32_id (by omega) (by omega), w32_id (by omega) (by omega)]; omega)]
    | succ s ih =>
      intro t ht
      have g := ih (t + 1) (by omega)
      have el : pkL (I 64) p A (t + 1) = if p < I 64 (A + t) then pkL (I 64) p A t else ((A + t : Nat) : Int) := rfl
      rw [el] at g
      have ge : ¬ w32 (I o 3854 + I o 3855) ≤ w32 ((A + t : Nat) : Int) := by
        rw [a1, a2, w32_id (by omega) (by omega), w32_id (by omega) (by omega)]; omega
      have e1 : ((A + t : Nat) : Int) + 1 = ((A + (t + 1) : Nat) : Int) := by omega
      have b := h64 (A + t) (by omega) (by omega)
      have w1 : w32 p = p := w32_id hp.1 hp.2
      have w2 : w32 (I 64 (A + t)) = I 64 (A + t) := w32_id b.1 b.2
      rw [b124_9 o0 o4, if_neg ge, b124_23 hL (by omega) (by omega), tn0, w1, w2]
      clear w1 w2 ge
      by_cases z : p < I 64 (A + t)
      · rw [if_pos z] at g ⊢
        rw [b124_38, e1]; exact g
      · rw [if_neg z] at g ⊢
        rw [b124_34, b124_38, e1]; exact g
  rw [b124_0 o0 o4, a1]
  exact key r 0 (by omega)
end
section
variable {d d' : Nat} {Y : vY} {I I' : vJ} {mm X Nn Wn : Nat} {ns ws ls : Nat → Nat}
theorem t_pkN {P : vE → Prop} {m : Nat} {p x3 : Int} (hL : vL Y) (S : SDm I I' Y mm X Nn Wn ns ws ls) (m1 : m < mm) (hp : inI p) (h78 : ∀ n, ns m ≤ n → n < ns (m + 1) → I' (X + 26) n = 1 → inI (I' 2178 n)) : vW (d + 1) 387 (35, [vr 2075, vi (m : Int), vi p, vi x3, vu, vu, vu, vu, vu], [], (I', Y)) P ↔ vW (d + 1) 387 (94, [vr 2075, vi (m : Int), vi p, vi x3, vi (pkN (I' (X + 26)) (I' 2178) p (ns m) (ns (m + 1) - ns m) : Int), vi (ns (m + 1) : Int), vu, vu, vu], [], (I', Y)) P := by
  have tE := fun P => t_endnod (d := d) S hL m1 P
  obtain ⟨⟨t1, _, t3⟩, ⟨_, s2, _, _, _, _, _, s8⟩, s9, _, _, s10, _⟩ := S
  have r3 : vreg Y 2081 38 (Y.1 2075 7689) := by rw [t1]; exact t3
  obtain ⟨o, _, ⟨_, _, g3, g4, g5⟩, _⟩ := s9 m m1
  clear s9
  have key : ∀ (s t : Nat), t + s = ns (m + 1) - ns m → (vW (d + 1) 387 (50, [vr 2075, vi (m : Int), vi p, vi x3, vi (pkN (I' (X + 26)) (I' 2178) p (ns m) t : Int), vi ((ns m + t : Nat) : Int), vu, vu, vu], [], (I', Y)) P ↔ vW (d + 1) 387 (94, [vr 2075, vi (m : Int), vi p, vi x3, vi (pkN (I' (X + 26)) (I' 2178) p (ns m) (ns (m + 1) - ns m) : Int), vi (ns (m + 1) : Int), vu, vu, vu], [], (I', Y)) P) := by
    intro s
    induction s with
    | zero =>
      intro t ht
      have e : ns m + t = ns (m + 1) := by omega
      have e2 : t = ns (m + 1) - ns m := by omega
      rw [b387_50 hL, tE]
      simp only [vWC_s, Nat.reduceAdd]
      rw [b387_57, e, if_pos (Int.le_refl _), e2]
    | succ s ih =>
      intro t ht
      have g := ih (t + 1) (by omega)
      have en : pkN (I' (X + 26)) (I' 2178) p (ns m) (t + 1) = if I' (X + 26) (ns m + t) = 0 ∨ p < I' 2178 (ns m + t) then pkN (I' (X + 26)) (I' 2178) p (ns m) t else ns m + t := rfl
      rw [en] at g
      have ge : ¬ w32 (ns (m + 1) : Int) ≤ w32 ((ns m + t : Nat) : Int) := by
        rw [w32_id (by omega) (by omega), w32_id (by omega) (by omega)]; omega
      have e1 : ((ns m + t : Nat) : Int) + 1 = ((ns m + (t + 1) : Nat) : Int) := by omega
      rw [b387_50 hL, tE]
      simp only [vWC_s, Nat.reduceAdd]
      rw [b387_57, if_neg ge, b387_60 hL r3 (by omega) (by omega), t1, tn0]
      clear ge
      rcases (s10 (ns m + t) (by omega)).1 with q | q
      · rw [if_pos (Or.inl q)] at g
        rw [q, if_pos (by decide), b387_88, e1]
        exact g
      · have b := h78 (ns m + t) (by omega) (by omega) q
        have w1 : w32 p = p := w32_id hp.1 hp.2
        have w2 : w32 (I' 2178 (ns m + t)) = I' 2178 (ns m + t) := w32_id b.1 b.2
        rw [q, if_neg (by decide), b387_73 hL (by omega) (by omega), tn0, w1, w2]
        clear w1 w2
        by_cases z : p < I' 2178 (ns m + t)
        · rw [if_pos (Or.inr z)] at g
          rw [if_pos z, b387_88, e1]
          exact g
        · rw [if_neg (fun w => by rcases w with w | w; · rw [q] at w; exact absurd w (by decide)
                                  · exact z w)] at g
          rw [if_neg z, b387_84, b387_88, e1]
          exact g
  rw [b387_35 hL r3 (by omega) (by omega), t1, tn0, g3]
  exact key (ns (m + 1) - ns m) 0 (by omega)
end
