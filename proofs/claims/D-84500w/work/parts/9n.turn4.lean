/-! ===== whose turn is next, the model ===== -/
set_option maxRecDepth 20000
set_option maxHeartbeats 4000000
section
variable {d : Nat} {Y : vY} {I : vJ} {Q : vE → Prop}
theorem t_241 {N : Nat} {x1 x2 x3 x4 : Int} {x5 : vV} (hL : vL Y) (hN : I 2075 7729 = N) (hN2 : N ≤ 20000) : vW d 409 (241, [vr 2075, vi x1, vi x2, vi x3, vi x4, x5], [], (I, Y)) Q ↔ Q (.inl none, (if N = 20000 then up I 2075 7728 4 else I, Y)) := by
  rw [b409_241 hL, hN]
  by_cases z : N = 20000
  · rw [if_neg (by rw [z]; exact fun q => q rfl), if_pos z, b409_251 hL, b409_256]
  · rw [if_pos (by rw [w32_id (by omega) (by omega), w32_id (by decide) (by decide)]; omega), if_neg z, b409_256]
/-- all have ended, or none goes -/
theorem t_over {th : Nat} (hL : vL Y) (hth : I 2075 7731 = th) (h8 : th ≤ 8) (hst : ∀ u, u < th → 0 ≤ I 2187 u ∧ I 2187 u ≤ 4) (hf : I 2075 7827 = 0 ∨ I 2075 7827 = 1) (hx : ce (I 2187) th = th ∨ cg (I 2187) th = 0) : vW (d + 1) 409 (0, [vr 2075, vi 1, vu, vu, vu, vu], [], (I, Y)) Q ↔ Q (.inl none, (up (if I 2075 7827 = 0 then I else up I 2075 7740 (sdn (I 2075 7740))) 2075 7728 (if ce (I 2187) th = th then 2 else 3), Y)) := by
  have eb := ce_le (I 2187) th
  have key : ∀ M : vJ, M 2075 7731 = th → (vW (d + 1) 409 (89, [vr 2075, vi 1, vi ((cg (I 2187) th : Nat) : Int), vi ((ce (I 2187) th : Nat) : Int), vi th, vu], [], (M, Y)) Q ↔ Q (.inl none, (up M 2075 7728 (if ce (I 2187) th = th then 2 else 3), Y))) := fun M hM => by
    rw [b409_89 hL, hM]
    by_cases z : ce (I 2187) th = th
    · rw [if_neg (by rw [z]; exact fun q => q rfl), if_pos z, b409_97 hL, b409_256]
    · have g0 := hx.resolve_left z
      rw [if_pos (by rw [w32_id (by omega) (by omega), w32_id (by omega) (by omega)]; omega), if_neg z, b409_105, if_neg (by rw [g0]; decide), b409_109 hL, b409_256]
  rw [t_cnt hL hth h8 hst, b409_58, if_neg (by decide), b409_62 hL]
  rcases hf with z | z
  · rw [z, if_pos (by decide), if_pos rfl]
    exact key I hth
  · rw [z, if_neg (by decide), if_neg (by decide), b409_69 hL]
    exact key _ (by rw [up_place _ _ (by decide)]; exact hth)
theorem t_turns {th t tau N : Nat} {s : Int} (hL : vL Y) (hth : I 2075 7731 = th) (h8 : th ≤ 8) (hst : ∀ u, u < th → 0 ≤ I 2187 u ∧ I 2187 u ≤ 4) (ht : t < th) (htu : I 2075 7730 = t) (hs : 0 ≤ I 2075 7740 ∧ I 2075 7740 < 2147483648) (hf : I 2075 7827 = 0 ∨ I 2075 7827 = 1) (hN : I 2075 7729 = N) (hN2 : N ≤ 20000) (hce : ce (I 2187) th ≠ th) (hx : nxT (I 2187) th t (I 2075 7827 ≠ 0) (I 2075 7740) tau s) : vW (d + 1) 409 (0, [vr 2075, vi 1, vu, vu, vu, vu], [], (I, Y)) Q ↔ Q (.inl none, (if N = 20000 then up (up (up I 2075 7740 s) 2075 7730 (tau : Int)) 2075 7728 4 else up (up I 2075 7740 s) 2075 7730 (tau : Int), Y)) := by
  obtain ⟨x1, x2, x3⟩ := hx
  have eb := ce_le (I 2187) th
  have gb := cg_le (I 2187) th
  have g0 : 0 < cg (I 2187) th := by
    have mo := cg_mono (I 2187) (show tau + 1 ≤ th by omega)
    rw [cg_s, if_pos x2] at mo
    omega
  have key : ∀ M : vJ, M 2075 7731 = th → (vW (d + 1) 409 (89, [vr 2075, vi 1, vi ((cg (I 2187) th : Nat) : Int), vi ((ce (I 2187) th : Nat) : Int), vi th, vu], [], (M, Y)) Q ↔ vW (d + 1) 409 (117, [vr 2075, vi 1, vi ((cg (I 2187) th : Nat) : Int), vi ((ce (I 2187) th : Nat) : Int), vi th, vu], [], (M, Y)) Q) := fun M hM => by
    rw [b409_89 hL, hM, if_pos (by rw [w32_id (by omega) (by omega), w32_id (by omega) (by omega)]; omega), b409_105, if_pos (by rw [w32_id (by omega) (by omega)]; omega)]
  rw [t_cnt hL hth h8 hst, b409_58, if_neg (by decide), b409_62 hL]
  rcases x3 with ⟨n1, n2, n3⟩ | ⟨n1, n2, n3⟩
  · subst n2
    have z : I 2075 7827 = 0 := by
      rcases hf with q | q
      · exact q
      · exact absurd (by rw [q]; decide) n1
    rw [up_self, z, if_pos (by decide), key I hth, m409_117 hL, z, if_pos (Or.inl (by decide)), b409_189 hL, htu, t_rdy hL (by omega) (hst t ht)]
    simp only [vWC_s, Nat.reduceAdd]
    rcases n3 with ⟨y1, y2⟩ | ⟨y1, y2⟩
    · subst y2
      rw [if_pos y1, b409_197, if_pos (by decide), t_241 hL hN hN2, ← htu, up_self]
    · rw [if_neg y1, b409_197, if_neg (by decide), b409_200 hL, hth]
      have p := t_down (d := d) (Y := Y) (I := I) (Q := Q) (th := th) (u := tau) (x1 := 1) (n := ((cg (I 2187) th : Nat) : Int)) (e := ((ce (I 2187) th : Nat) : Int)) hL h8 hst x1 x2 (fun v hv q => by
        have mo := cg_mono (I 2187) (show v + 1 ≤ tau by omega)
        rw [cg_s, if_pos q] at mo
        omega) th (I 2075 7730) (Nat.le_refl _) (fun q => by omega)
      rw [up_self] at p
      rw [p, t_241 hL (by rw [up_place _ _ (by decide)]; exact hN) hN2]
  · subst n2
    have z : I 2075 7827 = 1 := by
      rcases hf with q | q
      · exact absurd q n1
      · exact q
    have sb := sdn_ok hs.1 hs.2
    obtain ⟨S, hS⟩ : ∃ S : Nat, sdn (I 2075 7740) = S := ⟨(sdn (I 2075 7740)).toNat, by omega⟩
    have e : (w64 (I 2075 7740 * 1103515245 + 12345)).tmod (w64 2147483648) = (S : Int) := hS
    rw [hS, tn0] at n3
    have r87 : up I 2075 7740 (S : Int) 2187 = I 2187 := up_row _ (by decide) _ _
    rw [z, if_neg (by decide), b409_69 hL, e, key _ (by rw [up_place _ _ (by decide)]; exact hth), m409_117 hL, up_place _ _ (by decide), z, if_neg (fun q => q.elim (by decide) (by decide)), b409_128 hL (by rw [w32_id (by omega) (by omega), w64_id (by omega) (by omega)]; omega), up_same, ix_t (by omega) (by omega), hS]
    have p := t_pick1 (d := d) (Y := Y) (I := up I 2075 7740 (S : Int)) (Q := Q) (th := th) (x := S / 65536 % cg (I 2187) th) (u := tau) (x1 := 1) (n := ((cg (I 2187) th : Nat) : Int)) (e := ((ce (I 2187) th : Nat) : Int)) hL (by rw [up_place _ _ (by decide)]; exact hth) h8 (fun v hv => by rw [r87]; exact hst v hv) x1 (by rw [r87]; exact x2) (by rw [r87]; exact n3) tau 0 (by omega)
    have e9 : ((S / 65536 % cg (I 2187) th : Nat) : Int) - ((cg (up I 2075 7740 (S : Int) 2187) 0 : Nat) : Int) = ((S / 65536 % cg (I 2187) th : Nat) : Int) := Int.sub_zero _
    rw [e9] at p
    refine Iff.trans p ?_
    rw [t_241 hL (by rw [up_place _ _ (by decide), up_place _ _ (by decide)]; exact hN) hN2]
end
