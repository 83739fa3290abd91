/-! ===== whose turn is next, each house ===== -/
set_option maxRecDepth 20000
set_option maxHeartbeats 4000000
def sdn (s : Int) : Int := (w64 (s * 1103515245 + 12345)).tmod (w64 2147483648)
theorem sdn_ok {s : Int} (h0 : 0 ≤ s) (h1 : s < 2147483648) : 0 ≤ sdn s ∧ sdn s < 2147483648 := by
  unfold sdn
  rw [w64_id (by omega) (by omega), w64_id (by decide) (by decide)]
  exact ⟨Int.tmod_nonneg _ (by omega), Int.tmod_lt_of_pos _ (by decide)⟩
theorem ix_c {S n : Nat} (hS : S < 2147483648) (hn : n ≤ 8) : (w32 ((w64 (S : Int)).tdiv (w64 65536))).tmod (w32 (n : Int)) = ((S / 65536 % n : Nat) : Int) := by
  have e : (S : Int).tdiv 65536 = ((S / 65536 : Nat) : Int) := rfl
  have b : S / 65536 < 32768 := by omega
  rw [w64_id (by omega) (by omega), w64_id (by decide) (by decide), e, w32_id (by omega) (by omega), w32_id (by omega) (by omega)]
  rfl
theorem ix_t {S n : Nat} (hS : S < 2147483648) (hn : n ≤ 8) : (w64 ((w64 (S : Int)).tdiv (w64 65536))).tmod (w64 (w32 (n : Int))) = ((S / 65536 % n : Nat) : Int) := by
  have e : (S : Int).tdiv 65536 = ((S / 65536 : Nat) : Int) := rfl
  have b : S / 65536 < 32768 := by omega
  rw [w32_id (by omega) (by omega), w64_id (x := (S : Int)) (by omega) (by omega), w64_id (x := 65536) (by decide) (by decide), e, w64_id (by omega) (by omega), w64_id (by omega) (by omega)]
  rfl
/-- the next thread and the next seed -/
def nxT (st : Nat → Int) (th t : Nat) (tn : Prop) (seed : Int) (tau : Nat) (s : Int) : Prop := tau < th ∧ st tau = 0 ∧ ((¬ tn ∧ s = seed ∧ (st t = 0 ∧ tau = t ∨ st t ≠ 0 ∧ cg st tau = 0)) ∨ (tn ∧ s = sdn seed ∧ cg st tau = (sdn seed).toNat / 65536 % cg st th))
theorem nxT_is {st : Nat → Int} {th t : Nat} {tn : Prop} {seed : Int} (hg : 0 < cg st th) (ht : t < th) (hd : tn ∨ ¬ tn) : ∃ tau s, nxT st th t tn seed tau s := by
  rcases hd with z | z
  · obtain ⟨u, u1, u2, u3⟩ := cg_at (st := st) (x := (sdn seed).toNat / 65536 % cg st th) (n := th) (Nat.mod_lt _ hg)
    exact ⟨u, sdn seed, u1, u2, Or.inr ⟨z, rfl, u3⟩⟩
  · by_cases y : st t = 0
    · exact ⟨t, seed, ht, y, Or.inl ⟨z, rfl, Or.inl ⟨y, rfl⟩⟩⟩
    · obtain ⟨u, u1, u2, u3⟩ := cg_at (st := st) (x := 0) (n := th) hg
      exact ⟨u, seed, u1, u2, Or.inl ⟨z, rfl, Or.inr ⟨y, u3⟩⟩⟩
section
variable {d : Nat} {Y : vY} {I : vJ} {Q : vE → Prop}
theorem c_turns {th t tau : Nat} {s : Int} (hL : vL Y) (hth : I 1990 3390 = th) (h8 : th ≤ 8) (hst : ∀ u, u < th → 0 ≤ I 1996 u ∧ I 1996 u ≤ 4) (ht : t < th) (htu : I 1990 3389 = t) (hs : 0 ≤ I 1990 3394 ∧ I 1990 3394 < 2147483648) (hf : inI (I 1990 3395)) (hx : nxT (I 1996) th t (I 1990 3395 ≠ 0) (I 1990 3394) tau s) : vW d 196 (0, [vr 1990, vu, vu, vu], [], (I, Y)) Q ↔ Q (.inl none, (up (up I 1990 3394 s) 1990 3389 (tau : Int), Y)) := by
  obtain ⟨x1, x2, x3⟩ := hx
  have wf : w32 (I 1990 3395) = I 1990 3395 := w32_id (by unfold inI at hf; omega) (by unfold inI at hf; omega)
  rw [c_cnt hL hth h8 hst, b196_37 hL, wf]
  clear wf
  rcases x3 with ⟨n1, n2, n3⟩ | ⟨n1, n2, n3⟩
  · subst n2
    rw [up_self, if_neg n1, b196_44 hL (by omega) (by omega), htu, tn0]
    rcases n3 with ⟨y1, y2⟩ | ⟨y1, y2⟩
    · subst y2
      rw [if_neg (by rw [y1]; decide), b196_56, ← htu, up_self]
    · have b := hst t ht
      rw [if_pos (by rw [w32_id (by omega) (by omega)]; exact y1), b196_89 hL]
      have r96 : up I 1990 3389 (-1) 1996 = I 1996 := up_row _ (by decide) _ _
      have p := c_pick (d := d) (Y := Y) (I := up I 1990 3389 (-1)) (Q := Q) (th := th) (x := 0) (u := tau) (n := ((cg (I 1996) th : Nat) : Int)) hL (by rw [up_place _ _ (by decide)]; exact hth) h8 (fun v hv => by rw [r96]; exact hst v hv) x1 (by rw [r96]; exact x2) (by rw [r96]; exact y2) (up_same _ _ _ _) tau 0 (by omega)
      rw [up_up] at p
      exact p
  · subst n2
    have sb := sdn_ok hs.1 hs.2
    have gb := cg_le (I 1996) th
    obtain ⟨S, hS⟩ : ∃ S : Nat, sdn (I 1990 3394) = S := ⟨(sdn (I 1990 3394)).toNat, by omega⟩
    have g0 : 0 < cg (I 1996) th := by
      have mo := cg_mono (I 1996) (show tau + 1 ≤ th by omega)
      rw [cg_s, if_pos x2] at mo
      omega
    rw [if_pos n1, b196_57 hL (by rw [w32_id (by omega) (by omega)]; omega), b196_89 hL]
    have e : (w64 (I 1990 3394 * 1103515245 + 12345)).tmod (w64 2147483648) = (S : Int) := hS
    rw [e, ix_c (by omega) (by omega), hS]
    rw [hS, tn0] at n3
    have r96 : up (up I 1990 3394 (S : Int)) 1990 3389 (-1) 1996 = I 1996 := by rw [up_row _ (by decide), up_row _ (by decide)]
    have p := c_pick (d := d) (Y := Y) (I := up (up I 1990 3394 (S : Int)) 1990 3389 (-1)) (Q := Q) (th := th) (x := S / 65536 % cg (I 1996) th) (u := tau) (n := ((cg (I 1996) th : Nat) : Int)) hL (by rw [up_place _ _ (by decide), up_place _ _ (by decide)]; exact hth) h8 (fun v hv => by rw [r96]; exact hst v hv) x1 (by rw [r96]; exact x2) (by rw [r96]; exact n3) (up_same _ _ _ _) tau 0 (by omega)
    rw [up_up] at p
    rw [← p]
    exact Iff.of_eq (by rw [show ((S / 65536 % cg (I 1996) th : Nat) : Int) - ((cg (up (up I 1990 3394 (S : Int)) 1990 3389 (-1) 1996) 0 : Nat) : Int) = ((S / 65536 % cg (I 1996) th : Nat) : Int) from Int.sub_zero _]; rfl)
end
