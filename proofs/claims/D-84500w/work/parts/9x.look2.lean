/-! ===== a look, in both houses ===== -/
set_option maxRecDepth 20000
set_option maxHeartbeats 4000000
/-- what a look leaves -/
def lkE (I I' : vJ) (n E : Nat) (J J' : vJ) : Prop := pLooks J J' ∧ aR J J' n E ∧ fr [1982, 1983, 1984, 1985, 1986, 1987, 1988] [(1960, 3099), (1960, 3094)] I J ∧ fr [2229, 2260, 2261, 2262, 2264, 2265, 2266] [(2075, 7830), (2075, 7734)] I' J'
section
variable {d d' : Nat} {Y Y' : vY} {I I' : vJ} {Q : vE → vE → Prop} {n : Nat}
theorem lk_look {X mm th E N : Nat} {nm : Nat → Nat} (hL : vL Y) (hL' : vL Y') (hB : lkB Y' X mm nm I I' th n E) (hP : pLooks I I') (hN : I 1990 3388 = N) (hN' : I' 2075 7729 = N) (hst : 1 ≤ I' 2075 7728 ∧ I' 2075 7728 ≤ 4)
    (hQ : ∀ (J J' : vJ) (x : Int), lkE I I' n E J J' → (-1 ≤ x ∧ x < 400) → Q (.inl (some (vi x)), (J, Y)) (.inl (some (vi x)), (J', Y'))) :
    vW (d + 2) 150 (0, [vr 1960, vr 1990, vu, vu], [], (I, Y)) (fun r => vW (d' + 3) 453 (0, [vr 2075, vu, vu], [], (I', Y')) (fun r' => Q r r')) := by
  have hA := hB.2.2.2.2.2.1
  have hP0 := hP
  obtain ⟨⟨p1, p2, p3⟩, p4⟩ := hP
  obtain ⟨lk, hlk⟩ : ∃ lk : Nat, I 1960 3094 = lk := ⟨(I 1960 3094).toNat, by omega⟩
  have hlk' : I' 2075 7734 = lk := by rw [← p1]; exact hlk
  by_cases z : lk = 400
  · have hm : ∀ P : vE → Prop, vW (d' + 3) 453 (0, [vr 2075, vu, vu], [], (I', Y')) P ↔ P (.inl (some (vi (-1))), (I', Y')) := fun P => by
      rw [b453_0 hL', if_neg (by rw [w32_id (by omega) (by omega)]; omega), b453_7 hL', hlk', z, if_neg (fun q => q rfl), b453_17]
    simp only [hm]
    rw [b150_0 hL, hlk, z, if_neg (fun q => q rfl), b150_10]
    exact hQ I I' (-1) ⟨hP0, hA, fr_refl _ _ _, fr_refl _ _ _⟩ ⟨by omega, by omega⟩
  · have lk4 : lk < 400 := by omega
    have hm : ∀ P : vE → Prop, vW (d' + 3) 453 (0, [vr 2075, vu, vu], [], (I', Y')) P ↔ vW (d' + 2) 454 (0, [vr 2075, vu, vu, vu, vu], [], (I', Y')) (vWC (d' + 3) 453 20 3 [vr 2075, vu, vu] [] P) := fun P => by
      rw [b453_0 hL', if_neg (by rw [w32_id (by omega) (by omega)]; omega), b453_7 hL', hlk', if_pos (by rw [w32_id (by omega) (by omega), w32_id (by decide) (by decide)]; omega), b453_19 hL']
    rw [b150_0 hL, hlk, if_pos (by rw [w32_id (by omega) (by omega), w32_id (by decide) (by decide)]; omega), b150_12 hL]
    apply vW_out
    simp only [hm]
    refine r_all hL hL' hB (fun J J' hJ => ?_)
    simp only [vWC_n, Nat.reduceAdd]
    refine vW_swap.mp ?_
    clear hm
    obtain ⟨⟨k, ⟨k1, k2⟩, k3, k4, k5⟩, F1, F2⟩ := hJ
    have kn := mkR_le k3 k4
    obtain ⟨⟨n1, n2⟩, n3, ⟨n4, n5⟩, n6, n7, n8⟩ := hA
    have c1 := c_sum (d := d + 2) (Y := Y) (J := J) (k := k) (P := fun r => vW (d' + 3) 453 (23, [vr 2075, vu, vu], [], (J', Y')) (fun r' => Q r r')) hL k1 (by omega) (fun j hj => by
      obtain ⟨x, x1, x2, _⟩ := k3 j hj
      exact ⟨x, by omega, x2⟩) k 0 (by omega)
    rw [b150_21]
    refine c1.mpr ?_
    clear c1
    have f5 : J 1985 = I 1985 := fr_row F1 1985 (fun _ => rfl)
    have f5' : J' 2229 = I' 2229 := fr_row F2 2229 (fun _ => rfl)
    have f8 : J 2028 = I 2028 := fr_row F1 2028 (fun _ => rfl)
    have f8' : J' 2224 = I' 2224 := fr_row F2 2224 (fun _ => rfl)
    refine c_lost (n := n) (lk := lk) hL n3 (by rw [F1 1990 _ rfl]; exact n1) (by rw [F1 1960 _ rfl]; exact hlk) (fun x hx => (k5 x hx).1.2) (fun x hx => by rw [f5]; exact (n7 x hx).2.2.2.2.2.2.2) (fun K hK hK5 => ?_)
    refine vW_swap.mpr ?_
    rw [b453_23 hL' (by rw [F2 2075 _ rfl, hlk']; omega) (by rw [F2 2075 _ rfl, hlk']; omega), F2 2075 7734 rfl, hlk', F2 2075 7729 rfl, hN', k2, tn0]
    have G2 : fr [2260, 2261, 2262] [(2075, 7734)] J' (up (up (up (up J' 2075 7734 ((lk : Int) + 1)) 2260 lk (N : Int)) 2261 lk (k : Int)) 2262 lk 0) := fr_upL (fr_upL (fr_upL (fr_upP (fr_refl _ _ _) rfl _) rfl _ _) rfl _ _) rfl _ _
    have g0 : up (up (up (up J' 2075 7734 ((lk : Int) + 1)) 2260 lk (N : Int)) 2261 lk (k : Int)) 2262 lk 0 2075 7734 = (lk : Int) + 1 := by rw [up_cell _ (by decide), up_cell _ (by decide), up_cell _ (by decide), up_same]
    have g1 : ∀ j, up (up (up (up J' 2075 7734 ((lk : Int) + 1)) 2260 lk (N : Int)) 2261 lk (k : Int)) 2262 lk 0 2260 j = if j = lk then (N : Int) else J' 2260 j := fun j => by rw [up_cell _ (by decide), up_cell _ (by decide), up_at, up_cell _ (by decide)]
    have g2 : ∀ j, up (up (up (up J' 2075 7734 ((lk : Int) + 1)) 2260 lk (N : Int)) 2261 lk (k : Int)) 2262 lk 0 2261 j = if j = lk then (k : Int) else J' 2261 j := fun j => by rw [up_cell _ (by decide), up_at, up_cell _ (by decide), up_cell _ (by decide)]
    have g3 : ∀ j, up (up (up (up J' 2075 7734 ((lk : Int) + 1)) 2260 lk (N : Int)) 2261 lk (k : Int)) 2262 lk 0 2262 j = if j = lk then 0 else J' 2262 j := fun j => by rw [up_at, up_cell _ (by decide), up_cell _ (by decide), up_cell _ (by decide)]
    generalize up (up (up (up J' 2075 7734 ((lk : Int) + 1)) 2260 lk (N : Int)) 2261 lk (k : Int)) 2262 lk 0 = H' at G2 g0 g1 g2 g3 ⊢
    have h29 : H' 2229 = I' 2229 := by rw [fr_row G2 2229 (fun _ => rfl)]; exact f5'
    have h24 : H' 2224 = I' 2224 := by rw [fr_row G2 2224 (fun _ => rfl)]; exact f8'
    have h66 : H' 2266 = J' 2266 := fr_row G2 2266 (fun _ => rfl)
    refine t_sum (n := n) (lk := lk) hL' n3 (by rw [G2 2075 _ rfl, F2 2075 _ rfl]; exact n2) lk4 (by rw [g3, if_pos rfl]) (fun x hx => by rw [h66, ← (k5 x hx).1.1]; exact (k5 x hx).1.2) (fun x hx => by rw [h29, ← (n7 x hx).1.2.2.2.2.2.2]; exact (n7 x hx).2.2.2.2.2.2.2) (fun K' hK' hK5' hs hs2 => ?_)
    rw [b150_104 hL (by decide) (lK hL 1990 13 rfl) (by rw [hK 1960 _ rfl, F1 1960 _ rfl, hlk]; omega) (by rw [hK 1960 _ rfl, F1 1960 _ rfl, hlk]; omega), hK 1960 3094 rfl, hK 1960 3099 rfl, F1 1960 3094 rfl, hlk, k1, tn0, hK 1990 _ rfl, F1 1990 _ rfl, hN, show (lk : Int) + 1 - 1 = lk by omega]
    -- the sums
    have sums : smL (fun x => 16 + 8 * J 2028 x) (fun j => (J 1986 j).toNat) k = K' 2262 lk := by
      rw [hs, h24, h66, smL_smM (n := n) (mk := J 1988) (fun j hj => ?_) (fun i j hij hj => ?_) (fun x hx q => ?_)]
      · rw [smM_mk (ml := J' 2266) (fun x hx => (k5 x hx).1.1)]
        refine smM_congr (fun x hx => ?_)
        show 16 + 8 * J 2028 x = 16 + 8 * I' 2224 x
        rw [f8, (n7 x hx).1.2.1]
      · obtain ⟨x, x1, x2, _, x4⟩ := k3 j hj
        show (J 1986 j).toNat < n ∧ J 1988 (J 1986 j).toNat = 1
        rw [x2, tn0]; exact ⟨x1, x4⟩
      · obtain ⟨x, x1, x2, _⟩ := k3 i (by omega)
        obtain ⟨y, y1, y2, _⟩ := k3 j hj
        have q := k4 i j hij hj
        show (J 1986 i).toNat ≠ (J 1986 j).toNat
        rw [x2, y2] at q
        rw [x2, y2, tn0, tn0]
        omega
      · obtain ⟨j, j1, j2⟩ := ((k5 x hx).2.1 q).2
        exact ⟨j, j1, by show (J 1986 j).toNat = x; rw [j2, tn0]⟩
    have sb : 0 ≤ K' 2262 lk ∧ K' 2262 lk < 1000000 := by
      have q := smM_bd (f := fun x => 16 + 8 * H' 2224 x) (mk := H' 2266) (b := 1616) (n := n) (fun x hx => by
        have w := n7 x hx
        show 0 ≤ 16 + 8 * H' 2224 x ∧ 16 + 8 * H' 2224 x ≤ 1616
        rw [h24, ← w.1.2.1]
        have w1 := w.2.2.1
        have w2 := w.2.2.2.2.1
        omega)
      rw [← hs] at q
      omega
    rw [sums]
    have E1 : fr [1982, 1983, 1984, 1985, 1986, 1987, 1988] [(1960, 3099), (1960, 3094)] I (up (up (up (up K 1982 lk (N : Int)) 1983 lk (k : Int)) 1984 lk (K' 2262 lk)) 1960 3094 ((lk : Int) + 1)) := fr_upP (fr_upL (fr_upL (fr_upL (fr_trans (fr_weak F1 (by decide) (by decide)) (fr_weak hK (by decide) (by decide))) rfl _ _) rfl _ _) rfl _ _) rfl _
    have E2 : fr [2229, 2260, 2261, 2262, 2264, 2265, 2266] [(2075, 7830), (2075, 7734)] I' K' := fr_trans (fr_weak F2 (by decide) (by decide)) (fr_trans (fr_weak G2 (by decide) (by decide)) (fr_weak hK' (by decide) (by decide)))
    have e0 : up (up (up (up K 1982 lk (N : Int)) 1983 lk (k : Int)) 1984 lk (K' 2262 lk)) 1960 3094 ((lk : Int) + 1) 1960 3094 = (lk : Int) + 1 := up_same _ _ _ _
    have e1 : ∀ j, up (up (up (up K 1982 lk (N : Int)) 1983 lk (k : Int)) 1984 lk (K' 2262 lk)) 1960 3094 ((lk : Int) + 1) 1982 j = if j = lk then (N : Int) else I 1982 j := fun j => by rw [up_cell _ (by decide), up_cell _ (by decide), up_cell _ (by decide), up_at, hK 1982 _ rfl, F1 1982 _ rfl]
    have e2 : ∀ j, up (up (up (up K 1982 lk (N : Int)) 1983 lk (k : Int)) 1984 lk (K' 2262 lk)) 1960 3094 ((lk : Int) + 1) 1983 j = if j = lk then (k : Int) else I 1983 j := fun j => by rw [up_cell _ (by decide), up_cell _ (by decide), up_at, up_cell _ (by decide), hK 1983 _ rfl, F1 1983 _ rfl]
    have e3 : ∀ j, up (up (up (up K 1982 lk (N : Int)) 1983 lk (k : Int)) 1984 lk (K' 2262 lk)) 1960 3094 ((lk : Int) + 1) 1984 j = if j = lk then K' 2262 lk else I 1984 j := fun j => by rw [up_cell _ (by decide), up_at, up_cell _ (by decide), up_cell _ (by decide), hK 1984 _ rfl, F1 1984 _ rfl]
    have e5 : ∀ j, up (up (up (up K 1982 lk (N : Int)) 1983 lk (k : Int)) 1984 lk (K' 2262 lk)) 1960 3094 ((lk : Int) + 1) 1985 j = K 1985 j := fun j => by rw [up_cell _ (by decide), up_cell _ (by decide), up_cell _ (by decide), up_cell _ (by decide)]
    generalize up (up (up (up K 1982 lk (N : Int)) 1983 lk (k : Int)) 1984 lk (K' 2262 lk)) 1960 3094 ((lk : Int) + 1) = G at E1 e0 e1 e2 e3 e5 ⊢
    refine hQ G K' (lk : Int) ⟨⟨⟨?_, ?_, ?_⟩, fun j hj => ?_⟩, ⟨⟨by rw [E1 1990 _ rfl]; exact n1, by rw [E2 2075 _ rfl]; exact n2⟩, n3, ⟨by rw [E1 1990 _ rfl]; exact n4, by rw [E2 2075 _ rfl]; exact n5⟩, n6, fun x hx => ?_, fun e he => by rw [E1 2033 _ rfl, E1 2034 _ rfl, E2 2230 _ rfl]; exact n8 e he⟩, E1, E2⟩ ⟨by omega, by omega⟩
    · rw [e0, hK' 2075 _ rfl, g0]
    · rw [e0]; omega
    · rw [e0]; omega
    · have w := p4 j hj
      rw [e1, e2, e3, hK' 2260 _ rfl, g1, hK' 2261 _ rfl, g2]
      by_cases y : j = lk
      · rw [if_pos y, if_pos y, if_pos y, if_pos y, if_pos y, y]
        exact ⟨rfl, rfl, rfl, sb⟩
      · rw [if_neg y, if_neg y, if_neg y, if_neg y, if_neg y, hs2 j y, g3, if_neg y, F2 2260 _ rfl, F2 2261 _ rfl, F2 2262 _ rfl]
        exact w
    · have w := n7 x hx
      have a5 : G 1985 x = K' 2229 x ∧ -1 ≤ G 1985 x ∧ G 1985 x < 400 := by
        have q5 := w.1.2.2.2.2.2.2
        have b5 := w.2.2.2.2.2.2.2
        rw [e5, hK5 x hx, hK5' x hx, h66, h29, ← (k5 x hx).1.1, f5, ← q5]
        refine ⟨rfl, ?_, ?_⟩
        · split
          · omega
          · exact b5.1
        · split
          · omega
          · exact b5.2
      rw [E1 2027 _ rfl, E1 2028 _ rfl, E1 2029 _ rfl, E1 2030 _ rfl, E1 2031 _ rfl, E1 2032 _ rfl, E2 2223 _ rfl, E2 2224 _ rfl, E2 2225 _ rfl, E2 2226 _ rfl, E2 2227 _ rfl, E2 2228 _ rfl, E1 18 _ rfl]
      exact ⟨⟨w.1.1, w.1.2.1, w.1.2.2.1, w.1.2.2.2.1, w.1.2.2.2.2.1, w.1.2.2.2.2.2.1, a5.1⟩, w.2.1, w.2.2.1, w.2.2.2.1, w.2.2.2.2.1, w.2.2.2.2.2.1, w.2.2.2.2.2.2.1, a5.2⟩
end
