/-! ===== the longest chain of steps, in both houses ===== -/
set_option maxRecDepth 20000
set_option maxHeartbeats 4000000
theorem c_max {d : Nat} {I : vJ} {Y : vY} {P : vE → Prop} {a b : Int} : vW d 503 (0, [vi a, vi b], [], (I, Y)) P ↔ P (.inl (some (vi (if w32 a < w32 b then b else a))), (I, Y)) := by
  rw [m503_0, b503_10]
section
variable {d d' : Nat} {Y Y' : vY} {I I' : vJ} {Q : vE → vE → Prop}
/-- the house: the steps behind which a step is -/
theorem c_lnk {P : vE → Prop} {K : vJ} {pc N E s lo : Nat} {x3 : Int} (hL : vL Y) (e5 : E ≤ 50000) (N2 : N ≤ 20000) (hb : ∀ e, e < E → 1 ≤ K 2042 (e + 1) ∧ K 2042 (e + 1) ≤ N) : ∀ (k : Nat) (c : Int), lo + k ≤ E → (∀ j, j < k → K 2043 (lo + j + 1) = if j = 0 then 0 else ((lo + j : Nat) : Int)) → (∀ c' : Int, w32 c' = fd (fun e => w32 (K 2065 (K 2042 (e + 1)).toNat)) lo k (w32 c) → vW (d + 1) 197 (71, [vr 1990, vr pc, vr 2065, vi x3, vi (s : Int), vi c', vi 0], [], (K, Y)) P) → vW (d + 1) 197 (38, [vr 1990, vr pc, vr 2065, vi x3, vi (s : Int), vi c, vi (if k = 0 then 0 else ((lo + k : Nat) : Int))], [], (K, Y)) P := by
  intro k
  induction k with
  | zero =>
    intro c _ _ hQ
    rw [if_pos rfl, b197_38, if_pos (by decide)]
    exact hQ c rfl
  | succ k ih =>
    intro c hk hn hQ
    have q := hb (lo + k) (by omega)
    have e1 : (((lo + (k + 1) : Nat) : Int)).toNat = lo + k + 1 := by omega
    have e2 := hn k (by omega)
    rw [if_neg (by omega), b197_38, if_neg (by rw [w32_id (by omega) (by omega)]; omega), b197_43 hL (by omega) (by omega) (by rw [e1]; omega) (by rw [e1, lLn hL 2065 20001 rfl]; omega) (by rw [e1]; omega) (lK hL 2065 100 rfl), e1, c_max]
    simp only [vWC_s, Nat.reduceAdd]
    rw [b197_57 hL (by omega) (by omega), e1, e2]
    refine ih _ (by omega) (fun j hj => hn j (by omega)) (fun c' hc' => hQ c' ?_)
    rw [hc', w32_max]
    rfl
/-- the model: the same, from below -/
theorem t_lnk {P : vE → Prop} {K' : vJ} {N E s lo k : Nat} {x1 x2 x3 x6 x7 c0 : Int} (hL' : vL Y') (e5 : E ≤ 50000) (N2 : N ≤ 20000) (sN : s ≤ N) (hE : K' 2075 7798 = E) (hb : ∀ e, e < E → (1 ≤ K' 2236 e ∧ K' 2236 e ≤ N) ∧ 0 ≤ K' 2235 e ∧ K' 2235 e ≤ N) (hk : lo + k ≤ E) (hs : ∀ j, j < k → K' 2235 (lo + j) = s) (he : lo + k < E → K' 2235 (lo + k) ≠ s) (hQ : ∀ c' : Int, w32 c' = fa c0 (fun e => w32 (K' 2234 (K' 2236 e).toNat)) lo k → vW (d' + 1) 471 (139, [vr 2075, vi x1, vi x2, vi x3, vi ((lo + k : Nat) : Int), vi (s : Int), vi x6, vi x7, vi c'], [], (K', Y')) P) : ∀ (m j : Nat) (c : Int), j + m = k → w32 c = fa c0 (fun e => w32 (K' 2234 (K' 2236 e).toNat)) lo j → vW (d' + 1) 471 (93, [vr 2075, vi x1, vi x2, vi x3, vi ((lo + j : Nat) : Int), vi (s : Int), vi x6, vi x7, vi c], [], (K', Y')) P := by
  intro m
  induction m with
  | zero =>
    intro j c hj hc
    have hj : j = k := by omega
    subst hj
    by_cases z : lo + j < E
    · have q := hb (lo + j) z
      rw [b471_93 hL', hE, if_neg (by rw [w32_id (by omega) (by omega), w32_id (by omega) (by omega)]; omega), b471_102 hL' (by omega) (by omega), tn0, if_pos (by rw [w32_id (by omega) (by omega), w32_id (by omega) (by omega)]; exact he z)]
      exact hQ c hc
    · rw [b471_93 hL', hE, if_pos (by rw [w32_id (by omega) (by omega), w32_id (by omega) (by omega)]; omega)]
      exact hQ c hc
  | succ m ih =>
    intro j c hj hc
    have q := hb (lo + j) (by omega)
    have e9 : ((lo + j : Nat) : Int) + 1 = ((lo + (j + 1) : Nat) : Int) := by omega
    rw [b471_93 hL', hE, if_neg (by rw [w32_id (by omega) (by omega), w32_id (by omega) (by omega)]; omega), b471_102 hL' (by omega) (by omega), tn0, hs j (by omega), if_neg (fun w => w rfl), b471_114 hL' (by omega) (by omega) (by rw [tn0]; omega) (by rw [tn0]; omega), tn0, c_max]
    simp only [vWC_s, Nat.reduceAdd]
    rw [b471_131, e9]
    refine ih (j + 1) _ (by omega) ?_
    rw [w32_max, hc]
    rfl
/-- one step after the other -/
theorem lg_loop {pc N E : Nat} {x1 x2 : Int} (hL : vL Y) (hL' : vL Y') (hpc : (Y.2.1 pc = 100 ∧ Y.2.2.1 pc = 18) ∧ pc ≠ 2065) (hS : sR I I' N E) (hx1 : inI x1) (hpf : ∀ j : Nat, j < 18 → I pc j = if (j : Int) = x1 then x2 else I' 2181 j)
    (hQ : ∀ (J J' : vJ) (x x' : Int), w32 x = w32 x' → fr [2065] [] I J → fr [2234] [] I' J' → Q (.inl (some (vi x)), (J, Y)) (.inl (some (vi x')), (J', Y'))) :
    ∀ (m s : Nat) (K K' : vJ) (x3 x3' : Int) (x5 x6 y6 y7 y8 : vV), s + m = N + 1 → 1 ≤ s → fr [2065] [] I K → fr [2234] [] I' K' → w32 x3 = w32 x3' → K 2065 0 = 0 → (∀ t, 1 ≤ t → t < s → w32 (K 2065 t) = w32 (K' 2234 t)) → vW (d + 1) 197 (9, [vr 1990, vr pc, vr 2065, vi x3, vi (s : Int), x5, x6], [], (K, Y)) (fun r => vW (d' + 1) 471 (8, [vr 2075, vi x1, vi x2, vi x3', vi ((cE (I' 2235) ((s : Int) - 1) E : Nat) : Int), vi (s : Int), y6, y7, y8], [], (K', Y')) (fun r' => Q r r')) := by
  obtain ⟨⟨n1, n2, n3⟩, ⟨m1, m2, m3⟩, e1, e2, e3⟩ := hS
  unfold inI at hx1
  intro m
  induction m with
  | zero =>
    intro s K K' x3 x3' x5 x6 y6 y7 y8 hs s1 F1 F2 hx h0 ht
    have hs : s = N + 1 := by omega
    have hm : ∀ P : vE → Prop, vW (d' + 1) 471 (8, [vr 2075, vi x1, vi x2, vi x3', vi ((cE (I' 2235) ((s : Int) - 1) E : Nat) : Int), vi (s : Int), y6, y7, y8], [], (K', Y')) P ↔ P (.inl (some (vi x3')), (K', Y')) := fun P => by
      rw [b471_8 hL', F2 2075 _ rfl, n2, if_pos (by rw [w32_id (by omega) (by omega), w32_id (by omega) (by omega)]; omega), b471_180]
    simp only [hm]
    rw [b197_9 hL, F1 1990 _ rfl, n1, if_pos (by rw [w32_id (by omega) (by omega), w32_id (by omega) (by omega)]; omega), b197_115]
    exact hQ K K' x3 x3' hx F1 F2
  | succ m ih =>
    intro s K K' x3 x3' x5 x6 y6 y7 y8 hs s1 F1 F2 hx h0 ht
    obtain ⟨h1, ⟨h2, h3, h4⟩, ⟨h5, h6, h7⟩, h8⟩ := e3 s s1 (by omega)
    have lh := cE_mono (eo := I' 2235) (show (s : Int) - 1 ≤ s by omega) E
    have hiE := cE_le (I' 2235) (s : Int) E
    have hin := fun e he => cE_in (s := (s : Int)) (eo := I' 2235) (E := E) e2 e he
    have hlo := fun e he => cE_in (s := (s : Int) - 1) (eo := I' 2235) (E := E) e2 e he
    have hh := hd_cE (eo := I' 2235) (s := (s : Int)) (E := E) e2
    obtain ⟨lo, elo⟩ : ∃ lo : Nat, cE (I' 2235) ((s : Int) - 1) E = lo := ⟨_, rfl⟩
    obtain ⟨k, ek⟩ : ∃ k : Nat, cE (I' 2235) (s : Int) E = lo + k := ⟨cE (I' 2235) (s : Int) E - lo, by omega⟩
    rw [elo] at lh hlo hh ⊢
    rw [ek] at lh hiE hin hh
    have hh2 : I 2041 s = if k = 0 then 0 else ((lo + k : Nat) : Int) := by
      rw [h1, hh]
      by_cases z : k = 0
      · rw [if_pos z, if_neg (by omega)]
      · rw [if_neg z, if_pos (by omega)]
    have blk : ∀ j, j < k → I' 2235 (lo + j) = s := fun j hj => by
      have a := (hin (lo + j) (by omega)).mp (by omega)
      have b : ¬ I' 2235 (lo + j) ≤ (s : Int) - 1 := fun q => by
        have := (hlo (lo + j) (by omega)).mpr q
        omega
      omega
    have ebl : lo + k < E → I' 2235 (lo + k) ≠ s := fun h q => by
      have := (hin (lo + k) h).mpr (by omega)
      omega
    obtain ⟨bf, hbf⟩ : ∃ bf : Nat, I 2044 s = bf := ⟨(I 2044 s).toNat, by omega⟩
    have hbf' : I' 2233 s = bf := by rw [← h2]; exact hbf
    obtain ⟨kd, hkd⟩ : ∃ kd : Nat, I 2045 s = kd := ⟨(I 2045 s).toNat, by omega⟩
    have hkd' : I' 2231 s = kd := by rw [← h5]; exact hkd
    have kd8 : kd < 18 := by omega
    -- the model, up to the links
    obtain ⟨c0, hc0, hw0⟩ : ∃ c0 : Int, (if bf = 0 then 0 else K' 2234 bf) = c0 ∧ w32 (K 2065 bf) = w32 c0 := by
      refine ⟨_, rfl, ?_⟩
      by_cases z : bf = 0
      · rw [if_pos z, z, h0]
      · rw [if_neg z]; exact ht bf (by omega) (by omega)
    have hm : ∀ P : vE → Prop, vW (d' + 1) 471 (8, [vr 2075, vi x1, vi x2, vi x3', vi (lo : Int), vi (s : Int), y6, y7, y8], [], (K', Y')) P ↔ vW (d' + 1) 471 (93, [vr 2075, vi x1, vi x2, vi x3', vi ((lo + 0 : Nat) : Int), vi (s : Int), vi (I pc kd), vi (I pc 17), vi c0], [], (K', Y')) P := fun P => by
      have p1 := hpf kd kd8
      have p2 := hpf 17 (by decide)
      rw [b471_8 hL', F2 2075 _ rfl, n2, if_neg (by rw [w32_id (by omega) (by omega), w32_id (by omega) (by omega)]; omega), b471_17 hL' (by omega) (by omega), tn0, F2 2231 _ rfl, hkd', w32_id (x := (kd : Int)) (by omega) (by omega), w32_id hx1.1 hx1.2]
      have st2 : ∀ v : Int, vW (d' + 1) 471 (44, [vr 2075, vi x1, vi x2, vi x3', vi (lo : Int), vi (s : Int), y6, y7, y8], [vi v], (K', Y')) P ↔ vW (d' + 1) 471 (93, [vr 2075, vi x1, vi x2, vi x3', vi (lo : Int), vi (s : Int), vi v, vi (I pc 17), vi c0], [], (K', Y')) P := fun v => by
        rw [b471_44, m471_46 hL', b471_63, w32_id hx1.1 hx1.2, w32_id (x := 17) (by decide) (by decide), F2 2181 _ rfl, b471_65 hL' (by omega) (by omega), tn0, F2 2233 _ rfl, hbf']
        have e17 : (if x1 ≠ 17 then I' 2181 17 else x2) = I pc 17 := by
          rw [p2]
          by_cases z : x1 = 17
          · rw [if_neg (fun q => q z), if_pos (by rw [z]; rfl)]
          · rw [if_pos z, if_neg (fun q => z q.symm)]
        rw [e17]
        by_cases z : bf = 0
        · rw [z, if_neg (by decide), b471_75, b471_91]
          rw [if_pos z] at hc0
          rw [hc0]
        · rw [if_pos (by rw [w32_id (by omega) (by omega)]; omega), b471_79 hL' (by omega) (by omega) (by rw [tn0, F2 2233 _ rfl, hbf']; omega) (by rw [tn0, F2 2233 _ rfl, hbf']; omega), b471_91, tn0, F2 2233 _ rfl, hbf', tn0]
          rw [if_neg z] at hc0
          rw [hc0]
      by_cases z : (kd : Int) = x1
      · rw [if_pos z] at p1
        rw [if_neg (fun q => q z), b471_28, st2, p1]
        exact Iff.rfl
      · rw [if_neg z] at p1
        rw [if_pos z, b471_32 hL' (by omega) (by omega) (by rw [tn0, F2 2231 _ rfl, hkd']; omega) (by rw [tn0, F2 2231 _ rfl, hkd']; omega), tn0, F2 2231 _ rfl, hkd', tn0, F2 2181 _ rfl, st2, p1]
        exact Iff.rfl
    simp only [hm]
    rw [b197_9 hL, F1 1990 _ rfl, n1, if_neg (by rw [w32_id (by omega) (by omega), w32_id (by omega) (by omega)]; omega), b197_18 hL (by omega) (by omega) (by rw [tn0, F1 2044 _ rfl, hbf]; omega) (by rw [tn0, F1 2044 _ rfl, hbf, lLn hL 2065 20001 rfl]; omega) (by rw [tn0, F1 2044 _ rfl, hbf]; omega) (lK hL 2065 100 rfl), tn0, F1 2044 _ rfl, hbf, tn0, F1 2041 _ rfl, hh2]
    refine c_lnk (d := d) (N := N) (E := E) (lo := lo) hL m3 n3 (fun e he => by rw [F1 2042 _ rfl, (e1 e he).1]; have := (e1 e he).2; omega) k _ (by omega) (fun j hj => ?_) (fun c hc => ?_)
    · rw [F1 2043 _ rfl, (e1 (lo + j) (by omega)).2.2.2.2]
      by_cases z : j = 0
      · rw [if_pos z, if_neg]
        rintro ⟨q1, q2⟩
        have a := (hlo (lo + j - 1) (by omega)).mp (by omega)
        have b := blk j hj
        omega
      · have a := blk (j - 1) (by omega)
        have b := blk j hj
        have w : 0 < lo + j ∧ I' 2235 (lo + j - 1) = I' 2235 (lo + j) := ⟨by omega, by rw [show lo + j - 1 = lo + (j - 1) by omega, a, b]⟩
        rw [if_neg z, if_pos w]
    · refine vW_swap.mpr ?_
      refine t_lnk (d' := d') (N := N) (E := E) (lo := lo) (k := k) (c0 := w32 c0) hL' m3 n3 (by omega) (by rw [F2 2075 _ rfl]; exact m2) (fun e he => by rw [F2 2236 _ rfl, F2 2235 _ rfl]; have := (e1 e he).2; omega) (by omega) (fun j hj => by rw [F2 2235 _ rfl]; exact blk j hj) (fun h => by rw [F2 2235 _ rfl]; exact ebl h) (fun c' hc' => ?_) k 0 c0 (by omega) rfl
      have ec : w32 c = w32 c' := by
        rw [hc, hc', hw0, ← fa_fd]
        refine fa_congr (fun j hj => ?_)
        show w32 (K 2065 (K 2042 (lo + j + 1)).toNat) = w32 (K' 2234 (K' 2236 (lo + j)).toNat)
        have q := e1 (lo + j) (by omega)
        have b := blk j hj
        rw [F1 2042 _ rfl, F2 2236 _ rfl, q.1]
        exact ht _ (by omega) (by omega)
      -- the model puts its sum
      have ev : w32 (c + I pc kd + I 2046 s * I pc 17) = w32 (c' + I pc kd + I pc 17 * I' 2232 s) := by
        rw [h8, Int.mul_comm (I' 2232 s)]
        exact w32_addc (w32_addc ec)
      rw [b471_139 hL' (by omega) (by omega), tn0, F2 2232 _ rfl, up_same, c_max]
      simp only [vWC_s, Nat.reduceAdd]
      rw [b471_173]
      refine vW_swap.mp ?_
      have eK : K pc = I pc := fr_row F1 pc (fun f => by
        unfold frok
        have : Nat.beq 2065 pc = false := by
          cases hq : Nat.beq 2065 pc
          · rfl
          · exact absurd (Nat.eq_of_beq_eq_true hq).symm hpc.2
        simp [this])
      rw [b197_71 hL (by omega) (by omega) (by rw [tn0, F1 2045 _ rfl, hkd]; omega) (by rw [tn0, F1 2045 _ rfl, hkd, hpc.1.2]; omega) (by rw [tn0, F1 2045 _ rfl, hkd]; omega) hpc.1.1 (by rw [hpc.1.2]; decide) (by rw [lLn hL 2065 20001 rfl]; omega) (by omega) (by decide) (lK hL 2065 100 rfl), tn0, F1 2045 _ rfl, hkd, tn0, F1 2046 _ rfl, eK, b197_100 (by omega) (by rw [lLn hL 2065 20001 rfl]; omega) (by omega) (lK hL 2065 100 rfl), tn0, up_same, c_max]
      simp only [vWC_s, Nat.reduceAdd]
      rw [b197_108]
      have es : ((s + 1 : Nat) : Int) - 1 = (s : Int) := by omega
      have k2 := ih (s + 1) (up K 2065 s (c + I pc kd + I 2046 s * I pc 17)) (up K' 2234 s (c' + I pc kd + I pc 17 * I' 2232 s)) (if w32 x3 < w32 (c + I pc kd + I 2046 s * I pc 17) then c + I pc kd + I 2046 s * I pc 17 else x3) (if w32 x3' < w32 (c' + I pc kd + I pc 17 * I' 2232 s) then c' + I pc kd + I pc 17 * I' 2232 s else x3') (vi c) (vi 0) (vi (I pc kd)) (vi (I pc 17)) (vi c') (by omega) (by omega) (fr_upL F1 rfl _ _) (fr_upL F2 rfl _ _) (by rw [w32_max, w32_max, hx, ev]) (by rw [up_place _ _ (by omega)]; exact h0) (fun t t1 t2 => by
        rw [up_at, up_at]
        by_cases z : t = s
        · rw [if_pos z, if_pos z]; exact ev
        · rw [if_neg z, if_neg z]; exact ht t t1 (by omega))
      rw [es, ek] at k2
      exact k2
/-- the longest chain, with prices of the house's cell pc -/
theorem lg_all {pc N E : Nat} {x1 x2 : Int} (hL : vL Y) (hL' : vL Y') (hpc : (Y.2.1 pc = 100 ∧ Y.2.2.1 pc = 18) ∧ pc ≠ 2065) (hS : sR I I' N E) (hx1 : inI x1) (hpf : ∀ j : Nat, j < 18 → I pc j = if (j : Int) = x1 then x2 else I' 2181 j)
    (hQ : ∀ (J J' : vJ) (x x' : Int), w32 x = w32 x' → fr [2065] [] I J → fr [2234] [] I' J' → Q (.inl (some (vi x)), (J, Y)) (.inl (some (vi x')), (J', Y'))) :
    vW (d + 1) 197 (0, [vr 1990, vr pc, vr 2065, vu, vu, vu, vu], [], (I, Y)) (fun r => vW (d' + 1) 471 (0, [vr 2075, vi x1, vi x2, vu, vu, vu, vu, vu, vu], [], (I', Y')) (fun r' => Q r r')) := by
  have c0 : cE (I' 2235) (((1 : Nat) : Int) - 1) E = 0 := by
    have key : ∀ k, k ≤ E → cE (I' 2235) (((1 : Nat) : Int) - 1) k = 0 := by
      intro k
      induction k with
      | zero => intro _; rfl
      | succ k ih =>
        intro hk
        have q := hS.2.2.1 k (by omega)
        show (if I' 2235 k ≤ ((1 : Nat) : Int) - 1 then k + 1 else cE (I' 2235) (((1 : Nat) : Int) - 1) k) = 0
        rw [if_neg (by omega)]
        exact ih (by omega)
    exact key E (Nat.le_refl _)
  have k := lg_loop (d := d) (d' := d') (Q := Q) hL hL' hpc hS hx1 hpf hQ N 1 (up I 2065 0 0) I' 0 0 vu vu vu vu vu (by omega) (Nat.le_refl _) (fr_upL (fr_refl _ _ _) rfl _ _) (fr_refl _ _ _) rfl (up_same _ _ _ _) (fun t t1 t2 => absurd t1 (by omega))
  rw [c0] at k
  simp only [b471_0]
  rw [b197_0 (by rw [lLn hL 2065 20001 rfl]; decide) (by decide) (lK hL 2065 100 rfl), b197_6]
  exact k
end
