/-! ===== begin: the relation ahead of the first activation ===== -/
set_option maxRecDepth 20000
set_option maxHeartbeats 8000000
def kN (I I' : vJ) (a k : Nat) : Prop := I a 3584 = -1 ∧ I' 2267 k = -1 ∨ I a 3584 = I' 2268 k ∧ 0 ≤ I' 2267 k ∧ inI (I' 2267 k) ∧ inI (I' 2268 k)
/-- what earlier runs have left, in both houses -/
def bgR (I I' : vJ) (C : Nat) : Prop := (∀ j : Nat, j < 400 → I 2035 j = I' 2184 j) ∧ (∀ j : Nat, j < 400 → I 1982 j = I' 2260 j ∧ I 1983 j = I' 2261 j ∧ I 1984 j = I' 2262 j ∧ 0 ≤ I 1984 j ∧ I 1984 j < 1000000) ∧ (∀ u : Nat, u < 8 → (I 2001 u = I' 2191 u ∧ I 2003 u = I' 2192 u) ∧ (-2147483648 ≤ I 1997 u ∧ I 1997 u ≤ 2147483647) ∧ (-2147483648 ≤ I' 2188 u ∧ I' 2188 u ≤ 2147483647) ∧ 0 ≤ I 1999 u ∧ I 1999 u < 1000000) ∧ pFor I I' ∧ (∀ j : Nat, j < 3840 → I 2014 j = I' 2209 j ∧ 0 ≤ I 2014 j ∧ I 2014 j ≤ C) ∧ pKeep I I' ∧ ∃ n : Nat, I 1960 3090 = n ∧ n ≤ 24000 ∧ (∀ j, j < n → ∃ p : Nat, p < 32768 ∧ I 1981 j = p) ∧ (∀ p : Nat, p < 32768 → I 1979 p ≠ 0 → ∃ j, j < n ∧ I 1981 j = (p : Int)) ∧ ∀ p, p < 32768 → I 1979 p = 0 → I 1980 p = 0
theorem bg_tR {I H I' M : vJ} {p V Nn : Nat} {x2 x3 x4 : Int} (hC : bgC I H p V x2 x3 x4) (hT : bgT I' M Nn x2 x3 x4) : tR H M := by
  obtain ⟨_, _, _, _, _, _, ⟨⟨b1, _, _⟩, ⟨b4, b5⟩, b6, _⟩, _⟩ := hC
  obtain ⟨_, ⟨_, _, _, _, _, _, _, _, _, _, _, _, _, _, _, _, g17, _⟩, _, _, _, _, _, _, _, ⟨t9, t9b⟩, t10, _⟩ := hT
  have ls : ∀ (par : Nat → Int) (q : Int), lst par q 2 = -1 := fun par q => by
    show (if 2 ≤ 1 ∧ par 1 = q then ((1 : Nat) : Int) else (if 2 ≤ 0 ∧ par 0 = q then ((0 : Nat) : Int) else -1)) = -1
    rw [if_neg (fun z => absurd z.1 (by decide)), if_neg (fun z => absurd z.1 (by decide))]
  refine ⟨2, ⟨by decide, by decide⟩, b1, g17, fun i hi => ?_, ⟨b4, b5, (b6 0 (by decide)).1, (b6 1 (by decide)).1⟩, fun i h1 h2 => absurd h1 (by omega), fun q hq => ?_, fun i j h1 h2 => absurd h1 (by omega)⟩
  · have x := b6 i hi
    have y := t10 i hi
    refine ⟨?_, by rw [x.1, y.1], by rw [x.2.1, y.2.1], by rw [x.2.2.1, y.2.2]⟩
    have : i = 0 ∨ i = 1 := by omega
    rcases this with rfl | rfl
    · rw [b4, t9]
    · rw [b5, t9b]
  · rw [(b6 q hq).2.2.2.1, ls]
theorem bg_hR {I H I' M : vJ} {p V Nn : Nat} {x2 x3 x4 : Int} (hC : bgC I H p V x2 x3 x4) (hT : bgT I' M Nn x2 x3 x4) : hR H M 0 := by
  obtain ⟨_, _, _, _, _, _, ⟨⟨_, b2, _⟩, _, _, _, _, b9⟩, _⟩ := hC
  obtain ⟨_, ⟨_, _, _, _, _, _, _, _, _, _, _, _, _, g14, _⟩, t2, _⟩ := hT
  refine ⟨⟨b2, g14⟩, by decide, ⟨fun j hj => absurd hj (Nat.not_lt_zero _), fun i j hi => absurd hi (Nat.not_lt_zero _)⟩, ⟨fun j hj => absurd hj (Nat.not_lt_zero _), fun q hq z => absurd (b9 q hq).1 z, fun q hq _ => (b9 q hq).2, fun i hi z => absurd (b9 i hi).1 z⟩, ⟨fun s hs => Or.inl (t2 s hs), fun j hj => absurd hj (Nat.not_lt_zero _), fun s t hs _ _ z => absurd (t2 s hs) z, fun i hi z => absurd (t2 i hi) z⟩, fun j hj => absurd hj (Nat.not_lt_zero _)⟩
theorem bg_loR {I H I' M : vJ} {p V X Nn Lp : Nat} {x2 x3 x4 : Int} (hg : gL I I' X Nn Lp) (hC : bgC I H p V x2 x3 x4) (hT : bgT I' M Nn x2 x3 x4) : loR H M Lp (fun l => (H 54 l).toNat) := by
  obtain ⟨c0, _, _, _, _, _, ⟨_, _, _, _, b8, _⟩, _⟩ := hC
  obtain ⟨_, _, _, _, _, t5, _⟩ := hT
  obtain ⟨⟨g1, g2⟩, _, g3, _⟩ := hg
  have e54 : H 54 = I 54 := fr_row c0 54 (fun _ => rfl)
  rw [e54]
  refine ⟨fun l hl => ?_, fun l k hl hk e => ?_, fun l hl => ?_⟩
  · have q := (g3 l hl).1
    show (I 54 l).toNat < 700
    omega
  · have q := (g3 l hl).2.2.2.1
    have w := (g3 k hk).2.2.2.1
    have e : (I 54 l).toNat = (I 54 k).toNat := e
    rw [e, w] at q
    omega
  · have q := (g3 l hl).1
    have x := b8 l (by omega)
    have y := t5 (I 54 l).toNat (by omega)
    show H 1970 l = M 2241 (I 54 l).toNat ∧ _
    obtain ⟨x1, x2, x3, x4, x5, x6, x7, x8⟩ := x
    obtain ⟨y1, y2, y3, y4, y5, y6, y7, y8⟩ := y
    refine ⟨by rw [x1, y1], by rw [x2, y2], ⟨by rw [x3, y3], by rw [x3]; decide, by rw [x3]; decide⟩, ⟨by rw [x4, y4], by rw [x4]; decide, by rw [x4]; decide⟩, fun h hh => ?_⟩
    have : h = 0 ∨ h = 1 ∨ h = 2 ∨ h = 3 := by omega
    rcases this with rfl | rfl | rfl | rfl
    · exact x5.trans y5.symm
    · exact x6.trans y6.symm
    · exact x7.trans y7.symm
    · exact x8.trans y8.symm
theorem bg_keep {I H I' M : vJ} {p V Nn C : Nat} {x2 x3 x4 : Int} (hb : bgR I I' C) (hC : bgC I H p V x2 x3 x4) (hT : bgT I' M Nn x2 x3 x4) : pKeep H M := by
  obtain ⟨c0, _, _, _, _, ⟨k0, k1, k2, k3⟩, _⟩ := hC
  obtain ⟨t0, _, _, _, _, _, _, _, t8, _⟩ := hT
  obtain ⟨_, _, _, _, _, ⟨b0, b1, b2, b3⟩, _⟩ := hb
  have r72 : M 2272 = I' 2272 := fr_row t0 2272 (fun _ => rfl)
  have r76 : M 2276 = I' 2276 := fr_row t0 2276 (fun _ => rfl)
  have r67 : M 2267 = I' 2267 := fr_row t0 _ (fun _ => rfl)
  have r68 : M 2268 = I' 2268 := fr_row t0 _ (fun _ => rfl)
  have z0 : inI 0 := by unfold inI; omega
  refine ⟨?_, ?_, ?_, ?_⟩
  · have y := t8 0 (by decide)
    unfold kR kA
    rw [k0.1, k0.2.1, k0.2.2.1, k0.2.2.2.1, k0.2.2.2.2.1, k0.2.2.2.2.2, y.1, y.2.1, y.2.2.1, y.2.2.2.1, y.2.2.2.2.1, y.2.2.2.2.2, r72, r76, r67, r68, fr_row c0 2049 (fun _ => rfl), fr_row c0 2050 (fun _ => rfl), c0 2048 _ rfl]
    exact ⟨⟨rfl, by decide, by decide⟩, b0.2.1, rfl, rfl, ⟨rfl, z0⟩, ⟨rfl, z0⟩, rfl, b0.2.2.2.2.2.2.2⟩
  · have y := t8 1 (by decide)
    unfold kR kA
    rw [k1.1, k1.2.1, k1.2.2.1, k1.2.2.2.1, k1.2.2.2.2.1, k1.2.2.2.2.2, y.1, y.2.1, y.2.2.1, y.2.2.2.1, y.2.2.2.2.1, y.2.2.2.2.2, r72, r76, r67, r68, fr_row c0 2052 (fun _ => rfl), fr_row c0 2053 (fun _ => rfl), c0 2051 _ rfl]
    exact ⟨⟨rfl, by decide, by decide⟩, b1.2.1, rfl, rfl, ⟨rfl, z0⟩, ⟨rfl, z0⟩, rfl, b1.2.2.2.2.2.2.2⟩
  · have y := t8 2 (by decide)
    unfold kR kA
    rw [k2.1, k2.2.1, k2.2.2.1, k2.2.2.2.1, k2.2.2.2.2.1, k2.2.2.2.2.2, y.1, y.2.1, y.2.2.1, y.2.2.2.1, y.2.2.2.2.1, y.2.2.2.2.2, r72, r76, r67, r68, fr_row c0 2055 (fun _ => rfl), fr_row c0 2056 (fun _ => rfl), c0 2054 _ rfl]
    exact ⟨⟨rfl, by decide, by decide⟩, b2.2.1, rfl, rfl, ⟨rfl, z0⟩, ⟨rfl, z0⟩, rfl, b2.2.2.2.2.2.2.2⟩
  · have y := t8 3 (by decide)
    unfold kR kA
    rw [k3.1, k3.2.1, k3.2.2.1, k3.2.2.2.1, k3.2.2.2.2.1, k3.2.2.2.2.2, y.1, y.2.1, y.2.2.1, y.2.2.2.1, y.2.2.2.2.1, y.2.2.2.2.2, r72, r76, r67, r68, fr_row c0 2058 (fun _ => rfl), fr_row c0 2059 (fun _ => rfl), c0 2057 _ rfl]
    exact ⟨⟨rfl, by decide, by decide⟩, b3.2.1, rfl, rfl, ⟨rfl, z0⟩, ⟨rfl, z0⟩, rfl, b3.2.2.2.2.2.2.2⟩
theorem bg_PT {Y Y' : vY} {X mm Nn Lp : Nat} {nm pr ht : Nat → Nat} {I H I' M : vJ} {p V C : Nat} {x2 x3 x4 : Int} (hS : ST I I' Y Y' X mm Nn Lp nm pr ht) (hb : bgR I I' C) (C4 : C ≤ 4000000) (hC : bgC I H p V x2 x3 x4) (hT : bgT I' M Nn x2 x3 x4) (hpr : ∀ j : Nat, j < 18 → I 2062 j = I' 2180 j ∧ 0 ≤ I 2062 j ∧ I 2062 j ≤ 1000) (hV : I 1960 3100 = V) (b2 : 0 ≤ x2 ∧ x2 < 2147483648) (b3 : x3 = 0 ∨ x3 = 1) (b4 : 0 ≤ x4 ∧ x4 < 2147483648) (z65 : ∀ j, j < wyN I → H 65 j = 0) (z83 : ∀ j, j < wyN I → M 2183 j = 0) : PT Lp H M ∧ bud H M 0 C := by
  have q1 := bg_tR hC hT
  have q2 := bg_hR hC hT
  have q3 := bg_loR hS.2.2.1 hC hT
  have q6 := bg_keep hb hC hT
  obtain ⟨h1, h2, h3, h4, h5, _, _⟩ := hb
  obtain ⟨c0, ⟨f1, f2, f3, f4, f5, f6, f7, f8, f9, f10, f11, f12, f13, f14, f15, f16⟩, c2, c3, c4, c5, ⟨⟨_, _, k3⟩, _, _, k7, _⟩, c7, c8, c9, c10⟩ := hC
  obtain ⟨t0, ⟨g1, g2, g3, g4, g5, g6, g7, g8, g9, g10, g11, g12, g13, g14, g15, g16, g17, g18⟩, t2, t3, t4, t5, t6, t7, t8, t9, t10, t11, t12, t13⟩ := hT
  have hF : pFor H M := by
    unfold pFor at *
    rw [fr_row c0 2015 (fun _ => rfl), fr_row c0 2016 (fun _ => rfl), fr_row t0 2207 (fun _ => rfl), fr_row t0 2208 (fun _ => rfl)]
    exact h4
  have eN : wyN H = wyN I := by unfold wyN; rw [fr_row c0 35 (fun _ => rfl)]
  have s0 : ∀ (f : Nat → Int) (n : Nat), (∀ j, j < n → f j = 0) → sW f n = 0 := fun f n => by
    induction n with
    | zero => intro _; rfl
    | succ n ih => intro h; show sW f n + f n = 0; rw [ih (fun j hj => h j (by omega)), h n (by omega)]; rfl
  have hfw : fwR H M := by
    refine ⟨fun w hw => ?_, fun n _ => ?_⟩
    · rw [eN] at hw
      rw [z65 w hw, z83 w hw]
      exact ⟨by decide, fun _ => rfl⟩
    · have e1 : inW H M n = 0 := s0 _ _ (fun j hj => by
        rw [eN] at hj
        show (if H 51 j = (n : Int) then M 2183 j else 0) = 0
        rw [z83 j hj]; split <;> rfl)
      have e2 : ouW H M n = 0 := s0 _ _ (fun j hj => by
        rw [eN] at hj
        show (if H 50 j = (n : Int) then M 2183 j else 0) = 0
        rw [z83 j hj]; split <;> rfl)
      have e3 : sW (lvA M n) 320 = 0 := s0 _ _ (fun j hj => by
        unfold lvA
        refine if_neg (fun q => ?_)
        have q1 := q.1.1
        have q2 := q.1.2
        rw [g3] at q1
        rw [show j / 40 = 0 by omega, t12.1] at q2
        omega)
      rw [e1, e2, e3]; rfl
  have ht0 : tot H M = 0 := s0 _ _ (fun j hj => by rw [eN] at hj; exact z83 j hj)
  refine ⟨⟨q1, ⟨0, q2, fun j hj => absurd hj (Nat.not_lt_zero _)⟩, q3, ⟨0, 0, ⟨f10, g11⟩, by decide, ⟨f11, g12⟩, by decide, fun k hk => absurd hk (Nat.not_lt_zero _), fun e he => absurd he (Nat.not_lt_zero _)⟩, ⟨0, 0, ⟨f2, g2, by decide⟩, ⟨f9, g16, by decide⟩, fun e he => absurd he (Nat.not_lt_zero _), fun e he => absurd he (Nat.not_lt_zero _), fun s z1 z2 => absurd z1 (by omega)⟩, q6, ⟨by rw [f5, g9], fun m hm => by rw [(k7 m hm).2, (t7 m hm).2]⟩, fun m hm => by rw [(k7 m hm).1, (t7 m hm).1], ⟨by rw [f6, g10], hfw⟩, ⟨⟨by rw [f12, g13], by rw [f12]; decide, by rw [f12]; decide⟩, fun j hj => by rw [c0 2035 _ rfl, t0 2184 _ rfl]; exact h1 j hj⟩, ⟨by rw [f8, g15], by rw [f8]; decide, by rw [f8]; decide⟩, ⟨⟨by rw [k3, g8], by rw [k3]; decide, by rw [k3]; decide⟩, fun j hj => by rw [c0 1982 _ rfl, c0 1983 _ rfl, c0 1984 _ rfl, t0 2260 _ rfl, t0 2261 _ rfl, t0 2262 _ rfl]; exact h2 j hj⟩, ⟨⟨by rw [f15, g4], by rw [f15]; exact b3⟩, ⟨by rw [f16, g5], by rw [f16]; exact b4.1, by rw [f16]; exact b4.2⟩, fun j hj => by rw [c2 j hj, t3 j hj]; exact hpr j hj⟩, fun j hj => ?_, fun u hu => ?_, fun u hu => ?_, hF, fun j hj => ?_, ⟨⟨by rw [f13, g6], by rw [f13]; exact b2.1, by rw [f13]; exact b2.2⟩, ?_, ⟨by rw [f3, g18], by rw [f3]; decide, by rw [f3, f4]; decide⟩, g1⟩, fun v hv hv2 => ?_⟩, ⟨0, q2, Nat.zero_le _⟩, by rw [f9]; decide, fun j hj => ?_, by rw [ht0, f8]; decide⟩
  · have a := c4 j hj
    have b := t6 j hj
    exact ⟨by rw [a.1, b.1], by rw [a.2.1, b.2.1], by rw [a.2.2.1, b.2.2.1], by rw [a.2.2.2, b.2.2.2]⟩
  · by_cases z : u = 0
    · rw [z]
      exact ⟨by rw [c9.2.2.2.2.1, t12.2.2.2.2.1], by rw [c9.2.2.2.2.2.2.1, t12.2.2.2.2.2.1], fun _ _ => c9.2.2.2.2.2.2.1⟩
    · have q := (h3 u hu).1
      exact ⟨by rw [(c10 u z).1, (t13 u z).2.1]; exact q.1, by rw [(c10 u z).2, (t13 u z).2.2]; exact q.2, fun w => absurd w (by rw [f4]; omega)⟩
  · have q := (h3 u hu).2
    refine ⟨fun w => ?_, by rw [c0 1997 _ rfl]; exact q.1, ?_, by rw [c0 1999 _ rfl]; exact q.2.2⟩
    · have z : u = 0 := by rw [f4] at w; omega
      rw [z, c9.2.2.2.2.2.1, t12.2.2.2.2.2.2.1, t12.2.2.2.2.2.2.2.1, f2]
      exact ⟨rfl, ⟨by decide, by decide⟩, by decide, by decide⟩
    · by_cases z : u = 0
      · rw [z, t12.2.2.1]; exact ⟨by decide, by decide⟩
      · rw [(t13 u z).1]; exact q.2.1
  · rw [c0 2014 _ rfl, t0 2209 _ rfl]
    exact ⟨(h5 j hj).1, (h5 j hj).2.1⟩
  · rw [f14, g7]
    by_cases z : x2 = 0
    · rw [if_pos z]; exact Or.inl ⟨z, rfl⟩
    · rw [if_neg z]; exact Or.inr ⟨by unfold inI; omega, z, rfl⟩
  · have a := c7 v (by rw [c0 1960 _ rfl, hV] at hv2; omega)
    rw [a.1, a.2, (t4 v hv).1]
    exact Or.inl ⟨rfl, rfl, by decide, by decide⟩
  · rw [c0 2014 _ rfl, f8]
    have := (h5 j hj).2.2
    exact ⟨by omega, C4⟩
