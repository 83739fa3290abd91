/-! ===== the law's pairs of calls, first part (partly printed) ===== -/
set_option maxRecDepth 20000
set_option maxHeartbeats 4000000
theorem sL_c {S : Nat → Prop} {v : vV} {l : List vV} (h : sG S v) (t : sL S l) : sL S (v :: l) := fun w hw => (List.mem_cons.mp hw).elim (fun e => e ▸ h) (t w)
theorem sG_i {S : Nat → Prop} (a : Int) : sG S (vi a) := fun _ e => nomatch e
theorem sG_u {S : Nat → Prop} : sG S vu := fun _ e => nomatch e
theorem sG_18 : sG cT (vr 18) := fun a e w => by
  have : 18 = a := Sum.inl.inj (Sum.inr.inj (Sum.inr.inj e))
  unfold cT at w
  omega
theorem sG_m {Y : vY} : sG (cH Y) (vr 2075) := fun a e w => by
  have : 2075 = a := Sum.inl.inj (Sum.inr.inj (Sum.inr.inj e))
  unfold cH at w
  omega
section
variable {L : Nat} {x : Nat → Int} {SX : vJ → vJ → vY → Nat → Nat → Nat → Prop} {k : Nat} {I I' J J' : vJ} {Y : vY}
/-- calls that put neither the run nor what load has settled -/
theorem LW_move (hX : sxK SX) (h : LW L x SX k I I' Y) (F1 : fr [19, 1965, 2062, 2063, 2064, 2065, 2067, 2069, 2070, 2072, 2073, 2074] [(18, 257)] I J) (F2 : fr [2076, 2180, 2182, 2234, 2259, 2277, 2278, 2279] [(2075, 7681)] I' J') (ht : ∃ n, tp J J' n) (hp : pa J J' ∧ kp J J') : LW L x SX (k + 1) J J' Y := by
  obtain ⟨⟨v1, v2, v3, v4, v5, v6⟩, ⟨p1, p2, p3⟩, _, _, mm, X, Nn, Lp, C, nm, pr, ht0, m1, m2, m3, m4, m5⟩ := h
  have a1 : ∀ c, 20 ≤ c → c < 1965 → J c = I c := fun c a b => fr_out F1 20 1965 (by rfl) a b
  have a2 : ∀ c, 1966 ≤ c → c < 2062 → J c = I c := fun c a b => fr_out F1 1966 2062 (by rfl) a b
  have a3 : ∀ c, 2297 ≤ c → J c = I c := fun c a => fr_ge F1 2297 (by rfl) a
  have a4 : ∀ f, f ≠ 257 → J 18 f = I 18 f := fun f hf => F1 18 f (frok_ne rfl (fun p hp e => by simp only [List.mem_singleton] at hp; subst hp; exact fun w => hf w.symm))
  have b1 : ∀ c, 2077 ≤ c → c < 2180 → J' c = I' c := fun c a b => fr_out F2 2077 2180 (by rfl) a b
  have b2 : J' 2181 = I' 2181 := fr_row F2 2181 (fun _ => rfl)
  have b3 : ∀ c, 2183 ≤ c → c < 2234 → J' c = I' c := fun c a b => fr_out F2 2183 2234 (by rfl) a b
  have b4 : ∀ c, 2235 ≤ c → c < 2277 → c ≠ 2259 → J' c = I' c := fun c a b e => by
    by_cases y : c < 2259
    · exact fr_out F2 2235 2259 (by rfl) a y
    · exact fr_out F2 2260 2277 (by rfl) (by omega) b
  have b6 : ∀ c, 2280 ≤ c → c < 2297 → J' c = I' c := fun c a b => fr_out F2 2280 2297 (by rfl) a b
  have b5 : ∀ f, f ≠ 7681 → J' 2075 f = I' 2075 f := fun f hf => F2 2075 f (frok_ne rfl (fun p hp e => by simp only [List.mem_singleton] at hp; subst hp; exact fun w => hf w.symm))
  have sA : sxA Y I I' J J' := by
    refine ⟨fun c q => ?_, fun f f1 f2 => a4 f (by omega), fun c q => ?_, fun f q => b5 f (by omega)⟩
    · unfold stC at q
      by_cases z : 2297 ≤ c
      · exact a3 c z
      · by_cases y : c = 2061
        · rw [y]; exact a2 2061 (by decide) (by decide)
        · exact a1 c (by omega) (by omega)
    · unfold stT at q
      by_cases y : 2280 ≤ c
      · exact b6 c (by omega) (by omega)
      · exact b1 c (by omega) (by omega)
  have sp : spD Y I I' J J' := by
    refine ⟨fun c q => ?_, a4 _ (by decide), fun c q _ => a3 c q, fun c f q => ?_⟩
    · unfold spC at q
      by_cases y : c < 1965
      · exact a1 c (by omega) y
      · exact a2 c (by omega) (by omega)
    · unfold spT at q
      by_cases y : c = 2075
      · rw [y]; exact b5 f (by omega)
      · by_cases w : c < 2180
        · rw [b1 c (by omega) w]
        · by_cases u : c = 2181
          · rw [u, b2]
          · by_cases t : c < 2234
            · rw [b3 c (by omega) t]
            · rw [b4 c (by omega) (by omega) (by omega)]
  refine ⟨⟨v1, v2, v3, v4, by omega, by omega⟩, ⟨fun j => by rw [F1 1 _ rfl]; exact p1 j, p2, p3⟩, ht, hp, ?_⟩
  have m1' : isM J J' Y mm := by
    unfold isM at *
    rw [a4 _ (by decide), b5 _ (by decide), b1 (Y.1 2075 7689) (by omega) (by omega)]
    exact m1
  have m3' : mm ≠ 0 → (X = 2081 ∨ X = 2119) ∧ LD J J' X Nn nm := fun z => by
    obtain ⟨w1, w2⟩ := m3 z
    refine ⟨w1, ?_⟩
    unfold LD at *
    rw [a1 1960 (by decide) (by decide), a4 _ (by decide), a1 35 (by decide) (by decide), b1 X (by omega) (by omega)]
    exact w2
  have m2' := hX I I' J J' Y mm X Nn m2 sA
  have m4' : C ≤ 50000 * (k + 1) ∧ cvR J J' X mm (k + 1) := ⟨by omega, cv_up (cv_ag m4.2 (a4 _ (by decide)) (a2 2060 (by decide) (by decide)) (by rw [a2 1990 (by decide) (by decide)]) (a1 35 (by decide) (by decide)) (a1 50 (by decide) (by decide)) (a1 66 (by decide) (by decide)) (fun z => b1 (X + 37) (by have := (m3 z).1; omega) (by have := (m3 z).1; omega)) (b3 2183 (by decide) (by decide)))⟩
  have i0 : J 1990 3398 = I 1990 3398 := by rw [a2 1990 (by decide) (by decide)]
  have s0 : J' 2075 7728 = I' 2075 7728 := b5 _ (by decide)
  rcases m5 with ⟨r1, r2, r3, r4⟩ | ⟨r1, r2, th, W, N, r3, r4⟩
  · have b : bgR J J' C := by
      have e65 : bgR (fun c => if c = 1965 then I 1965 else J c) (fun c => if c = 2234 then I' 2234 else if c = 2259 then I' 2259 else J' c) C := bgR_cong r3 (fun c a b => by
        by_cases y : c = 1965
        · rw [if_pos y, y]
        · rw [if_neg y]
          by_cases w : c < 1965
          · exact a1 c (by omega) w
          · exact a2 c (by omega) (by omega)) (fun c a b => by
        by_cases y : c = 2234
        · rw [if_pos y, y]
        · rw [if_neg y]
          by_cases u : c = 2259
          · rw [if_pos u, u]
          · rw [if_neg u]
            by_cases w : c < 2234
            · exact b3 c a w
            · exact b4 c (by omega) (by omega) u)
      exact e65
    by_cases z : mm = 0
    · exact ⟨mm, X, Nn, Lp, C, nm, pr, ht0, m1', m2', m3', m4', Or.inl ⟨by rw [i0]; exact r1, by rw [s0]; exact r2, b, fun q => absurd z q⟩⟩
    · obtain ⟨ht2, h1, h2, h3⟩ := ghost ht0 (ht0 5000) J J'
      have S := ST_re (r4 z) ⟨fun c a b => a1 c (by omega) (by omega), fun c a _ => a3 c a, fun c a b => b1 c (by omega) b⟩ (a4 _ (by decide)) h3 h1
      exact ⟨mm, X, Nn, Lp, C, nm, pr, ht2, m1', m2', m3', m4', Or.inl ⟨by rw [i0]; exact r1, by rw [s0]; exact r2, b, fun _ => S⟩⟩
  · obtain ⟨ht2, h1, h2, h3⟩ := RS_cong r3 sp
    exact ⟨mm, X, Nn, Lp, C, nm, pr, ht2, m1', m2', m3', m4', Or.inr ⟨by rw [i0]; exact r1, r2, th, W, N, h3, by rw [h2]; exact r4⟩⟩
end
section
variable {L : Nat} {x : Nat → Int} {SX : vJ → vJ → vY → Nat → Nat → Nat → Prop}
theorem d_state (hX : sxK SX) : oD11 (fun k I Y => LW L x SX k I I Y) := fun k _ a1 ha1 => o_ask hX (sL_c sG_18 (sL_c (sG_i _) (sL_nil _))) (fun Y _ => (sL_c sG_m (sL_c (sG_i _) (sL_nil _)))) (fun I I' Y h => by
  obtain ⟨⟨v1, _⟩, _, _, _, mm, X, Nn, Lp, C, nm, pr, ht, _, _, _, _, m5⟩ := h
  rcases m5 with ⟨r1, r2, _⟩ | ⟨r1, _, th, W, N, r3, _⟩
  · exact ⟨_, n_state (d := 2000) (d' := 2000) ha1 v1 v1 r1 r2⟩
  · exact q_state (d := 1999) (d' := 2000) v1 v1 ha1 (RS_open r3) r1)
theorem d_printed (hX : sxK SX) : oD12 (fun k I Y => LW L x SX k I I Y) := fun k _ a1 ha1 => o_ask hX (sL_c sG_18 (sL_c (sG_i _) (sL_nil _))) (fun Y _ => (sL_c sG_m (sL_c (sG_i _) (sL_nil _)))) (fun I I' Y h => by
  obtain ⟨⟨v1, _⟩, _, _, _, mm, X, Nn, Lp, C, nm, pr, ht, _, _, _, _, m5⟩ := h
  rcases m5 with ⟨r1, r2, _⟩ | ⟨r1, _, th, W, N, r3, _⟩
  · exact ⟨_, n_printed (d := 2000) (d' := 2000) v1 v1 r1 r2⟩
  · exact q_printed (d := 1999) (d' := 1999) v1 v1 ha1 (RS_open r3) r1)
theorem d_thread (hX : sxK SX) : oD13 (fun k I Y => LW L x SX k I I Y) := fun k _ a1 a2 ha1 ha2 => o_ask hX (sL_c sG_18 (sL_c (sG_i _) (sL_c (sG_i _) (sL_c sG_u (sL_c sG_u (sL_c sG_u (sL_c sG_u (sL_nil _)))))))) (fun Y _ => (sL_c sG_m (sL_c (sG_i _) (sL_c (sG_i _) (sL_c sG_u (sL_c sG_u (sL_nil _))))))) (fun I I' Y h => by
  obtain ⟨⟨v1, _⟩, _, _, _, mm, X, Nn, Lp, C, nm, pr, ht, _, _, _, _, m5⟩ := h
  rcases m5 with ⟨r1, r2, _⟩ | ⟨r1, _, th, W, N, r3, _⟩
  · exact ⟨_, n_thread (d := 2000) (d' := 2000) v1 v1 r1 r2⟩
  · exact q_thread (d := 1999) (d' := 1999) v1 v1 ha1 ha2 (RS_open r3) r1)
theorem d_seen (hX : sxK SX) : oD21 (fun k I Y => LW L x SX k I I Y) := fun k _ a1 a2 ha1 ha2 => o_ask hX (sL_c sG_18 (sL_c (sG_i _) (sL_c (sG_i _) (sL_c sG_u (sL_c sG_u (sL_nil _)))))) (fun Y _ => (sL_c sG_m (sL_c (sG_i _) (sL_c (sG_i _) (sL_c sG_u (sL_c sG_u (sL_nil _))))))) (fun I I' Y h => by
  obtain ⟨⟨v1, _⟩, _, _, _, mm, X, Nn, Lp, C, nm, pr, ht, _, _, _, _, m5⟩ := h
  rcases m5 with ⟨r1, r2, _⟩ | ⟨r1, _, th, W, N, r3, _⟩
  · exact ⟨_, n_seen (d := 2000) (d' := 2000) v1 v1 r1 r2⟩
  · exact q_seen (d := 1999) (d' := 1999) v1 v1 ha1 ha2 (RS_open r3) r1)
theorem d_made (hX : sxK SX) : oD22 (fun k I Y => LW L x SX k I I Y) := fun k _ a1 a2 ha1 ha2 => o_ask hX (sL_c sG_18 (sL_c (sG_i _) (sL_c (sG_i _) (sL_nil _)))) (fun Y _ => (sL_c sG_m (sL_c (sG_i _) (sL_c (sG_i _) (sL_nil _))))) (fun I I' Y h => by
  obtain ⟨⟨v1, _⟩, _, _, _, mm, X, Nn, Lp, C, nm, pr, ht, _, _, _, _, m5⟩ := h
  rcases m5 with ⟨r1, r2, _⟩ | ⟨r1, _, th, W, N, r3, _⟩
  · exact ⟨_, n_made (d := 2000) (d' := 2000) v1 v1 r1 r2⟩
  · exact q_made (d := 1999) (d' := 1999) v1 v1 ha1 ha2 (RS_open r3) r1)
theorem d_lock (hX : sxK SX) : oD24 (fun k I Y => LW L x SX k I I Y) := fun k _ a1 a2 ha1 ha2 => o_ask hX (sL_c sG_18 (sL_c (sG_i _) (sL_c (sG_i _) (sL_c sG_u (sL_c sG_u (sL_nil _)))))) (fun Y _ => (sL_c sG_m (sL_c (sG_i _) (sL_c (sG_i _) (sL_c sG_u (sL_c sG_u (sL_nil _))))))) (fun I I' Y h => by
  obtain ⟨⟨v1, _⟩, _, _, _, mm, X, Nn, Lp, C, nm, pr, ht, _, _, _, _, m5⟩ := h
  rcases m5 with ⟨r1, r2, _⟩ | ⟨r1, _, th, W, N, r3, _⟩
  · exact ⟨_, n_lock (d := 2000) (d' := 2000) v1 v1 r1 r2⟩
  · exact q_lock (d := 1999) (d' := 1999) v1 v1 ha1 ha2 (RS_open r3) r1)
theorem d_thrown (hX : sxK SX) : oD27 (fun k I Y => LW L x SX k I I Y) := fun k _ a1 a2 ha1 ha2 => o_ask hX (sL_c sG_18 (sL_c (sG_i _) (sL_c (sG_i _) (sL_nil _)))) (fun Y _ => (sL_c sG_m (sL_c (sG_i _) (sL_c (sG_i _) (sL_nil _))))) (fun I I' Y h => by
  obtain ⟨⟨v1, _⟩, _, _, _, mm, X, Nn, Lp, C, nm, pr, ht, _, _, _, _, m5⟩ := h
  rcases m5 with ⟨r1, r2, _⟩ | ⟨r1, _, th, W, N, r3, _⟩
  · exact ⟨_, n_thrown (d := 2000) (d' := 2000) v1 v1 r1 r2⟩
  · exact q_thrown (d := 1999) (d' := 1999) v1 v1 ha1 ha2 (RS_open r3) r1)
theorem d_feed (hX : sxK SX) : oD0 (fun k I Y => LW L x SX k I I Y) := fun k hk a1 a2 a3 a4 a5 ha1 ha2 ha3 ha4 ha5 => o_pair hX (sL_c sG_18 (sL_c (sG_i _) (sL_c (sG_i _) (sL_c (sG_i _) (sL_c (sG_i _) (sL_c (sG_i _) (sL_nil _))))))) (fun Y _ => (sL_c sG_m (sL_c (sG_i _) (sL_c (sG_i _) (sL_c (sG_i _) (sL_c (sG_i _) (sL_c (sG_i _) (sL_nil _)))))))) (fun I I' Y h => by
  have h0 := h
  obtain ⟨⟨v1, _⟩, _, ⟨n, t1⟩, q1, _⟩ := h
  refine f_feed (d := 1999) (d' := 1999) v1 v1 t1 (fun J J' v n' t2 _ _ F1 F2 => ⟨v, v, J, J', rfl, rfl, rfl, LW_move hX h0 (fr_sub F1 (by rfl) (by rfl)) (fr_sub F2 (by rfl) (by rfl)) ⟨n', t2⟩ ⟨?_, kp_of q1.2 (fun c a b => fr_out F1 2069 2075 (by rfl) a b) (fun c a b => fr_out F2 2277 2280 (by rfl) a b)⟩⟩)
  have q1 := q1.1
  unfold pa at *
  rw [fr_row F1 2062 (fun _ => rfl), fr_row F1 2063 (fun _ => rfl), fr_row F2 2180 (fun _ => rfl), fr_row F2 2182 (fun _ => rfl)]
  exact q1)
theorem d_price (hX : sxK SX) : oD7 (fun k I Y => LW L x SX k I I Y) := fun k hk a1 a2 ha1 ha2 => o_pair hX (sL_c sG_18 (sL_c (sG_i _) (sL_c (sG_i _) (sL_c sG_u (sL_nil _))))) (fun Y _ => (sL_c sG_m (sL_c (sG_i _) (sL_c (sG_i _) (sL_c sG_u (sL_nil _)))))) (fun I I' Y h => by
  have h0 := h
  obtain ⟨⟨v1, _⟩, _, ⟨n, t1⟩, q1, _⟩ := h
  refine f_price (d := 1999) (d' := 1999) v1 v1 ha1 ha2 q1.1 (fun J J' v q2 F1 F2 => ⟨v, v, J, J', rfl, rfl, rfl, LW_move hX h0 (fr_sub F1 (by rfl) (by rfl)) (fr_sub F2 (by rfl) (by rfl)) ⟨n, ?_⟩ ⟨q2, kp_of q1.2 (fun c a b => fr_out F1 2069 2075 (by rfl) a b) (fun c a b => fr_out F2 2277 2280 (by rfl) a b)⟩⟩)
  unfold tp at *
  rw [F1 18 _ rfl, fr_row F1 19 (fun _ => rfl), F2 2075 _ rfl, fr_row F2 2076 (fun _ => rfl)]
  exact t1)
theorem d_arg (hX : sxK SX) : oD8 (fun k I Y => LW L x SX k I I Y) := fun k hk a1 a2 ha1 ha2 => o_pair hX (sL_c sG_18 (sL_c (sG_i _) (sL_c (sG_i _) (sL_c sG_u (sL_nil _))))) (fun Y _ => (sL_c sG_m (sL_c (sG_i _) (sL_c (sG_i _) (sL_c sG_u (sL_nil _)))))) (fun I I' Y h => by
  have h0 := h
  obtain ⟨⟨v1, _⟩, _, ⟨n, t1⟩, q1, _⟩ := h
  refine f_arg (d := 1999) (d' := 1999) v1 v1 ha1 ha2 q1.1 (fun J J' v q2 F1 F2 => ⟨v, v, J, J', rfl, rfl, rfl, LW_move hX h0 (fr_sub F1 (by rfl) (by rfl)) (fr_sub F2 (by rfl) (by rfl)) ⟨n, ?_⟩ ⟨q2, kp_of q1.2 (fun c a b => fr_out F1 2069 2075 (by rfl) a b) (fun c a b => fr_out F2 2277 2280 (by rfl) a b)⟩⟩)
  unfold tp at *
  rw [F1 18 _ rfl, fr_row F1 19 (fun _ => rfl), F2 2075 _ rfl, fr_row F2 2076 (fun _ => rfl)]
  exact t1)
theorem d_tree (hX : sxK SX) : oD19 (fun k I Y => LW L x SX k I I Y) := fun k hk a1 a2 ha1 ha2 => o_pair hX (sL_c sG_18 (sL_c (sG_i _) (sL_c (sG_i _) (sL_nil _)))) (fun Y _ => (sL_c sG_m (sL_c (sG_i _) (sL_c (sG_i _) (sL_c sG_u (sL_nil _)))))) (fun I I' Y h => by
  have h0 := h
  obtain ⟨⟨v1, _⟩, _, ⟨n, t1⟩, q1, mm, X, Nn, Lp, C, nm, pr, ht, _, _, _, _, m5⟩ := h
  have tq : ∀ J J' : vJ, fr [1965, 2064, 2065] [] I J → fr [2234] [] I' J' → LW L x SX (k + 1) J J' Y := fun J J' F1 F2 => by
    refine LW_move hX h0 (fr_sub F1 (by rfl) (by rfl)) (fr_sub F2 (by rfl) (by rfl)) ⟨n, ?_⟩ ⟨?_, kp_of q1.2 (fun c a b => fr_out F1 2069 2075 (by rfl) a b) (fun c a b => fr_out F2 2277 2280 (by rfl) a b)⟩
    · unfold tp at *
      rw [F1 18 _ rfl, fr_row F1 19 (fun _ => rfl), F2 2075 _ rfl, fr_row F2 2076 (fun _ => rfl)]
      exact t1
    · have q1 := q1.1
      unfold pa at *
      rw [fr_row F1 2062 (fun _ => rfl), fr_row F1 2063 (fun _ => rfl), fr_row F2 2180 (fun _ => rfl), fr_row F2 2182 (fun _ => rfl)]
      exact q1
  rcases m5 with ⟨r1, r2, _⟩ | ⟨r1, _, th, W, N, r3, _⟩
  · obtain ⟨b1, b2⟩ := n_tree (d := 2000) (d' := 2000) (a := a1) (b := a2) v1 v1 r1 r2
    exact (b1 _).mpr ((b2 _).mpr ⟨_, _, I, I', rfl, rfl, rfl, LW_up h0⟩)
  · refine o_tree (d := 1999) (d' := 1999) v1 v1 ha1 ha2 (RS_open r3) r1 (fun J v F1 => ⟨v, v, J, I', rfl, rfl, rfl, tq J I' (fr_sub F1 (by rfl) (by rfl)) (fr_refl _ _ _)⟩))
theorem d_long (hX : sxK SX) : oD25 (fun k I Y => LW L x SX k I I Y) := fun k hk a1 ha1 => o_pair hX (sL_c sG_18 (sL_c (sG_i _) (sL_c sG_u (sL_nil _)))) (fun Y _ => (sL_c sG_m (sL_c (sG_i _) (sL_c sG_u (sL_nil _))))) (fun I I' Y h => by
  have h0 := h
  obtain ⟨⟨v1, _⟩, _, ⟨n, t1⟩, q1, mm, X, Nn, Lp, C, nm, pr, ht, _, _, _, _, m5⟩ := h
  have tq : ∀ J J' : vJ, fr [1965, 2064, 2065] [] I J → fr [2234] [] I' J' → LW L x SX (k + 1) J J' Y := fun J J' F1 F2 => by
    refine LW_move hX h0 (fr_sub F1 (by rfl) (by rfl)) (fr_sub F2 (by rfl) (by rfl)) ⟨n, ?_⟩ ⟨?_, kp_of q1.2 (fun c a b => fr_out F1 2069 2075 (by rfl) a b) (fun c a b => fr_out F2 2277 2280 (by rfl) a b)⟩
    · unfold tp at *
      rw [F1 18 _ rfl, fr_row F1 19 (fun _ => rfl), F2 2075 _ rfl, fr_row F2 2076 (fun _ => rfl)]
      exact t1
    · have q1 := q1.1
      unfold pa at *
      rw [fr_row F1 2062 (fun _ => rfl), fr_row F1 2063 (fun _ => rfl), fr_row F2 2180 (fun _ => rfl), fr_row F2 2182 (fun _ => rfl)]
      exact q1
  rcases m5 with ⟨r1, r2, _⟩ | ⟨r1, _, th, W, N, r3, _⟩
  · obtain ⟨b1, b2⟩ := n_long (d := 2000) (d' := 2000) (a := a1) v1 v1 r1 r2
    exact (b1 _).mpr ((b2 _).mpr ⟨_, _, I, I', rfl, rfl, rfl, LW_up h0⟩)
  · refine o_long (d := 1998) (d' := 1998) v1 v1 ha1 (RS_open r3) r1 (fun J J' v v' hv F1 F2 => ⟨v, v', J, J', rfl, rfl, hv, tq J J' (fr_sub F1 (by rfl) (by rfl)) F2⟩))
theorem d_gain (hX : sxK SX) : oD26 (fun k I Y => LW L x SX k I I Y) := fun k hk a1 a2 ha1 ha2 => o_pair hX (sL_c sG_18 (sL_c (sG_i _) (sL_c (sG_i _) (sL_nil _)))) (fun Y _ => (sL_c sG_m (sL_c (sG_i _) (sL_c (sG_i _) (sL_nil _))))) (fun I I' Y h => by
  have h0 := h
  obtain ⟨⟨v1, _⟩, _, ⟨n, t1⟩, q1, mm, X, Nn, Lp, C, nm, pr, ht, _, _, _, _, m5⟩ := h
  have tq : ∀ J J' : vJ, fr [1965, 2064, 2065] [] I J → fr [2234] [] I' J' → LW L x SX (k + 1) J J' Y := fun J J' F1 F2 => by
    refine LW_move hX h0 (fr_sub F1 (by rfl) (by rfl)) (fr_sub F2 (by rfl) (by rfl)) ⟨n, ?_⟩ ⟨?_, kp_of q1.2 (fun c a b => fr_out F1 2069 2075 (by rfl) a b) (fun c a b => fr_out F2 2277 2280 (by rfl) a b)⟩
    · unfold tp at *
      rw [F1 18 _ rfl, fr_row F1 19 (fun _ => rfl), F2 2075 _ rfl, fr_row F2 2076 (fun _ => rfl)]
      exact t1
    · have q1 := q1.1
      unfold pa at *
      rw [fr_row F1 2062 (fun _ => rfl), fr_row F1 2063 (fun _ => rfl), fr_row F2 2180 (fun _ => rfl), fr_row F2 2182 (fun _ => rfl)]
      exact q1
  rcases m5 with ⟨r1, r2, _⟩ | ⟨r1, _, th, W, N, r3, _⟩
  · obtain ⟨b1, b2⟩ := n_gain (d := 2000) (d' := 2000) (a := a1) (b := a2) v1 v1 r1 r2
    exact (b1 _).mpr ((b2 _).mpr ⟨_, _, I, I', rfl, rfl, rfl, LW_up h0⟩)
  · refine o_gain (d := 1998) (d' := 1998) v1 v1 ha1 ha2 (RS_open r3) r1 (fun J J' v v' hv F1 F2 => ⟨v, v', J, J', rfl, rfl, hv, tq J J' (fr_sub F1 (by rfl) (by rfl)) F2⟩))
end
