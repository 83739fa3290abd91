/-! ===== the law's loop for calls k < 64 (printed by gen/law2.py) ===== -/
set_option maxRecDepth 100000
def oD0 (P : Nat → vJ → vY → Prop) : Prop := ∀ k, k < 64 → ∀ a1 a2 a3 a4 a5, inI a1 → inI a2 → inI a3 → inI a4 → inI a5 → oI (P k) (P (k + 1)) 1 287 [vr 18, vi a1, vi a2, vi a3, vi a4, vi a5] [vr 2075, vi a1, vi a2, vi a3, vi a4, vi a5]
def oD1 (P : Nat → vJ → vY → Prop) : Prop := ∀ k, k < 64 → ∀ a1, inI a1 → oI (P k) (P (k + 1)) 3 291 [vr 18, vi a1, vu, vu] [vr 2075, vi a1, vu, vu]
def oD2 (P : Nat → vJ → vY → Prop) : Prop := ∀ k, k < 64 → ∀ a1, inI a1 → oI (P k) (P (k + 1)) 7 289 [vr 18, vi a1] [vr 2075, vi a1]
def oD3 (P : Nat → vJ → vY → Prop) : Prop := ∀ k, k < 64 → ∀ a1 a2, inI a1 → inI a2 → oI (P k) (P (k + 1)) 8 389 [vr 18, vi a1, vi a2, vu, vu, vu] [vr 2075, vi a1, vi a2]
def oD4 (P : Nat → vJ → vY → Prop) : Prop := ∀ k, k < 64 → ∀ a1 a2 a3, inI a1 → inI a2 → inI a3 → oI (P k) (P (k + 1)) 10 390 [vr 18, vi a1, vi a2, vi a3, vu] [vr 2075, vi a1, vi a2, vi a3, vu]
def oD5 (P : Nat → vJ → vY → Prop) : Prop := ∀ k, k < 64 → ∀ a1 a2 a3, inI a1 → inI a2 → inI a3 → oI (P k) (P (k + 1)) 12 392 [vr 18, vi a1, vi a2, vi a3, vu] [vr 2075, vi a1, vi a2, vi a3, vu]
def oD6 (P : Nat → vJ → vY → Prop) : Prop := ∀ k, k < 64 → ∀ a1, inI a1 → oI (P k) (P (k + 1)) 14 386 [vr 18, vi a1, vu] [vr 2075, vi a1, vu]
def oD7 (P : Nat → vJ → vY → Prop) : Prop := ∀ k, k < 64 → ∀ a1 a2, inI a1 → inI a2 → oI (P k) (P (k + 1)) 16 395 [vr 18, vi a1, vi a2, vu] [vr 2075, vi a1, vi a2, vu]
def oD8 (P : Nat → vJ → vY → Prop) : Prop := ∀ k, k < 64 → ∀ a1 a2, inI a1 → inI a2 → oI (P k) (P (k + 1)) 17 396 [vr 18, vi a1, vi a2, vu] [vr 2075, vi a1, vi a2, vu]
def oD9 (P : Nat → vJ → vY → Prop) : Prop := ∀ k, k < 64 → ∀ a1 a2 a3 a4, inI a1 → inI a2 → inI a3 → inI a4 → oI (P k) (P (k + 1)) 18 397 [vr 18, vi a1, vi a2, vi a3, vi a4] [vr 2075, vi a1, vi a2, vi a3, vi a4, vu]
def oD10 (P : Nat → vJ → vY → Prop) : Prop := ∀ k, k < 64 → ∀ a1, inI a1 → oI (P k) (P (k + 1)) 19 411 [vr 18, vi a1] [vr 2075, vi a1, vu]
def oD11 (P : Nat → vJ → vY → Prop) : Prop := ∀ k, k < 64 → ∀ a1, inI a1 → oI (P k) (P (k + 1)) 20 456 [vr 18, vi a1] [vr 2075, vi a1]
def oD12 (P : Nat → vJ → vY → Prop) : Prop := ∀ k, k < 64 → ∀ a1, inI a1 → oI (P k) (P (k + 1)) 21 457 [vr 18, vi a1] [vr 2075, vi a1]
def oD13 (P : Nat → vJ → vY → Prop) : Prop := ∀ k, k < 64 → ∀ a1 a2, inI a1 → inI a2 → oI (P k) (P (k + 1)) 22 458 [vr 18, vi a1, vi a2, vu, vu, vu, vu] [vr 2075, vi a1, vi a2, vu, vu]
def oD14 (P : Nat → vJ → vY → Prop) : Prop := ∀ k, k < 64 → ∀ a1 a2, inI a1 → inI a2 → oI (P k) (P (k + 1)) 23 459 [vr 18, vi a1, vi a2] [vr 2075, vi a1, vi a2]
def oD15 (P : Nat → vJ → vY → Prop) : Prop := ∀ k, k < 64 → ∀ a1 a2, inI a1 → inI a2 → oI (P k) (P (k + 1)) 24 460 [vr 18, vi a1, vi a2] [vr 2075, vi a1, vi a2, vu]
def oD16 (P : Nat → vJ → vY → Prop) : Prop := ∀ k, k < 64 → ∀ a1 a2 a3, inI a1 → inI a2 → inI a3 → oI (P k) (P (k + 1)) 26 387 [vr 18, vi a1, vi a2, vi a3] [vr 2075, vi a1, vi a2, vi a3, vu, vu, vu, vu, vu]
def oD17 (P : Nat → vJ → vY → Prop) : Prop := ∀ k, k < 64 → ∀ a1 a2, inI a1 → inI a2 → oI (P k) (P (k + 1)) 27 461 [vr 18, vi a1, vi a2, vu, vu] [vr 2075, vi a1, vi a2, vu, vu, vu, vu, vu]
def oD18 (P : Nat → vJ → vY → Prop) : Prop := ∀ k, k < 64 → ∀ a1 a2 a3, inI a1 → inI a2 → inI a3 → oI (P k) (P (k + 1)) 28 463 [vr 18, vi a1, vi a2, vi a3, vu] [vr 2075, vi a1, vi a2, vi a3, vu, vu, vu]
def oD19 (P : Nat → vJ → vY → Prop) : Prop := ∀ k, k < 64 → ∀ a1 a2, inI a1 → inI a2 → oI (P k) (P (k + 1)) 29 464 [vr 18, vi a1, vi a2] [vr 2075, vi a1, vi a2, vu]
def oD20 (P : Nat → vJ → vY → Prop) : Prop := ∀ k, k < 64 → oI (P k) (P (k + 1)) 31 453 [vr 18] [vr 2075, vu, vu]
def oD21 (P : Nat → vJ → vY → Prop) : Prop := ∀ k, k < 64 → ∀ a1 a2, inI a1 → inI a2 → oI (P k) (P (k + 1)) 32 466 [vr 18, vi a1, vi a2, vu, vu] [vr 2075, vi a1, vi a2, vu, vu]
def oD22 (P : Nat → vJ → vY → Prop) : Prop := ∀ k, k < 64 → ∀ a1 a2, inI a1 → inI a2 → oI (P k) (P (k + 1)) 33 467 [vr 18, vi a1, vi a2] [vr 2075, vi a1, vi a2]
def oD23 (P : Nat → vJ → vY → Prop) : Prop := ∀ k, k < 64 → ∀ a1, inI a1 → oI (P k) (P (k + 1)) 34 468 [vr 18, vi a1] [vr 2075, vi a1]
def oD24 (P : Nat → vJ → vY → Prop) : Prop := ∀ k, k < 64 → ∀ a1 a2, inI a1 → inI a2 → oI (P k) (P (k + 1)) 35 469 [vr 18, vi a1, vi a2, vu, vu] [vr 2075, vi a1, vi a2, vu, vu]
def oD25 (P : Nat → vJ → vY → Prop) : Prop := ∀ k, k < 64 → ∀ a1, inI a1 → oI (P k) (P (k + 1)) 36 470 [vr 18, vi a1, vu] [vr 2075, vi a1, vu]
def oD26 (P : Nat → vJ → vY → Prop) : Prop := ∀ k, k < 64 → ∀ a1 a2, inI a1 → inI a2 → oI (P k) (P (k + 1)) 37 472 [vr 18, vi a1, vi a2] [vr 2075, vi a1, vi a2]
def oD27 (P : Nat → vJ → vY → Prop) : Prop := ∀ k, k < 64 → ∀ a1 a2, inI a1 → inI a2 → oI (P k) (P (k + 1)) 38 473 [vr 18, vi a1, vi a2] [vr 2075, vi a1, vi a2]
def oD28 (P : Nat → vJ → vY → Prop) : Prop := ∀ k, k < 64 → ∀ a1 a2 a3, inI a1 → inI a2 → inI a3 → oI (P k) (P (k + 1)) 39 474 [vr 18, vi a1, vi a2, vi a3] [vr 2075, vi a1, vi a2, vi a3, vu]
def oD29 (P : Nat → vJ → vY → Prop) : Prop := ∀ k, k < 64 → ∀ a1 a2 a3, inI a1 → inI a2 → inI a3 → oL (P k) (P (k + 1)) 40 475 [vr 18, vi a1, vi a2, vi a3, vu, vu] [vr 2075, vi a1, vi a2, vi a3, vu, vu, vu, vu, vu]
def oD30 (P : Nat → vJ → vY → Prop) : Prop := ∀ k, k < 64 → ∀ a1, inI a1 → oI (P k) (P (k + 1)) 41 476 [vr 18, vi a1] [vr 2075, vi a1, vu]
def oD31 (P : Nat → vJ → vY → Prop) : Prop := ∀ k, k < 64 → ∀ a1 a2, inI a1 → inI a2 → oL (P k) (P (k + 1)) 42 477 [vr 18, vi a1, vi a2, vu, vu, vu, vu, vu, vu, vu, vu, vu, vu, vu, vu] [vr 2075, vi a1, vi a2, vu, vu, vu, vu, vu, vu, vu, vu, vu, vu]
def oD32 (P : Nat → vJ → vY → Prop) : Prop := ∀ k, k < 64 → ∀ a1 a2 a3, inI a1 → inI a2 → inI a3 → oL (P k) (P (k + 1)) 43 478 [vr 18, vi a1, vi a2, vi a3, vu, vu, vu, vu] [vr 2075, vi a1, vi a2, vi a3, vu, vu, vu]
def oD33 (P : Nat → vJ → vY → Prop) : Prop := ∀ k, k < 64 → ∀ a1 a2 a3 a4 a5, inI a1 → inI a2 → inI a3 → inI a4 → inI a5 → oL (P k) (P (k + 1)) 45 479 [vr 18, vi a1, vi a2, vi a3, vi a4, vi a5, vu, vu, vu, vu, vu, vu, vu, vu, vu, vu] [vr 2075, vi a1, vi a2, vi a3, vi a4, vi a5, vu, vu, vu, vu, vu, vu, vu, vu, vu]
def oDall (P : Nat → vJ → vY → Prop) : Prop := oD0 P ∧ oD1 P ∧ oD2 P ∧ oD3 P ∧ oD4 P ∧ oD5 P ∧ oD6 P ∧ oD7 P ∧ oD8 P ∧ oD9 P ∧ oD10 P ∧ oD11 P ∧ oD12 P ∧ oD13 P ∧ oD14 P ∧ oD15 P ∧ oD16 P ∧ oD17 P ∧ oD18 P ∧ oD19 P ∧ oD20 P ∧ oD21 P ∧ oD22 P ∧ oD23 P ∧ oD24 P ∧ oD25 P ∧ oD26 P ∧ oD27 P ∧ oD28 P ∧ oD29 P ∧ oD30 P ∧ oD31 P ∧ oD32 P ∧ oD33 P
theorem law_d0 {L : Nat} {x : Nat → Int} {P : Nat → vJ → vY → Prop} {Q : vE → Prop} (hx : ∀ j, inI (x j)) (hP : oP L x P) (hL : L ≤ 384) {k : Nat} (hk : 6 * k + 6 ≤ L) (ho : oD0 P) {I : vJ} {Y : vY} (hp : P k I Y) (ht : ∀ J Z, P (k + 1) J Z → vW 2001 531 (18, [vr 1, vr 18, vr 2075, vi (6 * (k + 1 : Nat) : Int)], [], (J, Z)) Q) : vW 2001 531 (184, [vr 1, vr 18, vr 2075, vi (6 * k : Int)], [], (I, Y)) Q := by
  obtain ⟨e1, e2, e3, e4, e5, e6⟩ := hP.2 k I Y hp
  simp (disch := (first | assumption | omega)) only [b531_184, e1]
  refine law_mid (f := vi) (by omega) (fun v J Z hR hs => ?_) (ho k (by omega) _ _ _ _ _ (hx _) (hx _) (hx _) (hx _) (hx _) I Y hp)
  have f1 : ∀ j, J 1 j = x j := fun j => ((hs.1 1 (by unfold tL; decide)).1 j).trans (e1 j)
  have f2 : Z.2.1 1 = 100 := ((hs.2.1 1 (show 1 < Y.2.2.2.1 by omega)).1).trans e2
  have f3 : Z.2.2.1 1 = L := ((hs.2.1 1 (show 1 < Y.2.2.2.1 by omega)).2).trans e3
  have f5 : Z.2.1 2075 = 30 := ((hs.2.1 2075 (show 2075 < Y.2.2.2.1 by omega)).1).trans e5
  simp (disch := (first | assumption | omega)) only [vWC, Nat.reduceAdd, b531_213, f1]
  refine vWmo (Nat.le_refl _) (fun r hr => ?_) hR
  obtain ⟨v', J', Z', rfl, e, hp'⟩ := hr
  simp (disch := (first | assumption | omega)) only [vWC, Nat.reduceAdd, b531_242, e, b531_1350, if_true]
  have := ht J' Z' hp'
  rw [show (6 * ((k + 1 : Nat) : Int)) = 6 * (k : Int) + 6 by omega] at this
  exact this
theorem law_d1 {L : Nat} {x : Nat → Int} {P : Nat → vJ → vY → Prop} {Q : vE → Prop} (hx : ∀ j, inI (x j)) (hP : oP L x P) (hL : L ≤ 384) {k : Nat} (hk : 6 * k + 6 ≤ L) (ho : oD1 P) {I : vJ} {Y : vY} (hp : P k I Y) (ht : ∀ J Z, P (k + 1) J Z → vW 2001 531 (18, [vr 1, vr 18, vr 2075, vi (6 * (k + 1 : Nat) : Int)], [], (J, Z)) Q) : vW 2001 531 (247, [vr 1, vr 18, vr 2075, vi (6 * k : Int)], [], (I, Y)) Q := by
  obtain ⟨e1, e2, e3, e4, e5, e6⟩ := hP.2 k I Y hp
  simp (disch := (first | assumption | omega)) only [b531_247, e1]
  refine law_mid (f := vi) (by omega) (fun v J Z hR hs => ?_) (ho k (by omega) _ (hx _) I Y hp)
  have f1 : ∀ j, J 1 j = x j := fun j => ((hs.1 1 (by unfold tL; decide)).1 j).trans (e1 j)
  have f2 : Z.2.1 1 = 100 := ((hs.2.1 1 (show 1 < Y.2.2.2.1 by omega)).1).trans e2
  have f3 : Z.2.2.1 1 = L := ((hs.2.1 1 (show 1 < Y.2.2.2.1 by omega)).2).trans e3
  have f5 : Z.2.1 2075 = 30 := ((hs.2.1 2075 (show 2075 < Y.2.2.2.1 by omega)).1).trans e5
  simp (disch := (first | assumption | omega)) only [vWC, Nat.reduceAdd, b531_256, f1]
  refine vWmo (Nat.le_refl _) (fun r hr => ?_) hR
  obtain ⟨v', J', Z', rfl, e, hp'⟩ := hr
  simp (disch := (first | assumption | omega)) only [vWC, Nat.reduceAdd, b531_265, e, b531_1350, if_true]
  have := ht J' Z' hp'
  rw [show (6 * ((k + 1 : Nat) : Int)) = 6 * (k : Int) + 6 by omega] at this
  exact this
theorem law_d2 {L : Nat} {x : Nat → Int} {P : Nat → vJ → vY → Prop} {Q : vE → Prop} (hx : ∀ j, inI (x j)) (hP : oP L x P) (hL : L ≤ 384) {k : Nat} (hk : 6 * k + 6 ≤ L) (ho : oD2 P) {I : vJ} {Y : vY} (hp : P k I Y) (ht : ∀ J Z, P (k + 1) J Z → vW 2001 531 (18, [vr 1, vr 18, vr 2075, vi (6 * (k + 1 : Nat) : Int)], [], (J, Z)) Q) : vW 2001 531 (270, [vr 1, vr 18, vr 2075, vi (6 * k : Int)], [], (I, Y)) Q := by
  obtain ⟨e1, e2, e3, e4, e5, e6⟩ := hP.2 k I Y hp
  simp (disch := (first | assumption | omega)) only [b531_270, e1]
  refine law_mid (f := vi) (by omega) (fun v J Z hR hs => ?_) (ho k (by omega) _ (hx _) I Y hp)
  have f1 : ∀ j, J 1 j = x j := fun j => ((hs.1 1 (by unfold tL; decide)).1 j).trans (e1 j)
  have f2 : Z.2.1 1 = 100 := ((hs.2.1 1 (show 1 < Y.2.2.2.1 by omega)).1).trans e2
  have f3 : Z.2.2.1 1 = L := ((hs.2.1 1 (show 1 < Y.2.2.2.1 by omega)).2).trans e3
  have f5 : Z.2.1 2075 = 30 := ((hs.2.1 2075 (show 2075 < Y.2.2.2.1 by omega)).1).trans e5
  simp (disch := (first | assumption | omega)) only [vWC, Nat.reduceAdd, b531_279, f1]
  refine vWmo (Nat.le_refl _) (fun r hr => ?_) hR
  obtain ⟨v', J', Z', rfl, e, hp'⟩ := hr
  simp (disch := (first | assumption | omega)) only [vWC, Nat.reduceAdd, b531_288, e, b531_1350, if_true]
  have := ht J' Z' hp'
  rw [show (6 * ((k + 1 : Nat) : Int)) = 6 * (k : Int) + 6 by omega] at this
  exact this
theorem law_d3 {L : Nat} {x : Nat → Int} {P : Nat → vJ → vY → Prop} {Q : vE → Prop} (hx : ∀ j, inI (x j)) (hP : oP L x P) (hL : L ≤ 384) {k : Nat} (hk : 6 * k + 6 ≤ L) (ho : oD3 P) {I : vJ} {Y : vY} (hp : P k I Y) (ht : ∀ J Z, P (k + 1) J Z → vW 2001 531 (18, [vr 1, vr 18, vr 2075, vi (6 * (k + 1 : Nat) : Int)], [], (J, Z)) Q) : vW 2001 531 (293, [vr 1, vr 18, vr 2075, vi (6 * k : Int)], [], (I, Y)) Q := by
  obtain ⟨e1, e2, e3, e4, e5, e6⟩ := hP.2 k I Y hp
  simp (disch := (first | assumption | omega)) only [b531_293, e1]
  refine law_mid (f := vi) (by omega) (fun v J Z hR hs => ?_) (ho k (by omega) _ _ (hx _) (hx _) I Y hp)
  have f1 : ∀ j, J 1 j = x j := fun j => ((hs.1 1 (by unfold tL; decide)).1 j).trans (e1 j)
  have f2 : Z.2.1 1 = 100 := ((hs.2.1 1 (show 1 < Y.2.2.2.1 by omega)).1).trans e2
  have f3 : Z.2.2.1 1 = L := ((hs.2.1 1 (show 1 < Y.2.2.2.1 by omega)).2).trans e3
  have f5 : Z.2.1 2075 = 30 := ((hs.2.1 2075 (show 2075 < Y.2.2.2.1 by omega)).1).trans e5
  simp (disch := (first | assumption | omega)) only [vWC, Nat.reduceAdd, b531_307, f1]
  refine vWmo (Nat.le_refl _) (fun r hr => ?_) hR
  obtain ⟨v', J', Z', rfl, e, hp'⟩ := hr
  simp (disch := (first | assumption | omega)) only [vWC, Nat.reduceAdd, b531_321, e, b531_1350, if_true]
  have := ht J' Z' hp'
  rw [show (6 * ((k + 1 : Nat) : Int)) = 6 * (k : Int) + 6 by omega] at this
  exact this
theorem law_d4 {L : Nat} {x : Nat → Int} {P : Nat → vJ → vY → Prop} {Q : vE → Prop} (hx : ∀ j, inI (x j)) (hP : oP L x P) (hL : L ≤ 384) {k : Nat} (hk : 6 * k + 6 ≤ L) (ho : oD4 P) {I : vJ} {Y : vY} (hp : P k I Y) (ht : ∀ J Z, P (k + 1) J Z → vW 2001 531 (18, [vr 1, vr 18, vr 2075, vi (6 * (k + 1 : Nat) : Int)], [], (J, Z)) Q) : vW 2001 531 (326, [vr 1, vr 18, vr 2075, vi (6 * k : Int)], [], (I, Y)) Q := by
  obtain ⟨e1, e2, e3, e4, e5, e6⟩ := hP.2 k I Y hp
  simp (disch := (first | assumption | omega)) only [b531_326, e1]
  refine law_mid (f := vi) (by omega) (fun v J Z hR hs => ?_) (ho k (by omega) _ _ _ (hx _) (hx _) (hx _) I Y hp)
  have f1 : ∀ j, J 1 j = x j := fun j => ((hs.1 1 (by unfold tL; decide)).1 j).trans (e1 j)
  have f2 : Z.2.1 1 = 100 := ((hs.2.1 1 (show 1 < Y.2.2.2.1 by omega)).1).trans e2
  have f3 : Z.2.2.1 1 = L := ((hs.2.1 1 (show 1 < Y.2.2.2.1 by omega)).2).trans e3
  have f5 : Z.2.1 2075 = 30 := ((hs.2.1 2075 (show 2075 < Y.2.2.2.1 by omega)).1).trans e5
  simp (disch := (first | assumption | omega)) only [vWC, Nat.reduceAdd, b531_345, f1]
  refine vWmo (Nat.le_refl _) (fun r hr => ?_) hR
  obtain ⟨v', J', Z', rfl, e, hp'⟩ := hr
  simp (disch := (first | assumption | omega)) only [vWC, Nat.reduceAdd, b531_364, e, b531_1350, if_true]
  have := ht J' Z' hp'
  rw [show (6 * ((k + 1 : Nat) : Int)) = 6 * (k : Int) + 6 by omega] at this
  exact this
theorem law_d5 {L : Nat} {x : Nat → Int} {P : Nat → vJ → vY → Prop} {Q : vE → Prop} (hx : ∀ j, inI (x j)) (hP : oP L x P) (hL : L ≤ 384) {k : Nat} (hk : 6 * k + 6 ≤ L) (ho : oD5 P) {I : vJ} {Y : vY} (hp : P k I Y) (ht : ∀ J Z, P (k + 1) J Z → vW 2001 531 (18, [vr 1, vr 18, vr 2075, vi (6 * (k + 1 : Nat) : Int)], [], (J, Z)) Q) : vW 2001 531 (369, [vr 1, vr 18, vr 2075, vi (6 * k : Int)], [], (I, Y)) Q := by
  obtain ⟨e1, e2, e3, e4, e5, e6⟩ := hP.2 k I Y hp
  simp (disch := (first | assumption | omega)) only [b531_369, e1]
  refine law_mid (f := vi) (by omega) (fun v J Z hR hs => ?_) (ho k (by omega) _ _ _ (hx _) (hx _) (hx _) I Y hp)
  have f1 : ∀ j, J 1 j = x j := fun j => ((hs.1 1 (by unfold tL; decide)).1 j).trans (e1 j)
  have f2 : Z.2.1 1 = 100 := ((hs.2.1 1 (show 1 < Y.2.2.2.1 by omega)).1).trans e2
  have f3 : Z.2.2.1 1 = L := ((hs.2.1 1 (show 1 < Y.2.2.2.1 by omega)).2).trans e3
  have f5 : Z.2.1 2075 = 30 := ((hs.2.1 2075 (show 2075 < Y.2.2.2.1 by omega)).1).trans e5
  simp (disch := (first | assumption | omega)) only [vWC, Nat.reduceAdd, b531_388, f1]
  refine vWmo (Nat.le_refl _) (fun r hr => ?_) hR
  obtain ⟨v', J', Z', rfl, e, hp'⟩ := hr
  simp (disch := (first | assumption | omega)) only [vWC, Nat.reduceAdd, b531_407, e, b531_1350, if_true]
  have := ht J' Z' hp'
  rw [show (6 * ((k + 1 : Nat) : Int)) = 6 * (k : Int) + 6 by omega] at this
  exact this
theorem law_d6 {L : Nat} {x : Nat → Int} {P : Nat → vJ → vY → Prop} {Q : vE → Prop} (hx : ∀ j, inI (x j)) (hP : oP L x P) (hL : L ≤ 384) {k : Nat} (hk : 6 * k + 6 ≤ L) (ho : oD6 P) {I : vJ} {Y : vY} (hp : P k I Y) (ht : ∀ J Z, P (k + 1) J Z → vW 2001 531 (18, [vr 1, vr 18, vr 2075, vi (6 * (k + 1 : Nat) : Int)], [], (J, Z)) Q) : vW 2001 531 (412, [vr 1, vr 18, vr 2075, vi (6 * k : Int)], [], (I, Y)) Q := by
  obtain ⟨e1, e2, e3, e4, e5, e6⟩ := hP.2 k I Y hp
  simp (disch := (first | assumption | omega)) only [b531_412, e1]
  refine law_mid (f := vi) (by omega) (fun v J Z hR hs => ?_) (ho k (by omega) _ (hx _) I Y hp)
  have f1 : ∀ j, J 1 j = x j := fun j => ((hs.1 1 (by unfold tL; decide)).1 j).trans (e1 j)
  have f2 : Z.2.1 1 = 100 := ((hs.2.1 1 (show 1 < Y.2.2.2.1 by omega)).1).trans e2
  have f3 : Z.2.2.1 1 = L := ((hs.2.1 1 (show 1 < Y.2.2.2.1 by omega)).2).trans e3
  have f5 : Z.2.1 2075 = 30 := ((hs.2.1 2075 (show 2075 < Y.2.2.2.1 by omega)).1).trans e5
  simp (disch := (first | assumption | omega)) only [vWC, Nat.reduceAdd, b531_421, f1]
  refine vWmo (Nat.le_refl _) (fun r hr => ?_) hR
  obtain ⟨v', J', Z', rfl, e, hp'⟩ := hr
  simp (disch := (first | assumption | omega)) only [vWC, Nat.reduceAdd, b531_430, e, b531_1350, if_true]
  have := ht J' Z' hp'
  rw [show (6 * ((k + 1 : Nat) : Int)) = 6 * (k : Int) + 6 by omega] at this
  exact this
theorem law_d7 {L : Nat} {x : Nat → Int} {P : Nat → vJ → vY → Prop} {Q : vE → Prop} (hx : ∀ j, inI (x j)) (hP : oP L x P) (hL : L ≤ 384) {k : Nat} (hk : 6 * k + 6 ≤ L) (ho : oD7 P) {I : vJ} {Y : vY} (hp : P k I Y) (ht : ∀ J Z, P (k + 1) J Z → vW 2001 531 (18, [vr 1, vr 18, vr 2075, vi (6 * (k + 1 : Nat) : Int)], [], (J, Z)) Q) : vW 2001 531 (435, [vr 1, vr 18, vr 2075, vi (6 * k : Int)], [], (I, Y)) Q := by
  obtain ⟨e1, e2, e3, e4, e5, e6⟩ := hP.2 k I Y hp
  simp (disch := (first | assumption | omega)) only [b531_435, e1]
  refine law_mid (f := vi) (by omega) (fun v J Z hR hs => ?_) (ho k (by omega) _ _ (hx _) (hx _) I Y hp)
  have f1 : ∀ j, J 1 j = x j := fun j => ((hs.1 1 (by unfold tL; decide)).1 j).trans (e1 j)
  have f2 : Z.2.1 1 = 100 := ((hs.2.1 1 (show 1 < Y.2.2.2.1 by omega)).1).trans e2
  have f3 : Z.2.2.1 1 = L := ((hs.2.1 1 (show 1 < Y.2.2.2.1 by omega)).2).trans e3
  have f5 : Z.2.1 2075 = 30 := ((hs.2.1 2075 (show 2075 < Y.2.2.2.1 by omega)).1).trans e5
  simp (disch := (first | assumption | omega)) only [vWC, Nat.reduceAdd, b531_449, f1]
  refine vWmo (Nat.le_refl _) (fun r hr => ?_) hR
  obtain ⟨v', J', Z', rfl, e, hp'⟩ := hr
  simp (disch := (first | assumption | omega)) only [vWC, Nat.reduceAdd, b531_463, e, b531_1350, if_true]
  have := ht J' Z' hp'
  rw [show (6 * ((k + 1 : Nat) : Int)) = 6 * (k : Int) + 6 by omega] at this
  exact this
theorem law_d8 {L : Nat} {x : Nat → Int} {P : Nat → vJ → vY → Prop} {Q : vE → Prop} (hx : ∀ j, inI (x j)) (hP : oP L x P) (hL : L ≤ 384) {k : Nat} (hk : 6 * k + 6 ≤ L) (ho : oD8 P) {I : vJ} {Y : vY} (hp : P k I Y) (ht : ∀ J Z, P (k + 1) J Z → vW 2001 531 (18, [vr 1, vr 18, vr 2075, vi (6 * (k + 1 : Nat) : Int)], [], (J, Z)) Q) : vW 2001 531 (468, [vr 1, vr 18, vr 2075, vi (6 * k : Int)], [], (I, Y)) Q := by
  obtain ⟨e1, e2, e3, e4, e5, e6⟩ := hP.2 k I Y hp
  simp (disch := (first | assumption | omega)) only [b531_468, e1]
  refine law_mid (f := vi) (by omega) (fun v J Z hR hs => ?_) (ho k (by omega) _ _ (hx _) (hx _) I Y hp)
  have f1 : ∀ j, J 1 j = x j := fun j => ((hs.1 1 (by unfold tL; decide)).1 j).trans (e1 j)
  have f2 : Z.2.1 1 = 100 := ((hs.2.1 1 (show 1 < Y.2.2.2.1 by omega)).1).trans e2
  have f3 : Z.2.2.1 1 = L := ((hs.2.1 1 (show 1 < Y.2.2.2.1 by omega)).2).trans e3
  have f5 : Z.2.1 2075 = 30 := ((hs.2.1 2075 (show 2075 < Y.2.2.2.1 by omega)).1).trans e5
  simp (disch := (first | assumption | omega)) only [vWC, Nat.reduceAdd, b531_482, f1]
  refine vWmo (Nat.le_refl _) (fun r hr => ?_) hR
  obtain ⟨v', J', Z', rfl, e, hp'⟩ := hr
  simp (disch := (first | assumption | omega)) only [vWC, Nat.reduceAdd, b531_496, e, b531_1350, if_true]
  have := ht J' Z' hp'
  rw [show (6 * ((k + 1 : Nat) : Int)) = 6 * (k : Int) + 6 by omega] at this
  exact this
theorem law_d9 {L : Nat} {x : Nat → Int} {P : Nat → vJ → vY → Prop} {Q : vE → Prop} (hx : ∀ j, inI (x j)) (hP : oP L x P) (hL : L ≤ 384) {k : Nat} (hk : 6 * k + 6 ≤ L) (ho : oD9 P) {I : vJ} {Y : vY} (hp : P k I Y) (ht : ∀ J Z, P (k + 1) J Z → vW 2001 531 (18, [vr 1, vr 18, vr 2075, vi (6 * (k + 1 : Nat) : Int)], [], (J, Z)) Q) : vW 2001 531 (501, [vr 1, vr 18, vr 2075, vi (6 * k : Int)], [], (I, Y)) Q := by
  obtain ⟨e1, e2, e3, e4, e5, e6⟩ := hP.2 k I Y hp
  simp (disch := (first | assumption | omega)) only [b531_501, e1]
  refine law_mid (f := vi) (by omega) (fun v J Z hR hs => ?_) (ho k (by omega) _ _ _ _ (hx _) (hx _) (hx _) (hx _) I Y hp)
  have f1 : ∀ j, J 1 j = x j := fun j => ((hs.1 1 (by unfold tL; decide)).1 j).trans (e1 j)
  have f2 : Z.2.1 1 = 100 := ((hs.2.1 1 (show 1 < Y.2.2.2.1 by omega)).1).trans e2
  have f3 : Z.2.2.1 1 = L := ((hs.2.1 1 (show 1 < Y.2.2.2.1 by omega)).2).trans e3
  have f5 : Z.2.1 2075 = 30 := ((hs.2.1 2075 (show 2075 < Y.2.2.2.1 by omega)).1).trans e5
  simp (disch := (first | assumption | omega)) only [vWC, Nat.reduceAdd, b531_525, f1]
  refine vWmo (Nat.le_refl _) (fun r hr => ?_) hR
  obtain ⟨v', J', Z', rfl, e, hp'⟩ := hr
  simp (disch := (first | assumption | omega)) only [vWC, Nat.reduceAdd, b531_549, e, b531_1350, if_true]
  have := ht J' Z' hp'
  rw [show (6 * ((k + 1 : Nat) : Int)) = 6 * (k : Int) + 6 by omega] at this
  exact this
theorem law_d10 {L : Nat} {x : Nat → Int} {P : Nat → vJ → vY → Prop} {Q : vE → Prop} (hx : ∀ j, inI (x j)) (hP : oP L x P) (hL : L ≤ 384) {k : Nat} (hk : 6 * k + 6 ≤ L) (ho : oD10 P) {I : vJ} {Y : vY} (hp : P k I Y) (ht : ∀ J Z, P (k + 1) J Z → vW 2001 531 (18, [vr 1, vr 18, vr 2075, vi (6 * (k + 1 : Nat) : Int)], [], (J, Z)) Q) : vW 2001 531 (554, [vr 1, vr 18, vr 2075, vi (6 * k : Int)], [], (I, Y)) Q := by
  obtain ⟨e1, e2, e3, e4, e5, e6⟩ := hP.2 k I Y hp
  simp (disch := (first | assumption | omega)) only [b531_554, e1]
  refine law_mid (f := vi) (by omega) (fun v J Z hR hs => ?_) (ho k (by omega) _ (hx _) I Y hp)
  have f1 : ∀ j, J 1 j = x j := fun j => ((hs.1 1 (by unfold tL; decide)).1 j).trans (e1 j)
  have f2 : Z.2.1 1 = 100 := ((hs.2.1 1 (show 1 < Y.2.2.2.1 by omega)).1).trans e2
  have f3 : Z.2.2.1 1 = L := ((hs.2.1 1 (show 1 < Y.2.2.2.1 by omega)).2).trans e3
  have f5 : Z.2.1 2075 = 30 := ((hs.2.1 2075 (show 2075 < Y.2.2.2.1 by omega)).1).trans e5
  simp (disch := (first | assumption | omega)) only [vWC, Nat.reduceAdd, b531_563, f1]
  refine vWmo (Nat.le_refl _) (fun r hr => ?_) hR
  obtain ⟨v', J', Z', rfl, e, hp'⟩ := hr
  simp (disch := (first | assumption | omega)) only [vWC, Nat.reduceAdd, b531_572, e, b531_1350, if_true]
  have := ht J' Z' hp'
  rw [show (6 * ((k + 1 : Nat) : Int)) = 6 * (k : Int) + 6 by omega] at this
  exact this
theorem law_d11 {L : Nat} {x : Nat → Int} {P : Nat → vJ → vY → Prop} {Q : vE → Prop} (hx : ∀ j, inI (x j)) (hP : oP L x P) (hL : L ≤ 384) {k : Nat} (hk : 6 * k + 6 ≤ L) (ho : oD11 P) {I : vJ} {Y : vY} (hp : P k I Y) (ht : ∀ J Z, P (k + 1) J Z → vW 2001 531 (18, [vr 1, vr 18, vr 2075, vi (6 * (k + 1 : Nat) : Int)], [], (J, Z)) Q) : vW 2001 531 (577, [vr 1, vr 18, vr 2075, vi (6 * k : Int)], [], (I, Y)) Q := by
  obtain ⟨e1, e2, e3, e4, e5, e6⟩ := hP.2 k I Y hp
  simp (disch := (first | assumption | omega)) only [b531_577, e1]
  refine law_mid (f := vi) (by omega) (fun v J Z hR hs => ?_) (ho k (by omega) _ (hx _) I Y hp)
  have f1 : ∀ j, J 1 j = x j := fun j => ((hs.1 1 (by unfold tL; decide)).1 j).trans (e1 j)
  have f2 : Z.2.1 1 = 100 := ((hs.2.1 1 (show 1 < Y.2.2.2.1 by omega)).1).trans e2
  have f3 : Z.2.2.1 1 = L := ((hs.2.1 1 (show 1 < Y.2.2.2.1 by omega)).2).trans e3
  have f5 : Z.2.1 2075 = 30 := ((hs.2.1 2075 (show 2075 < Y.2.2.2.1 by omega)).1).trans e5
  simp (disch := (first | assumption | omega)) only [vWC, Nat.reduceAdd, b531_586, f1]
  refine vWmo (Nat.le_refl _) (fun r hr => ?_) hR
  obtain ⟨v', J', Z', rfl, e, hp'⟩ := hr
  simp (disch := (first | assumption | omega)) only [vWC, Nat.reduceAdd, b531_595, e, b531_1350, if_true]
  have := ht J' Z' hp'
  rw [show (6 * ((k + 1 : Nat) : Int)) = 6 * (k : Int) + 6 by omega] at this
  exact this
theorem law_d12 {L : Nat} {x : Nat → Int} {P : Nat → vJ → vY → Prop} {Q : vE → Prop} (hx : ∀ j, inI (x j)) (hP : oP L x P) (hL : L ≤ 384) {k : Nat} (hk : 6 * k + 6 ≤ L) (ho : oD12 P) {I : vJ} {Y : vY} (hp : P k I Y) (ht : ∀ J Z, P (k + 1) J Z → vW 2001 531 (18, [vr 1, vr 18, vr 2075, vi (6 * (k + 1 : Nat) : Int)], [], (J, Z)) Q) : vW 2001 531 (600, [vr 1, vr 18, vr 2075, vi (6 * k : Int)], [], (I, Y)) Q := by
  obtain ⟨e1, e2, e3, e4, e5, e6⟩ := hP.2 k I Y hp
  simp (disch := (first | assumption | omega)) only [b531_600, e1]
  refine law_mid (f := vi) (by omega) (fun v J Z hR hs => ?_) (ho k (by omega) _ (hx _) I Y hp)
  have f1 : ∀ j, J 1 j = x j := fun j => ((hs.1 1 (by unfold tL; decide)).1 j).trans (e1 j)
  have f2 : Z.2.1 1 = 100 := ((hs.2.1 1 (show 1 < Y.2.2.2.1 by omega)).1).trans e2
  have f3 : Z.2.2.1 1 = L := ((hs.2.1 1 (show 1 < Y.2.2.2.1 by omega)).2).trans e3
  have f5 : Z.2.1 2075 = 30 := ((hs.2.1 2075 (show 2075 < Y.2.2.2.1 by omega)).1).trans e5
  simp (disch := (first | assumption | omega)) only [vWC, Nat.reduceAdd, b531_609, f1]
  refine vWmo (Nat.le_refl _) (fun r hr => ?_) hR
  obtain ⟨v', J', Z', rfl, e, hp'⟩ := hr
  simp (disch := (first | assumption | omega)) only [vWC, Nat.reduceAdd, b531_618, e, b531_1350, if_true]
  have := ht J' Z' hp'
  rw [show (6 * ((k + 1 : Nat) : Int)) = 6 * (k : Int) + 6 by omega] at this
  exact this
theorem law_d13 {L : Nat} {x : Nat → Int} {P : Nat → vJ → vY → Prop} {Q : vE → Prop} (hx : ∀ j, inI (x j)) (hP : oP L x P) (hL : L ≤ 384) {k : Nat} (hk : 6 * k + 6 ≤ L) (ho : oD13 P) {I : vJ} {Y : vY} (hp : P k I Y) (ht : ∀ J Z, P (k + 1) J Z → vW 2001 531 (18, [vr 1, vr 18, vr 2075, vi (6 * (k + 1 : Nat) : Int)], [], (J, Z)) Q) : vW 2001 531 (623, [vr 1, vr 18, vr 2075, vi (6 * k : Int)], [], (I, Y)) Q := by
  obtain ⟨e1, e2, e3, e4, e5, e6⟩ := hP.2 k I Y hp
  simp (disch := (first | assumption | omega)) only [b531_623, e1]
  refine law_mid (f := vi) (by omega) (fun v J Z hR hs => ?_) (ho k (by omega) _ _ (hx _) (hx _) I Y hp)
  have f1 : ∀ j, J 1 j = x j := fun j => ((hs.1 1 (by unfold tL; decide)).1 j).trans (e1 j)
  have f2 : Z.2.1 1 = 100 := ((hs.2.1 1 (show 1 < Y.2.2.2.1 by omega)).1).trans e2
  have f3 : Z.2.2.1 1 = L := ((hs.2.1 1 (show 1 < Y.2.2.2.1 by omega)).2).trans e3
  have f5 : Z.2.1 2075 = 30 := ((hs.2.1 2075 (show 2075 < Y.2.2.2.1 by omega)).1).trans e5
  simp (disch := (first | assumption | omega)) only [vWC, Nat.reduceAdd, b531_637, f1]
  refine vWmo (Nat.le_refl _) (fun r hr => ?_) hR
  obtain ⟨v', J', Z', rfl, e, hp'⟩ := hr
  simp (disch := (first | assumption | omega)) only [vWC, Nat.reduceAdd, b531_651, e, b531_1350, if_true]
  have := ht J' Z' hp'
  rw [show (6 * ((k + 1 : Nat) : Int)) = 6 * (k : Int) + 6 by omega] at this
  exact this
theorem law_d14 {L : Nat} {x : Nat → Int} {P : Nat → vJ → vY → Prop} {Q : vE → Prop} (hx : ∀ j, inI (x j)) (hP : oP L x P) (hL : L ≤ 384) {k : Nat} (hk : 6 * k + 6 ≤ L) (ho : oD14 P) {I : vJ} {Y : vY} (hp : P k I Y) (ht : ∀ J Z, P (k + 1) J Z → vW 2001 531 (18, [vr 1, vr 18, vr 2075, vi (6 * (k + 1 : Nat) : Int)], [], (J, Z)) Q) : vW 2001 531 (656, [vr 1, vr 18, vr 2075, vi (6 * k : Int)], [], (I, Y)) Q := by
  obtain ⟨e1, e2, e3, e4, e5, e6⟩ := hP.2 k I Y hp
  simp (disch := (first | assumption | omega)) only [b531_656, e1]
  refine law_mid (f := vi) (by omega) (fun v J Z hR hs => ?_) (ho k (by omega) _ _ (hx _) (hx _) I Y hp)
  have f1 : ∀ j, J 1 j = x j := fun j => ((hs.1 1 (by unfold tL; decide)).1 j).trans (e1 j)
  have f2 : Z.2.1 1 = 100 := ((hs.2.1 1 (show 1 < Y.2.2.2.1 by omega)).1).trans e2
  have f3 : Z.2.2.1 1 = L := ((hs.2.1 1 (show 1 < Y.2.2.2.1 by omega)).2).trans e3
  have f5 : Z.2.1 2075 = 30 := ((hs.2.1 2075 (show 2075 < Y.2.2.2.1 by omega)).1).trans e5
  simp (disch := (first | assumption | omega)) only [vWC, Nat.reduceAdd, b531_670, f1]
  refine vWmo (Nat.le_refl _) (fun r hr => ?_) hR
  obtain ⟨v', J', Z', rfl, e, hp'⟩ := hr
  simp (disch := (first | assumption | omega)) only [vWC, Nat.reduceAdd, b531_684, e, b531_1350, if_true]
  have := ht J' Z' hp'
  rw [show (6 * ((k + 1 : Nat) : Int)) = 6 * (k : Int) + 6 by omega] at this
  exact this
theorem law_d15 {L : Nat} {x : Nat → Int} {P : Nat → vJ → vY → Prop} {Q : vE → Prop} (hx : ∀ j, inI (x j)) (hP : oP L x P) (hL : L ≤ 384) {k : Nat} (hk : 6 * k + 6 ≤ L) (ho : oD15 P) {I : vJ} {Y : vY} (hp : P k I Y) (ht : ∀ J Z, P (k + 1) J Z → vW 2001 531 (18, [vr 1, vr 18, vr 2075, vi (6 * (k + 1 : Nat) : Int)], [], (J, Z)) Q) : vW 2001 531 (689, [vr 1, vr 18, vr 2075, vi (6 * k : Int)], [], (I, Y)) Q := by
  obtain ⟨e1, e2, e3, e4, e5, e6⟩ := hP.2 k I Y hp
  simp (disch := (first | assumption | omega)) only [b531_689, e1]
  refine law_mid (f := vi) (by omega) (fun v J Z hR hs => ?_) (ho k (by omega) _ _ (hx _) (hx _) I Y hp)
  have f1 : ∀ j, J 1 j = x j := fun j => ((hs.1 1 (by unfold tL; decide)).1 j).trans (e1 j)
  have f2 : Z.2.1 1 = 100 := ((hs.2.1 1 (show 1 < Y.2.2.2.1 by omega)).1).trans e2
  have f3 : Z.2.2.1 1 = L := ((hs.2.1 1 (show 1 < Y.2.2.2.1 by omega)).2).trans e3
  have f5 : Z.2.1 2075 = 30 := ((hs.2.1 2075 (show 2075 < Y.2.2.2.1 by omega)).1).trans e5
  simp (disch := (first | assumption | omega)) only [vWC, Nat.reduceAdd, b531_703, f1]
  refine vWmo (Nat.le_refl _) (fun r hr => ?_) hR
  obtain ⟨v', J', Z', rfl, e, hp'⟩ := hr
  simp (disch := (first | assumption | omega)) only [vWC, Nat.reduceAdd, b531_717, e, b531_1350, if_true]
  have := ht J' Z' hp'
  rw [show (6 * ((k + 1 : Nat) : Int)) = 6 * (k : Int) + 6 by omega] at this
  exact this
theorem law_d16 {L : Nat} {x : Nat → Int} {P : Nat → vJ → vY → Prop} {Q : vE → Prop} (hx : ∀ j, inI (x j)) (hP : oP L x P) (hL : L ≤ 384) {k : Nat} (hk : 6 * k + 6 ≤ L) (ho : oD16 P) {I : vJ} {Y : vY} (hp : P k I Y) (ht : ∀ J Z, P (k + 1) J Z → vW 2001 531 (18, [vr 1, vr 18, vr 2075, vi (6 * (k + 1 : Nat) : Int)], [], (J, Z)) Q) : vW 2001 531 (722, [vr 1, vr 18, vr 2075, vi (6 * k : Int)], [], (I, Y)) Q := by
  obtain ⟨e1, e2, e3, e4, e5, e6⟩ := hP.2 k I Y hp
  simp (disch := (first | assumption | omega)) only [b531_722, e1]
  refine law_mid (f := vi) (by omega) (fun v J Z hR hs => ?_) (ho k (by omega) _ _ _ (hx _) (hx _) (hx _) I Y hp)
  have f1 : ∀ j, J 1 j = x j := fun j => ((hs.1 1 (by unfold tL; decide)).1 j).trans (e1 j)
  have f2 : Z.2.1 1 = 100 := ((hs.2.1 1 (show 1 < Y.2.2.2.1 by omega)).1).trans e2
  have f3 : Z.2.2.1 1 = L := ((hs.2.1 1 (show 1 < Y.2.2.2.1 by omega)).2).trans e3
  have f5 : Z.2.1 2075 = 30 := ((hs.2.1 2075 (show 2075 < Y.2.2.2.1 by omega)).1).trans e5
  simp (disch := (first | assumption | omega)) only [vWC, Nat.reduceAdd, b531_741, f1]
  refine vWmo (Nat.le_refl _) (fun r hr => ?_) hR
  obtain ⟨v', J', Z', rfl, e, hp'⟩ := hr
  simp (disch := (first | assumption | omega)) only [vWC, Nat.reduceAdd, b531_760, e, b531_1350, if_true]
  have := ht J' Z' hp'
  rw [show (6 * ((k + 1 : Nat) : Int)) = 6 * (k : Int) + 6 by omega] at this
  exact this
theorem law_d17 {L : Nat} {x : Nat → Int} {P : Nat → vJ → vY → Prop} {Q : vE → Prop} (hx : ∀ j, inI (x j)) (hP : oP L x P) (hL : L ≤ 384) {k : Nat} (hk : 6 * k + 6 ≤ L) (ho : oD17 P) {I : vJ} {Y : vY} (hp : P k I Y) (ht : ∀ J Z, P (k + 1) J Z → vW 2001 531 (18, [vr 1, vr 18, vr 2075, vi (6 * (k + 1 : Nat) : Int)], [], (J, Z)) Q) : vW 2001 531 (765, [vr 1, vr 18, vr 2075, vi (6 * k : Int)], [], (I, Y)) Q := by
  obtain ⟨e1, e2, e3, e4, e5, e6⟩ := hP.2 k I Y hp
  simp (disch := (first | assumption | omega)) only [b531_765, e1]
  refine law_mid (f := vi) (by omega) (fun v J Z hR hs => ?_) (ho k (by omega) _ _ (hx _) (hx _) I Y hp)
  have f1 : ∀ j, J 1 j = x j := fun j => ((hs.1 1 (by unfold tL; decide)).1 j).trans (e1 j)
  have f2 : Z.2.1 1 = 100 := ((hs.2.1 1 (show 1 < Y.2.2.2.1 by omega)).1).trans e2
  have f3 : Z.2.2.1 1 = L := ((hs.2.1 1 (show 1 < Y.2.2.2.1 by omega)).2).trans e3
  have f5 : Z.2.1 2075 = 30 := ((hs.2.1 2075 (show 2075 < Y.2.2.2.1 by omega)).1).trans e5
  simp (disch := (first | assumption | omega)) only [vWC, Nat.reduceAdd, b531_779, f1]
  refine vWmo (Nat.le_refl _) (fun r hr => ?_) hR
  obtain ⟨v', J', Z', rfl, e, hp'⟩ := hr
  simp (disch := (first | assumption | omega)) only [vWC, Nat.reduceAdd, b531_793, e, b531_1350, if_true]
  have := ht J' Z' hp'
  rw [show (6 * ((k + 1 : Nat) : Int)) = 6 * (k : Int) + 6 by omega] at this
  exact this
theorem law_d18 {L : Nat} {x : Nat → Int} {P : Nat → vJ → vY → Prop} {Q : vE → Prop} (hx : ∀ j, inI (x j)) (hP : oP L x P) (hL : L ≤ 384) {k : Nat} (hk : 6 * k + 6 ≤ L) (ho : oD18 P) {I : vJ} {Y : vY} (hp : P k I Y) (ht : ∀ J Z, P (k + 1) J Z → vW 2001 531 (18, [vr 1, vr 18, vr 2075, vi (6 * (k + 1 : Nat) : Int)], [], (J, Z)) Q) : vW 2001 531 (798, [vr 1, vr 18, vr 2075, vi (6 * k : Int)], [], (I, Y)) Q := by
  obtain ⟨e1, e2, e3, e4, e5, e6⟩ := hP.2 k I Y hp
  simp (disch := (first | assumption | omega)) only [b531_798, e1]
  refine law_mid (f := vi) (by omega) (fun v J Z hR hs => ?_) (ho k (by omega) _ _ _ (hx _) (hx _) (hx _) I Y hp)
  have f1 : ∀ j, J 1 j = x j := fun j => ((hs.1 1 (by unfold tL; decide)).1 j).trans (e1 j)
  have f2 : Z.2.1 1 = 100 := ((hs.2.1 1 (show 1 < Y.2.2.2.1 by omega)).1).trans e2
  have f3 : Z.2.2.1 1 = L := ((hs.2.1 1 (show 1 < Y.2.2.2.1 by omega)).2).trans e3
  have f5 : Z.2.1 2075 = 30 := ((hs.2.1 2075 (show 2075 < Y.2.2.2.1 by omega)).1).trans e5
  simp (disch := (first | assumption | omega)) only [vWC, Nat.reduceAdd, b531_817, f1]
  refine vWmo (Nat.le_refl _) (fun r hr => ?_) hR
  obtain ⟨v', J', Z', rfl, e, hp'⟩ := hr
  simp (disch := (first | assumption | omega)) only [vWC, Nat.reduceAdd, b531_836, e, b531_1350, if_true]
  have := ht J' Z' hp'
  rw [show (6 * ((k + 1 : Nat) : Int)) = 6 * (k : Int) + 6 by omega] at this
  exact this
theorem law_d19 {L : Nat} {x : Nat → Int} {P : Nat → vJ → vY → Prop} {Q : vE → Prop} (hx : ∀ j, inI (x j)) (hP : oP L x P) (hL : L ≤ 384) {k : Nat} (hk : 6 * k + 6 ≤ L) (ho : oD19 P) {I : vJ} {Y : vY} (hp : P k I Y) (ht : ∀ J Z, P (k + 1) J Z → vW 2001 531 (18, [vr 1, vr 18, vr 2075, vi (6 * (k + 1 : Nat) : Int)], [], (J, Z)) Q) : vW 2001 531 (841, [vr 1, vr 18, vr 2075, vi (6 * k : Int)], [], (I, Y)) Q := by
  obtain ⟨e1, e2, e3, e4, e5, e6⟩ := hP.2 k I Y hp
  simp (disch := (first | assumption | omega)) only [b531_841, e1]
  refine law_mid (f := vi) (by omega) (fun v J Z hR hs => ?_) (ho k (by omega) _ _ (hx _) (hx _) I Y hp)
  have f1 : ∀ j, J 1 j = x j := fun j => ((hs.1 1 (by unfold tL; decide)).1 j).trans (e1 j)
  have f2 : Z.2.1 1 = 100 := ((hs.2.1 1 (show 1 < Y.2.2.2.1 by omega)).1).trans e2
  have f3 : Z.2.2.1 1 = L := ((hs.2.1 1 (show 1 < Y.2.2.2.1 by omega)).2).trans e3
  have f5 : Z.2.1 2075 = 30 := ((hs.2.1 2075 (show 2075 < Y.2.2.2.1 by omega)).1).trans e5
  simp (disch := (first | assumption | omega)) only [vWC, Nat.reduceAdd, b531_855, f1]
  refine vWmo (Nat.le_refl _) (fun r hr => ?_) hR
  obtain ⟨v', J', Z', rfl, e, hp'⟩ := hr
  simp (disch := (first | assumption | omega)) only [vWC, Nat.reduceAdd, b531_869, e, b531_1350, if_true]
  have := ht J' Z' hp'
  rw [show (6 * ((k + 1 : Nat) : Int)) = 6 * (k : Int) + 6 by omega] at this
  exact this
theorem law_d20 {L : Nat} {x : Nat → Int} {P : Nat → vJ → vY → Prop} {Q : vE → Prop} (hx : ∀ j, inI (x j)) (hP : oP L x P) (hL : L ≤ 384) {k : Nat} (hk : 6 * k + 6 ≤ L) (ho : oD20 P) {I : vJ} {Y : vY} (hp : P k I Y) (ht : ∀ J Z, P (k + 1) J Z → vW 2001 531 (18, [vr 1, vr 18, vr 2075, vi (6 * (k + 1 : Nat) : Int)], [], (J, Z)) Q) : vW 2001 531 (874, [vr 1, vr 18, vr 2075, vi (6 * k : Int)], [], (I, Y)) Q := by
  obtain ⟨e1, e2, e3, e4, e5, e6⟩ := hP.2 k I Y hp
  simp (disch := (first | assumption | omega)) only [b531_874, e1]
  refine law_mid (f := vi) (by omega) (fun v J Z hR hs => ?_) (ho k (by omega) I Y hp)
  have f1 : ∀ j, J 1 j = x j := fun j => ((hs.1 1 (by unfold tL; decide)).1 j).trans (e1 j)
  have f2 : Z.2.1 1 = 100 := ((hs.2.1 1 (show 1 < Y.2.2.2.1 by omega)).1).trans e2
  have f3 : Z.2.2.1 1 = L := ((hs.2.1 1 (show 1 < Y.2.2.2.1 by omega)).2).trans e3
  have f5 : Z.2.1 2075 = 30 := ((hs.2.1 2075 (show 2075 < Y.2.2.2.1 by omega)).1).trans e5
  simp (disch := (first | assumption | omega)) only [vWC, Nat.reduceAdd, b531_878, f1]
  refine vWmo (Nat.le_refl _) (fun r hr => ?_) hR
  obtain ⟨v', J', Z', rfl, e, hp'⟩ := hr
  simp (disch := (first | assumption | omega)) only [vWC, Nat.reduceAdd, b531_882, e, b531_1350, if_true]
  have := ht J' Z' hp'
  rw [show (6 * ((k + 1 : Nat) : Int)) = 6 * (k : Int) + 6 by omega] at this
  exact this
theorem law_d21 {L : Nat} {x : Nat → Int} {P : Nat → vJ → vY → Prop} {Q : vE → Prop} (hx : ∀ j, inI (x j)) (hP : oP L x P) (hL : L ≤ 384) {k : Nat} (hk : 6 * k + 6 ≤ L) (ho : oD21 P) {I : vJ} {Y : vY} (hp : P k I Y) (ht : ∀ J Z, P (k + 1) J Z → vW 2001 531 (18, [vr 1, vr 18, vr 2075, vi (6 * (k + 1 : Nat) : Int)], [], (J, Z)) Q) : vW 2001 531 (887, [vr 1, vr 18, vr 2075, vi (6 * k : Int)], [], (I, Y)) Q := by
  obtain ⟨e1, e2, e3, e4, e5, e6⟩ := hP.2 k I Y hp
  simp (disch := (first | assumption | omega)) only [b531_887, e1]
  refine law_mid (f := vi) (by omega) (fun v J Z hR hs => ?_) (ho k (by omega) _ _ (hx _) (hx _) I Y hp)
  have f1 : ∀ j, J 1 j = x j := fun j => ((hs.1 1 (by unfold tL; decide)).1 j).trans (e1 j)
  have f2 : Z.2.1 1 = 100 := ((hs.2.1 1 (show 1 < Y.2.2.2.1 by omega)).1).trans e2
  have f3 : Z.2.2.1 1 = L := ((hs.2.1 1 (show 1 < Y.2.2.2.1 by omega)).2).trans e3
  have f5 : Z.2.1 2075 = 30 := ((hs.2.1 2075 (show 2075 < Y.2.2.2.1 by omega)).1).trans e5
  simp (disch := (first | assumption | omega)) only [vWC, Nat.reduceAdd, b531_901, f1]
  refine vWmo (Nat.le_refl _) (fun r hr => ?_) hR
  obtain ⟨v', J', Z', rfl, e, hp'⟩ := hr
  simp (disch := (first | assumption | omega)) only [vWC, Nat.reduceAdd, b531_915, e, b531_1350, if_true]
  have := ht J' Z' hp'
  rw [show (6 * ((k + 1 : Nat) : Int)) = 6 * (k : Int) + 6 by omega] at this
  exact this
theorem law_d22 {L : Nat} {x : Nat → Int} {P : Nat → vJ → vY → Prop} {Q : vE → Prop} (hx : ∀ j, inI (x j)) (hP : oP L x P) (hL : L ≤ 384) {k : Nat} (hk : 6 * k + 6 ≤ L) (ho : oD22 P) {I : vJ} {Y : vY} (hp : P k I Y) (ht : ∀ J Z, P (k + 1) J Z → vW 2001 531 (18, [vr 1, vr 18, vr 2075, vi (6 * (k + 1 : Nat) : Int)], [], (J, Z)) Q) : vW 2001 531 (920, [vr 1, vr 18, vr 2075, vi (6 * k : Int)], [], (I, Y)) Q := by
  obtain ⟨e1, e2, e3, e4, e5, e6⟩ := hP.2 k I Y hp
  simp (disch := (first | assumption | omega)) only [b531_920, e1]
  refine law_mid (f := vi) (by omega) (fun v J Z hR hs => ?_) (ho k (by omega) _ _ (hx _) (hx _) I Y hp)
  have f1 : ∀ j, J 1 j = x j := fun j => ((hs.1 1 (by unfold tL; decide)).1 j).trans (e1 j)
  have f2 : Z.2.1 1 = 100 := ((hs.2.1 1 (show 1 < Y.2.2.2.1 by omega)).1).trans e2
  have f3 : Z.2.2.1 1 = L := ((hs.2.1 1 (show 1 < Y.2.2.2.1 by omega)).2).trans e3
  have f5 : Z.2.1 2075 = 30 := ((hs.2.1 2075 (show 2075 < Y.2.2.2.1 by omega)).1).trans e5
  simp (disch := (first | assumption | omega)) only [vWC, Nat.reduceAdd, b531_934, f1]
  refine vWmo (Nat.le_refl _) (fun r hr => ?_) hR
  obtain ⟨v', J', Z', rfl, e, hp'⟩ := hr
  simp (disch := (first | assumption | omega)) only [vWC, Nat.reduceAdd, b531_948, e, b531_1350, if_true]
  have := ht J' Z' hp'
  rw [show (6 * ((k + 1 : Nat) : Int)) = 6 * (k : Int) + 6 by omega] at this
  exact this
theorem law_d23 {L : Nat} {x : Nat → Int} {P : Nat → vJ → vY → Prop} {Q : vE → Prop} (hx : ∀ j, inI (x j)) (hP : oP L x P) (hL : L ≤ 384) {k : Nat} (hk : 6 * k + 6 ≤ L) (ho : oD23 P) {I : vJ} {Y : vY} (hp : P k I Y) (ht : ∀ J Z, P (k + 1) J Z → vW 2001 531 (18, [vr 1, vr 18, vr 2075, vi (6 * (k + 1 : Nat) : Int)], [], (J, Z)) Q) : vW 2001 531 (953, [vr 1, vr 18, vr 2075, vi (6 * k : Int)], [], (I, Y)) Q := by
  obtain ⟨e1, e2, e3, e4, e5, e6⟩ := hP.2 k I Y hp
  simp (disch := (first | assumption | omega)) only [b531_953, e1]
  refine law_mid (f := vi) (by omega) (fun v J Z hR hs => ?_) (ho k (by omega) _ (hx _) I Y hp)
  have f1 : ∀ j, J 1 j = x j := fun j => ((hs.1 1 (by unfold tL; decide)).1 j).trans (e1 j)
  have f2 : Z.2.1 1 = 100 := ((hs.2.1 1 (show 1 < Y.2.2.2.1 by omega)).1).trans e2
  have f3 : Z.2.2.1 1 = L := ((hs.2.1 1 (show 1 < Y.2.2.2.1 by omega)).2).trans e3
  have f5 : Z.2.1 2075 = 30 := ((hs.2.1 2075 (show 2075 < Y.2.2.2.1 by omega)).1).trans e5
  simp (disch := (first | assumption | omega)) only [vWC, Nat.reduceAdd, b531_962, f1]
  refine vWmo (Nat.le_refl _) (fun r hr => ?_) hR
  obtain ⟨v', J', Z', rfl, e, hp'⟩ := hr
  simp (disch := (first | assumption | omega)) only [vWC, Nat.reduceAdd, b531_971, e, b531_1350, if_true]
  have := ht J' Z' hp'
  rw [show (6 * ((k + 1 : Nat) : Int)) = 6 * (k : Int) + 6 by omega] at this
  exact this
theorem law_d24 {L : Nat} {x : Nat → Int} {P : Nat → vJ → vY → Prop} {Q : vE → Prop} (hx : ∀ j, inI (x j)) (hP : oP L x P) (hL : L ≤ 384) {k : Nat} (hk : 6 * k + 6 ≤ L) (ho : oD24 P) {I : vJ} {Y : vY} (hp : P k I Y) (ht : ∀ J Z, P (k + 1) J Z → vW 2001 531 (18, [vr 1, vr 18, vr 2075, vi (6 * (k + 1 : Nat) : Int)], [], (J, Z)) Q) : vW 2001 531 (976, [vr 1, vr 18, vr 2075, vi (6 * k : Int)], [], (I, Y)) Q := by
  obtain ⟨e1, e2, e3, e4, e5, e6⟩ := hP.2 k I Y hp
  simp (disch := (first | assumption | omega)) only [b531_976, e1]
  refine law_mid (f := vi) (by omega) (fun v J Z hR hs => ?_) (ho k (by omega) _ _ (hx _) (hx _) I Y hp)
  have f1 : ∀ j, J 1 j = x j := fun j => ((hs.1 1 (by unfold tL; decide)).1 j).trans (e1 j)
  have f2 : Z.2.1 1 = 100 := ((hs.2.1 1 (show 1 < Y.2.2.2.1 by omega)).1).trans e2
  have f3 : Z.2.2.1 1 = L := ((hs.2.1 1 (show 1 < Y.2.2.2.1 by omega)).2).trans e3
  have f5 : Z.2.1 2075 = 30 := ((hs.2.1 2075 (show 2075 < Y.2.2.2.1 by omega)).1).trans e5
  simp (disch := (first | assumption | omega)) only [vWC, Nat.reduceAdd, b531_990, f1]
  refine vWmo (Nat.le_refl _) (fun r hr => ?_) hR
  obtain ⟨v', J', Z', rfl, e, hp'⟩ := hr
  simp (disch := (first | assumption | omega)) only [vWC, Nat.reduceAdd, b531_1004, e, b531_1350, if_true]
  have := ht J' Z' hp'
  rw [show (6 * ((k + 1 : Nat) : Int)) = 6 * (k : Int) + 6 by omega] at this
  exact this
theorem law_d25 {L : Nat} {x : Nat → Int} {P : Nat → vJ → vY → Prop} {Q : vE → Prop} (hx : ∀ j, inI (x j)) (hP : oP L x P) (hL : L ≤ 384) {k : Nat} (hk : 6 * k + 6 ≤ L) (ho : oD25 P) {I : vJ} {Y : vY} (hp : P k I Y) (ht : ∀ J Z, P (k + 1) J Z → vW 2001 531 (18, [vr 1, vr 18, vr 2075, vi (6 * (k + 1 : Nat) : Int)], [], (J, Z)) Q) : vW 2001 531 (1009, [vr 1, vr 18, vr 2075, vi (6 * k : Int)], [], (I, Y)) Q := by
  obtain ⟨e1, e2, e3, e4, e5, e6⟩ := hP.2 k I Y hp
  simp (disch := (first | assumption | omega)) only [b531_1009, e1]
  refine law_mid (f := vi) (by omega) (fun v J Z hR hs => ?_) (ho k (by omega) _ (hx _) I Y hp)
  have f1 : ∀ j, J 1 j = x j := fun j => ((hs.1 1 (by unfold tL; decide)).1 j).trans (e1 j)
  have f2 : Z.2.1 1 = 100 := ((hs.2.1 1 (show 1 < Y.2.2.2.1 by omega)).1).trans e2
  have f3 : Z.2.2.1 1 = L := ((hs.2.1 1 (show 1 < Y.2.2.2.1 by omega)).2).trans e3
  have f5 : Z.2.1 2075 = 30 := ((hs.2.1 2075 (show 2075 < Y.2.2.2.1 by omega)).1).trans e5
  simp (disch := (first | assumption | omega)) only [vWC, Nat.reduceAdd, b531_1018, f1]
  refine vWmo (Nat.le_refl _) (fun r hr => ?_) hR
  obtain ⟨v', J', Z', rfl, e, hp'⟩ := hr
  simp (disch := (first | assumption | omega)) only [vWC, Nat.reduceAdd, b531_1027, e, b531_1350, if_true]
  have := ht J' Z' hp'
  rw [show (6 * ((k + 1 : Nat) : Int)) = 6 * (k : Int) + 6 by omega] at this
  exact this
theorem law_d26 {L : Nat} {x : Nat → Int} {P : Nat → vJ → vY → Prop} {Q : vE → Prop} (hx : ∀ j, inI (x j)) (hP : oP L x P) (hL : L ≤ 384) {k : Nat} (hk : 6 * k + 6 ≤ L) (ho : oD26 P) {I : vJ} {Y : vY} (hp : P k I Y) (ht : ∀ J Z, P (k + 1) J Z → vW 2001 531 (18, [vr 1, vr 18, vr 2075, vi (6 * (k + 1 : Nat) : Int)], [], (J, Z)) Q) : vW 2001 531 (1032, [vr 1, vr 18, vr 2075, vi (6 * k : Int)], [], (I, Y)) Q := by
  obtain ⟨e1, e2, e3, e4, e5, e6⟩ := hP.2 k I Y hp
  simp (disch := (first | assumption | omega)) only [b531_1032, e1]
  refine law_mid (f := vi) (by omega) (fun v J Z hR hs => ?_) (ho k (by omega) _ _ (hx _) (hx _) I Y hp)
  have f1 : ∀ j, J 1 j = x j := fun j => ((hs.1 1 (by unfold tL; decide)).1 j).trans (e1 j)
  have f2 : Z.2.1 1 = 100 := ((hs.2.1 1 (show 1 < Y.2.2.2.1 by omega)).1).trans e2
  have f3 : Z.2.2.1 1 = L := ((hs.2.1 1 (show 1 < Y.2.2.2.1 by omega)).2).trans e3
  have f5 : Z.2.1 2075 = 30 := ((hs.2.1 2075 (show 2075 < Y.2.2.2.1 by omega)).1).trans e5
  simp (disch := (first | assumption | omega)) only [vWC, Nat.reduceAdd, b531_1046, f1]
  refine vWmo (Nat.le_refl _) (fun r hr => ?_) hR
  obtain ⟨v', J', Z', rfl, e, hp'⟩ := hr
  simp (disch := (first | assumption | omega)) only [vWC, Nat.reduceAdd, b531_1060, e, b531_1350, if_true]
  have := ht J' Z' hp'
  rw [show (6 * ((k + 1 : Nat) : Int)) = 6 * (k : Int) + 6 by omega] at this
  exact this
theorem law_d27 {L : Nat} {x : Nat → Int} {P : Nat → vJ → vY → Prop} {Q : vE → Prop} (hx : ∀ j, inI (x j)) (hP : oP L x P) (hL : L ≤ 384) {k : Nat} (hk : 6 * k + 6 ≤ L) (ho : oD27 P) {I : vJ} {Y : vY} (hp : P k I Y) (ht : ∀ J Z, P (k + 1) J Z → vW 2001 531 (18, [vr 1, vr 18, vr 2075, vi (6 * (k + 1 : Nat) : Int)], [], (J, Z)) Q) : vW 2001 531 (1065, [vr 1, vr 18, vr 2075, vi (6 * k : Int)], [], (I, Y)) Q := by
  obtain ⟨e1, e2, e3, e4, e5, e6⟩ := hP.2 k I Y hp
  simp (disch := (first | assumption | omega)) only [b531_1065, e1]
  refine law_mid (f := vi) (by omega) (fun v J Z hR hs => ?_) (ho k (by omega) _ _ (hx _) (hx _) I Y hp)
  have f1 : ∀ j, J 1 j = x j := fun j => ((hs.1 1 (by unfold tL; decide)).1 j).trans (e1 j)
  have f2 : Z.2.1 1 = 100 := ((hs.2.1 1 (show 1 < Y.2.2.2.1 by omega)).1).trans e2
  have f3 : Z.2.2.1 1 = L := ((hs.2.1 1 (show 1 < Y.2.2.2.1 by omega)).2).trans e3
  have f5 : Z.2.1 2075 = 30 := ((hs.2.1 2075 (show 2075 < Y.2.2.2.1 by omega)).1).trans e5
  simp (disch := (first | assumption | omega)) only [vWC, Nat.reduceAdd, b531_1079, f1]
  refine vWmo (Nat.le_refl _) (fun r hr => ?_) hR
  obtain ⟨v', J', Z', rfl, e, hp'⟩ := hr
  simp (disch := (first | assumption | omega)) only [vWC, Nat.reduceAdd, b531_1093, e, b531_1350, if_true]
  have := ht J' Z' hp'
  rw [show (6 * ((k + 1 : Nat) : Int)) = 6 * (k : Int) + 6 by omega] at this
  exact this
theorem law_d28 {L : Nat} {x : Nat → Int} {P : Nat → vJ → vY → Prop} {Q : vE → Prop} (hx : ∀ j, inI (x j)) (hP : oP L x P) (hL : L ≤ 384) {k : Nat} (hk : 6 * k + 6 ≤ L) (ho : oD28 P) {I : vJ} {Y : vY} (hp : P k I Y) (ht : ∀ J Z, P (k + 1) J Z → vW 2001 531 (18, [vr 1, vr 18, vr 2075, vi (6 * (k + 1 : Nat) : Int)], [], (J, Z)) Q) : vW 2001 531 (1098, [vr 1, vr 18, vr 2075, vi (6 * k : Int)], [], (I, Y)) Q := by
  obtain ⟨e1, e2, e3, e4, e5, e6⟩ := hP.2 k I Y hp
  simp (disch := (first | assumption | omega)) only [b531_1098, e1]
  refine law_mid (f := vi) (by omega) (fun v J Z hR hs => ?_) (ho k (by omega) _ _ _ (hx _) (hx _) (hx _) I Y hp)
  have f1 : ∀ j, J 1 j = x j := fun j => ((hs.1 1 (by unfold tL; decide)).1 j).trans (e1 j)
  have f2 : Z.2.1 1 = 100 := ((hs.2.1 1 (show 1 < Y.2.2.2.1 by omega)).1).trans e2
  have f3 : Z.2.2.1 1 = L := ((hs.2.1 1 (show 1 < Y.2.2.2.1 by omega)).2).trans e3
  have f5 : Z.2.1 2075 = 30 := ((hs.2.1 2075 (show 2075 < Y.2.2.2.1 by omega)).1).trans e5
  simp (disch := (first | assumption | omega)) only [vWC, Nat.reduceAdd, b531_1117, f1]
  refine vWmo (Nat.le_refl _) (fun r hr => ?_) hR
  obtain ⟨v', J', Z', rfl, e, hp'⟩ := hr
  simp (disch := (first | assumption | omega)) only [vWC, Nat.reduceAdd, b531_1136, e, b531_1350, if_true]
  have := ht J' Z' hp'
  rw [show (6 * ((k + 1 : Nat) : Int)) = 6 * (k : Int) + 6 by omega] at this
  exact this
theorem law_d29 {L : Nat} {x : Nat → Int} {P : Nat → vJ → vY → Prop} {Q : vE → Prop} (hx : ∀ j, inI (x j)) (hP : oP L x P) (hL : L ≤ 384) {k : Nat} (hk : 6 * k + 6 ≤ L) (ho : oD29 P) {I : vJ} {Y : vY} (hp : P k I Y) (ht : ∀ J Z, P (k + 1) J Z → vW 2001 531 (18, [vr 1, vr 18, vr 2075, vi (6 * (k + 1 : Nat) : Int)], [], (J, Z)) Q) : vW 2001 531 (1141, [vr 1, vr 18, vr 2075, vi (6 * k : Int)], [], (I, Y)) Q := by
  obtain ⟨e1, e2, e3, e4, e5, e6⟩ := hP.2 k I Y hp
  simp (disch := (first | assumption | omega)) only [b531_1141, e1]
  refine law_mid (f := vl) (by omega) (fun v J Z hR hs => ?_) (ho k (by omega) _ _ _ (hx _) (hx _) (hx _) I Y hp)
  have f1 : ∀ j, J 1 j = x j := fun j => ((hs.1 1 (by unfold tL; decide)).1 j).trans (e1 j)
  have f2 : Z.2.1 1 = 100 := ((hs.2.1 1 (show 1 < Y.2.2.2.1 by omega)).1).trans e2
  have f3 : Z.2.2.1 1 = L := ((hs.2.1 1 (show 1 < Y.2.2.2.1 by omega)).2).trans e3
  have f5 : Z.2.1 2075 = 30 := ((hs.2.1 2075 (show 2075 < Y.2.2.2.1 by omega)).1).trans e5
  simp (disch := (first | assumption | omega)) only [vWC, Nat.reduceAdd, b531_1160, f1]
  refine vWmo (Nat.le_refl _) (fun r hr => ?_) hR
  obtain ⟨v', J', Z', rfl, e, hp'⟩ := hr
  simp (disch := (first | assumption | omega)) only [vWC, Nat.reduceAdd, b531_1179, Int.lt_irrefl, if_false, w32_id, e, b531_1350, if_true]
  have := ht J' Z' hp'
  rw [show (6 * ((k + 1 : Nat) : Int)) = 6 * (k : Int) + 6 by omega] at this
  simpa using this
theorem law_d30 {L : Nat} {x : Nat → Int} {P : Nat → vJ → vY → Prop} {Q : vE → Prop} (hx : ∀ j, inI (x j)) (hP : oP L x P) (hL : L ≤ 384) {k : Nat} (hk : 6 * k + 6 ≤ L) (ho : oD30 P) {I : vJ} {Y : vY} (hp : P k I Y) (ht : ∀ J Z, P (k + 1) J Z → vW 2001 531 (18, [vr 1, vr 18, vr 2075, vi (6 * (k + 1 : Nat) : Int)], [], (J, Z)) Q) : vW 2001 531 (1185, [vr 1, vr 18, vr 2075, vi (6 * k : Int)], [], (I, Y)) Q := by
  obtain ⟨e1, e2, e3, e4, e5, e6⟩ := hP.2 k I Y hp
  simp (disch := (first | assumption | omega)) only [b531_1185, e1]
  refine law_mid (f := vi) (by omega) (fun v J Z hR hs => ?_) (ho k (by omega) _ (hx _) I Y hp)
  have f1 : ∀ j, J 1 j = x j := fun j => ((hs.1 1 (by unfold tL; decide)).1 j).trans (e1 j)
  have f2 : Z.2.1 1 = 100 := ((hs.2.1 1 (show 1 < Y.2.2.2.1 by omega)).1).trans e2
  have f3 : Z.2.2.1 1 = L := ((hs.2.1 1 (show 1 < Y.2.2.2.1 by omega)).2).trans e3
  have f5 : Z.2.1 2075 = 30 := ((hs.2.1 2075 (show 2075 < Y.2.2.2.1 by omega)).1).trans e5
  simp (disch := (first | assumption | omega)) only [vWC, Nat.reduceAdd, b531_1194, f1]
  refine vWmo (Nat.le_refl _) (fun r hr => ?_) hR
  obtain ⟨v', J', Z', rfl, e, hp'⟩ := hr
  simp (disch := (first | assumption | omega)) only [vWC, Nat.reduceAdd, b531_1203, e, b531_1350, if_true]
  have := ht J' Z' hp'
  rw [show (6 * ((k + 1 : Nat) : Int)) = 6 * (k : Int) + 6 by omega] at this
  exact this
theorem law_d31 {L : Nat} {x : Nat → Int} {P : Nat → vJ → vY → Prop} {Q : vE → Prop} (hx : ∀ j, inI (x j)) (hP : oP L x P) (hL : L ≤ 384) {k : Nat} (hk : 6 * k + 6 ≤ L) (ho : oD31 P) {I : vJ} {Y : vY} (hp : P k I Y) (ht : ∀ J Z, P (k + 1) J Z → vW 2001 531 (18, [vr 1, vr 18, vr 2075, vi (6 * (k + 1 : Nat) : Int)], [], (J, Z)) Q) : vW 2001 531 (1208, [vr 1, vr 18, vr 2075, vi (6 * k : Int)], [], (I, Y)) Q := by
  obtain ⟨e1, e2, e3, e4, e5, e6⟩ := hP.2 k I Y hp
  simp (disch := (first | assumption | omega)) only [b531_1208, e1]
  refine law_mid (f := vl) (by omega) (fun v J Z hR hs => ?_) (ho k (by omega) _ _ (hx _) (hx _) I Y hp)
  have f1 : ∀ j, J 1 j = x j := fun j => ((hs.1 1 (by unfold tL; decide)).1 j).trans (e1 j)
  have f2 : Z.2.1 1 = 100 := ((hs.2.1 1 (show 1 < Y.2.2.2.1 by omega)).1).trans e2
  have f3 : Z.2.2.1 1 = L := ((hs.2.1 1 (show 1 < Y.2.2.2.1 by omega)).2).trans e3
  have f5 : Z.2.1 2075 = 30 := ((hs.2.1 2075 (show 2075 < Y.2.2.2.1 by omega)).1).trans e5
  simp (disch := (first | assumption | omega)) only [vWC, Nat.reduceAdd, b531_1222, f1]
  refine vWmo (Nat.le_refl _) (fun r hr => ?_) hR
  obtain ⟨v', J', Z', rfl, e, hp'⟩ := hr
  simp (disch := (first | assumption | omega)) only [vWC, Nat.reduceAdd, b531_1236, Int.lt_irrefl, if_false, w32_id, e, b531_1350, if_true]
  have := ht J' Z' hp'
  rw [show (6 * ((k + 1 : Nat) : Int)) = 6 * (k : Int) + 6 by omega] at this
  simpa using this
theorem law_d32 {L : Nat} {x : Nat → Int} {P : Nat → vJ → vY → Prop} {Q : vE → Prop} (hx : ∀ j, inI (x j)) (hP : oP L x P) (hL : L ≤ 384) {k : Nat} (hk : 6 * k + 6 ≤ L) (ho : oD32 P) {I : vJ} {Y : vY} (hp : P k I Y) (ht : ∀ J Z, P (k + 1) J Z → vW 2001 531 (18, [vr 1, vr 18, vr 2075, vi (6 * (k + 1 : Nat) : Int)], [], (J, Z)) Q) : vW 2001 531 (1242, [vr 1, vr 18, vr 2075, vi (6 * k : Int)], [], (I, Y)) Q := by
  obtain ⟨e1, e2, e3, e4, e5, e6⟩ := hP.2 k I Y hp
  simp (disch := (first | assumption | omega)) only [b531_1242, e1]
  refine law_mid (f := vl) (by omega) (fun v J Z hR hs => ?_) (ho k (by omega) _ _ _ (hx _) (hx _) (hx _) I Y hp)
  have f1 : ∀ j, J 1 j = x j := fun j => ((hs.1 1 (by unfold tL; decide)).1 j).trans (e1 j)
  have f2 : Z.2.1 1 = 100 := ((hs.2.1 1 (show 1 < Y.2.2.2.1 by omega)).1).trans e2
  have f3 : Z.2.2.1 1 = L := ((hs.2.1 1 (show 1 < Y.2.2.2.1 by omega)).2).trans e3
  have f5 : Z.2.1 2075 = 30 := ((hs.2.1 2075 (show 2075 < Y.2.2.2.1 by omega)).1).trans e5
  simp (disch := (first | assumption | omega)) only [vWC, Nat.reduceAdd, b531_1261, f1]
  refine vWmo (Nat.le_refl _) (fun r hr => ?_) hR
  obtain ⟨v', J', Z', rfl, e, hp'⟩ := hr
  simp (disch := (first | assumption | omega)) only [vWC, Nat.reduceAdd, b531_1280, Int.lt_irrefl, if_false, w32_id, e, b531_1350, if_true]
  have := ht J' Z' hp'
  rw [show (6 * ((k + 1 : Nat) : Int)) = 6 * (k : Int) + 6 by omega] at this
  simpa using this
theorem law_d33 {L : Nat} {x : Nat → Int} {P : Nat → vJ → vY → Prop} {Q : vE → Prop} (hx : ∀ j, inI (x j)) (hP : oP L x P) (hL : L ≤ 384) {k : Nat} (hk : 6 * k + 6 ≤ L) (ho : oD33 P) {I : vJ} {Y : vY} (hp : P k I Y) (ht : ∀ J Z, P (k + 1) J Z → vW 2001 531 (18, [vr 1, vr 18, vr 2075, vi (6 * (k + 1 : Nat) : Int)], [], (J, Z)) Q) : vW 2001 531 (1286, [vr 1, vr 18, vr 2075, vi (6 * k : Int)], [], (I, Y)) Q := by
  obtain ⟨e1, e2, e3, e4, e5, e6⟩ := hP.2 k I Y hp
  simp (disch := (first | assumption | omega)) only [b531_1286, e1]
  refine law_mid (f := vl) (by omega) (fun v J Z hR hs => ?_) (ho k (by omega) _ _ _ _ _ (hx _) (hx _) (hx _) (hx _) (hx _) I Y hp)
  have f1 : ∀ j, J 1 j = x j := fun j => ((hs.1 1 (by unfold tL; decide)).1 j).trans (e1 j)
  have f2 : Z.2.1 1 = 100 := ((hs.2.1 1 (show 1 < Y.2.2.2.1 by omega)).1).trans e2
  have f3 : Z.2.2.1 1 = L := ((hs.2.1 1 (show 1 < Y.2.2.2.1 by omega)).2).trans e3
  have f5 : Z.2.1 2075 = 30 := ((hs.2.1 2075 (show 2075 < Y.2.2.2.1 by omega)).1).trans e5
  simp (disch := (first | assumption | omega)) only [vWC, Nat.reduceAdd, b531_1315, f1]
  refine vWmo (Nat.le_refl _) (fun r hr => ?_) hR
  obtain ⟨v', J', Z', rfl, e, hp'⟩ := hr
  simp (disch := (first | assumption | omega)) only [vWC, Nat.reduceAdd, b531_1344, Int.lt_irrefl, if_false, w32_id, e, b531_1350, if_true]
  have := ht J' Z' hp'
  rw [show (6 * ((k + 1 : Nat) : Int)) = 6 * (k : Int) + 6 by omega] at this
  simpa using this
theorem law_loop2 {L : Nat} {x : Nat → Int} {P : Nat → vJ → vY → Prop} (hx : ∀ j, inI (x j)) (hP : oP L x P) (hL : L ≤ 384) (ho : oDall P) : ∀ (n k : Nat) (I : vJ) (Y : vY), L < 6 * (k + n) → 6 * k ≤ L → P k I Y → vW 2001 531 (18, [vr 1, vr 18, vr 2075, vi (6 * (k : Nat) : Int)], [], (I, Y)) (fun r => ∃ J Z j, j ≤ 64 ∧ r = (.inl (some (vi 1)), (J, Z)) ∧ P j J Z) := by
  intro n
  induction n with
  | zero => intro k I Y h1 h2 _; omega
  | succ n ih =>
    intro k I Y h1 h2 hp
    obtain ⟨e1, e2, e3, e4, e5, e6⟩ := hP.2 k I Y hp
    have e7 : 100 ≤ Y.2.1 1 := by omega
    simp (disch := (first | assumption | omega)) only [b531_18, e3, w32_id]
    by_cases hk : 6 * k + 6 ≤ L
    · rw [if_neg (by omega)]
      have ht : ∀ J Z, P (k + 1) J Z → vW 2001 531 (18, [vr 1, vr 18, vr 2075, vi (6 * (k + 1 : Nat) : Int)], [], (J, Z)) (fun r => ∃ J Z j, j ≤ 64 ∧ r = (.inl (some (vi 1)), (J, Z)) ∧ P j J Z) := fun J Z hq => ih (k + 1) J Z (by omega) (by omega) hq
      rw [b531_27 (by omega) (by omega) (by omega) e2]
      generalize w32 (b32 (· &&& ·) (I 1 (6 * (k : Int)).toNat) 63) = w
      obtain ⟨h0, h1, h2, h3, h4, h5, h6, h7, h8, h9, h10, h11, h12, h13, h14, h15, h16, h17, h18, h19, h20, h21, h22, h23, h24, h25, h26, h27, h28, h29, h30, h31, h32, h33⟩ := ho
      rcases Classical.em (w = 0) with c | c
      · rw [if_pos c]; exact law_d0 hx hP hL hk h0 hp ht
      rw [if_neg c]; clear c
      rcases Classical.em (w = 1) with c | c
      · rw [if_pos c]; exact law_d1 hx hP hL hk h1 hp ht
      rw [if_neg c]; clear c
      rcases Classical.em (w = 2) with c | c
      · rw [if_pos c]; exact law_d2 hx hP hL hk h2 hp ht
      rw [if_neg c]; clear c
      rcases Classical.em (w = 3) with c | c
      · rw [if_pos c]; exact law_d3 hx hP hL hk h3 hp ht
      rw [if_neg c]; clear c
      rcases Classical.em (w = 4) with c | c
      · rw [if_pos c]; exact law_d4 hx hP hL hk h4 hp ht
      rw [if_neg c]; clear c
      rcases Classical.em (w = 5) with c | c
      · rw [if_pos c]; exact law_d5 hx hP hL hk h5 hp ht
      rw [if_neg c]; clear c
      rcases Classical.em (w = 6) with c | c
      · rw [if_pos c]; exact law_d6 hx hP hL hk h6 hp ht
      rw [if_neg c]; clear c
      rcases Classical.em (w = 7) with c | c
      · rw [if_pos c]; exact law_d7 hx hP hL hk h7 hp ht
      rw [if_neg c]; clear c
      rcases Classical.em (w = 8) with c | c
      · rw [if_pos c]; exact law_d8 hx hP hL hk h8 hp ht
      rw [if_neg c]; clear c
      rcases Classical.em (w = 9) with c | c
      · rw [if_pos c]; exact law_d9 hx hP hL hk h9 hp ht
      rw [if_neg c]; clear c
      rcases Classical.em (w = 10) with c | c
      · rw [if_pos c]; exact law_d10 hx hP hL hk h10 hp ht
      rw [if_neg c]; clear c
      rcases Classical.em (w = 11) with c | c
      · rw [if_pos c]; exact law_d11 hx hP hL hk h11 hp ht
      rw [if_neg c]; clear c
      rcases Classical.em (w = 12) with c | c
      · rw [if_pos c]; exact law_d12 hx hP hL hk h12 hp ht
      rw [if_neg c]; clear c
      rcases Classical.em (w = 13) with c | c
      · rw [if_pos c]; exact law_d13 hx hP hL hk h13 hp ht
      rw [if_neg c]; clear c
      rcases Classical.em (w = 14) with c | c
      · rw [if_pos c]; exact law_d14 hx hP hL hk h14 hp ht
      rw [if_neg c]; clear c
      rcases Classical.em (w = 15) with c | c
      · rw [if_pos c]; exact law_d15 hx hP hL hk h15 hp ht
      rw [if_neg c]; clear c
      rcases Classical.em (w = 16) with c | c
      · rw [if_pos c]; exact law_d16 hx hP hL hk h16 hp ht
      rw [if_neg c]; clear c
      rcases Classical.em (w = 17) with c | c
      · rw [if_pos c]; exact law_d17 hx hP hL hk h17 hp ht
      rw [if_neg c]; clear c
      rcases Classical.em (w = 18) with c | c
      · rw [if_pos c]; exact law_d18 hx hP hL hk h18 hp ht
      rw [if_neg c]; clear c
      rcases Classical.em (w = 19) with c | c
      · rw [if_pos c]; exact law_d19 hx hP hL hk h19 hp ht
      rw [if_neg c]; clear c
      rcases Classical.em (w = 20) with c | c
      · rw [if_pos c]; exact law_d20 hx hP hL hk h20 hp ht
      rw [if_neg c]; clear c
      rcases Classical.em (w = 21) with c | c
      · rw [if_pos c]; exact law_d21 hx hP hL hk h21 hp ht
      rw [if_neg c]; clear c
      rcases Classical.em (w = 22) with c | c
      · rw [if_pos c]; exact law_d22 hx hP hL hk h22 hp ht
      rw [if_neg c]; clear c
      rcases Classical.em (w = 23) with c | c
      · rw [if_pos c]; exact law_d23 hx hP hL hk h23 hp ht
      rw [if_neg c]; clear c
      rcases Classical.em (w = 24) with c | c
      · rw [if_pos c]; exact law_d24 hx hP hL hk h24 hp ht
      rw [if_neg c]; clear c
      rcases Classical.em (w = 25) with c | c
      · rw [if_pos c]; exact law_d25 hx hP hL hk h25 hp ht
      rw [if_neg c]; clear c
      rcases Classical.em (w = 26) with c | c
      · rw [if_pos c]; exact law_d26 hx hP hL hk h26 hp ht
      rw [if_neg c]; clear c
      rcases Classical.em (w = 27) with c | c
      · rw [if_pos c]; exact law_d27 hx hP hL hk h27 hp ht
      rw [if_neg c]; clear c
      rcases Classical.em (w = 28) with c | c
      · rw [if_pos c]; exact law_d28 hx hP hL hk h28 hp ht
      rw [if_neg c]; clear c
      rcases Classical.em (w = 29) with c | c
      · rw [if_pos c]; exact law_d29 hx hP hL hk h29 hp ht
      rw [if_neg c]; clear c
      rcases Classical.em (w = 30) with c | c
      · rw [if_pos c]; exact law_d30 hx hP hL hk h30 hp ht
      rw [if_neg c]; clear c
      rcases Classical.em (w = 31) with c | c
      · rw [if_pos c]; exact law_d31 hx hP hL hk h31 hp ht
      rw [if_neg c]; clear c
      rcases Classical.em (w = 32) with c | c
      · rw [if_pos c]; exact law_d32 hx hP hL hk h32 hp ht
      rw [if_neg c]; clear c
      rcases Classical.em (w = 33) with c | c
      · rw [if_pos c]; exact law_d33 hx hP hL hk h33 hp ht
      rw [if_neg c]; clear c
      rw [b531_1350]
      have := ht I Y (hP.1 k I Y hp)
      rw [show (6 * ((k + 1 : Nat) : Int)) = 6 * (k : Int) + 6 by omega] at this
      exact this
    · rw [if_pos (by omega), b531_1356]
      exact ⟨I, Y, k, by omega, rfl, hp⟩
