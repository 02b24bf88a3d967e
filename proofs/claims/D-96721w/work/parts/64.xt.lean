/-! ===== tellings, of the class ===== -/
/-- a row of longs -/
def lrw (w : Wd) (q n : Nat) (T : Nat → Int64) : Prop := (wT w q = some (5, n, true) ∧ q < wz w) ∧ ∀ j, j < n → wL w q j = T j
section XT
variable {w : Wd} {b i : Nat} {o : Option Nat} {A : Ab}
theorem lrw.sc {w' : Wd} {q n : Nat} {T : Nat → Int64} {P : Nat → Nat → Prop} (h : lrw w q n T) (hf : fr P w w') (hP : ¬ P q 9999) : lrw w' q n T := by
  have hz := hf.z
  obtain ⟨⟨h1, h2⟩, h3⟩ := h
  exact ⟨⟨hf.T h2 h1, by omega⟩, fun j hj => by rw [hf.L h2 hP]; exact h3 j hj⟩
theorem lrw.rd {q n : Nat} {T : Nat → Int64} (h : lrw w q n T) {j : Nat} (hj : j < n) (hn : n < 1000000) (K : Int64 → Prop) : wldL w (some q) (Int32.ofNat j) K = K (T j) := by
  have hv : vp_in (Int32.ofNat j) n := vp_iff.2 (by rw [i_ti (by omega)]; omega)
  show (warr w q 5 (Int32.ofNat j) ∧ K (wL w q (Int32.ofNat j).toNatClampNeg)) = _
  unfold warr
  rw [h.1.1, i_tn (by omega), h.2 j hj]
  exact propext ⟨fun e => e.2, fun e => ⟨⟨rfl, hv⟩, e⟩⟩
theorem lrw.ln {q n : Nat} {T : Nat → Int64} (h : lrw w q n T) (K : Int32 → Prop) : wln w (some q) K = K (Int32.ofNat n) := by
  show (match wT w q with
    | some t => t.1 < 20 ∧ K (Int32.ofNat t.2.1)
    | none => False) = _
  rw [h.1.1]
  exact propext ⟨fun e => e.2, fun e => ⟨(by decide : 5 < 20), e⟩⟩
theorem x_elementOf {q : Nat} {hs sz : Int32} {E : Nat → Int64} (hr : rwS w b i o q hs sz E) {j : Nat} (hj : j < 1000000) {X : Nat → Wd → Prop} {k : Int64 → Wd → Prop} (hk : j < sz.toInt.toNat → k (E j) w) (hx : ¬ j < sz.toInt.toNat → wvm w X) : wp_X0_elementOf w (some q) (Int32.ofNat j) X k := by
  unfold wp_X0_elementOf
  rw [x_sortOf hr]
  have ht := hr.2.2.2.1
  have hsz := hr.2.2.1
  have key : ∀ (c : Nat) (K : Nat → Prop), srt hs = c → (j < sz.toInt.toNat → K q) → wX1 w (some q) c (Int32.ofNat j) X K := by
    intro c K hc hK
    show (match wT w q with
      | none => False
      | some t => t.1 = c ∧ t.2.1 < 2147483648 ∧ t.2.2 = true ∧ (if Int32.ofNat j < 0 ∨ t.2.1 ≤ (Int32.ofNat j).toNatClampNeg then wvm w X else K q))
    rw [ht, ← hc]
    refine ⟨rfl, by show sz.toInt.toNat < _; omega, rfl, ?_⟩
    show if Int32.ofNat j < 0 ∨ sz.toInt.toNat ≤ (Int32.ofNat j).toNatClampNeg then _ else _
    rw [i_tn (by omega)]
    by_cases c2 : j < sz.toInt.toNat
    · rw [if_neg (by rw [i_lt, i_ti (by omega), i_0]; omega)]
      exact hK c2
    · rw [if_pos (Or.inr (by omega))]
      exact hx c2
  have hE := fun c2 => (hr.2.2.2.2.2.2 j c2).1
  unfold elm at hE
  rcases srt_c hr.2.1 with ⟨rfl, e⟩ | ⟨rfl, e⟩ | ⟨rfl, e⟩ | ⟨rfl, e⟩ | ⟨rfl, e⟩ <;> simp only [e, ie_m6_m5, ie_m6_m4, ie_m6_m3, ie_m6_m2, ie_m6_m1, ie_m6_0, ie_m6_1, ie_m6_2, ie_m6_3, ie_m6_4, ie_m6_5, ie_m6_6, ie_m5_m6, ie_m5_m4, ie_m5_m3, ie_m5_m2, ie_m5_m1, ie_m5_0, ie_m5_1, ie_m5_2, ie_m5_3, ie_m5_4, ie_m5_5, ie_m5_6, ie_m4_m6, ie_m4_m5, ie_m4_m3, ie_m4_m2, ie_m4_m1, ie_m4_0, ie_m4_1, ie_m4_2, ie_m4_3, ie_m4_4, ie_m4_5, ie_m4_6, ie_m3_m6, ie_m3_m5, ie_m3_m4, ie_m3_m2, ie_m3_m1, ie_m3_0, ie_m3_1, ie_m3_2, ie_m3_3, ie_m3_4, ie_m3_5, ie_m3_6, ie_m2_m6, ie_m2_m5, ie_m2_m4, ie_m2_m3, ie_m2_m1, ie_m2_0, ie_m2_1, ie_m2_2, ie_m2_3, ie_m2_4, ie_m2_5, ie_m2_6, ie_m1_m6, ie_m1_m5, ie_m1_m4, ie_m1_m3, ie_m1_m2, ie_m1_0, ie_m1_1, ie_m1_2, ie_m1_3, ie_m1_4, ie_m1_5, ie_m1_6, ie_0_m6, ie_0_m5, ie_0_m4, ie_0_m3, ie_0_m2, ie_0_m1, ie_0_1, ie_0_2, ie_0_3, ie_0_4, ie_0_5, ie_0_6, ie_1_m6, ie_1_m5, ie_1_m4, ie_1_m3, ie_1_m2, ie_1_m1, ie_1_0, ie_1_2, ie_1_3, ie_1_4, ie_1_5, ie_1_6, ie_2_m6, ie_2_m5, ie_2_m4, ie_2_m3, ie_2_m2, ie_2_m1, ie_2_0, ie_2_1, ie_2_3, ie_2_4, ie_2_5, ie_2_6, ie_3_m6, ie_3_m5, ie_3_m4, ie_3_m3, ie_3_m2, ie_3_m1, ie_3_0, ie_3_1, ie_3_2, ie_3_4, ie_3_5, ie_3_6, ie_4_m6, ie_4_m5, ie_4_m4, ie_4_m3, ie_4_m2, ie_4_m1, ie_4_0, ie_4_1, ie_4_2, ie_4_3, ie_4_5, ie_4_6, ie_5_m6, ie_5_m5, ie_5_m4, ie_5_m3, ie_5_m2, ie_5_m1, ie_5_0, ie_5_1, ie_5_2, ie_5_3, ie_5_4, ie_5_6, ie_6_m6, ie_6_m5, ie_6_m4, ie_6_m3, ie_6_m2, ie_6_m1, ie_6_0, ie_6_1, ie_6_2, ie_6_3, ie_6_4, ie_6_5, Int32.reduceToInt, Int64.reduceToInt, Int.reduceToNat, Int32.reduceAdd, Int32.reduceSub, Int32.reduceMul, Int32.reduceDiv, Int32.reduceLT, Int32.reduceLE, Int.reduceLE, Int.reduceLT, Int.reduceNeg, Int.reduceAdd, Int.reduceSub, Int.reduceMul, Int.reduceEq, Nat.reduceAdd, Nat.reduceMul, Nat.reduceLT, Nat.reduceEqDiff, true_and, and_true, and_self, false_and, and_false, if_true, if_false, ite_true, ite_false, ↓reduceIte, not_true_eq_false, not_false_eq_true, true_or, or_true, or_false, false_or, Int.cast_ofNat_Int, Int.reduceNatCast] at hE ht
  · simp only [wcc, ht, List.mem_cons, ie_m6_m5, ie_m6_m4, ie_m6_m3, ie_m6_m2, ie_m6_m1, ie_m6_0, ie_m6_1, ie_m6_2, ie_m6_3, ie_m6_4, ie_m6_5, ie_m6_6, ie_m5_m6, ie_m5_m4, ie_m5_m3, ie_m5_m2, ie_m5_m1, ie_m5_0, ie_m5_1, ie_m5_2, ie_m5_3, ie_m5_4, ie_m5_5, ie_m5_6, ie_m4_m6, ie_m4_m5, ie_m4_m3, ie_m4_m2, ie_m4_m1, ie_m4_0, ie_m4_1, ie_m4_2, ie_m4_3, ie_m4_4, ie_m4_5, ie_m4_6, ie_m3_m6, ie_m3_m5, ie_m3_m4, ie_m3_m2, ie_m3_m1, ie_m3_0, ie_m3_1, ie_m3_2, ie_m3_3, ie_m3_4, ie_m3_5, ie_m3_6, ie_m2_m6, ie_m2_m5, ie_m2_m4, ie_m2_m3, ie_m2_m1, ie_m2_0, ie_m2_1, ie_m2_2, ie_m2_3, ie_m2_4, ie_m2_5, ie_m2_6, ie_m1_m6, ie_m1_m5, ie_m1_m4, ie_m1_m3, ie_m1_m2, ie_m1_0, ie_m1_1, ie_m1_2, ie_m1_3, ie_m1_4, ie_m1_5, ie_m1_6, ie_0_m6, ie_0_m5, ie_0_m4, ie_0_m3, ie_0_m2, ie_0_m1, ie_0_1, ie_0_2, ie_0_3, ie_0_4, ie_0_5, ie_0_6, ie_1_m6, ie_1_m5, ie_1_m4, ie_1_m3, ie_1_m2, ie_1_m1, ie_1_0, ie_1_2, ie_1_3, ie_1_4, ie_1_5, ie_1_6, ie_2_m6, ie_2_m5, ie_2_m4, ie_2_m3, ie_2_m2, ie_2_m1, ie_2_0, ie_2_1, ie_2_3, ie_2_4, ie_2_5, ie_2_6, ie_3_m6, ie_3_m5, ie_3_m4, ie_3_m3, ie_3_m2, ie_3_m1, ie_3_0, ie_3_1, ie_3_2, ie_3_4, ie_3_5, ie_3_6, ie_4_m6, ie_4_m5, ie_4_m4, ie_4_m3, ie_4_m2, ie_4_m1, ie_4_0, ie_4_1, ie_4_2, ie_4_3, ie_4_5, ie_4_6, ie_5_m6, ie_5_m5, ie_5_m4, ie_5_m3, ie_5_m2, ie_5_m1, ie_5_0, ie_5_1, ie_5_2, ie_5_3, ie_5_4, ie_5_6, ie_6_m6, ie_6_m5, ie_6_m4, ie_6_m3, ie_6_m2, ie_6_m1, ie_6_0, ie_6_1, ie_6_2, ie_6_3, ie_6_4, ie_6_5, Int32.reduceToInt, Int64.reduceToInt, Int.reduceToNat, Int32.reduceAdd, Int32.reduceSub, Int32.reduceMul, Int32.reduceDiv, Int32.reduceLT, Int32.reduceLE, Int.reduceLE, Int.reduceLT, Int.reduceNeg, Int.reduceAdd, Int.reduceSub, Int.reduceMul, Int.reduceEq, Nat.reduceAdd, Nat.reduceMul, Nat.reduceLT, Nat.reduceEqDiff, true_and, and_true, and_self, false_and, and_false, if_true, if_false, ite_true, ite_false, ↓reduceIte, not_true_eq_false, not_false_eq_true, true_or, or_true, or_false, false_or, Int.cast_ofNat_Int, Int.reduceNatCast]
    unfold wldX
    refine key 1 _ e (fun c2 => ?_)
    rw [i_tn (by omega)]
    show k ((wI w q j).toInt64) w
    rw [hE c2]
    exact hk c2
  · simp only [wcc, ht, List.mem_cons, ie_m6_m5, ie_m6_m4, ie_m6_m3, ie_m6_m2, ie_m6_m1, ie_m6_0, ie_m6_1, ie_m6_2, ie_m6_3, ie_m6_4, ie_m6_5, ie_m6_6, ie_m5_m6, ie_m5_m4, ie_m5_m3, ie_m5_m2, ie_m5_m1, ie_m5_0, ie_m5_1, ie_m5_2, ie_m5_3, ie_m5_4, ie_m5_5, ie_m5_6, ie_m4_m6, ie_m4_m5, ie_m4_m3, ie_m4_m2, ie_m4_m1, ie_m4_0, ie_m4_1, ie_m4_2, ie_m4_3, ie_m4_4, ie_m4_5, ie_m4_6, ie_m3_m6, ie_m3_m5, ie_m3_m4, ie_m3_m2, ie_m3_m1, ie_m3_0, ie_m3_1, ie_m3_2, ie_m3_3, ie_m3_4, ie_m3_5, ie_m3_6, ie_m2_m6, ie_m2_m5, ie_m2_m4, ie_m2_m3, ie_m2_m1, ie_m2_0, ie_m2_1, ie_m2_2, ie_m2_3, ie_m2_4, ie_m2_5, ie_m2_6, ie_m1_m6, ie_m1_m5, ie_m1_m4, ie_m1_m3, ie_m1_m2, ie_m1_0, ie_m1_1, ie_m1_2, ie_m1_3, ie_m1_4, ie_m1_5, ie_m1_6, ie_0_m6, ie_0_m5, ie_0_m4, ie_0_m3, ie_0_m2, ie_0_m1, ie_0_1, ie_0_2, ie_0_3, ie_0_4, ie_0_5, ie_0_6, ie_1_m6, ie_1_m5, ie_1_m4, ie_1_m3, ie_1_m2, ie_1_m1, ie_1_0, ie_1_2, ie_1_3, ie_1_4, ie_1_5, ie_1_6, ie_2_m6, ie_2_m5, ie_2_m4, ie_2_m3, ie_2_m2, ie_2_m1, ie_2_0, ie_2_1, ie_2_3, ie_2_4, ie_2_5, ie_2_6, ie_3_m6, ie_3_m5, ie_3_m4, ie_3_m3, ie_3_m2, ie_3_m1, ie_3_0, ie_3_1, ie_3_2, ie_3_4, ie_3_5, ie_3_6, ie_4_m6, ie_4_m5, ie_4_m4, ie_4_m3, ie_4_m2, ie_4_m1, ie_4_0, ie_4_1, ie_4_2, ie_4_3, ie_4_5, ie_4_6, ie_5_m6, ie_5_m5, ie_5_m4, ie_5_m3, ie_5_m2, ie_5_m1, ie_5_0, ie_5_1, ie_5_2, ie_5_3, ie_5_4, ie_5_6, ie_6_m6, ie_6_m5, ie_6_m4, ie_6_m3, ie_6_m2, ie_6_m1, ie_6_0, ie_6_1, ie_6_2, ie_6_3, ie_6_4, ie_6_5, Int32.reduceToInt, Int64.reduceToInt, Int.reduceToNat, Int32.reduceAdd, Int32.reduceSub, Int32.reduceMul, Int32.reduceDiv, Int32.reduceLT, Int32.reduceLE, Int.reduceLE, Int.reduceLT, Int.reduceNeg, Int.reduceAdd, Int.reduceSub, Int.reduceMul, Int.reduceEq, Nat.reduceAdd, Nat.reduceMul, Nat.reduceLT, Nat.reduceEqDiff, true_and, and_true, and_self, false_and, and_false, if_true, if_false, ite_true, ite_false, ↓reduceIte, not_true_eq_false, not_false_eq_true, true_or, or_true, or_false, false_or, Int.cast_ofNat_Int, Int.reduceNatCast]
    unfold wldX
    refine key 2 _ e (fun c2 => ?_)
    rw [i_tn (by omega)]
    show k ((wI w q j).toInt64) w
    rw [hE c2]
    exact hk c2
  · simp only [wcc, ht, List.mem_cons, ie_m6_m5, ie_m6_m4, ie_m6_m3, ie_m6_m2, ie_m6_m1, ie_m6_0, ie_m6_1, ie_m6_2, ie_m6_3, ie_m6_4, ie_m6_5, ie_m6_6, ie_m5_m6, ie_m5_m4, ie_m5_m3, ie_m5_m2, ie_m5_m1, ie_m5_0, ie_m5_1, ie_m5_2, ie_m5_3, ie_m5_4, ie_m5_5, ie_m5_6, ie_m4_m6, ie_m4_m5, ie_m4_m3, ie_m4_m2, ie_m4_m1, ie_m4_0, ie_m4_1, ie_m4_2, ie_m4_3, ie_m4_4, ie_m4_5, ie_m4_6, ie_m3_m6, ie_m3_m5, ie_m3_m4, ie_m3_m2, ie_m3_m1, ie_m3_0, ie_m3_1, ie_m3_2, ie_m3_3, ie_m3_4, ie_m3_5, ie_m3_6, ie_m2_m6, ie_m2_m5, ie_m2_m4, ie_m2_m3, ie_m2_m1, ie_m2_0, ie_m2_1, ie_m2_2, ie_m2_3, ie_m2_4, ie_m2_5, ie_m2_6, ie_m1_m6, ie_m1_m5, ie_m1_m4, ie_m1_m3, ie_m1_m2, ie_m1_0, ie_m1_1, ie_m1_2, ie_m1_3, ie_m1_4, ie_m1_5, ie_m1_6, ie_0_m6, ie_0_m5, ie_0_m4, ie_0_m3, ie_0_m2, ie_0_m1, ie_0_1, ie_0_2, ie_0_3, ie_0_4, ie_0_5, ie_0_6, ie_1_m6, ie_1_m5, ie_1_m4, ie_1_m3, ie_1_m2, ie_1_m1, ie_1_0, ie_1_2, ie_1_3, ie_1_4, ie_1_5, ie_1_6, ie_2_m6, ie_2_m5, ie_2_m4, ie_2_m3, ie_2_m2, ie_2_m1, ie_2_0, ie_2_1, ie_2_3, ie_2_4, ie_2_5, ie_2_6, ie_3_m6, ie_3_m5, ie_3_m4, ie_3_m3, ie_3_m2, ie_3_m1, ie_3_0, ie_3_1, ie_3_2, ie_3_4, ie_3_5, ie_3_6, ie_4_m6, ie_4_m5, ie_4_m4, ie_4_m3, ie_4_m2, ie_4_m1, ie_4_0, ie_4_1, ie_4_2, ie_4_3, ie_4_5, ie_4_6, ie_5_m6, ie_5_m5, ie_5_m4, ie_5_m3, ie_5_m2, ie_5_m1, ie_5_0, ie_5_1, ie_5_2, ie_5_3, ie_5_4, ie_5_6, ie_6_m6, ie_6_m5, ie_6_m4, ie_6_m3, ie_6_m2, ie_6_m1, ie_6_0, ie_6_1, ie_6_2, ie_6_3, ie_6_4, ie_6_5, Int32.reduceToInt, Int64.reduceToInt, Int.reduceToNat, Int32.reduceAdd, Int32.reduceSub, Int32.reduceMul, Int32.reduceDiv, Int32.reduceLT, Int32.reduceLE, Int.reduceLE, Int.reduceLT, Int.reduceNeg, Int.reduceAdd, Int.reduceSub, Int.reduceMul, Int.reduceEq, Nat.reduceAdd, Nat.reduceMul, Nat.reduceLT, Nat.reduceEqDiff, true_and, and_true, and_self, false_and, and_false, if_true, if_false, ite_true, ite_false, ↓reduceIte, not_true_eq_false, not_false_eq_true, true_or, or_true, or_false, false_or, Int.cast_ofNat_Int, Int.reduceNatCast]
    unfold wldX
    refine key 0 _ e (fun c2 => ?_)
    rw [i_tn (by omega)]
    show k ((wI w q j).toInt64) w
    rw [hE c2]
    exact hk c2
  · simp only [wcc, ht, List.mem_cons, ie_m6_m5, ie_m6_m4, ie_m6_m3, ie_m6_m2, ie_m6_m1, ie_m6_0, ie_m6_1, ie_m6_2, ie_m6_3, ie_m6_4, ie_m6_5, ie_m6_6, ie_m5_m6, ie_m5_m4, ie_m5_m3, ie_m5_m2, ie_m5_m1, ie_m5_0, ie_m5_1, ie_m5_2, ie_m5_3, ie_m5_4, ie_m5_5, ie_m5_6, ie_m4_m6, ie_m4_m5, ie_m4_m3, ie_m4_m2, ie_m4_m1, ie_m4_0, ie_m4_1, ie_m4_2, ie_m4_3, ie_m4_4, ie_m4_5, ie_m4_6, ie_m3_m6, ie_m3_m5, ie_m3_m4, ie_m3_m2, ie_m3_m1, ie_m3_0, ie_m3_1, ie_m3_2, ie_m3_3, ie_m3_4, ie_m3_5, ie_m3_6, ie_m2_m6, ie_m2_m5, ie_m2_m4, ie_m2_m3, ie_m2_m1, ie_m2_0, ie_m2_1, ie_m2_2, ie_m2_3, ie_m2_4, ie_m2_5, ie_m2_6, ie_m1_m6, ie_m1_m5, ie_m1_m4, ie_m1_m3, ie_m1_m2, ie_m1_0, ie_m1_1, ie_m1_2, ie_m1_3, ie_m1_4, ie_m1_5, ie_m1_6, ie_0_m6, ie_0_m5, ie_0_m4, ie_0_m3, ie_0_m2, ie_0_m1, ie_0_1, ie_0_2, ie_0_3, ie_0_4, ie_0_5, ie_0_6, ie_1_m6, ie_1_m5, ie_1_m4, ie_1_m3, ie_1_m2, ie_1_m1, ie_1_0, ie_1_2, ie_1_3, ie_1_4, ie_1_5, ie_1_6, ie_2_m6, ie_2_m5, ie_2_m4, ie_2_m3, ie_2_m2, ie_2_m1, ie_2_0, ie_2_1, ie_2_3, ie_2_4, ie_2_5, ie_2_6, ie_3_m6, ie_3_m5, ie_3_m4, ie_3_m3, ie_3_m2, ie_3_m1, ie_3_0, ie_3_1, ie_3_2, ie_3_4, ie_3_5, ie_3_6, ie_4_m6, ie_4_m5, ie_4_m4, ie_4_m3, ie_4_m2, ie_4_m1, ie_4_0, ie_4_1, ie_4_2, ie_4_3, ie_4_5, ie_4_6, ie_5_m6, ie_5_m5, ie_5_m4, ie_5_m3, ie_5_m2, ie_5_m1, ie_5_0, ie_5_1, ie_5_2, ie_5_3, ie_5_4, ie_5_6, ie_6_m6, ie_6_m5, ie_6_m4, ie_6_m3, ie_6_m2, ie_6_m1, ie_6_0, ie_6_1, ie_6_2, ie_6_3, ie_6_4, ie_6_5, Int32.reduceToInt, Int64.reduceToInt, Int.reduceToNat, Int32.reduceAdd, Int32.reduceSub, Int32.reduceMul, Int32.reduceDiv, Int32.reduceLT, Int32.reduceLE, Int.reduceLE, Int.reduceLT, Int.reduceNeg, Int.reduceAdd, Int.reduceSub, Int.reduceMul, Int.reduceEq, Nat.reduceAdd, Nat.reduceMul, Nat.reduceLT, Nat.reduceEqDiff, true_and, and_true, and_self, false_and, and_false, if_true, if_false, ite_true, ite_false, ↓reduceIte, not_true_eq_false, not_false_eq_true, true_or, or_true, or_false, false_or, Int.cast_ofNat_Int, Int.reduceNatCast]
    unfold wldLX
    refine key 5 _ e (fun c2 => ?_)
    rw [i_tn (by omega), hE c2]
    exact hk c2
  · simp only [wcc, ht, List.mem_cons, ie_m6_m5, ie_m6_m4, ie_m6_m3, ie_m6_m2, ie_m6_m1, ie_m6_0, ie_m6_1, ie_m6_2, ie_m6_3, ie_m6_4, ie_m6_5, ie_m6_6, ie_m5_m6, ie_m5_m4, ie_m5_m3, ie_m5_m2, ie_m5_m1, ie_m5_0, ie_m5_1, ie_m5_2, ie_m5_3, ie_m5_4, ie_m5_5, ie_m5_6, ie_m4_m6, ie_m4_m5, ie_m4_m3, ie_m4_m2, ie_m4_m1, ie_m4_0, ie_m4_1, ie_m4_2, ie_m4_3, ie_m4_4, ie_m4_5, ie_m4_6, ie_m3_m6, ie_m3_m5, ie_m3_m4, ie_m3_m2, ie_m3_m1, ie_m3_0, ie_m3_1, ie_m3_2, ie_m3_3, ie_m3_4, ie_m3_5, ie_m3_6, ie_m2_m6, ie_m2_m5, ie_m2_m4, ie_m2_m3, ie_m2_m1, ie_m2_0, ie_m2_1, ie_m2_2, ie_m2_3, ie_m2_4, ie_m2_5, ie_m2_6, ie_m1_m6, ie_m1_m5, ie_m1_m4, ie_m1_m3, ie_m1_m2, ie_m1_0, ie_m1_1, ie_m1_2, ie_m1_3, ie_m1_4, ie_m1_5, ie_m1_6, ie_0_m6, ie_0_m5, ie_0_m4, ie_0_m3, ie_0_m2, ie_0_m1, ie_0_1, ie_0_2, ie_0_3, ie_0_4, ie_0_5, ie_0_6, ie_1_m6, ie_1_m5, ie_1_m4, ie_1_m3, ie_1_m2, ie_1_m1, ie_1_0, ie_1_2, ie_1_3, ie_1_4, ie_1_5, ie_1_6, ie_2_m6, ie_2_m5, ie_2_m4, ie_2_m3, ie_2_m2, ie_2_m1, ie_2_0, ie_2_1, ie_2_3, ie_2_4, ie_2_5, ie_2_6, ie_3_m6, ie_3_m5, ie_3_m4, ie_3_m3, ie_3_m2, ie_3_m1, ie_3_0, ie_3_1, ie_3_2, ie_3_4, ie_3_5, ie_3_6, ie_4_m6, ie_4_m5, ie_4_m4, ie_4_m3, ie_4_m2, ie_4_m1, ie_4_0, ie_4_1, ie_4_2, ie_4_3, ie_4_5, ie_4_6, ie_5_m6, ie_5_m5, ie_5_m4, ie_5_m3, ie_5_m2, ie_5_m1, ie_5_0, ie_5_1, ie_5_2, ie_5_3, ie_5_4, ie_5_6, ie_6_m6, ie_6_m5, ie_6_m4, ie_6_m3, ie_6_m2, ie_6_m1, ie_6_0, ie_6_1, ie_6_2, ie_6_3, ie_6_4, ie_6_5, Int32.reduceToInt, Int64.reduceToInt, Int.reduceToNat, Int32.reduceAdd, Int32.reduceSub, Int32.reduceMul, Int32.reduceDiv, Int32.reduceLT, Int32.reduceLE, Int.reduceLE, Int.reduceLT, Int.reduceNeg, Int.reduceAdd, Int.reduceSub, Int.reduceMul, Int.reduceEq, Nat.reduceAdd, Nat.reduceMul, Nat.reduceLT, Nat.reduceEqDiff, true_and, and_true, and_self, false_and, and_false, if_true, if_false, ite_true, ite_false, ↓reduceIte, not_true_eq_false, not_false_eq_true, true_or, or_true, or_false, false_or, Int.cast_ofNat_Int, Int.reduceNatCast]
    unfold wldX
    refine key 4 _ e (fun c2 => ?_)
    rw [i_tn (by omega)]
    show if wI w q j = 0 then k 0 w else k 1 w
    have h2 := hE c2
    by_cases c3 : wI w q j = 0
    · rw [if_pos c3] at h2 ⊢
      rw [h2]
      exact hk c2
    · rw [if_neg c3] at h2 ⊢
      rw [h2]
      exact hk c2
def cutE (E : Nat → Int64) (j : Nat) : Nat → Int64 := fun x => if x < j then E x else 0
theorem x_elementsIn {q : Nat} {hs sz : Int32} {E : Nat → Int64} (hr : rwS w b i o q hs sz E) {n : Int32} (hn : 0 ≤ n.toInt ∧ n.toInt ≤ 40) {X : Nat → Wd → Prop} {k : Option Nat → Wd → Prop} (hx : sz.toInt < n.toInt → ∀ q' w', fr x0 w w' → rfd w' q' (-2) → X q' w') (hk : n.toInt ≤ sz.toInt → ∀ w', fr x0 w w' → lrw w' (wz w) n.toInt.toNat E → k (some (wz w)) w') : wp_X0_elementsIn w (some q) n X k := by
  have hqz := hr.1.2
  have hsz := hr.2.2.1
  unfold wp_X0_elementsIn wna
  refine ⟨by rw [i_lt, i_0]; omega, by rw [i_nat]; omega, ?_⟩
  rw [i_nat]
  have hf0 : fr x0 w (nw w (5, n.toInt.toNat, true)) := (fr.refl _ _).nw
  generalize hM : n.toInt.toNat = M at *
  have key : ∀ d fu j w2, j + d = M → d < fu → (fr x0 w w2 ∧ lrw w2 (wz w) M (cutE E j) ∧ j ≤ sz.toInt.toNat) → wl_X0_elementsIn_6 X k fu w2 (some q) n (some (wz w)) (Int32.ofNat j) := by
    intro d
    induction d with
    | zero =>
      intro fu j w2 hj hfu ⟨hf2, hl2, hjs⟩
      obtain ⟨fu, rfl⟩ : ∃ g, fu = g + 1 := ⟨fu - 1, by omega⟩
      obtain rfl : j = M := by omega
      rw [wl_X0_elementsIn_6_s]
      unfold wb_X0_elementsIn_6
      rw [if_pos (by rw [le_of (by omega)]; omega)]
      refine hk (by omega) w2 hf2 ⟨hl2.1, fun x hx => ?_⟩
      rw [hl2.2 x hx]
      exact if_pos hx
    | succ d ih =>
      intro fu j w2 hj hfu ⟨hf2, hl2, hjs⟩
      obtain ⟨fu, rfl⟩ : ∃ g, fu = g + 1 := ⟨fu - 1, by omega⟩
      have hr2 := hr.sc hf2 (fun hp => hp)
      rw [wl_X0_elementsIn_6_s]
      unfold wb_X0_elementsIn_6
      rw [if_neg (by rw [le_of (by omega)]; omega)]
      refine x_elementOf hr2 (by omega) (fun c => ?_) (fun c => ?_)
      · have hv : vp_in (Int32.ofNat j) M := vp_iff.2 (by rw [i_ti (by omega)]; omega)
        show warw w2 (wz w) 5 (Int32.ofNat j) ∧ _
        unfold warw
        rw [hl2.1.1]
        refine ⟨⟨rfl, hv, rfl⟩, ?_⟩
        rw [i_tn (by omega), i_ofS]
        refine ih fu (j + 1) _ (by omega) (by omega) ⟨hf2.sL (fun hlt => absurd hlt (Nat.lt_irrefl _)), ⟨hl2.1, fun x hx => ?_⟩, by omega⟩
        rw [wL_sL]
        by_cases e : x = j
        · rw [if_pos ⟨rfl, e⟩, e]
          exact (if_pos (by omega)).symm
        · rw [if_neg (fun e' => e e'.2), hl2.2 x hx]
          show (if x < j then E x else 0) = if x < j + 1 then E x else 0
          by_cases e2 : x < j
          · rw [if_pos e2, if_pos (by omega)]
          · rw [if_neg e2, if_neg (by omega)]
      · intro z q' hz
        unfold wb_X0_elementsIn_28
        exact x_refd (sZ w2 z) (-2) (fun w' hf hrf => hx (by omega) _ w' ((hf2.sZ hz).trans hf) hrf)
  refine key M 44 0 _ (by omega) (by omega) ⟨hf0, ⟨⟨by rw [wT_nw, if_pos rfl], by rw [wz_nw]; omega⟩, fun x hx => ?_⟩, by omega⟩
  rw [wL_nw, if_pos rfl]
  exact (if_neg (by omega)).symm
/-- the first element that is no sign; none -/
theorem x_wrongIn {q n : Nat} {T : Nat → Int64} (hl : lrw w q n T) (hn : n ≤ 40) {k : Int32 → Wd → Prop} (hk : k (srch (fun j => ¬ (0 ≤ (T j).toInt ∧ (T j).toInt ≤ 3)) (fun j => Int32.ofNat j) n 0) w) : wp_X0_wrongIn w (some q) k := by
  unfold wp_X0_wrongIn
  have key : ∀ d fu j, j + d = n → d < fu → k (srch (fun j => ¬ (0 ≤ (T j).toInt ∧ (T j).toInt ≤ 3)) (fun j => Int32.ofNat j) d j) w → wl_X0_wrongIn_2 k fu w (some q) (Int32.ofNat j) := by
    intro d
    induction d with
    | zero =>
      intro fu j hj hfu he
      obtain ⟨fu, rfl⟩ : ∃ g, fu = g + 1 := ⟨fu - 1, by omega⟩
      rw [wl_X0_wrongIn_2_s]
      unfold wb_X0_wrongIn_2
      rw [hl.ln, if_pos (by rw [i_le, i_ti (by omega), i_ti (by omega)]; omega)]
      exact he
    | succ d ih =>
      intro fu j hj hfu he
      obtain ⟨fu, rfl⟩ : ∃ g, fu = g + 1 := ⟨fu - 1, by omega⟩
      rw [wl_X0_wrongIn_2_s]
      unfold wb_X0_wrongIn_2
      rw [hl.ln, if_neg (by rw [i_le, i_ti (by omega), i_ti (by omega)]; omega), hl.rd (by omega) (by omega), hl.rd (by omega) (by omega)]
      rw [show srch (fun j => ¬ (0 ≤ (T j).toInt ∧ (T j).toInt ≤ 3)) (fun j => Int32.ofNat j) (d + 1) j = if ¬ (0 ≤ (T j).toInt ∧ (T j).toInt ≤ 3) then Int32.ofNat j else srch (fun j => ¬ (0 ≤ (T j).toInt ∧ (T j).toInt ≤ 3)) (fun j => Int32.ofNat j) d (j + 1) from rfl] at he
      simp only [lg_lt, Int64.reduceToInt, i_ofS]
      by_cases c : (T j).toInt < 0
      · rw [if_pos c]
        rwa [if_pos (by omega)] at he
      · rw [if_neg c]
        by_cases c2 : (T j).toInt < 4
        · rw [if_pos c2]
          rw [if_neg (by omega)] at he
          exact ih fu (j + 1) (by omega) (by omega) he
        · rw [if_neg c2]
          rwa [if_pos (by omega)] at he
  exact key n FU 0 (by omega) (by unfold FU; omega) hk
theorem srch_none {P : Nat → Prop} [DecidablePred P] : ∀ (d j : Nat), (j + d < 1000000) → (srch P (fun j => Int32.ofNat j) d j = -1 ↔ ∀ x, j ≤ x → x < j + d → ¬ P x)
  | 0, j, _ => ⟨fun _ x h1 h2 => by omega, fun _ => rfl⟩
  | d + 1, j, hb => by
    rw [show srch P (fun j => Int32.ofNat j) (d + 1) j = if P j then Int32.ofNat j else srch P (fun j => Int32.ofNat j) d (j + 1) from rfl]
    by_cases c : P j
    · rw [if_pos c]
      exact ⟨fun e => absurd (congrArg Int32.toInt e) (by rw [i_ti (by omega), i_m1]; omega), fun e => absurd c (e j (by omega) (by omega))⟩
    · rw [if_neg c, srch_none d (j + 1) (by omega)]
      exact ⟨fun e x h1 h2 => by
        by_cases ex : x = j
        · rw [ex]; exact c
        · exact e x (by omega) (by omega), fun e x h1 h2 => e x (by omega) (by omega)⟩
theorem x_signsIn (h : XX w b i o A) (hN : okN (aN A)) (well : Prop) [Decidable well] {wl s n : Int32} (hw : ¬ wl = 0 ↔ well) {X : Nat → Wd → Prop} {k : Option Nat → Wd → Prop} (hx : (loadF A well s n).toInt < 0 → ∀ q w', fr x0 w w' → rfd w' q (loadF A well s n) → X q w') (hk : 0 ≤ (loadF A well s n).toInt → ∀ t w', fr x0 w w' → wz w ≤ t → lrw w' t n.toInt.toNat (elA A s) → k (some t) w') : wp_X0_signsIn w b wl s n X k := by
  unfold wp_X0_signsIn wp_X0_toldIn
  refine ⟨by rw [h.sh.ob]; trivial, ?_⟩
  unfold loadF at hx hk
  by_cases c0 : wl = 0
  · rw [if_pos c0]
    have hn : ¬ (isS s ∧ (0 ≤ n.toInt ∧ n.toInt ≤ 40) ∧ well) := fun hc => (hw.2 hc.2.2) c0
    simp only [if_neg hn] at hx
    exact x_refd w (-2) (fun w' hf hr => hx (by decide) _ w' hf hr)
  · rw [if_neg c0, x_isShelf]
    by_cases c1 : isS s
    · rw [if_pos c1, if_neg (by decide)]
      simp only [x_isIn, ie_m6_m5, ie_m6_m4, ie_m6_m3, ie_m6_m2, ie_m6_m1, ie_m6_0, ie_m6_1, ie_m6_2, ie_m6_3, ie_m6_4, ie_m6_5, ie_m6_6, ie_m5_m6, ie_m5_m4, ie_m5_m3, ie_m5_m2, ie_m5_m1, ie_m5_0, ie_m5_1, ie_m5_2, ie_m5_3, ie_m5_4, ie_m5_5, ie_m5_6, ie_m4_m6, ie_m4_m5, ie_m4_m3, ie_m4_m2, ie_m4_m1, ie_m4_0, ie_m4_1, ie_m4_2, ie_m4_3, ie_m4_4, ie_m4_5, ie_m4_6, ie_m3_m6, ie_m3_m5, ie_m3_m4, ie_m3_m2, ie_m3_m1, ie_m3_0, ie_m3_1, ie_m3_2, ie_m3_3, ie_m3_4, ie_m3_5, ie_m3_6, ie_m2_m6, ie_m2_m5, ie_m2_m4, ie_m2_m3, ie_m2_m1, ie_m2_0, ie_m2_1, ie_m2_2, ie_m2_3, ie_m2_4, ie_m2_5, ie_m2_6, ie_m1_m6, ie_m1_m5, ie_m1_m4, ie_m1_m3, ie_m1_m2, ie_m1_0, ie_m1_1, ie_m1_2, ie_m1_3, ie_m1_4, ie_m1_5, ie_m1_6, ie_0_m6, ie_0_m5, ie_0_m4, ie_0_m3, ie_0_m2, ie_0_m1, ie_0_1, ie_0_2, ie_0_3, ie_0_4, ie_0_5, ie_0_6, ie_1_m6, ie_1_m5, ie_1_m4, ie_1_m3, ie_1_m2, ie_1_m1, ie_1_0, ie_1_2, ie_1_3, ie_1_4, ie_1_5, ie_1_6, ie_2_m6, ie_2_m5, ie_2_m4, ie_2_m3, ie_2_m2, ie_2_m1, ie_2_0, ie_2_1, ie_2_3, ie_2_4, ie_2_5, ie_2_6, ie_3_m6, ie_3_m5, ie_3_m4, ie_3_m3, ie_3_m2, ie_3_m1, ie_3_0, ie_3_1, ie_3_2, ie_3_4, ie_3_5, ie_3_6, ie_4_m6, ie_4_m5, ie_4_m4, ie_4_m3, ie_4_m2, ie_4_m1, ie_4_0, ie_4_1, ie_4_2, ie_4_3, ie_4_5, ie_4_6, ie_5_m6, ie_5_m5, ie_5_m4, ie_5_m3, ie_5_m2, ie_5_m1, ie_5_0, ie_5_1, ie_5_2, ie_5_3, ie_5_4, ie_5_6, ie_6_m6, ie_6_m5, ie_6_m4, ie_6_m3, ie_6_m2, ie_6_m1, ie_6_0, ie_6_1, ie_6_2, ie_6_3, ie_6_4, ie_6_5, Int32.reduceToInt, Int64.reduceToInt, Int.reduceToNat, Int32.reduceAdd, Int32.reduceSub, Int32.reduceMul, Int32.reduceDiv, Int32.reduceLT, Int32.reduceLE, Int.reduceLE, Int.reduceLT, Int.reduceNeg, Int.reduceAdd, Int.reduceSub, Int.reduceMul, Int.reduceEq, Nat.reduceAdd, Nat.reduceMul, Nat.reduceLT, Nat.reduceEqDiff, true_and, and_true, and_self, false_and, and_false, if_true, if_false, ite_true, ite_false, ↓reduceIte, not_true_eq_false, not_false_eq_true, true_or, or_true, or_false, false_or, Int.cast_ofNat_Int, Int.reduceNatCast]
      by_cases c2 : 0 ≤ n.toInt ∧ n.toInt ≤ 40
      · rw [if_pos c2]
        have hn : isS s ∧ (0 ≤ n.toInt ∧ n.toInt ≤ 40) ∧ well := ⟨c1, c2, hw.1 c0⟩
        simp only [if_pos hn] at hx hk
        refine ⟨by rw [h.sh.ob]; trivial, x_rowIn h hN c1 (fun hc q w' hf hr => ?_) (fun q hc hq hr => ?_)⟩
        · have e : tellC (aH A s.toInt.toNat) (aS A s.toInt.toNat) (elA A s) n = rowC A s.toInt.toNat := by
            unfold tellC
            unfold rowC at hc ⊢
            by_cases d1 : 10 ≤ (aH A s.toInt.toNat).toInt
            · rw [if_pos d1, if_pos d1]
            · rw [if_neg d1, if_neg d1]
              rw [if_neg d1] at hc
              by_cases d2 : aH A s.toInt.toNat = -1
              · rw [if_pos d2, if_pos d2]
              · rw [if_neg d2] at hc
                exact absurd hc (by decide)
          rw [e] at hx
          exact hx hc q w' hf hr
        · have hh := hr.2.1
          have d1 : ¬ 10 ≤ (aH A s.toInt.toNat).toInt := by omega
          have d2 : ¬ aH A s.toInt.toNat = -1 := fun e => by rw [e, i_m1] at hh; omega
          unfold tellC at hx hk
          simp only [if_neg d1, if_neg d2] at hx hk
          refine x_elementsIn hr c2 (fun hlt q' w' hf hrf => ?_) (fun hle w' hf hl => ?_)
          · simp only [if_pos hlt] at hx
            exact hx (by decide) q' w' hf hrf
          · simp only [if_neg (show ¬ (aS A s.toInt.toNat).toInt < n.toInt by omega)] at hx hk
            unfold wp_X0_signs
            refine x_wrongIn hl (by omega) ?_
            have en := srch_none (P := fun j => ¬ (0 ≤ (aE A (40 * s.toInt.toNat + j)).toInt ∧ (aE A (40 * s.toInt.toNat + j)).toInt ≤ 3)) n.toInt.toNat 0 (by omega)
            by_cases d3 : ∀ k : Nat, k < n.toInt.toNat → 0 ≤ (elA A s k).toInt ∧ (elA A s k).toInt ≤ 3
            · rw [if_pos (en.2 (fun x _ h2 => fun q => q (d3 x (by omega))))]
              simp only [if_pos d3] at hk
              exact hk (by decide) _ w' hf (Nat.le_refl _) hl
            · rw [if_neg (fun q => d3 (fun x hx => Classical.byContradiction (fun c => (en.1 q) x (by omega) (by omega) c)))]
              simp only [if_neg d3] at hx
              exact x_refd w' (-5) (fun w2 hf2 hr2 => hx (by decide) _ w2 (hf.trans hf2) hr2)
      · rw [if_neg c2]
        have hn : ¬ (isS s ∧ (0 ≤ n.toInt ∧ n.toInt ≤ 40) ∧ well) := fun hc => c2 hc.2.1
        simp only [if_neg hn] at hx
        exact x_refd w (-2) (fun w' hf hr => hx (by decide) _ w' hf hr)
    · rw [if_neg c1, if_pos rfl]
      have hn : ¬ (isS s ∧ (0 ≤ n.toInt ∧ n.toInt ≤ 40) ∧ well) := fun hc => c1 hc.1
      simp only [if_neg hn] at hx
      exact x_refd w (-2) (fun w' hf hr => hx (by decide) _ w' hf hr)
end XT
