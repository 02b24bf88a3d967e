/-! ===== rows on shelves, of the class ===== -/
section XROW
variable {w w' : Wd} {b i : Nat} {o : Option Nat} {A : Ab}
theorem sZ_x0 {z : Nat} (hz : wz w ≤ z) : fr x0 w (sZ w z) := (fr.refl _ _).sZ hz
theorem XX.wRow (h : XX w b i o A) {s q : Nat} (hs : s < 8) (hg : wG w (b + 17 + s) 300 = some q) (hr : rwS w b i o q (aH A s) (aS A s) (fun k => aE A (40 * s + k))) (hf : fr (fun x k => x = q ∧ k = 9999) w w') {E' : Nat → Int64} (hE : ∀ k, ¬ (40 * s ≤ k ∧ k < 40 * s + 40) → E' k = aE A k) (hn : ∀ k, k < (aS A s).toInt.toNat → elm w' q (srt (aH A s)) k = E' (40 * s + k) ∧ fits (waty (srt (aH A s))) (wav w' q (srt (aH A s)) k) = true) : XX w' b i o (zE A E') ∧ fr (xQ b) w w' := by
  have hz := h.sh.z
  have hz2 := hf.z
  have hq := hr.1
  have hqc : ∃ c n, wT w q = some (c, n, true) ∧ c < 20 := ⟨_, _, hr.2.2.2.1, by rcases srt_c hr.2.1 with ⟨-, e⟩ | ⟨-, e⟩ | ⟨-, e⟩ | ⟨-, e⟩ | ⟨-, e⟩ <;> rw [e] <;> decide⟩
  have hnv : ∀ v, isV w b v → ¬ v = q := by
    rintro v ⟨-, -, c, hc, h26⟩ rfl
    obtain ⟨c', n', h1, h2⟩ := hqc
    rw [h1] at hc
    have := congrArg (fun x : Option wTy => x.map (fun t => t.1)) hc
    simp at this
    omega
  have hi : ∀ j N, isl w b j N → ¬ (j ≤ q ∧ q < j + 7) → isl w' b j N := fun j N hj hn => hj.sc hf (fun x k h1 h2 hp => hn (by omega)) (fun v k hv hp => hnv v hv hp.1)
  have hG : ∀ a k, a < b + 39 → wG w' a k = wG w a k := fun a k ha => hf.G (by omega) (by omega)
  have hI : ∀ a, a < b + 39 → wI w' a = wI w a := fun a ha => hf.I (by omega) (by omega)
  refine ⟨⟨h.sh.sc hf (fun q k hp => by omega), hi _ _ h.is hr.2.2.2.2.1, (hG _ _ (by omega)).trans h.g0, (hG _ _ (by omega)).trans h.g1, fun k hk => (congrFun (hI _ (by omega)) k).trans (h.Tt k hk), (hf.F (by omega) (by omega)).trans h.Z, fun k hk => (congrFun (hI _ (by omega)) k).trans (h.R k hk), h.im, fun j hj => ⟨hi _ _ (h.ik j hj).1 (hr.2.2.2.2.2.1 j hj), (h.ik j hj).2⟩, fun t ht => ?_, fun t u x h1 h2 h3 h4 h5 => ?_⟩, hf.mono (fun x k hx hp => by unfold xQ; omega)⟩
  · by_cases e : t = s
    · rw [e]
      obtain ⟨b1, b2, b3, b4, b5, b6, b7⟩ := hr
      exact Or.inr (Or.inr ⟨q, (hG _ _ (by omega)).trans hg, ⟨hq.1, by omega⟩, b2, b3, hf.T hq.2 b4, b5, b6, hn⟩)
    · rcases h.sf t ht with ⟨a1, a2⟩ | ⟨v, p, a1, a2, a3, a4⟩ | ⟨x, a1, a2⟩
      · exact Or.inl ⟨(hG _ _ (by omega)).trans a1, a2⟩
      · refine Or.inr (Or.inl ⟨v, p, (hG _ _ (by omega)).trans a1, a2, ?_, a4⟩)
        rw [hf.Q (by have := h.is.z; omega) (by have := hr.2.2.2.2.1; omega)]
        exact a3
      · have hne : ¬ x = q := fun e2 => e (h.dj t s q ht hs (by rw [a1, e2]) hg hqc)
        have := a2.sc hf (fun hp => hne hp.1)
        obtain ⟨b1, b2, b3, b4, b5, b6, b7⟩ := this
        refine Or.inr (Or.inr ⟨x, (hG _ _ (by omega)).trans a1, b1, b2, b3, b4, b5, b6, fun k hk => ⟨(b7 k hk).1.trans (hE _ ?_).symm, (b7 k hk).2⟩⟩)
        have := b3.2
        replace hk : k < (aS A t).toInt.toNat := hk
        omega
  · rw [hG _ _ (by omega)] at h3 h4
    have hxz : x < wz w := by
      rcases h.sf t h1 with ⟨a1, a2⟩ | ⟨v, p, a1, a2, a3, a4⟩ | ⟨q', a1, a2⟩
      · rw [a1] at h3; cases h3
      · rw [a1] at h3; cases h3
        obtain ⟨-, -, -, v', b1, b2⟩ := h.is.pr p a2
        rw [b1] at a3; cases a3
        exact b2.1.2
      · rw [a1] at h3; cases h3
        exact a2.1.2
    obtain ⟨c, n, h5, h6⟩ := h5
    rw [(hf.2 x hxz).1] at h5
    exact h.dj t u x h1 h2 h3 h4 ⟨c, n, h5, h6⟩
theorem x_wX1 {q c n : Nat} (ht : wT w q = some (c, n, true)) (hn : n < 2147483648) (j : Int32) {X : Nat → Wd → Prop} {K : Nat → Prop} (hk : (0 ≤ j.toInt ∧ j.toInt < n) → K q) (hx : ¬ (0 ≤ j.toInt ∧ j.toInt < n) → wvm w X) : wX1 w (some q) c j X K := by
  show (match wT w q with
    | none => False
    | some t => t.1 = c ∧ t.2.1 < 2147483648 ∧ t.2.2 = true ∧ (if j < 0 ∨ t.2.1 ≤ j.toNatClampNeg then wvm w X else K q))
  rw [ht]
  refine ⟨rfl, hn, rfl, ?_⟩
  show if j < 0 ∨ n ≤ j.toNatClampNeg then _ else _
  rw [i_nat]
  by_cases c2 : 0 ≤ j.toInt ∧ j.toInt < n
  · rw [if_neg (by rw [i_lt, i_0]; omega)]
    exact hk c2
  · rw [if_pos (by rw [i_lt, i_0]; omega)]
    exact hx c2
theorem x_elemAt {q : Nat} {hs sz : Int32} {E : Nat → Int64} (hr : rwS w b i o q hs sz E) (j : Int32) {X : Nat → Wd → Prop} {k : Int64 → Wd → Prop} (hk : (0 ≤ j.toInt ∧ j.toInt < sz.toInt) → k (E j.toInt.toNat) w) (hx : ¬ (0 ≤ j.toInt ∧ j.toInt < sz.toInt) → wvm w X) : wp_X0_elementOf w (some q) j X k := by
  unfold wp_X0_elementOf
  rw [x_sortOf hr]
  have ht := hr.2.2.2.1
  have hsz := hr.2.2.1
  have hE := fun c2 => (hr.2.2.2.2.2.2 j.toInt.toNat c2).1
  have hx' : ¬ (0 ≤ j.toInt ∧ j.toInt < (sz.toInt.toNat : Int)) → wvm w X := fun e => hx (by omega)
  unfold elm at hE
  rcases srt_c hr.2.1 with ⟨rfl, e⟩ | ⟨rfl, e⟩ | ⟨rfl, e⟩ | ⟨rfl, e⟩ | ⟨rfl, e⟩ <;> simp only [e, ie_m6_m5, ie_m6_m4, ie_m6_m3, ie_m6_m2, ie_m6_m1, ie_m6_0, ie_m6_1, ie_m6_2, ie_m6_3, ie_m6_4, ie_m6_5, ie_m6_6, ie_m5_m6, ie_m5_m4, ie_m5_m3, ie_m5_m2, ie_m5_m1, ie_m5_0, ie_m5_1, ie_m5_2, ie_m5_3, ie_m5_4, ie_m5_5, ie_m5_6, ie_m4_m6, ie_m4_m5, ie_m4_m3, ie_m4_m2, ie_m4_m1, ie_m4_0, ie_m4_1, ie_m4_2, ie_m4_3, ie_m4_4, ie_m4_5, ie_m4_6, ie_m3_m6, ie_m3_m5, ie_m3_m4, ie_m3_m2, ie_m3_m1, ie_m3_0, ie_m3_1, ie_m3_2, ie_m3_3, ie_m3_4, ie_m3_5, ie_m3_6, ie_m2_m6, ie_m2_m5, ie_m2_m4, ie_m2_m3, ie_m2_m1, ie_m2_0, ie_m2_1, ie_m2_2, ie_m2_3, ie_m2_4, ie_m2_5, ie_m2_6, ie_m1_m6, ie_m1_m5, ie_m1_m4, ie_m1_m3, ie_m1_m2, ie_m1_0, ie_m1_1, ie_m1_2, ie_m1_3, ie_m1_4, ie_m1_5, ie_m1_6, ie_0_m6, ie_0_m5, ie_0_m4, ie_0_m3, ie_0_m2, ie_0_m1, ie_0_1, ie_0_2, ie_0_3, ie_0_4, ie_0_5, ie_0_6, ie_1_m6, ie_1_m5, ie_1_m4, ie_1_m3, ie_1_m2, ie_1_m1, ie_1_0, ie_1_2, ie_1_3, ie_1_4, ie_1_5, ie_1_6, ie_2_m6, ie_2_m5, ie_2_m4, ie_2_m3, ie_2_m2, ie_2_m1, ie_2_0, ie_2_1, ie_2_3, ie_2_4, ie_2_5, ie_2_6, ie_3_m6, ie_3_m5, ie_3_m4, ie_3_m3, ie_3_m2, ie_3_m1, ie_3_0, ie_3_1, ie_3_2, ie_3_4, ie_3_5, ie_3_6, ie_4_m6, ie_4_m5, ie_4_m4, ie_4_m3, ie_4_m2, ie_4_m1, ie_4_0, ie_4_1, ie_4_2, ie_4_3, ie_4_5, ie_4_6, ie_5_m6, ie_5_m5, ie_5_m4, ie_5_m3, ie_5_m2, ie_5_m1, ie_5_0, ie_5_1, ie_5_2, ie_5_3, ie_5_4, ie_5_6, ie_6_m6, ie_6_m5, ie_6_m4, ie_6_m3, ie_6_m2, ie_6_m1, ie_6_0, ie_6_1, ie_6_2, ie_6_3, ie_6_4, ie_6_5, Int32.reduceToInt, Int64.reduceToInt, Int.reduceToNat, Int32.reduceAdd, Int32.reduceSub, Int32.reduceMul, Int32.reduceDiv, Int32.reduceLT, Int32.reduceLE, Int.reduceLE, Int.reduceLT, Int.reduceNeg, Int.reduceAdd, Int.reduceSub, Int.reduceMul, Int.reduceEq, Nat.reduceAdd, Nat.reduceMul, Nat.reduceLT, Nat.reduceEqDiff, true_and, and_true, and_self, false_and, and_false, if_true, if_false, ite_true, ite_false, ↓reduceIte, not_true_eq_false, not_false_eq_true, true_or, or_true, or_false, false_or, Int.cast_ofNat_Int, Int.reduceNatCast] at hE ht
  · simp only [wcc, ht, List.mem_cons, ie_m6_m5, ie_m6_m4, ie_m6_m3, ie_m6_m2, ie_m6_m1, ie_m6_0, ie_m6_1, ie_m6_2, ie_m6_3, ie_m6_4, ie_m6_5, ie_m6_6, ie_m5_m6, ie_m5_m4, ie_m5_m3, ie_m5_m2, ie_m5_m1, ie_m5_0, ie_m5_1, ie_m5_2, ie_m5_3, ie_m5_4, ie_m5_5, ie_m5_6, ie_m4_m6, ie_m4_m5, ie_m4_m3, ie_m4_m2, ie_m4_m1, ie_m4_0, ie_m4_1, ie_m4_2, ie_m4_3, ie_m4_4, ie_m4_5, ie_m4_6, ie_m3_m6, ie_m3_m5, ie_m3_m4, ie_m3_m2, ie_m3_m1, ie_m3_0, ie_m3_1, ie_m3_2, ie_m3_3, ie_m3_4, ie_m3_5, ie_m3_6, ie_m2_m6, ie_m2_m5, ie_m2_m4, ie_m2_m3, ie_m2_m1, ie_m2_0, ie_m2_1, ie_m2_2, ie_m2_3, ie_m2_4, ie_m2_5, ie_m2_6, ie_m1_m6, ie_m1_m5, ie_m1_m4, ie_m1_m3, ie_m1_m2, ie_m1_0, ie_m1_1, ie_m1_2, ie_m1_3, ie_m1_4, ie_m1_5, ie_m1_6, ie_0_m6, ie_0_m5, ie_0_m4, ie_0_m3, ie_0_m2, ie_0_m1, ie_0_1, ie_0_2, ie_0_3, ie_0_4, ie_0_5, ie_0_6, ie_1_m6, ie_1_m5, ie_1_m4, ie_1_m3, ie_1_m2, ie_1_m1, ie_1_0, ie_1_2, ie_1_3, ie_1_4, ie_1_5, ie_1_6, ie_2_m6, ie_2_m5, ie_2_m4, ie_2_m3, ie_2_m2, ie_2_m1, ie_2_0, ie_2_1, ie_2_3, ie_2_4, ie_2_5, ie_2_6, ie_3_m6, ie_3_m5, ie_3_m4, ie_3_m3, ie_3_m2, ie_3_m1, ie_3_0, ie_3_1, ie_3_2, ie_3_4, ie_3_5, ie_3_6, ie_4_m6, ie_4_m5, ie_4_m4, ie_4_m3, ie_4_m2, ie_4_m1, ie_4_0, ie_4_1, ie_4_2, ie_4_3, ie_4_5, ie_4_6, ie_5_m6, ie_5_m5, ie_5_m4, ie_5_m3, ie_5_m2, ie_5_m1, ie_5_0, ie_5_1, ie_5_2, ie_5_3, ie_5_4, ie_5_6, ie_6_m6, ie_6_m5, ie_6_m4, ie_6_m3, ie_6_m2, ie_6_m1, ie_6_0, ie_6_1, ie_6_2, ie_6_3, ie_6_4, ie_6_5, Int32.reduceToInt, Int64.reduceToInt, Int.reduceToNat, Int32.reduceAdd, Int32.reduceSub, Int32.reduceMul, Int32.reduceDiv, Int32.reduceLT, Int32.reduceLE, Int.reduceLE, Int.reduceLT, Int.reduceNeg, Int.reduceAdd, Int.reduceSub, Int.reduceMul, Int.reduceEq, Nat.reduceAdd, Nat.reduceMul, Nat.reduceLT, Nat.reduceEqDiff, true_and, and_true, and_self, false_and, and_false, if_true, if_false, ite_true, ite_false, ↓reduceIte, not_true_eq_false, not_false_eq_true, true_or, or_true, or_false, false_or, Int.cast_ofNat_Int, Int.reduceNatCast]
    refine x_wX1 ht (by omega) j (fun c2 => ?_) hx'
    rw [i_nat]
    show k ((wI w q j.toInt.toNat).toInt64) w
    rw [hE (by omega)]
    exact hk (by omega)
  · simp only [wcc, ht, List.mem_cons, ie_m6_m5, ie_m6_m4, ie_m6_m3, ie_m6_m2, ie_m6_m1, ie_m6_0, ie_m6_1, ie_m6_2, ie_m6_3, ie_m6_4, ie_m6_5, ie_m6_6, ie_m5_m6, ie_m5_m4, ie_m5_m3, ie_m5_m2, ie_m5_m1, ie_m5_0, ie_m5_1, ie_m5_2, ie_m5_3, ie_m5_4, ie_m5_5, ie_m5_6, ie_m4_m6, ie_m4_m5, ie_m4_m3, ie_m4_m2, ie_m4_m1, ie_m4_0, ie_m4_1, ie_m4_2, ie_m4_3, ie_m4_4, ie_m4_5, ie_m4_6, ie_m3_m6, ie_m3_m5, ie_m3_m4, ie_m3_m2, ie_m3_m1, ie_m3_0, ie_m3_1, ie_m3_2, ie_m3_3, ie_m3_4, ie_m3_5, ie_m3_6, ie_m2_m6, ie_m2_m5, ie_m2_m4, ie_m2_m3, ie_m2_m1, ie_m2_0, ie_m2_1, ie_m2_2, ie_m2_3, ie_m2_4, ie_m2_5, ie_m2_6, ie_m1_m6, ie_m1_m5, ie_m1_m4, ie_m1_m3, ie_m1_m2, ie_m1_0, ie_m1_1, ie_m1_2, ie_m1_3, ie_m1_4, ie_m1_5, ie_m1_6, ie_0_m6, ie_0_m5, ie_0_m4, ie_0_m3, ie_0_m2, ie_0_m1, ie_0_1, ie_0_2, ie_0_3, ie_0_4, ie_0_5, ie_0_6, ie_1_m6, ie_1_m5, ie_1_m4, ie_1_m3, ie_1_m2, ie_1_m1, ie_1_0, ie_1_2, ie_1_3, ie_1_4, ie_1_5, ie_1_6, ie_2_m6, ie_2_m5, ie_2_m4, ie_2_m3, ie_2_m2, ie_2_m1, ie_2_0, ie_2_1, ie_2_3, ie_2_4, ie_2_5, ie_2_6, ie_3_m6, ie_3_m5, ie_3_m4, ie_3_m3, ie_3_m2, ie_3_m1, ie_3_0, ie_3_1, ie_3_2, ie_3_4, ie_3_5, ie_3_6, ie_4_m6, ie_4_m5, ie_4_m4, ie_4_m3, ie_4_m2, ie_4_m1, ie_4_0, ie_4_1, ie_4_2, ie_4_3, ie_4_5, ie_4_6, ie_5_m6, ie_5_m5, ie_5_m4, ie_5_m3, ie_5_m2, ie_5_m1, ie_5_0, ie_5_1, ie_5_2, ie_5_3, ie_5_4, ie_5_6, ie_6_m6, ie_6_m5, ie_6_m4, ie_6_m3, ie_6_m2, ie_6_m1, ie_6_0, ie_6_1, ie_6_2, ie_6_3, ie_6_4, ie_6_5, Int32.reduceToInt, Int64.reduceToInt, Int.reduceToNat, Int32.reduceAdd, Int32.reduceSub, Int32.reduceMul, Int32.reduceDiv, Int32.reduceLT, Int32.reduceLE, Int.reduceLE, Int.reduceLT, Int.reduceNeg, Int.reduceAdd, Int.reduceSub, Int.reduceMul, Int.reduceEq, Nat.reduceAdd, Nat.reduceMul, Nat.reduceLT, Nat.reduceEqDiff, true_and, and_true, and_self, false_and, and_false, if_true, if_false, ite_true, ite_false, ↓reduceIte, not_true_eq_false, not_false_eq_true, true_or, or_true, or_false, false_or, Int.cast_ofNat_Int, Int.reduceNatCast]
    refine x_wX1 ht (by omega) j (fun c2 => ?_) hx'
    rw [i_nat]
    show k ((wI w q j.toInt.toNat).toInt64) w
    rw [hE (by omega)]
    exact hk (by omega)
  · simp only [wcc, ht, List.mem_cons, ie_m6_m5, ie_m6_m4, ie_m6_m3, ie_m6_m2, ie_m6_m1, ie_m6_0, ie_m6_1, ie_m6_2, ie_m6_3, ie_m6_4, ie_m6_5, ie_m6_6, ie_m5_m6, ie_m5_m4, ie_m5_m3, ie_m5_m2, ie_m5_m1, ie_m5_0, ie_m5_1, ie_m5_2, ie_m5_3, ie_m5_4, ie_m5_5, ie_m5_6, ie_m4_m6, ie_m4_m5, ie_m4_m3, ie_m4_m2, ie_m4_m1, ie_m4_0, ie_m4_1, ie_m4_2, ie_m4_3, ie_m4_4, ie_m4_5, ie_m4_6, ie_m3_m6, ie_m3_m5, ie_m3_m4, ie_m3_m2, ie_m3_m1, ie_m3_0, ie_m3_1, ie_m3_2, ie_m3_3, ie_m3_4, ie_m3_5, ie_m3_6, ie_m2_m6, ie_m2_m5, ie_m2_m4, ie_m2_m3, ie_m2_m1, ie_m2_0, ie_m2_1, ie_m2_2, ie_m2_3, ie_m2_4, ie_m2_5, ie_m2_6, ie_m1_m6, ie_m1_m5, ie_m1_m4, ie_m1_m3, ie_m1_m2, ie_m1_0, ie_m1_1, ie_m1_2, ie_m1_3, ie_m1_4, ie_m1_5, ie_m1_6, ie_0_m6, ie_0_m5, ie_0_m4, ie_0_m3, ie_0_m2, ie_0_m1, ie_0_1, ie_0_2, ie_0_3, ie_0_4, ie_0_5, ie_0_6, ie_1_m6, ie_1_m5, ie_1_m4, ie_1_m3, ie_1_m2, ie_1_m1, ie_1_0, ie_1_2, ie_1_3, ie_1_4, ie_1_5, ie_1_6, ie_2_m6, ie_2_m5, ie_2_m4, ie_2_m3, ie_2_m2, ie_2_m1, ie_2_0, ie_2_1, ie_2_3, ie_2_4, ie_2_5, ie_2_6, ie_3_m6, ie_3_m5, ie_3_m4, ie_3_m3, ie_3_m2, ie_3_m1, ie_3_0, ie_3_1, ie_3_2, ie_3_4, ie_3_5, ie_3_6, ie_4_m6, ie_4_m5, ie_4_m4, ie_4_m3, ie_4_m2, ie_4_m1, ie_4_0, ie_4_1, ie_4_2, ie_4_3, ie_4_5, ie_4_6, ie_5_m6, ie_5_m5, ie_5_m4, ie_5_m3, ie_5_m2, ie_5_m1, ie_5_0, ie_5_1, ie_5_2, ie_5_3, ie_5_4, ie_5_6, ie_6_m6, ie_6_m5, ie_6_m4, ie_6_m3, ie_6_m2, ie_6_m1, ie_6_0, ie_6_1, ie_6_2, ie_6_3, ie_6_4, ie_6_5, Int32.reduceToInt, Int64.reduceToInt, Int.reduceToNat, Int32.reduceAdd, Int32.reduceSub, Int32.reduceMul, Int32.reduceDiv, Int32.reduceLT, Int32.reduceLE, Int.reduceLE, Int.reduceLT, Int.reduceNeg, Int.reduceAdd, Int.reduceSub, Int.reduceMul, Int.reduceEq, Nat.reduceAdd, Nat.reduceMul, Nat.reduceLT, Nat.reduceEqDiff, true_and, and_true, and_self, false_and, and_false, if_true, if_false, ite_true, ite_false, ↓reduceIte, not_true_eq_false, not_false_eq_true, true_or, or_true, or_false, false_or, Int.cast_ofNat_Int, Int.reduceNatCast]
    refine x_wX1 ht (by omega) j (fun c2 => ?_) hx'
    rw [i_nat]
    show k ((wI w q j.toInt.toNat).toInt64) w
    rw [hE (by omega)]
    exact hk (by omega)
  · simp only [wcc, ht, List.mem_cons, ie_m6_m5, ie_m6_m4, ie_m6_m3, ie_m6_m2, ie_m6_m1, ie_m6_0, ie_m6_1, ie_m6_2, ie_m6_3, ie_m6_4, ie_m6_5, ie_m6_6, ie_m5_m6, ie_m5_m4, ie_m5_m3, ie_m5_m2, ie_m5_m1, ie_m5_0, ie_m5_1, ie_m5_2, ie_m5_3, ie_m5_4, ie_m5_5, ie_m5_6, ie_m4_m6, ie_m4_m5, ie_m4_m3, ie_m4_m2, ie_m4_m1, ie_m4_0, ie_m4_1, ie_m4_2, ie_m4_3, ie_m4_4, ie_m4_5, ie_m4_6, ie_m3_m6, ie_m3_m5, ie_m3_m4, ie_m3_m2, ie_m3_m1, ie_m3_0, ie_m3_1, ie_m3_2, ie_m3_3, ie_m3_4, ie_m3_5, ie_m3_6, ie_m2_m6, ie_m2_m5, ie_m2_m4, ie_m2_m3, ie_m2_m1, ie_m2_0, ie_m2_1, ie_m2_2, ie_m2_3, ie_m2_4, ie_m2_5, ie_m2_6, ie_m1_m6, ie_m1_m5, ie_m1_m4, ie_m1_m3, ie_m1_m2, ie_m1_0, ie_m1_1, ie_m1_2, ie_m1_3, ie_m1_4, ie_m1_5, ie_m1_6, ie_0_m6, ie_0_m5, ie_0_m4, ie_0_m3, ie_0_m2, ie_0_m1, ie_0_1, ie_0_2, ie_0_3, ie_0_4, ie_0_5, ie_0_6, ie_1_m6, ie_1_m5, ie_1_m4, ie_1_m3, ie_1_m2, ie_1_m1, ie_1_0, ie_1_2, ie_1_3, ie_1_4, ie_1_5, ie_1_6, ie_2_m6, ie_2_m5, ie_2_m4, ie_2_m3, ie_2_m2, ie_2_m1, ie_2_0, ie_2_1, ie_2_3, ie_2_4, ie_2_5, ie_2_6, ie_3_m6, ie_3_m5, ie_3_m4, ie_3_m3, ie_3_m2, ie_3_m1, ie_3_0, ie_3_1, ie_3_2, ie_3_4, ie_3_5, ie_3_6, ie_4_m6, ie_4_m5, ie_4_m4, ie_4_m3, ie_4_m2, ie_4_m1, ie_4_0, ie_4_1, ie_4_2, ie_4_3, ie_4_5, ie_4_6, ie_5_m6, ie_5_m5, ie_5_m4, ie_5_m3, ie_5_m2, ie_5_m1, ie_5_0, ie_5_1, ie_5_2, ie_5_3, ie_5_4, ie_5_6, ie_6_m6, ie_6_m5, ie_6_m4, ie_6_m3, ie_6_m2, ie_6_m1, ie_6_0, ie_6_1, ie_6_2, ie_6_3, ie_6_4, ie_6_5, Int32.reduceToInt, Int64.reduceToInt, Int.reduceToNat, Int32.reduceAdd, Int32.reduceSub, Int32.reduceMul, Int32.reduceDiv, Int32.reduceLT, Int32.reduceLE, Int.reduceLE, Int.reduceLT, Int.reduceNeg, Int.reduceAdd, Int.reduceSub, Int.reduceMul, Int.reduceEq, Nat.reduceAdd, Nat.reduceMul, Nat.reduceLT, Nat.reduceEqDiff, true_and, and_true, and_self, false_and, and_false, if_true, if_false, ite_true, ite_false, ↓reduceIte, not_true_eq_false, not_false_eq_true, true_or, or_true, or_false, false_or, Int.cast_ofNat_Int, Int.reduceNatCast]
    refine x_wX1 ht (by omega) j (fun c2 => ?_) hx'
    rw [i_nat, hE (by omega)]
    exact hk (by omega)
  · simp only [wcc, ht, List.mem_cons, ie_m6_m5, ie_m6_m4, ie_m6_m3, ie_m6_m2, ie_m6_m1, ie_m6_0, ie_m6_1, ie_m6_2, ie_m6_3, ie_m6_4, ie_m6_5, ie_m6_6, ie_m5_m6, ie_m5_m4, ie_m5_m3, ie_m5_m2, ie_m5_m1, ie_m5_0, ie_m5_1, ie_m5_2, ie_m5_3, ie_m5_4, ie_m5_5, ie_m5_6, ie_m4_m6, ie_m4_m5, ie_m4_m3, ie_m4_m2, ie_m4_m1, ie_m4_0, ie_m4_1, ie_m4_2, ie_m4_3, ie_m4_4, ie_m4_5, ie_m4_6, ie_m3_m6, ie_m3_m5, ie_m3_m4, ie_m3_m2, ie_m3_m1, ie_m3_0, ie_m3_1, ie_m3_2, ie_m3_3, ie_m3_4, ie_m3_5, ie_m3_6, ie_m2_m6, ie_m2_m5, ie_m2_m4, ie_m2_m3, ie_m2_m1, ie_m2_0, ie_m2_1, ie_m2_2, ie_m2_3, ie_m2_4, ie_m2_5, ie_m2_6, ie_m1_m6, ie_m1_m5, ie_m1_m4, ie_m1_m3, ie_m1_m2, ie_m1_0, ie_m1_1, ie_m1_2, ie_m1_3, ie_m1_4, ie_m1_5, ie_m1_6, ie_0_m6, ie_0_m5, ie_0_m4, ie_0_m3, ie_0_m2, ie_0_m1, ie_0_1, ie_0_2, ie_0_3, ie_0_4, ie_0_5, ie_0_6, ie_1_m6, ie_1_m5, ie_1_m4, ie_1_m3, ie_1_m2, ie_1_m1, ie_1_0, ie_1_2, ie_1_3, ie_1_4, ie_1_5, ie_1_6, ie_2_m6, ie_2_m5, ie_2_m4, ie_2_m3, ie_2_m2, ie_2_m1, ie_2_0, ie_2_1, ie_2_3, ie_2_4, ie_2_5, ie_2_6, ie_3_m6, ie_3_m5, ie_3_m4, ie_3_m3, ie_3_m2, ie_3_m1, ie_3_0, ie_3_1, ie_3_2, ie_3_4, ie_3_5, ie_3_6, ie_4_m6, ie_4_m5, ie_4_m4, ie_4_m3, ie_4_m2, ie_4_m1, ie_4_0, ie_4_1, ie_4_2, ie_4_3, ie_4_5, ie_4_6, ie_5_m6, ie_5_m5, ie_5_m4, ie_5_m3, ie_5_m2, ie_5_m1, ie_5_0, ie_5_1, ie_5_2, ie_5_3, ie_5_4, ie_5_6, ie_6_m6, ie_6_m5, ie_6_m4, ie_6_m3, ie_6_m2, ie_6_m1, ie_6_0, ie_6_1, ie_6_2, ie_6_3, ie_6_4, ie_6_5, Int32.reduceToInt, Int64.reduceToInt, Int.reduceToNat, Int32.reduceAdd, Int32.reduceSub, Int32.reduceMul, Int32.reduceDiv, Int32.reduceLT, Int32.reduceLE, Int.reduceLE, Int.reduceLT, Int.reduceNeg, Int.reduceAdd, Int.reduceSub, Int.reduceMul, Int.reduceEq, Nat.reduceAdd, Nat.reduceMul, Nat.reduceLT, Nat.reduceEqDiff, true_and, and_true, and_self, false_and, and_false, if_true, if_false, ite_true, ite_false, ↓reduceIte, not_true_eq_false, not_false_eq_true, true_or, or_true, or_false, false_or, Int.cast_ofNat_Int, Int.reduceNatCast]
    refine x_wX1 ht (by omega) j (fun c2 => ?_) hx'
    rw [i_nat]
    show if wI w q j.toInt.toNat = 0 then k 0 w else k 1 w
    have h2 := hE (by omega)
    by_cases c3 : wI w q j.toInt.toNat = 0
    · rw [if_pos c3] at h2 ⊢
      rw [h2]
      exact hk (by omega)
    · rw [if_neg c3] at h2 ⊢
      rw [h2]
      exact hk (by omega)
theorem x_element (h : XX w b i o A) (hN : okN (aN A)) (s j : Int32) {k : Int64 → Wd → Prop} (hk : xR w b i o A (k (F_element A s j))) : wp_X0_element w b s j k := by
  unfold wp_X0_element
  unfold F_element at hk
  rw [x_isShelfE]
  by_cases c1 : isS s
  · rw [if_pos c1, if_neg (by decide)]
    have hs8 : s.toInt.toNat < 8 := by omega
    refine ⟨by rw [h.sh.ob]; trivial, x_rowIn h hN c1 (fun c q w' hf _ => ?_) (fun q c hg hr => ?_)⟩
    · unfold wb_X0_element_19
      rw [if_neg] at hk
      · exact hk w' (h.sc0 hf) (xP_Q (x0_P hf))
      · intro e
        unfold rowC at c
        have := e.2.1
        rw [if_neg (by omega), if_neg (fun q => by rw [q] at this; exact absurd this.1 (by decide))] at c
        exact absurd c (by decide)
    · have hh := hr.2.1
      refine x_elemAt hr j (fun c2 => ?_) (fun c2 z q' hz => ?_)
      · rw [if_pos ⟨c1, hh, c2⟩] at hk
        exact hk.self h
      · unfold wb_X0_element_22
        rw [if_neg (fun e => c2 e.2.2)] at hk
        exact hk _ (h.sc0 (sZ_x0 hz)) (xP_Q (x0_P (sZ_x0 hz)))
  · rw [if_neg c1, if_pos rfl]
    rw [if_neg (fun q => c1 q.1)] at hk
    exact hk.self h
end XROW
