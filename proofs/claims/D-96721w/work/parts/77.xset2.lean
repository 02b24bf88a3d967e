/-! ===== rows made and set, of the class ===== -/
section XSET2
variable {w w' : Wd} {b i : Nat} {o : Option Nat} {A : Ab}
/-- a row of zeros -/
theorem x_zrow (hz : b + 60 ≤ wz w) (hb : i + 7 ≤ wz w ∧ ∀ j, o = some j → j + 7 ≤ wz w) {so n : Int32} (hso : 0 ≤ so.toInt ∧ so.toInt ≤ 4) (hn : 0 ≤ n.toInt ∧ n.toInt ≤ 40) : rwS (nw w (srt so, n.toInt.toNat, true)) b i o (wz w) so n (fun _ => 0) := by
  refine ⟨⟨hz, Nat.lt_succ_self _⟩, hso, hn, if_pos rfl, by omega, fun j hj => by have := hb.2 j hj; omega, fun k hk => ?_⟩
  have e1 : wI (nw w (srt so, n.toInt.toNat, true)) (wz w) k = 0 := by rw [wI_nw, if_pos rfl]
  have e2 : wL (nw w (srt so, n.toInt.toNat, true)) (wz w) k = 0 := by rw [wL_nw, if_pos rfl]
  unfold elm wav
  rw [e1, e2]
  rcases srt_c hso with ⟨-, e⟩ | ⟨-, e⟩ | ⟨-, e⟩ | ⟨-, e⟩ | ⟨-, e⟩ <;> rw [e] <;> exact ⟨rfl, rfl⟩
theorem x_rowOf (w : Wd) {so n : Int32} (hso : 0 ≤ so.toInt ∧ so.toInt ≤ 4) (hn : n.toInt ≤ 40) {X : Nat → Wd → Prop} {k : Option Nat → Wd → Prop} (hx : n.toInt < 0 → wvm w X) (hk : 0 ≤ n.toInt → k (some (wz w)) (nw w (srt so, n.toInt.toNat, true))) : wp_X0_rowOf w so n X k := by
  have key : ∀ c, srt so = c → wnaX w c n 40 X (fun n1 w2 => k (some n1) w2) := by
    intro c hc
    unfold wnaX
    by_cases c1 : n.toInt < 0
    · rw [if_pos (by rw [i_lt, i_0]; exact c1)]
      exact hx c1
    · rw [if_neg (by rw [i_lt, i_0]; exact c1)]
      unfold wna
      refine ⟨by rw [i_lt, i_0]; omega, by rw [i_nat]; omega, ?_⟩
      rw [i_nat, ← hc]
      exact hk (by omega)
  unfold wp_X0_rowOf
  rcases srt_c hso with ⟨rfl, e⟩ | ⟨rfl, e⟩ | ⟨rfl, e⟩ | ⟨rfl, e⟩ | ⟨rfl, e⟩ <;> simp only [ie_m6_m5, ie_m6_m4, ie_m6_m3, ie_m6_m2, ie_m6_m1, ie_m6_0, ie_m6_1, ie_m6_2, ie_m6_3, ie_m6_4, ie_m6_5, ie_m6_6, ie_m5_m6, ie_m5_m4, ie_m5_m3, ie_m5_m2, ie_m5_m1, ie_m5_0, ie_m5_1, ie_m5_2, ie_m5_3, ie_m5_4, ie_m5_5, ie_m5_6, ie_m4_m6, ie_m4_m5, ie_m4_m3, ie_m4_m2, ie_m4_m1, ie_m4_0, ie_m4_1, ie_m4_2, ie_m4_3, ie_m4_4, ie_m4_5, ie_m4_6, ie_m3_m6, ie_m3_m5, ie_m3_m4, ie_m3_m2, ie_m3_m1, ie_m3_0, ie_m3_1, ie_m3_2, ie_m3_3, ie_m3_4, ie_m3_5, ie_m3_6, ie_m2_m6, ie_m2_m5, ie_m2_m4, ie_m2_m3, ie_m2_m1, ie_m2_0, ie_m2_1, ie_m2_2, ie_m2_3, ie_m2_4, ie_m2_5, ie_m2_6, ie_m1_m6, ie_m1_m5, ie_m1_m4, ie_m1_m3, ie_m1_m2, ie_m1_0, ie_m1_1, ie_m1_2, ie_m1_3, ie_m1_4, ie_m1_5, ie_m1_6, ie_0_m6, ie_0_m5, ie_0_m4, ie_0_m3, ie_0_m2, ie_0_m1, ie_0_1, ie_0_2, ie_0_3, ie_0_4, ie_0_5, ie_0_6, ie_1_m6, ie_1_m5, ie_1_m4, ie_1_m3, ie_1_m2, ie_1_m1, ie_1_0, ie_1_2, ie_1_3, ie_1_4, ie_1_5, ie_1_6, ie_2_m6, ie_2_m5, ie_2_m4, ie_2_m3, ie_2_m2, ie_2_m1, ie_2_0, ie_2_1, ie_2_3, ie_2_4, ie_2_5, ie_2_6, ie_3_m6, ie_3_m5, ie_3_m4, ie_3_m3, ie_3_m2, ie_3_m1, ie_3_0, ie_3_1, ie_3_2, ie_3_4, ie_3_5, ie_3_6, ie_4_m6, ie_4_m5, ie_4_m4, ie_4_m3, ie_4_m2, ie_4_m1, ie_4_0, ie_4_1, ie_4_2, ie_4_3, ie_4_5, ie_4_6, ie_5_m6, ie_5_m5, ie_5_m4, ie_5_m3, ie_5_m2, ie_5_m1, ie_5_0, ie_5_1, ie_5_2, ie_5_3, ie_5_4, ie_5_6, ie_6_m6, ie_6_m5, ie_6_m4, ie_6_m3, ie_6_m2, ie_6_m1, ie_6_0, ie_6_1, ie_6_2, ie_6_3, ie_6_4, ie_6_5, Int32.reduceToInt, Int64.reduceToInt, Int.reduceToNat, Int32.reduceAdd, Int32.reduceSub, Int32.reduceMul, Int32.reduceDiv, Int32.reduceLT, Int32.reduceLE, Int.reduceLE, Int.reduceLT, Int.reduceNeg, Int.reduceAdd, Int.reduceSub, Int.reduceMul, Int.reduceEq, Nat.reduceAdd, Nat.reduceMul, Nat.reduceLT, Nat.reduceEqDiff, true_and, and_true, and_self, false_and, and_false, if_true, if_false, ite_true, ite_false, ↓reduceIte, not_true_eq_false, not_false_eq_true, true_or, or_true, or_false, false_or, Int.cast_ofNat_Int, Int.reduceNatCast] <;> exact key _ e
theorem XX.hb (h : XX w b i o A) : i + 7 ≤ wz w ∧ ∀ j, o = some j → j + 7 ≤ wz w := ⟨h.is.z.2, fun j hj => (h.ik j hj).1.z.2⟩
theorem XX.lt (h : XX w b i o A) {t q : Nat} (ht : t < 8) (hg : wG w (b + 17 + t) 300 = some q) : q < wz w := by
  rcases h.sf t ht with ⟨a1, a2⟩ | ⟨v, p, a1, a2, a3, a4⟩ | ⟨q', a1, a2⟩
  · rw [a1] at hg; cases hg
  · rw [a1] at hg; cases hg
    obtain ⟨-, -, -, v', b1, b2⟩ := h.is.pr p a2
    rw [b1] at a3; cases a3
    exact b2.1.2
  · rw [a1] at hg; cases hg
    exact a2.1.2
theorem x_row (h : XX w b i o A) (s so n : Int32) {k : Int32 → Wd → Prop} (hk : xR w b i o (F_row A s so n).2 (k (F_row A s so n).1)) : wp_X0_row w b s so n k := by
  unfold wp_X0_row
  unfold F_row at hk
  rw [x_isShelfE]
  have hz := h.sh.z
  by_cases c1 : isS s
  · rw [if_pos c1, if_neg (by decide)]
    have hs8 : s.toInt.toNat < 8 := by omega
    by_cases c2 : 0 ≤ so.toInt ∧ so.toInt ≤ 4
    · rw [if_neg (by rw [i_lt, i_0]; omega), if_neg (by rw [i_lt]; show ¬ (4 : Int) < _; omega)]
      by_cases c3 : n.toInt ≤ 40
      · rw [if_pos (by rw [i_le]; exact c3), h.sh.G8, x_shG h c1]
        refine x_rowOf w c2 c3 (fun c4 z q hz' => ?_) (fun c4 => ?_)
        · unfold wb_X0_row_46
          rw [if_neg (fun q => by omega)] at hk
          have h1 := h.sc0 (sZ_x0 hz')
          refine ⟨by rw [h1.sh.ob]; trivial, x_no h1 (by decide) (fun w2 h2 hf2 => hk w2 h2 ((xP_Q (x0_P (sZ_x0 hz'))).trans hf2))⟩
        · rw [if_pos ⟨c1, c2, c4, c3⟩] at hk
          have hf1 : fr x0 w (nw w (srt so, n.toInt.toNat, true)) := (fr.refl _ _).nw
          have h1 := h.sc0 hf1
          have hr := x_zrow (b := b) (i := i) (o := o) hz h.hb c2 ⟨c4, c3⟩
          generalize nw w (srt so, n.toInt.toNat, true) = w1 at *
          rw [x_shP h1 hs8]
          have u := h1.shelve (A' := zE (zS (zH A (up1 (aH A) s.toInt.toNat so)) (up1 (aS A) s.toInt.toNat n)) (fun k => if 40 * s.toInt.toNat ≤ k ∧ k < 40 * s.toInt.toNat + 40 then 0 else aE A k)) hs8 (r := some (wz w)) ⟨rfl, rfl, rfl, rfl, rfl, rfl⟩ (fun t ht => up1_ne ht) (fun t ht => up1_ne ht) (fun k hk => if_neg hk) (Or.inr (Or.inr ⟨wz w, if_pos ⟨rfl, rfl⟩, ?_⟩)) (fun q hq _ t ht _ hg => ?_)
          · exact hk _ u.1 ((xP_Q (x0_P hf1)).trans u.2)
          · have hr' := hr.sc (P := fun q k => q = b + 17 + s.toInt.toNat ∧ k = 300) ((fr.refl _ _).sG (fun _ => ⟨rfl, rfl⟩) : fr _ w1 (sG w1 (b + 17 + s.toInt.toNat) 300 (some (wz w)))) (by omega)
            have eh : aH (zE (zS (zH A (up1 (aH A) s.toInt.toNat so)) (up1 (aS A) s.toInt.toNat n)) (fun k => if 40 * s.toInt.toNat ≤ k ∧ k < 40 * s.toInt.toNat + 40 then 0 else aE A k)) s.toInt.toNat = so := (up1_eq : up1 (aH A) s.toInt.toNat so s.toInt.toNat = so)
            have es : aS (zE (zS (zH A (up1 (aH A) s.toInt.toNat so)) (up1 (aS A) s.toInt.toNat n)) (fun k => if 40 * s.toInt.toNat ≤ k ∧ k < 40 * s.toInt.toNat + 40 then 0 else aE A k)) s.toInt.toNat = n := (up1_eq : up1 (aS A) s.toInt.toNat n s.toInt.toNat = n)
            rw [eh, es]
            obtain ⟨b1, b2, b3, b4, b5, b6, b7⟩ := hr'
            exact ⟨b1, b2, b3, b4, b5, b6, fun k hk => ⟨(b7 k hk).1.trans (if_pos (by omega)).symm, (b7 k hk).2⟩⟩
          · cases hq
            have hg' : wG w (b + 17 + t) 300 = some (wz w) := by
              rw [← hf1.G (show b + 17 + t < wz w by omega) (fun hp => hp)]
              exact hg
            exact absurd (h.lt ht hg') (Nat.lt_irrefl _)
      · rw [if_neg (by rw [i_le]; exact c3)]
        rw [if_neg (fun q => c3 q.2.2.2)] at hk
        exact ⟨by rw [h.sh.ob]; trivial, x_no h (by decide) hk⟩
    · rw [if_neg (fun q => c2 q.2.1)] at hk
      by_cases c3 : so.toInt < 0
      · rw [if_pos (by rw [i_lt, i_0]; exact c3)]
        exact ⟨by rw [h.sh.ob]; trivial, x_no h (by decide) hk⟩
      · rw [if_neg (by rw [i_lt, i_0]; exact c3), if_pos (by rw [i_lt]; show (4 : Int) < _; omega)]
        exact ⟨by rw [h.sh.ob]; trivial, x_no h (by decide) hk⟩
  · rw [if_neg c1, if_pos rfl]
    rw [if_neg (fun q => c1 q.1)] at hk
    exact ⟨by rw [h.sh.ob]; trivial, x_no h (by decide) hk⟩
theorem nar_by (x : Int8) : vp_nar .byte x.toInt32 = x.toInt32 := by
  show x.toInt32.toInt8.toInt32 = _
  rw [Int8.toInt8_toInt32]
theorem nar_sh (x : Int16) : vp_nar .short x.toInt32 = x.toInt32 := by
  show x.toInt32.toInt16.toInt32 = _
  rw [Int16.toInt16_toInt32]
theorem fits_b (x : Int8) : fits .byte (.int x.toInt32) = true := by
  show (decide ((-128 : Int32) ≤ x.toInt32) && decide (x.toInt32 ≤ 127)) = true
  rw [Bool.and_eq_true, decide_eq_true_eq, decide_eq_true_eq, i_le, i_le, Int8.toInt_toInt32]
  have h1 := x.le_toInt
  have h2 := x.toInt_lt
  exact ⟨h1, by show x.toInt ≤ 127; omega⟩
theorem fits_s (x : Int16) : fits .short (.int x.toInt32) = true := by
  show (decide ((-32768 : Int32) ≤ x.toInt32) && decide (x.toInt32 ≤ 32767)) = true
  rw [Bool.and_eq_true, decide_eq_true_eq, decide_eq_true_eq, i_le, i_le, Int16.toInt_toInt32]
  have h1 := x.le_toInt
  have h2 := x.toInt_lt
  exact ⟨h1, by show x.toInt ≤ 32767; omega⟩
/-- an element put into a row -/
def putd (w' : Wd) (q : Nat) (hs sz : Int32) (E : Nat → Int64) : Prop := ∀ k, k < sz.toInt.toNat → elm w' q (srt hs) k = E k ∧ fits (waty (srt hs)) (wav w' q (srt hs) k) = true
theorem x_putI {q : Nat} {hs sz : Int32} {E : Nat → Int64} (hr : rwS w b i o q hs sz E) {j : Nat} {x : Int32} {v : Int64} (hc : srt hs < 5) (h1 : (if srt hs = 4 then (if x = 0 then 0 else 1) else x.toInt64) = v) (h2 : fits (waty (srt hs)) (.int x) = true) : putd (sI w q j x) q hs sz (up1 E j v) := by
  intro k hk
  obtain ⟨b1, b2⟩ := hr.2.2.2.2.2.2 k hk
  unfold elm wav at *
  rw [if_neg (by omega)] at b1 ⊢
  rw [if_pos hc] at b2 ⊢
  by_cases e : k = j
  · have ev : wI (sI w q j x) q k = x := by rw [wI_sI]; exact if_pos ⟨rfl, e⟩
    rw [ev, e, up1_eq]
    exact ⟨h1, h2⟩
  · have ev : wI (sI w q j x) q k = wI w q k := by rw [wI_sI]; exact if_neg (fun q => e q.2)
    rw [ev, up1_ne e]
    exact ⟨b1, b2⟩
theorem x_putL {q : Nat} {hs sz : Int32} {E : Nat → Int64} (hr : rwS w b i o q hs sz E) {j : Nat} {v : Int64} (hc : srt hs = 5) : putd (sL w q j v) q hs sz (up1 E j v) := by
  intro k hk
  obtain ⟨b1, b2⟩ := hr.2.2.2.2.2.2 k hk
  unfold elm wav at *
  rw [hc] at b1 ⊢
  rw [if_pos rfl] at b1 ⊢
  rw [wL_sL]
  by_cases e : k = j
  · rw [if_pos ⟨rfl, e⟩, e, up1_eq]
    exact ⟨rfl, rfl⟩
  · rw [if_neg (fun q => e q.2), up1_ne e]
    exact ⟨b1, rfl⟩
theorem x_puts {q : Nat} {hs sz : Int32} {E : Nat → Int64} (hr : rwS w b i o q hs sz E) (j : Int32) (v : Int64) {X : Nat → Wd → Prop} {k : Wd → Prop} (hk : (0 ≤ j.toInt ∧ j.toInt < sz.toInt) → ∀ w', fr (fun x k => x = q ∧ k = 9999) w w' → putd w' q hs sz (up1 E j.toInt.toNat (nar64 hs v)) → k w') (hx : ¬ (0 ≤ j.toInt ∧ j.toInt < sz.toInt) → wvm w X) : wp_X0_puts w (some q) j v X k := by
  unfold wp_X0_puts
  rw [x_sortOf hr]
  have ht := hr.2.2.2.1
  have hsz := hr.2.2.1
  have hx' : ¬ (0 ≤ j.toInt ∧ j.toInt < (sz.toInt.toNat : Int)) → wvm w X := fun e => hx (by omega)
  have fI : ∀ x, fr (fun x k => x = q ∧ k = 9999) w (sI w q j.toInt.toNat x) := fun x => (fr.refl _ _).sI (fun _ => ⟨rfl, rfl⟩)
  rcases srt_c hr.2.1 with ⟨rfl, e⟩ | ⟨rfl, e⟩ | ⟨rfl, e⟩ | ⟨rfl, e⟩ | ⟨rfl, e⟩ <;> rw [e] at ht
  · rw [if_pos rfl]
    simp only [wcc, ht, List.mem_cons, ie_m6_m5, ie_m6_m4, ie_m6_m3, ie_m6_m2, ie_m6_m1, ie_m6_0, ie_m6_1, ie_m6_2, ie_m6_3, ie_m6_4, ie_m6_5, ie_m6_6, ie_m5_m6, ie_m5_m4, ie_m5_m3, ie_m5_m2, ie_m5_m1, ie_m5_0, ie_m5_1, ie_m5_2, ie_m5_3, ie_m5_4, ie_m5_5, ie_m5_6, ie_m4_m6, ie_m4_m5, ie_m4_m3, ie_m4_m2, ie_m4_m1, ie_m4_0, ie_m4_1, ie_m4_2, ie_m4_3, ie_m4_4, ie_m4_5, ie_m4_6, ie_m3_m6, ie_m3_m5, ie_m3_m4, ie_m3_m2, ie_m3_m1, ie_m3_0, ie_m3_1, ie_m3_2, ie_m3_3, ie_m3_4, ie_m3_5, ie_m3_6, ie_m2_m6, ie_m2_m5, ie_m2_m4, ie_m2_m3, ie_m2_m1, ie_m2_0, ie_m2_1, ie_m2_2, ie_m2_3, ie_m2_4, ie_m2_5, ie_m2_6, ie_m1_m6, ie_m1_m5, ie_m1_m4, ie_m1_m3, ie_m1_m2, ie_m1_0, ie_m1_1, ie_m1_2, ie_m1_3, ie_m1_4, ie_m1_5, ie_m1_6, ie_0_m6, ie_0_m5, ie_0_m4, ie_0_m3, ie_0_m2, ie_0_m1, ie_0_1, ie_0_2, ie_0_3, ie_0_4, ie_0_5, ie_0_6, ie_1_m6, ie_1_m5, ie_1_m4, ie_1_m3, ie_1_m2, ie_1_m1, ie_1_0, ie_1_2, ie_1_3, ie_1_4, ie_1_5, ie_1_6, ie_2_m6, ie_2_m5, ie_2_m4, ie_2_m3, ie_2_m2, ie_2_m1, ie_2_0, ie_2_1, ie_2_3, ie_2_4, ie_2_5, ie_2_6, ie_3_m6, ie_3_m5, ie_3_m4, ie_3_m3, ie_3_m2, ie_3_m1, ie_3_0, ie_3_1, ie_3_2, ie_3_4, ie_3_5, ie_3_6, ie_4_m6, ie_4_m5, ie_4_m4, ie_4_m3, ie_4_m2, ie_4_m1, ie_4_0, ie_4_1, ie_4_2, ie_4_3, ie_4_5, ie_4_6, ie_5_m6, ie_5_m5, ie_5_m4, ie_5_m3, ie_5_m2, ie_5_m1, ie_5_0, ie_5_1, ie_5_2, ie_5_3, ie_5_4, ie_5_6, ie_6_m6, ie_6_m5, ie_6_m4, ie_6_m3, ie_6_m2, ie_6_m1, ie_6_0, ie_6_1, ie_6_2, ie_6_3, ie_6_4, ie_6_5, Int32.reduceToInt, Int64.reduceToInt, Int.reduceToNat, Int32.reduceAdd, Int32.reduceSub, Int32.reduceMul, Int32.reduceDiv, Int32.reduceLT, Int32.reduceLE, Int.reduceLE, Int.reduceLT, Int.reduceNeg, Int.reduceAdd, Int.reduceSub, Int.reduceMul, Int.reduceEq, Nat.reduceAdd, Nat.reduceMul, Nat.reduceLT, Nat.reduceEqDiff, true_and, and_true, and_self, false_and, and_false, if_true, if_false, ite_true, ite_false, ↓reduceIte, not_true_eq_false, not_false_eq_true, true_or, or_true, or_false, false_or, Int.cast_ofNat_Int, Int.reduceNatCast]
    refine x_wX1 ht (by omega) j (fun c2 => ?_) hx'
    rw [i_nat, nar_by]
    exact hk (by omega) _ (fI _) (x_putI hr (by rw [e]; decide) (by rw [e]; rfl) (by rw [e]; exact fits_b _))
  · rw [if_neg (by decide), if_pos rfl]
    simp only [wcc, ht, List.mem_cons, ie_m6_m5, ie_m6_m4, ie_m6_m3, ie_m6_m2, ie_m6_m1, ie_m6_0, ie_m6_1, ie_m6_2, ie_m6_3, ie_m6_4, ie_m6_5, ie_m6_6, ie_m5_m6, ie_m5_m4, ie_m5_m3, ie_m5_m2, ie_m5_m1, ie_m5_0, ie_m5_1, ie_m5_2, ie_m5_3, ie_m5_4, ie_m5_5, ie_m5_6, ie_m4_m6, ie_m4_m5, ie_m4_m3, ie_m4_m2, ie_m4_m1, ie_m4_0, ie_m4_1, ie_m4_2, ie_m4_3, ie_m4_4, ie_m4_5, ie_m4_6, ie_m3_m6, ie_m3_m5, ie_m3_m4, ie_m3_m2, ie_m3_m1, ie_m3_0, ie_m3_1, ie_m3_2, ie_m3_3, ie_m3_4, ie_m3_5, ie_m3_6, ie_m2_m6, ie_m2_m5, ie_m2_m4, ie_m2_m3, ie_m2_m1, ie_m2_0, ie_m2_1, ie_m2_2, ie_m2_3, ie_m2_4, ie_m2_5, ie_m2_6, ie_m1_m6, ie_m1_m5, ie_m1_m4, ie_m1_m3, ie_m1_m2, ie_m1_0, ie_m1_1, ie_m1_2, ie_m1_3, ie_m1_4, ie_m1_5, ie_m1_6, ie_0_m6, ie_0_m5, ie_0_m4, ie_0_m3, ie_0_m2, ie_0_m1, ie_0_1, ie_0_2, ie_0_3, ie_0_4, ie_0_5, ie_0_6, ie_1_m6, ie_1_m5, ie_1_m4, ie_1_m3, ie_1_m2, ie_1_m1, ie_1_0, ie_1_2, ie_1_3, ie_1_4, ie_1_5, ie_1_6, ie_2_m6, ie_2_m5, ie_2_m4, ie_2_m3, ie_2_m2, ie_2_m1, ie_2_0, ie_2_1, ie_2_3, ie_2_4, ie_2_5, ie_2_6, ie_3_m6, ie_3_m5, ie_3_m4, ie_3_m3, ie_3_m2, ie_3_m1, ie_3_0, ie_3_1, ie_3_2, ie_3_4, ie_3_5, ie_3_6, ie_4_m6, ie_4_m5, ie_4_m4, ie_4_m3, ie_4_m2, ie_4_m1, ie_4_0, ie_4_1, ie_4_2, ie_4_3, ie_4_5, ie_4_6, ie_5_m6, ie_5_m5, ie_5_m4, ie_5_m3, ie_5_m2, ie_5_m1, ie_5_0, ie_5_1, ie_5_2, ie_5_3, ie_5_4, ie_5_6, ie_6_m6, ie_6_m5, ie_6_m4, ie_6_m3, ie_6_m2, ie_6_m1, ie_6_0, ie_6_1, ie_6_2, ie_6_3, ie_6_4, ie_6_5, Int32.reduceToInt, Int64.reduceToInt, Int.reduceToNat, Int32.reduceAdd, Int32.reduceSub, Int32.reduceMul, Int32.reduceDiv, Int32.reduceLT, Int32.reduceLE, Int.reduceLE, Int.reduceLT, Int.reduceNeg, Int.reduceAdd, Int.reduceSub, Int.reduceMul, Int.reduceEq, Nat.reduceAdd, Nat.reduceMul, Nat.reduceLT, Nat.reduceEqDiff, true_and, and_true, and_self, false_and, and_false, if_true, if_false, ite_true, ite_false, ↓reduceIte, not_true_eq_false, not_false_eq_true, true_or, or_true, or_false, false_or, Int.cast_ofNat_Int, Int.reduceNatCast]
    refine x_wX1 ht (by omega) j (fun c2 => ?_) hx'
    rw [i_nat, nar_sh]
    exact hk (by omega) _ (fI _) (x_putI hr (by rw [e]; decide) (by rw [e]; rfl) (by rw [e]; exact fits_s _))
  · rw [if_neg (by decide), if_neg (by decide), if_pos rfl]
    simp only [wcc, ht, List.mem_cons, ie_m6_m5, ie_m6_m4, ie_m6_m3, ie_m6_m2, ie_m6_m1, ie_m6_0, ie_m6_1, ie_m6_2, ie_m6_3, ie_m6_4, ie_m6_5, ie_m6_6, ie_m5_m6, ie_m5_m4, ie_m5_m3, ie_m5_m2, ie_m5_m1, ie_m5_0, ie_m5_1, ie_m5_2, ie_m5_3, ie_m5_4, ie_m5_5, ie_m5_6, ie_m4_m6, ie_m4_m5, ie_m4_m3, ie_m4_m2, ie_m4_m1, ie_m4_0, ie_m4_1, ie_m4_2, ie_m4_3, ie_m4_4, ie_m4_5, ie_m4_6, ie_m3_m6, ie_m3_m5, ie_m3_m4, ie_m3_m2, ie_m3_m1, ie_m3_0, ie_m3_1, ie_m3_2, ie_m3_3, ie_m3_4, ie_m3_5, ie_m3_6, ie_m2_m6, ie_m2_m5, ie_m2_m4, ie_m2_m3, ie_m2_m1, ie_m2_0, ie_m2_1, ie_m2_2, ie_m2_3, ie_m2_4, ie_m2_5, ie_m2_6, ie_m1_m6, ie_m1_m5, ie_m1_m4, ie_m1_m3, ie_m1_m2, ie_m1_0, ie_m1_1, ie_m1_2, ie_m1_3, ie_m1_4, ie_m1_5, ie_m1_6, ie_0_m6, ie_0_m5, ie_0_m4, ie_0_m3, ie_0_m2, ie_0_m1, ie_0_1, ie_0_2, ie_0_3, ie_0_4, ie_0_5, ie_0_6, ie_1_m6, ie_1_m5, ie_1_m4, ie_1_m3, ie_1_m2, ie_1_m1, ie_1_0, ie_1_2, ie_1_3, ie_1_4, ie_1_5, ie_1_6, ie_2_m6, ie_2_m5, ie_2_m4, ie_2_m3, ie_2_m2, ie_2_m1, ie_2_0, ie_2_1, ie_2_3, ie_2_4, ie_2_5, ie_2_6, ie_3_m6, ie_3_m5, ie_3_m4, ie_3_m3, ie_3_m2, ie_3_m1, ie_3_0, ie_3_1, ie_3_2, ie_3_4, ie_3_5, ie_3_6, ie_4_m6, ie_4_m5, ie_4_m4, ie_4_m3, ie_4_m2, ie_4_m1, ie_4_0, ie_4_1, ie_4_2, ie_4_3, ie_4_5, ie_4_6, ie_5_m6, ie_5_m5, ie_5_m4, ie_5_m3, ie_5_m2, ie_5_m1, ie_5_0, ie_5_1, ie_5_2, ie_5_3, ie_5_4, ie_5_6, ie_6_m6, ie_6_m5, ie_6_m4, ie_6_m3, ie_6_m2, ie_6_m1, ie_6_0, ie_6_1, ie_6_2, ie_6_3, ie_6_4, ie_6_5, Int32.reduceToInt, Int64.reduceToInt, Int.reduceToNat, Int32.reduceAdd, Int32.reduceSub, Int32.reduceMul, Int32.reduceDiv, Int32.reduceLT, Int32.reduceLE, Int.reduceLE, Int.reduceLT, Int.reduceNeg, Int.reduceAdd, Int.reduceSub, Int.reduceMul, Int.reduceEq, Nat.reduceAdd, Nat.reduceMul, Nat.reduceLT, Nat.reduceEqDiff, true_and, and_true, and_self, false_and, and_false, if_true, if_false, ite_true, ite_false, ↓reduceIte, not_true_eq_false, not_false_eq_true, true_or, or_true, or_false, false_or, Int.cast_ofNat_Int, Int.reduceNatCast]
    refine x_wX1 ht (by omega) j (fun c2 => ?_) hx'
    rw [i_nat]
    exact hk (by omega) _ (fI _) (x_putI hr (by rw [e]; decide) (by rw [e]; rfl) (by rw [e]; rfl))
  · rw [if_neg (by decide), if_neg (by decide), if_neg (by decide), if_pos rfl]
    simp only [wcc, ht, List.mem_cons, ie_m6_m5, ie_m6_m4, ie_m6_m3, ie_m6_m2, ie_m6_m1, ie_m6_0, ie_m6_1, ie_m6_2, ie_m6_3, ie_m6_4, ie_m6_5, ie_m6_6, ie_m5_m6, ie_m5_m4, ie_m5_m3, ie_m5_m2, ie_m5_m1, ie_m5_0, ie_m5_1, ie_m5_2, ie_m5_3, ie_m5_4, ie_m5_5, ie_m5_6, ie_m4_m6, ie_m4_m5, ie_m4_m3, ie_m4_m2, ie_m4_m1, ie_m4_0, ie_m4_1, ie_m4_2, ie_m4_3, ie_m4_4, ie_m4_5, ie_m4_6, ie_m3_m6, ie_m3_m5, ie_m3_m4, ie_m3_m2, ie_m3_m1, ie_m3_0, ie_m3_1, ie_m3_2, ie_m3_3, ie_m3_4, ie_m3_5, ie_m3_6, ie_m2_m6, ie_m2_m5, ie_m2_m4, ie_m2_m3, ie_m2_m1, ie_m2_0, ie_m2_1, ie_m2_2, ie_m2_3, ie_m2_4, ie_m2_5, ie_m2_6, ie_m1_m6, ie_m1_m5, ie_m1_m4, ie_m1_m3, ie_m1_m2, ie_m1_0, ie_m1_1, ie_m1_2, ie_m1_3, ie_m1_4, ie_m1_5, ie_m1_6, ie_0_m6, ie_0_m5, ie_0_m4, ie_0_m3, ie_0_m2, ie_0_m1, ie_0_1, ie_0_2, ie_0_3, ie_0_4, ie_0_5, ie_0_6, ie_1_m6, ie_1_m5, ie_1_m4, ie_1_m3, ie_1_m2, ie_1_m1, ie_1_0, ie_1_2, ie_1_3, ie_1_4, ie_1_5, ie_1_6, ie_2_m6, ie_2_m5, ie_2_m4, ie_2_m3, ie_2_m2, ie_2_m1, ie_2_0, ie_2_1, ie_2_3, ie_2_4, ie_2_5, ie_2_6, ie_3_m6, ie_3_m5, ie_3_m4, ie_3_m3, ie_3_m2, ie_3_m1, ie_3_0, ie_3_1, ie_3_2, ie_3_4, ie_3_5, ie_3_6, ie_4_m6, ie_4_m5, ie_4_m4, ie_4_m3, ie_4_m2, ie_4_m1, ie_4_0, ie_4_1, ie_4_2, ie_4_3, ie_4_5, ie_4_6, ie_5_m6, ie_5_m5, ie_5_m4, ie_5_m3, ie_5_m2, ie_5_m1, ie_5_0, ie_5_1, ie_5_2, ie_5_3, ie_5_4, ie_5_6, ie_6_m6, ie_6_m5, ie_6_m4, ie_6_m3, ie_6_m2, ie_6_m1, ie_6_0, ie_6_1, ie_6_2, ie_6_3, ie_6_4, ie_6_5, Int32.reduceToInt, Int64.reduceToInt, Int.reduceToNat, Int32.reduceAdd, Int32.reduceSub, Int32.reduceMul, Int32.reduceDiv, Int32.reduceLT, Int32.reduceLE, Int.reduceLE, Int.reduceLT, Int.reduceNeg, Int.reduceAdd, Int.reduceSub, Int.reduceMul, Int.reduceEq, Nat.reduceAdd, Nat.reduceMul, Nat.reduceLT, Nat.reduceEqDiff, true_and, and_true, and_self, false_and, and_false, if_true, if_false, ite_true, ite_false, ↓reduceIte, not_true_eq_false, not_false_eq_true, true_or, or_true, or_false, false_or, Int.cast_ofNat_Int, Int.reduceNatCast]
    refine x_wX1 ht (by omega) j (fun c2 => ?_) hx'
    rw [i_nat]
    exact hk (by omega) _ ((fr.refl _ _).sL (fun _ => ⟨rfl, rfl⟩)) (x_putL hr e)
  · rw [if_neg (by decide), if_neg (by decide), if_neg (by decide), if_neg (by decide)]
    simp only [wcc, ht, List.mem_cons, ie_m6_m5, ie_m6_m4, ie_m6_m3, ie_m6_m2, ie_m6_m1, ie_m6_0, ie_m6_1, ie_m6_2, ie_m6_3, ie_m6_4, ie_m6_5, ie_m6_6, ie_m5_m6, ie_m5_m4, ie_m5_m3, ie_m5_m2, ie_m5_m1, ie_m5_0, ie_m5_1, ie_m5_2, ie_m5_3, ie_m5_4, ie_m5_5, ie_m5_6, ie_m4_m6, ie_m4_m5, ie_m4_m3, ie_m4_m2, ie_m4_m1, ie_m4_0, ie_m4_1, ie_m4_2, ie_m4_3, ie_m4_4, ie_m4_5, ie_m4_6, ie_m3_m6, ie_m3_m5, ie_m3_m4, ie_m3_m2, ie_m3_m1, ie_m3_0, ie_m3_1, ie_m3_2, ie_m3_3, ie_m3_4, ie_m3_5, ie_m3_6, ie_m2_m6, ie_m2_m5, ie_m2_m4, ie_m2_m3, ie_m2_m1, ie_m2_0, ie_m2_1, ie_m2_2, ie_m2_3, ie_m2_4, ie_m2_5, ie_m2_6, ie_m1_m6, ie_m1_m5, ie_m1_m4, ie_m1_m3, ie_m1_m2, ie_m1_0, ie_m1_1, ie_m1_2, ie_m1_3, ie_m1_4, ie_m1_5, ie_m1_6, ie_0_m6, ie_0_m5, ie_0_m4, ie_0_m3, ie_0_m2, ie_0_m1, ie_0_1, ie_0_2, ie_0_3, ie_0_4, ie_0_5, ie_0_6, ie_1_m6, ie_1_m5, ie_1_m4, ie_1_m3, ie_1_m2, ie_1_m1, ie_1_0, ie_1_2, ie_1_3, ie_1_4, ie_1_5, ie_1_6, ie_2_m6, ie_2_m5, ie_2_m4, ie_2_m3, ie_2_m2, ie_2_m1, ie_2_0, ie_2_1, ie_2_3, ie_2_4, ie_2_5, ie_2_6, ie_3_m6, ie_3_m5, ie_3_m4, ie_3_m3, ie_3_m2, ie_3_m1, ie_3_0, ie_3_1, ie_3_2, ie_3_4, ie_3_5, ie_3_6, ie_4_m6, ie_4_m5, ie_4_m4, ie_4_m3, ie_4_m2, ie_4_m1, ie_4_0, ie_4_1, ie_4_2, ie_4_3, ie_4_5, ie_4_6, ie_5_m6, ie_5_m5, ie_5_m4, ie_5_m3, ie_5_m2, ie_5_m1, ie_5_0, ie_5_1, ie_5_2, ie_5_3, ie_5_4, ie_5_6, ie_6_m6, ie_6_m5, ie_6_m4, ie_6_m3, ie_6_m2, ie_6_m1, ie_6_0, ie_6_1, ie_6_2, ie_6_3, ie_6_4, ie_6_5, Int32.reduceToInt, Int64.reduceToInt, Int.reduceToNat, Int32.reduceAdd, Int32.reduceSub, Int32.reduceMul, Int32.reduceDiv, Int32.reduceLT, Int32.reduceLE, Int.reduceLE, Int.reduceLT, Int.reduceNeg, Int.reduceAdd, Int.reduceSub, Int.reduceMul, Int.reduceEq, Nat.reduceAdd, Nat.reduceMul, Nat.reduceLT, Nat.reduceEqDiff, true_and, and_true, and_self, false_and, and_false, if_true, if_false, ite_true, ite_false, ↓reduceIte, not_true_eq_false, not_false_eq_true, true_or, or_true, or_false, false_or, Int.cast_ofNat_Int, Int.reduceNatCast]
    rw [show (vp_nar .boolean 0) = 0 by decide, show (vp_nar .boolean 1) = 1 by decide]
    by_cases c : v = 0
    · rw [if_pos ((lg_eq v 0).2 c)]
      refine x_wX1 ht (by omega) j (fun c2 => ?_) hx'
      rw [i_nat]
      exact hk (by omega) _ (fI _) (x_putI hr (by rw [e]; decide) (by rw [e, c]; rfl) (by rw [e]; rfl))
    · rw [if_neg (fun q => c ((lg_eq v 0).1 q))]
      refine x_wX1 ht (by omega) j (fun c2 => ?_) hx'
      rw [i_nat]
      refine hk (by omega) _ (fI _) (x_putI hr (by rw [e]; decide) ?_ (by rw [e]; rfl))
      rw [e]
      show (1 : Int64) = if v = 0 then 0 else 1
      rw [if_neg c]
theorem x_set (h : XX w b i o A) (hN : okN (aN A)) (s j : Int32) (v : Int64) {k : Int32 → Wd → Prop} (hk : xR w b i o (F_set A s j v).2 (k (F_set A s j v).1)) : wp_X0_set w b s j v k := by
  unfold wp_X0_set
  unfold F_set at hk
  rw [x_isShelfE]
  by_cases c1 : isS s
  · rw [if_pos c1, if_neg (by decide)]
    rw [if_pos c1] at hk
    have hs8 : s.toInt.toNat < 8 := by omega
    refine ⟨by rw [h.sh.ob]; trivial, x_rowIn h hN c1 (fun c q w2 hf hr => ?_) (fun q c hg hr => ?_)⟩
    · unfold wb_X0_set_26
      rw [if_neg (by omega)] at hk
      have h2 := h.sc0 hf
      refine x_hand h2 hr ?_ (fun w3 h3 hf3 => hk w3 h3 ((xP_Q (x0_P hf)).trans hf3))
      rcases rowC_c A s.toInt.toNat with e | e | e
      · rw [e]; decide
      · rw [e]; decide
      · rw [e] at c; exact absurd c (by decide)
    · rw [if_pos c] at hk
      refine x_puts hr j v (fun c2 w2 hf hp => ?_) (fun c2 z q' hz => ?_)
      · rw [if_pos c2] at hk
        have hsz := hr.2.2.1
        have u := h.wRow hs8 hg hr hf (E' := up1 (aE A) (40 * s.toInt.toNat + j.toInt.toNat) (nar64 (aH A s.toInt.toNat) v)) (fun k hk => up1_ne (by omega)) (fun k hk => ?_)
        · exact hk _ u.1 u.2
        · refine ⟨(hp k hk).1.trans ?_, (hp k hk).2⟩
          by_cases e : k = j.toInt.toNat
          · rw [e, up1_eq, up1_eq]
          · rw [up1_ne e, up1_ne (by omega)]
      · unfold wb_X0_set_38
        rw [if_neg c2] at hk
        have h1 := h.sc0 (sZ_x0 hz)
        exact ⟨by rw [h1.sh.ob]; trivial, x_no h1 (by decide) (fun w2 h2 hf2 => hk w2 h2 ((xP_Q (x0_P (sZ_x0 hz))).trans hf2))⟩
  · rw [if_neg c1, if_pos rfl]
    rw [if_neg c1] at hk
    exact ⟨by rw [h.sh.ob]; trivial, x_no h (by decide) hk⟩
end XSET2
