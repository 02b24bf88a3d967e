/-! ===== the island as it is told, of the class ===== -/
section XSET
variable {w : Wd} {b i : Nat} {o : Option Nat} {A : Ab}
theorem x_side (h : XX w b i o A) (hN : okN (aN A)) (n : Int32) {k : Int32 → Wd → Prop} (hk : xR w b i o (F_side A n).2 (k (F_side A n).1)) : wp_X0_side w b n k := by
  unfold wp_X0_side
  unfold F_side at hk
  simp only [h.G0, h.is.F106, h.is.pF, x_isIn, ie_m6_m5, ie_m6_m4, ie_m6_m3, ie_m6_m2, ie_m6_m1, ie_m6_0, ie_m6_1, ie_m6_2, ie_m6_3, ie_m6_4, ie_m6_5, ie_m6_6, ie_m5_m6, ie_m5_m4, ie_m5_m3, ie_m5_m2, ie_m5_m1, ie_m5_0, ie_m5_1, ie_m5_2, ie_m5_3, ie_m5_4, ie_m5_5, ie_m5_6, ie_m4_m6, ie_m4_m5, ie_m4_m3, ie_m4_m2, ie_m4_m1, ie_m4_0, ie_m4_1, ie_m4_2, ie_m4_3, ie_m4_4, ie_m4_5, ie_m4_6, ie_m3_m6, ie_m3_m5, ie_m3_m4, ie_m3_m2, ie_m3_m1, ie_m3_0, ie_m3_1, ie_m3_2, ie_m3_3, ie_m3_4, ie_m3_5, ie_m3_6, ie_m2_m6, ie_m2_m5, ie_m2_m4, ie_m2_m3, ie_m2_m1, ie_m2_0, ie_m2_1, ie_m2_2, ie_m2_3, ie_m2_4, ie_m2_5, ie_m2_6, ie_m1_m6, ie_m1_m5, ie_m1_m4, ie_m1_m3, ie_m1_m2, ie_m1_0, ie_m1_1, ie_m1_2, ie_m1_3, ie_m1_4, ie_m1_5, ie_m1_6, ie_0_m6, ie_0_m5, ie_0_m4, ie_0_m3, ie_0_m2, ie_0_m1, ie_0_1, ie_0_2, ie_0_3, ie_0_4, ie_0_5, ie_0_6, ie_1_m6, ie_1_m5, ie_1_m4, ie_1_m3, ie_1_m2, ie_1_m1, ie_1_0, ie_1_2, ie_1_3, ie_1_4, ie_1_5, ie_1_6, ie_2_m6, ie_2_m5, ie_2_m4, ie_2_m3, ie_2_m2, ie_2_m1, ie_2_0, ie_2_1, ie_2_3, ie_2_4, ie_2_5, ie_2_6, ie_3_m6, ie_3_m5, ie_3_m4, ie_3_m3, ie_3_m2, ie_3_m1, ie_3_0, ie_3_1, ie_3_2, ie_3_4, ie_3_5, ie_3_6, ie_4_m6, ie_4_m5, ie_4_m4, ie_4_m3, ie_4_m2, ie_4_m1, ie_4_0, ie_4_1, ie_4_2, ie_4_3, ie_4_5, ie_4_6, ie_5_m6, ie_5_m5, ie_5_m4, ie_5_m3, ie_5_m2, ie_5_m1, ie_5_0, ie_5_1, ie_5_2, ie_5_3, ie_5_4, ie_5_6, ie_6_m6, ie_6_m5, ie_6_m4, ie_6_m3, ie_6_m2, ie_6_m1, ie_6_0, ie_6_1, ie_6_2, ie_6_3, ie_6_4, ie_6_5, Int32.reduceToInt, Int64.reduceToInt, Int.reduceToNat, Int32.reduceAdd, Int32.reduceSub, Int32.reduceMul, Int32.reduceDiv, Int32.reduceLT, Int32.reduceLE, Int.reduceLE, Int.reduceLT, Int.reduceNeg, Int.reduceAdd, Int.reduceSub, Int.reduceMul, Int.reduceEq, Nat.reduceAdd, Nat.reduceMul, Nat.reduceLT, Nat.reduceEqDiff, true_and, and_true, and_self, false_and, and_false, if_true, if_false, ite_true, ite_false, ↓reduceIte, not_true_eq_false, not_false_eq_true, true_or, or_true, or_false, false_or, Int.cast_ofNat_Int, Int.reduceNatCast]
  by_cases c : (aN A 90).toInt ≤ n.toInt ∧ n.toInt ≤ 7
  · rw [if_pos c] at hk ⊢
    have u := h.upF (h.is.wSide hN.pe8 n) (pe_up (by decide))
    exact hk _ u.1 u.2
  · rw [if_neg c] at hk ⊢
    exact ⟨by rw [h.sh.ob]; trivial, x_no h (by decide) hk⟩
theorem x_tell (h : XX w b i o A) (hN : okN (aN A)) (t v : Int32) {k : Int32 → Wd → Prop} (hk : xR w b i o (F_tell A t v).2 (k (F_tell A t v).1)) : wp_X0_tell w b t v k := by
  unfold wp_X0_tell
  unfold F_tell at hk
  simp only [x_isIn, ie_m6_m5, ie_m6_m4, ie_m6_m3, ie_m6_m2, ie_m6_m1, ie_m6_0, ie_m6_1, ie_m6_2, ie_m6_3, ie_m6_4, ie_m6_5, ie_m6_6, ie_m5_m6, ie_m5_m4, ie_m5_m3, ie_m5_m2, ie_m5_m1, ie_m5_0, ie_m5_1, ie_m5_2, ie_m5_3, ie_m5_4, ie_m5_5, ie_m5_6, ie_m4_m6, ie_m4_m5, ie_m4_m3, ie_m4_m2, ie_m4_m1, ie_m4_0, ie_m4_1, ie_m4_2, ie_m4_3, ie_m4_4, ie_m4_5, ie_m4_6, ie_m3_m6, ie_m3_m5, ie_m3_m4, ie_m3_m2, ie_m3_m1, ie_m3_0, ie_m3_1, ie_m3_2, ie_m3_3, ie_m3_4, ie_m3_5, ie_m3_6, ie_m2_m6, ie_m2_m5, ie_m2_m4, ie_m2_m3, ie_m2_m1, ie_m2_0, ie_m2_1, ie_m2_2, ie_m2_3, ie_m2_4, ie_m2_5, ie_m2_6, ie_m1_m6, ie_m1_m5, ie_m1_m4, ie_m1_m3, ie_m1_m2, ie_m1_0, ie_m1_1, ie_m1_2, ie_m1_3, ie_m1_4, ie_m1_5, ie_m1_6, ie_0_m6, ie_0_m5, ie_0_m4, ie_0_m3, ie_0_m2, ie_0_m1, ie_0_1, ie_0_2, ie_0_3, ie_0_4, ie_0_5, ie_0_6, ie_1_m6, ie_1_m5, ie_1_m4, ie_1_m3, ie_1_m2, ie_1_m1, ie_1_0, ie_1_2, ie_1_3, ie_1_4, ie_1_5, ie_1_6, ie_2_m6, ie_2_m5, ie_2_m4, ie_2_m3, ie_2_m2, ie_2_m1, ie_2_0, ie_2_1, ie_2_3, ie_2_4, ie_2_5, ie_2_6, ie_3_m6, ie_3_m5, ie_3_m4, ie_3_m3, ie_3_m2, ie_3_m1, ie_3_0, ie_3_1, ie_3_2, ie_3_4, ie_3_5, ie_3_6, ie_4_m6, ie_4_m5, ie_4_m4, ie_4_m3, ie_4_m2, ie_4_m1, ie_4_0, ie_4_1, ie_4_2, ie_4_3, ie_4_5, ie_4_6, ie_5_m6, ie_5_m5, ie_5_m4, ie_5_m3, ie_5_m2, ie_5_m1, ie_5_0, ie_5_1, ie_5_2, ie_5_3, ie_5_4, ie_5_6, ie_6_m6, ie_6_m5, ie_6_m4, ie_6_m3, ie_6_m2, ie_6_m1, ie_6_0, ie_6_1, ie_6_2, ie_6_3, ie_6_4, ie_6_5, Int32.reduceToInt, Int64.reduceToInt, Int.reduceToNat, Int32.reduceAdd, Int32.reduceSub, Int32.reduceMul, Int32.reduceDiv, Int32.reduceLT, Int32.reduceLE, Int.reduceLE, Int.reduceLT, Int.reduceNeg, Int.reduceAdd, Int.reduceSub, Int.reduceMul, Int.reduceEq, Nat.reduceAdd, Nat.reduceMul, Nat.reduceLT, Nat.reduceEqDiff, true_and, and_true, and_self, false_and, and_false, if_true, if_false, ite_true, ite_false, ↓reduceIte, not_true_eq_false, not_false_eq_true, true_or, or_true, or_false, false_or, Int.cast_ofNat_Int, Int.reduceNatCast]
  by_cases c1 : 0 ≤ t.toInt ∧ t.toInt ≤ 2
  · rw [if_pos c1]
    have hv : vp_in t 3 := vp_iff.2 (by omega)
    have g22 : ∀ (hi : Int32) (b' : Int), hi.toInt = b' → (if t = 2 then (12 : Int) else 1) = b' → wb_X0_tell_22 k w b t v v 0 hi := by
      intro hi b' hhi hb
      rw [hb] at hk
      unfold wb_X0_tell_22
      rw [x_isIn, i_0, hhi]
      by_cases c2 : 0 ≤ v.toInt ∧ v.toInt ≤ b'
      · rw [if_pos c2, if_neg (by decide)]
        rw [if_pos ⟨c1, c2⟩] at hk
        simp only [h.G0, h.is.G105, h.is.r6, h.is.w6, hv, true_and]
        rw [h.is.oo _ (by omega)]
        have u := h.upI (a := i + 6) (by omega) (h.is.wTold hN.pe8 (t := t.toInt.toNat) (by omega) v) (pe_up (by omega))
        exact hk _ u.1 u.2
      · rw [if_neg c2, if_pos rfl]
        rw [if_neg (fun q => c2 q.2)] at hk
        exact ⟨by rw [h.sh.ob]; trivial, x_no h (by decide) hk⟩
    by_cases e : t = 2
    · rw [if_pos e]
      exact g22 12 12 rfl (if_pos e)
    · rw [if_neg e]
      exact g22 1 1 rfl (if_neg e)
  · rw [if_neg c1]
    rw [if_neg (fun q => c1 q.1)] at hk
    exact ⟨by rw [h.sh.ob]; trivial, x_no h (by decide) hk⟩
theorem x_isFor (h : XX w b i o A) (hN : okN (aN A)) (p v : Int32) {k : Int32 → Wd → Prop} (hk : xR w b i o (F_isFor A p v).2 (k (F_isFor A p v).1)) : wp_X0_isFor w b p v k := by
  unfold wp_X0_isFor
  unfold F_isFor at hk
  rw [h.G0]
  show wob w i [21] ∧ _
  refine ⟨by rw [h.is.ob]; trivial, ?_⟩
  rw [x_isPerson h.is hN]
  by_cases c1 : isP (aN A) p
  · rw [if_pos c1, if_neg (by decide)]
    have hp8 := isP_8 hN c1
    have hP := isP_nat c1
    have hv : vp_in p 8 := vp_iff.2 (by omega)
    simp only [x_isIn, ie_m6_m5, ie_m6_m4, ie_m6_m3, ie_m6_m2, ie_m6_m1, ie_m6_0, ie_m6_1, ie_m6_2, ie_m6_3, ie_m6_4, ie_m6_5, ie_m6_6, ie_m5_m6, ie_m5_m4, ie_m5_m3, ie_m5_m2, ie_m5_m1, ie_m5_0, ie_m5_1, ie_m5_2, ie_m5_3, ie_m5_4, ie_m5_5, ie_m5_6, ie_m4_m6, ie_m4_m5, ie_m4_m3, ie_m4_m2, ie_m4_m1, ie_m4_0, ie_m4_1, ie_m4_2, ie_m4_3, ie_m4_4, ie_m4_5, ie_m4_6, ie_m3_m6, ie_m3_m5, ie_m3_m4, ie_m3_m2, ie_m3_m1, ie_m3_0, ie_m3_1, ie_m3_2, ie_m3_3, ie_m3_4, ie_m3_5, ie_m3_6, ie_m2_m6, ie_m2_m5, ie_m2_m4, ie_m2_m3, ie_m2_m1, ie_m2_0, ie_m2_1, ie_m2_2, ie_m2_3, ie_m2_4, ie_m2_5, ie_m2_6, ie_m1_m6, ie_m1_m5, ie_m1_m4, ie_m1_m3, ie_m1_m2, ie_m1_0, ie_m1_1, ie_m1_2, ie_m1_3, ie_m1_4, ie_m1_5, ie_m1_6, ie_0_m6, ie_0_m5, ie_0_m4, ie_0_m3, ie_0_m2, ie_0_m1, ie_0_1, ie_0_2, ie_0_3, ie_0_4, ie_0_5, ie_0_6, ie_1_m6, ie_1_m5, ie_1_m4, ie_1_m3, ie_1_m2, ie_1_m1, ie_1_0, ie_1_2, ie_1_3, ie_1_4, ie_1_5, ie_1_6, ie_2_m6, ie_2_m5, ie_2_m4, ie_2_m3, ie_2_m2, ie_2_m1, ie_2_0, ie_2_1, ie_2_3, ie_2_4, ie_2_5, ie_2_6, ie_3_m6, ie_3_m5, ie_3_m4, ie_3_m3, ie_3_m2, ie_3_m1, ie_3_0, ie_3_1, ie_3_2, ie_3_4, ie_3_5, ie_3_6, ie_4_m6, ie_4_m5, ie_4_m4, ie_4_m3, ie_4_m2, ie_4_m1, ie_4_0, ie_4_1, ie_4_2, ie_4_3, ie_4_5, ie_4_6, ie_5_m6, ie_5_m5, ie_5_m4, ie_5_m3, ie_5_m2, ie_5_m1, ie_5_0, ie_5_1, ie_5_2, ie_5_3, ie_5_4, ie_5_6, ie_6_m6, ie_6_m5, ie_6_m4, ie_6_m3, ie_6_m2, ie_6_m1, ie_6_0, ie_6_1, ie_6_2, ie_6_3, ie_6_4, ie_6_5, Int32.reduceToInt, Int64.reduceToInt, Int.reduceToNat, Int32.reduceAdd, Int32.reduceSub, Int32.reduceMul, Int32.reduceDiv, Int32.reduceLT, Int32.reduceLE, Int.reduceLE, Int.reduceLT, Int.reduceNeg, Int.reduceAdd, Int.reduceSub, Int.reduceMul, Int.reduceEq, Nat.reduceAdd, Nat.reduceMul, Nat.reduceLT, Nat.reduceEqDiff, true_and, and_true, and_self, false_and, and_false, if_true, if_false, ite_true, ite_false, ↓reduceIte, not_true_eq_false, not_false_eq_true, true_or, or_true, or_false, false_or, Int.cast_ofNat_Int, Int.reduceNatCast]
    by_cases c2 : 0 ≤ v.toInt ∧ v.toInt ≤ 1
    · rw [if_pos c2]
      rw [if_pos ⟨c1, c2⟩] at hk
      simp only [h.G0, h.is.G104, h.is.r5, h.is.w5, hv, true_and]
      rw [(h.is.p3 hP).2.2]
      have u := h.upI (a := i + 5) (by omega) (h.is.wP hN.pe8 (d := 4) (by decide) hP v) (pe_up (by omega))
      exact hk _ u.1 u.2
    · rw [if_neg c2]
      rw [if_neg (fun q => c2 q.2)] at hk
      exact ⟨by rw [h.sh.ob]; trivial, x_no h (by decide) hk⟩
  · rw [if_neg c1, if_pos rfl]
    rw [if_neg (fun q => c1 q.1)] at hk
    exact ⟨by rw [h.sh.ob]; trivial, x_no h (by decide) hk⟩
theorem x_put (h : XX w b i o A) (hN : okN (aN A)) (p c f : Int32) {k : Int32 → Wd → Prop} (hk : xR w b i o (F_put A p c f).2 (k (F_put A p c f).1)) : wp_X0_put w b p c f k := by
  unfold wp_X0_put
  unfold F_put at hk
  rw [h.G0]
  show wob w i [21] ∧ _
  refine ⟨by rw [h.is.ob]; trivial, ?_⟩
  rw [x_isPerson h.is hN]
  by_cases c1 : isP (aN A) p
  · rw [if_pos c1, if_neg (by decide), h.G0]
    have hp8 := isP_8 hN c1
    have hP := isP_nat c1
    have h8 := hN.pe8
    have hv : vp_in p 8 := vp_iff.2 (by omega)
    show wob w i [21] ∧ _
    refine ⟨by rw [h.is.ob]; trivial, ?_⟩
    rw [x_isCell h.is]
    by_cases c3 : isC (aN A 90) c
    · rw [if_pos c3, if_neg (by decide), x_isFaced]
      by_cases c4 : okF f
      · rw [if_pos c4, if_neg (by decide), h.G0]
        rw [if_pos ⟨c1, c3, c4⟩] at hk
        show wob w i [21] ∧ _
        refine ⟨by rw [h.is.ob]; trivial, ?_⟩
        rw [x_isPond h.is hN c3]
        by_cases c5 : pnd (aN A) c = 1
        · rw [if_pos c5, if_neg (by decide)]
          rw [if_pos c5] at hk
          exact ⟨by rw [h.sh.ob]; trivial, x_no h (by decide) hk⟩
        · rw [if_neg c5, if_pos rfl]
          rw [if_neg c5] at hk
          simp only [h.G0, h.is.G102, h.is.r3, h.is.w3, hv, true_and]
          rw [(h.is.p3 hP).1]
          have u := h.upI (a := i + 3) (by omega) (h.is.wP h8 (d := 2) (by decide) hP c) (pe_up (by omega))
          simp only [u.1.G0, u.1.is.G103, u.1.is.w4, hv, true_and]
          have eP : pe (up1 (aN A) (5 * p.toInt.toNat + 2) c) = pe (aN A) := pe_up (by omega)
          have u2 := u.1.upI (a := i + 4) (by omega) (u.1.is.wP (by rw [aN_zN, eP]; exact h8) (d := 3) (by decide) (by rw [aN_zN, eP]; exact hP) f) (pe_up (by omega))
          rw [aN_zN, zN_zN] at u2
          exact hk _ u2.1 (u.2.trans u2.2)
      · rw [if_neg c4, if_pos rfl]
        rw [if_neg (fun q => c4 q.2.2)] at hk
        exact ⟨by rw [h.sh.ob]; trivial, x_no h (by decide) hk⟩
    · rw [if_neg c3, if_pos rfl]
      rw [if_neg (fun q => c3 q.2.1)] at hk
      exact ⟨by rw [h.sh.ob]; trivial, x_no h (by decide) hk⟩
  · rw [if_neg c1, if_pos rfl]
    rw [if_neg (fun q => c1 q.1)] at hk
    exact ⟨by rw [h.sh.ob]; trivial, x_no h (by decide) hk⟩
theorem x_isPondQ (h : XX w b i o A) (hN : okN (aN A)) (c : Int32) {k : Int32 → Wd → Prop} (hk : xR w b i o (F_isPond A c).2 (k (F_isPond A c).1)) : wp_X0_isPond w b c k := by
  unfold wp_X0_isPond
  unfold F_isPond at hk
  rw [h.G0]
  show wob w i [21] ∧ _
  refine ⟨by rw [h.is.ob]; trivial, ?_⟩
  rw [x_isCell h.is]
  by_cases hc : isC (aN A 90) c
  · rw [if_pos hc, if_neg (by decide), h.G0]
    rw [if_pos hc] at hk
    have hk' := hk.self h
    show wob w i [21] ∧ _
    refine ⟨by rw [h.is.ob]; trivial, ?_⟩
    rw [x_isPond h.is hN hc]
    rcases hN.pnd hc with e | e
    · rw [if_neg (by rw [e]; decide), if_pos rfl]
      rwa [e] at hk'
    · rw [if_pos e, if_neg (by decide)]
      rwa [e] at hk'
  · rw [if_neg hc, if_pos rfl]
    rw [if_neg hc] at hk
    exact ⟨by rw [h.sh.ob]; trivial, x_no h (by decide) hk⟩
theorem x_seed (h : XX w b i o A) (hN : okN (aN A)) (v : Int32) {k : Int32 → Wd → Prop} (hk : xR w b i o (F_seed A v).2 (k (F_seed A v).1)) : wp_X0_seed w b v k := by
  unfold wp_X0_seed
  simp only [h.G0, h.is.F110, h.is.pF]
  have u := h.upF (h.is.wSeed hN.pe8 v) (pe_up (by decide))
  exact hk _ u.1 u.2
theorem row7_rowA {N : Nw} {r a : Nat} (h : ∀ c, c < 7 → N (40 + 7 * r + c) = Int32.ofNat (a / 2 ^ c % 2)) : row7 N r = rowA a := by
  unfold row7 rowA
  rw [← h 0 (by decide), ← h 1 (by decide), ← h 2 (by decide), ← h 3 (by decide), ← h 4 (by decide), ← h 5 (by decide), ← h 6 (by decide)]
  rfl
theorem x_mayPond (h : XX w b i o A) (hP : okP (aN A)) (c : Int32) {k : Int32 → Wd → Prop} (hk : k (if smb (aN A) c then 0 else 1) w) : wp_X1_mayPond w i c k := by
  have h8 := hP.2
  unfold wp_X1_mayPond
  refine loopN (n := pe (aN A)) (I := fun j w2 => w2 = w) (L := fun fu j w2 => wl_X1_mayPond_4 k fu w2 i c (if ¬ ∀ p : Nat, p < j → ¬ aN A (5 * p + 2) = c then 0 else 1) (Int32.ofNat j)) ?_ ?_ (pe (aN A)) FU 0 w (by omega) (by unfold FU; omega) rfl
  · rintro fu j w2 hj rfl ih
    have hv : vp_in (Int32.ofNat j) 8 := vp_iff.2 (by rw [i_ti (by omega)]; omega)
    rw [wl_X1_mayPond_4_s]
    unfold wb_X1_mayPond_4
    rw [h.is.F107, if_neg (by rw [hP.le (by omega)]; omega)]
    simp only [h.is.G102, h.is.r3, hv, true_and, i_tt (show j < 1000000 by omega), (h.is.p3 hj).1, i_ofS]
    have ih' := ih _ rfl
    by_cases e2 : aN A (5 * j + 2) = c
    · rw [if_pos e2]
      rw [if_pos (fun q => q j (by omega) e2)] at ih'
      rw [show ∀ x : Int32, x &&& 0 = 0 from fun x => Int32.and_zero]
      exact ih'
    · rw [if_neg e2]
      by_cases e : ∀ p : Nat, p < j → ¬ aN A (5 * p + 2) = c
      · rw [if_neg (fun q => q e)]
        rwa [if_neg (fun q => q (fun p hp => by
          by_cases hpj : p = j
          · rw [hpj]; exact e2
          · exact e p (by omega)))] at ih'
      · rw [if_pos e]
        rwa [if_pos (fun q => e (fun p hp => q p (by omega)))] at ih'
  · rintro fu w2 rfl
    rw [wl_X1_mayPond_4_s]
    unfold wb_X1_mayPond_4
    rw [h.is.F107, if_pos (by rw [hP.le (by omega)]; omega)]
    refine ⟨?_, hk⟩
    by_cases e : smb (aN A) c
    · rw [if_pos e]; exact of_eq_true nar_0
    · rw [if_neg e]; exact of_eq_true nar_1
theorem x_pond (h : XX w b i o A) (hN : okN (aN A)) (c is : Int32) {k : Int32 → Wd → Prop} (hk : xR w b i o (F_pond A c is).2 (k (F_pond A c is).1)) : wp_X0_pond w b c is k := by
  unfold wp_X0_pond
  unfold F_pond at hk
  rw [h.G0]
  show wob w i [21] ∧ _
  refine ⟨by rw [h.is.ob]; trivial, ?_⟩
  rw [x_isCell h.is]
  by_cases hc : isC (aN A 90) c
  · rw [if_pos hc, if_neg (by decide)]
    rw [if_pos hc] at hk
    have g40 : (¬ is = 0 ∧ smb (aN A) c → False) → wb_X0_pond_40 k w b c is := by
      intro hn
      rw [if_neg hn] at hk
      obtain ⟨h1, h2, h3, h4, h5⟩ := cell_rc hN.side hc
      have hv : vp_in (c / 10) 7 := vp_iff.2 (by omega)
      obtain ⟨a, ha, e1, e2⟩ := row7_a (okN_bits hN h1)
      obtain ⟨⟨s1, s2⟩, s3, s4, s5⟩ := rowA_set ha h4
      have g56 : wb_X0_pond_56 k w b c is (pnd (aN A) c) := by
        unfold wb_X0_pond_56
        rw [h.G0]
        show wob w i [21] ∧ _
        refine ⟨by rw [h.is.ob]; trivial, ?_⟩
        unfold wp_X1_pond
        simp only [h.is.G100, h.is.r1, h.is.w1, hv, true_and, h.is.po _ h1, e1, h3, s1, s2]
        rw [h5] at hk
        have key : ∀ (B : Bool) (v : Int32), v = (if B then 1 else 0) → isl (sI w (i + 1) (c / 10).toInt.toNat (rowA (setA a (c.toInt % 10).toNat B))) b i (up1 (aN A) (40 + 7 * (c / 10).toInt.toNat + (c.toInt % 10).toNat) v) := by
          intro B v hvB
          refine h.is.wPond hN.pe8 h1 h4 (row7_rowA (fun c' hc' => ?_)).symm
          by_cases e : c' = (c.toInt % 10).toNat
          · rw [e, up1_eq, hvB]
            cases B
            · rw [(s5 _ h4).2, if_pos rfl]; rfl
            · rw [(s5 _ h4).1, if_pos rfl, if_pos rfl]; rfl
          · rw [up1_ne (by omega), e2 c' hc']
            cases B
            · rw [(s5 _ hc').2, if_neg e]
            · rw [(s5 _ hc').1, if_neg e]
        by_cases e : is = 0
        · rw [if_pos e] at hk ⊢
          have u := h.upI (a := i + 1) (by omega) (key false 0 rfl) (pe_up (by omega))
          exact hk _ u.1 u.2
        · rw [if_neg e] at hk ⊢
          have u := h.upI (a := i + 1) (by omega) (key true 1 rfl) (pe_up (by omega))
          exact hk _ u.1 u.2
      unfold wb_X0_pond_40
      rw [h.G0]
      show wob w i [21] ∧ _
      refine ⟨by rw [h.is.ob]; trivial, ?_⟩
      rw [x_isPond h.is hN hc]
      rcases hN.pnd hc with e | e
      · rw [if_neg (by rw [e]; decide), if_pos rfl]
        rwa [e] at g56
      · rw [if_pos e, if_neg (by decide)]
        rwa [e] at g56
    by_cases e : is = 0
    · rw [if_pos e]
      exact g40 (fun q => q.1 e)
    · rw [if_neg e, h.G0]
      show wob w i [21] ∧ _
      refine ⟨by rw [h.is.ob]; trivial, x_mayPond h hN.P c ?_⟩
      by_cases e2 : smb (aN A) c
      · rw [if_pos e2, if_pos rfl]
        rw [if_pos ⟨e, e2⟩] at hk
        exact ⟨by rw [h.sh.ob]; trivial, x_no h (by decide) hk⟩
      · rw [if_neg e2, if_neg (by decide)]
        exact g40 (fun q => e2 q.2)
  · rw [if_neg hc, if_pos rfl]
    rw [if_neg hc] at hk
    exact ⟨by rw [h.sh.ob]; trivial, x_no h (by decide) hk⟩
/-- the tape's size, and the tape -/
theorem XX.putZ (h : XX w b i o A) (v : Int32) : XX (sF w b 10 v) b i o (zZ A v) ∧ fr (xQ b) w (sF w b 10 v) := by
  have hf : fr (fun q k => q = b ∧ k = 10) w (sF w b 10 v) := (fr.refl _ _).sF (fun _ => ⟨rfl, rfl⟩)
  have hz := h.sh.z
  have hi : ∀ j N, isl w b j N → isl (sF w b 10 v) b j N := fun j N hj => hj.sc hf (fun q k h1 h2 => by have := hj.z; omega) (fun q k hv => by have := hv.1; omega)
  refine ⟨⟨h.sh.sc hf (fun q k hp => by omega), hi _ _ h.is, h.g0, h.g1, h.Tt, by rw [wF_sF, if_pos ⟨rfl, rfl⟩]; rfl, h.R, h.im, fun j hj => ⟨hi _ _ (h.ik j hj).1, (h.ik j hj).2⟩, fun s hs => ?_, h.dj⟩, hf.mono (fun q k hq hp => by unfold xQ; omega)⟩
  rcases h.sf s hs with a | a | ⟨q, a1, a2⟩
  · exact Or.inl a
  · exact Or.inr (Or.inl a)
  · exact Or.inr (Or.inr ⟨q, a1, a2.sc hf (by have := a2.1; omega)⟩)
theorem XX.putT (h : XX w b i o A) (k : Nat) (v : Int32) : XX (sI w (b + 15) k v) b i o (zT A (up1 (aT A) k v)) ∧ fr (xQ b) w (sI w (b + 15) k v) := by
  have hf : fr (fun q k => q = b + 15 ∧ k = 9999) w (sI w (b + 15) k v) := (fr.refl _ _).sI (fun _ => ⟨rfl, rfl⟩)
  have hz := h.sh.z
  have hi : ∀ j N, isl w b j N → isl (sI w (b + 15) k v) b j N := fun j N hj => hj.sc hf (fun q k h1 h2 => by have := hj.z; omega) (fun q k hv => by have := hv.1; omega)
  have ne : ∀ q, ¬ q = b + 15 → wI (sI w (b + 15) k v) q = wI w q := fun q hq => funext fun j => if_neg (fun e => hq e.1)
  refine ⟨⟨h.sh.sc hf (fun q k hp => by omega), hi _ _ h.is, h.g0, h.g1, fun j hj => ?_, h.Z, fun j hj => (congrFun (ne _ (by omega)) j).trans (h.R j hj), h.im, fun j hj => ⟨hi _ _ (h.ik j hj).1, (h.ik j hj).2⟩, fun s hs => ?_, h.dj⟩, hf.mono (fun q k hq hp => by unfold xQ; omega)⟩
  · rw [wI_sI, aT_zT, up1_at]
    by_cases e : j = k
    · rw [if_pos ⟨rfl, e⟩, if_pos e]
    · rw [if_neg (fun c => e c.2), if_neg e]
      exact h.Tt j hj
  · rcases h.sf s hs with a | a | ⟨q, a1, a2⟩
    · exact Or.inl a
    · exact Or.inr (Or.inl a)
    · exact Or.inr (Or.inr ⟨q, a1, a2.sc hf (by have := a2.1; omega)⟩)
theorem x_feed (h : XX w b i o A) (hT : okT A) (l : Int32) {k : Int32 → Wd → Prop} (hk : xR w b i o (F_feed A l).2 (k (F_feed A l).1)) : wp_X0_feed w b l k := by
  unfold wp_X0_feed
  unfold F_feed at hk
  have hz := hT.1
  simp only [x_isIn, ie_m6_m5, ie_m6_m4, ie_m6_m3, ie_m6_m2, ie_m6_m1, ie_m6_0, ie_m6_1, ie_m6_2, ie_m6_3, ie_m6_4, ie_m6_5, ie_m6_6, ie_m5_m6, ie_m5_m4, ie_m5_m3, ie_m5_m2, ie_m5_m1, ie_m5_0, ie_m5_1, ie_m5_2, ie_m5_3, ie_m5_4, ie_m5_5, ie_m5_6, ie_m4_m6, ie_m4_m5, ie_m4_m3, ie_m4_m2, ie_m4_m1, ie_m4_0, ie_m4_1, ie_m4_2, ie_m4_3, ie_m4_4, ie_m4_5, ie_m4_6, ie_m3_m6, ie_m3_m5, ie_m3_m4, ie_m3_m2, ie_m3_m1, ie_m3_0, ie_m3_1, ie_m3_2, ie_m3_3, ie_m3_4, ie_m3_5, ie_m3_6, ie_m2_m6, ie_m2_m5, ie_m2_m4, ie_m2_m3, ie_m2_m1, ie_m2_0, ie_m2_1, ie_m2_2, ie_m2_3, ie_m2_4, ie_m2_5, ie_m2_6, ie_m1_m6, ie_m1_m5, ie_m1_m4, ie_m1_m3, ie_m1_m2, ie_m1_0, ie_m1_1, ie_m1_2, ie_m1_3, ie_m1_4, ie_m1_5, ie_m1_6, ie_0_m6, ie_0_m5, ie_0_m4, ie_0_m3, ie_0_m2, ie_0_m1, ie_0_1, ie_0_2, ie_0_3, ie_0_4, ie_0_5, ie_0_6, ie_1_m6, ie_1_m5, ie_1_m4, ie_1_m3, ie_1_m2, ie_1_m1, ie_1_0, ie_1_2, ie_1_3, ie_1_4, ie_1_5, ie_1_6, ie_2_m6, ie_2_m5, ie_2_m4, ie_2_m3, ie_2_m2, ie_2_m1, ie_2_0, ie_2_1, ie_2_3, ie_2_4, ie_2_5, ie_2_6, ie_3_m6, ie_3_m5, ie_3_m4, ie_3_m3, ie_3_m2, ie_3_m1, ie_3_0, ie_3_1, ie_3_2, ie_3_4, ie_3_5, ie_3_6, ie_4_m6, ie_4_m5, ie_4_m4, ie_4_m3, ie_4_m2, ie_4_m1, ie_4_0, ie_4_1, ie_4_2, ie_4_3, ie_4_5, ie_4_6, ie_5_m6, ie_5_m5, ie_5_m4, ie_5_m3, ie_5_m2, ie_5_m1, ie_5_0, ie_5_1, ie_5_2, ie_5_3, ie_5_4, ie_5_6, ie_6_m6, ie_6_m5, ie_6_m4, ie_6_m3, ie_6_m2, ie_6_m1, ie_6_0, ie_6_1, ie_6_2, ie_6_3, ie_6_4, ie_6_5, Int32.reduceToInt, Int64.reduceToInt, Int.reduceToNat, Int32.reduceAdd, Int32.reduceSub, Int32.reduceMul, Int32.reduceDiv, Int32.reduceLT, Int32.reduceLE, Int.reduceLE, Int.reduceLT, Int.reduceNeg, Int.reduceAdd, Int.reduceSub, Int.reduceMul, Int.reduceEq, Nat.reduceAdd, Nat.reduceMul, Nat.reduceLT, Nat.reduceEqDiff, true_and, and_true, and_self, false_and, and_false, if_true, if_false, ite_true, ite_false, ↓reduceIte, not_true_eq_false, not_false_eq_true, true_or, or_true, or_false, false_or, Int.cast_ofNat_Int, Int.reduceNatCast]
  by_cases c : 0 ≤ l.toInt ∧ l.toInt ≤ 255
  · rw [if_pos c] at hk ⊢
    simp only [h.sh.gF, h.Z]
    have e250 : aZ A = 250 ↔ (aZ A).toInt = 250 := by rw [i_eq]; rfl
    by_cases c2 : (aZ A).toInt = 250
    · rw [if_pos (e250.2 c2)]
      rw [if_pos c2] at hk
      exact ⟨by rw [h.sh.ob]; trivial, x_no h (by decide) hk⟩
    · rw [if_neg (fun q => c2 (e250.1 q))]
      rw [if_neg c2] at hk
      have hv : vp_in (aZ A) 250 := vp_iff.2 (by omega)
      simp only [h.sh.G9, h.sh.w15, hv, true_and]
      have h1 := h.putT (aZ A).toInt.toNat l
      simp only [h1.1.sh.gF, h1.1.sh.pF, h1.1.Z, aZ_zT]
      have h2 := h1.1.putZ (aZ A + 1)
      simp only [h2.1.sh.gF, h2.1.Z, aZ_zZ]
      exact hk _ h2.1 (h1.2.trans h2.2)
  · rw [if_neg c] at hk ⊢
    exact ⟨by rw [h.sh.ob]; trivial, x_no h (by decide) hk⟩
theorem x_wipe (h : XX w b i o A) {k : Int32 → Wd → Prop} (hk : xR w b i o (F_wipe A).2 (k (F_wipe A).1)) : wp_X0_wipe w b k := by
  unfold wp_X0_wipe
  simp only [h.sh.gF, h.sh.pF, h.Z]
  have u := h.putZ 0
  exact hk _ u.1 u.2
end XSET
