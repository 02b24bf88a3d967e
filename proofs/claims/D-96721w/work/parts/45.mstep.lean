/-! ===== the reference's walks ===== -/
section MST
variable {w : Wd} {m : Nat} {A : Ab}
/-- where a walker was ahead of the sign by which he fell -/
def dryS (w w' : Wd) (m : Nat) (u u' : Wk) : Prop := (uL u = -1 → ¬ uL u' = -1 → wF w' m 417 = uC u) ∧ (¬ uL u = -1 → wF w' m 417 = wF w m 417)
theorem stp_on1 {N : Nw} {kd lf : Int32} {p : Nat} {u : Wk} {n : Int32} (hl : uL u = -1) (hb : bes (N 90) (uC u) (uF u) = -1) : stp N kd lf p u 0 n = u := by
  unfold stp onW
  rw [if_pos hl, if_pos rfl, if_pos hb]
theorem stp_on2 {N : Nw} {kd lf : Int32} {p : Nat} {u : Wk} {n : Int32} (hl : uL u = -1) (hb : ¬ bes (N 90) (uC u) (uF u) = -1) : stp N kd lf p u 0 n = (bes (N 90) (uC u) (uF u), uF u, uT u, uS u, uB u, if pnd N (bes (N 90) (uC u) (uF u)) = 1 then n else -1) := by
  unfold stp onW
  rw [if_pos hl, if_pos rfl, if_neg hb]
theorem stp_tn {N : Nw} {kd lf : Int32} {p : Nat} {u : Wk} {sg n : Int32} (hl : uL u = -1) (hs : sg = 1 ∨ sg = 2) : stp N kd lf p u sg n = tnW N kd lf p u sg := by
  unfold stp
  rw [if_pos hl, if_neg (by rcases hs with rfl | rfl <;> decide), if_pos hs]
theorem stp_3 {N : Nw} {kd lf : Int32} {p : Nat} {u : Wk} {n : Int32} : stp N kd lf p u 3 n = u := by
  unfold stp
  rw [if_neg (show ¬ (3 : Int32) = 0 by decide), if_neg (show ¬ ((3 : Int32) = 1 ∨ (3 : Int32) = 2) by decide)]
  split <;> rfl
theorem stp_f {N : Nw} {kd lf : Int32} {p : Nat} {u : Wk} {sg n : Int32} (hl : ¬ uL u = -1) : stp N kd lf p u sg n = u := by
  unfold stp
  rw [if_neg hl]
theorem m_st133 (h : MM w m A) {i : Int32} (hi : 0 ≤ i.toInt ∧ i.toInt < 2) {u : Wk} (hu : mw w m i.toInt.toNat u) (sg b d : Int32) {k : Wd → Prop} (hk : ∀ w', fr (mPw m) w w' → mwS w w' m i.toInt.toNat → mw w' m i.toInt.toNat (uC u, (uF u + d) - (uF u + d) / 4 * 4, uT u + 1, sg, b, uL u) → wF w' m 417 = wF w m 417 → k w') : wb_X4_step_133 k w m i sg b (some (m + 8)) i (uF u) d := by
  have hs := h.sh
  have hv : vp_in i 2 := vp_iff.2 (by omega)
  unfold wb_X4_step_133
  simp only [hs.w8, hv, true_and]
  generalize hI : i.toInt.toNat = I at *
  obtain ⟨u1, u2, u3, u4, u5⟩ := hu
  have h1 : MM (sI w (m + 8) I (uF u + d - (uF u + d) / 4 * 4)) m A := h.sc (by (repeat' (first | exact fr.refl _ _ | (refine fr.sF ?_ ?_) | (refine fr.sI ?_ ?_) | (refine fr.sL ?_ ?_) | (refine fr.sQ ?_ ?_) | (refine fr.sG ?_ ?_) | (refine fr.nw ?_))) <;> (intro _; unfold mP; omega))
  have e3 : wI (sI w (m + 8) I (uF u + d - (uF u + d) / 4 * 4)) (m + 9) I = Int32.ofNat (uT u) := by rw [wI_sI, if_neg (by omega)]; exact u3
  simp only [h1.sh.G413, h1.sh.r9, h1.sh.w9, hv, hI, e3, true_and]
  have h2 : MM (sI (sI w (m + 8) I (uF u + d - (uF u + d) / 4 * 4)) (m + 9) I (Int32.ofNat (uT u) + 1)) m A := h.sc (by (repeat' (first | exact fr.refl _ _ | (refine fr.sF ?_ ?_) | (refine fr.sI ?_ ?_) | (refine fr.sL ?_ ?_) | (refine fr.sQ ?_ ?_) | (refine fr.sG ?_ ?_) | (refine fr.nw ?_))) <;> (intro _; unfold mP; omega))
  simp only [h2.sh.G414, h2.sh.w10, hv, hI, true_and]
  have h3 : MM (sI (sI (sI w (m + 8) I (uF u + d - (uF u + d) / 4 * 4)) (m + 9) I (Int32.ofNat (uT u) + 1)) (m + 10) I sg) m A := h.sc (by (repeat' (first | exact fr.refl _ _ | (refine fr.sF ?_ ?_) | (refine fr.sI ?_ ?_) | (refine fr.sL ?_ ?_) | (refine fr.sQ ?_ ?_) | (refine fr.sG ?_ ?_) | (refine fr.nw ?_))) <;> (intro _; unfold mP; omega))
  simp only [h3.sh.G415, h3.sh.w11, hv, hI, true_and]
  refine hk _ (by (repeat' (first | exact fr.refl _ _ | (refine fr.sF ?_ ?_) | (refine fr.sI ?_ ?_) | (refine fr.sL ?_ ?_) | (refine fr.sQ ?_ ?_) | (refine fr.sG ?_ ?_) | (refine fr.nw ?_))) <;> (intro _; unfold mPw; omega)) ?_ ?_ rfl
  · intro o j ho hj
    simp only [wT_sF, wF_sF, wG_sF, wI_sF, wL_sF, wQ_sF, wz_sF, wk_sF, wT_sG, wF_sG, wG_sG, wI_sG, wL_sG, wQ_sG, wz_sG, wk_sG, wT_sI, wF_sI, wG_sI, wI_sI, wL_sI, wQ_sI, wz_sI, wk_sI, wT_sL, wF_sL, wG_sL, wI_sL, wL_sL, wQ_sL, wz_sL, wk_sL, wT_sQ, wF_sQ, wG_sQ, wI_sQ, wL_sQ, wQ_sQ, wz_sQ, wk_sQ, wT_sZ, wF_sZ, wG_sZ, wI_sZ, wL_sZ, wQ_sZ, wz_sZ, wk_sZ, wT_nw, wF_nw, wG_nw, wI_nw, wL_nw, wQ_nw, wz_nw, wk_nw, wT_sIc, wF_sIc, wG_sIc, wI_sIc, wL_sIc, wQ_sIc, wz_sIc, wk_sIc, wT_sLc, wF_sLc, wG_sLc, wI_sLc, wL_sLc, wQ_sLc, wz_sLc, wk_sLc, wT_sQc, wF_sQc, wG_sQc, wI_sQc, wL_sQc, wQ_sQc, wz_sQc, wk_sQc, wT_sCp, wF_sCp, wG_sCp, wI_sCp, wL_sCp, wQ_sCp, wz_sCp, wk_sCp, hj, and_false, if_false]
  · refine ⟨?_, ?_, ?_, ?_, fun ht => ⟨?_, ?_⟩⟩ <;> simp [wT_sF, wF_sF, wG_sF, wI_sF, wL_sF, wQ_sF, wz_sF, wk_sF, wT_sG, wF_sG, wG_sG, wI_sG, wL_sG, wQ_sG, wz_sG, wk_sG, wT_sI, wF_sI, wG_sI, wI_sI, wL_sI, wQ_sI, wz_sI, wk_sI, wT_sL, wF_sL, wG_sL, wI_sL, wL_sL, wQ_sL, wz_sL, wk_sL, wT_sQ, wF_sQ, wG_sQ, wI_sQ, wL_sQ, wQ_sQ, wz_sQ, wk_sQ, wT_sZ, wF_sZ, wG_sZ, wI_sZ, wL_sZ, wQ_sZ, wz_sZ, wk_sZ, wT_nw, wF_nw, wG_nw, wI_nw, wL_nw, wQ_nw, wz_nw, wk_nw, wT_sIc, wF_sIc, wG_sIc, wI_sIc, wL_sIc, wQ_sIc, wz_sIc, wk_sIc, wT_sLc, wF_sLc, wG_sLc, wI_sLc, wL_sLc, wQ_sLc, wz_sLc, wk_sLc, wT_sQc, wF_sQc, wG_sQc, wI_sQc, wL_sQc, wQ_sQc, wz_sQc, wk_sQc, wT_sCp, wF_sCp, wG_sCp, wI_sCp, wL_sCp, wQ_sCp, wz_sCp, wk_sCp, uC, uF, uT, uL, uS, uB]
    · exact u1
    · exact u4
theorem m_step (h : MM w m A) (hN : okN (aN A)) {i p : Int32} (hi : 0 ≤ i.toInt ∧ i.toInt < 2) (hp : isP (aN A) p) {u : Wk} (hu : mw w m i.toInt.toNat u) (hok : okU (aN A) u) (hT : uT u < 1000000) {sg : Int32} (hsg : sg = 0 ∨ sg = 1 ∨ sg = 2 ∨ sg = 3) (n : Int32) {k : Wd → Prop}
    (hk : ∀ w', fr (mPw m) w w' → mwS w w' m i.toInt.toNat → mw w' m i.toInt.toNat (stp (aN A) (aN A (5 * p.toInt.toNat)) (aN A 91) p.toInt.toNat u sg n) → dryS w w' m u (stp (aN A) (aN A (5 * p.toInt.toNat)) (aN A 91) p.toInt.toNat u sg n) → k w') : wp_X4_step w m i p sg n k := by
  have hs := h.sh
  have hv : vp_in i 2 := vp_iff.2 (by omega)
  have hu' := hu
  obtain ⟨u1, u2, u3, u4, u5⟩ := hu'
  unfold wp_X4_step
  simp only [hs.G416, hs.r12, hv, u4, true_and]
  by_cases hl : uL u = -1
  · simp only [if_pos hl]
    rcases Classical.em (sg = 1 ∨ sg = 2) with hs12 | hs12
    · have e := stp_tn (N := aN A) (kd := aN A (5 * p.toInt.toNat)) (lf := aN A 91) (p := p.toInt.toNat) (n := n) hl hs12
      rw [e] at hk
      have n0 : ¬ sg = 0 := by rcases hs12 with rfl | rfl <;> decide
      have n3 : ¬ sg = 3 := by rcases hs12 with rfl | rfl <;> decide
      simp only [if_neg n0, if_neg n3, hs.ob, m_goesBy h hN hi hp hu hok hT, hs.G412, hs.r8, hv, u2, true_and]
      have key : ∀ d : Int32, (uF u + d) - (uF u + d) / 4 * 4 = trn (uF u) sg (by1 (aN A) (aN A (5 * p.toInt.toNat)) (aN A 91) p.toInt.toNat u sg) → wb_X4_step_133 k w m i sg (by1 (aN A) (aN A (5 * p.toInt.toNat)) (aN A 91) p.toInt.toNat u sg) (some (m + 8)) i (uF u) d := by
        intro d hd
        refine m_st133 h hi hu _ _ _ (fun w' hf hS hw hF => hk w' hf hS ?_ ⟨fun _ h2 => absurd rfl h2, fun h2 => absurd hl h2⟩)
        unfold tnW
        rw [← hd, ← hl]
        exact hw
      unfold wb_X4_step_115 wb_X4_step_125
      unfold trn at key
      generalize by1 (aN A) (aN A (5 * p.toInt.toNat)) (aN A 91) p.toInt.toNat u sg = b at key ⊢
      by_cases hb : b = 1 <;> by_cases h1 : sg = 1
      · simp only [if_pos hb, if_pos h1, ie_m6_m5, ie_m6_m4, ie_m6_m3, ie_m6_m2, ie_m6_m1, ie_m6_0, ie_m6_1, ie_m6_2, ie_m6_3, ie_m6_4, ie_m6_5, ie_m6_6, ie_m5_m6, ie_m5_m4, ie_m5_m3, ie_m5_m2, ie_m5_m1, ie_m5_0, ie_m5_1, ie_m5_2, ie_m5_3, ie_m5_4, ie_m5_5, ie_m5_6, ie_m4_m6, ie_m4_m5, ie_m4_m3, ie_m4_m2, ie_m4_m1, ie_m4_0, ie_m4_1, ie_m4_2, ie_m4_3, ie_m4_4, ie_m4_5, ie_m4_6, ie_m3_m6, ie_m3_m5, ie_m3_m4, ie_m3_m2, ie_m3_m1, ie_m3_0, ie_m3_1, ie_m3_2, ie_m3_3, ie_m3_4, ie_m3_5, ie_m3_6, ie_m2_m6, ie_m2_m5, ie_m2_m4, ie_m2_m3, ie_m2_m1, ie_m2_0, ie_m2_1, ie_m2_2, ie_m2_3, ie_m2_4, ie_m2_5, ie_m2_6, ie_m1_m6, ie_m1_m5, ie_m1_m4, ie_m1_m3, ie_m1_m2, ie_m1_0, ie_m1_1, ie_m1_2, ie_m1_3, ie_m1_4, ie_m1_5, ie_m1_6, ie_0_m6, ie_0_m5, ie_0_m4, ie_0_m3, ie_0_m2, ie_0_m1, ie_0_1, ie_0_2, ie_0_3, ie_0_4, ie_0_5, ie_0_6, ie_1_m6, ie_1_m5, ie_1_m4, ie_1_m3, ie_1_m2, ie_1_m1, ie_1_0, ie_1_2, ie_1_3, ie_1_4, ie_1_5, ie_1_6, ie_2_m6, ie_2_m5, ie_2_m4, ie_2_m3, ie_2_m2, ie_2_m1, ie_2_0, ie_2_1, ie_2_3, ie_2_4, ie_2_5, ie_2_6, ie_3_m6, ie_3_m5, ie_3_m4, ie_3_m3, ie_3_m2, ie_3_m1, ie_3_0, ie_3_1, ie_3_2, ie_3_4, ie_3_5, ie_3_6, ie_4_m6, ie_4_m5, ie_4_m4, ie_4_m3, ie_4_m2, ie_4_m1, ie_4_0, ie_4_1, ie_4_2, ie_4_3, ie_4_5, ie_4_6, ie_5_m6, ie_5_m5, ie_5_m4, ie_5_m3, ie_5_m2, ie_5_m1, ie_5_0, ie_5_1, ie_5_2, ie_5_3, ie_5_4, ie_5_6, ie_6_m6, ie_6_m5, ie_6_m4, ie_6_m3, ie_6_m2, ie_6_m1, ie_6_0, ie_6_1, ie_6_2, ie_6_3, ie_6_4, ie_6_5, Int32.reduceToInt, Int64.reduceToInt, Int.reduceToNat, Int32.reduceAdd, Int32.reduceSub, Int32.reduceMul, Int32.reduceDiv, Int32.reduceLT, Int32.reduceLE, Int.reduceLE, Int.reduceLT, Int.reduceNeg, Int.reduceAdd, Int.reduceSub, Int.reduceMul, Int.reduceEq, Nat.reduceAdd, Nat.reduceMul, Nat.reduceLT, Nat.reduceEqDiff, true_and, and_true, and_self, false_and, and_false, if_true, if_false, ite_true, ite_false, ↓reduceIte, not_true_eq_false, not_false_eq_true, true_or, or_true, or_false, false_or, Int.cast_ofNat_Int, Int.reduceNatCast]
        exact key 1 (by rw [if_pos ⟨fun _ => h1, fun _ => hb⟩])
      · simp only [if_pos hb, if_neg h1, ie_m6_m5, ie_m6_m4, ie_m6_m3, ie_m6_m2, ie_m6_m1, ie_m6_0, ie_m6_1, ie_m6_2, ie_m6_3, ie_m6_4, ie_m6_5, ie_m6_6, ie_m5_m6, ie_m5_m4, ie_m5_m3, ie_m5_m2, ie_m5_m1, ie_m5_0, ie_m5_1, ie_m5_2, ie_m5_3, ie_m5_4, ie_m5_5, ie_m5_6, ie_m4_m6, ie_m4_m5, ie_m4_m3, ie_m4_m2, ie_m4_m1, ie_m4_0, ie_m4_1, ie_m4_2, ie_m4_3, ie_m4_4, ie_m4_5, ie_m4_6, ie_m3_m6, ie_m3_m5, ie_m3_m4, ie_m3_m2, ie_m3_m1, ie_m3_0, ie_m3_1, ie_m3_2, ie_m3_3, ie_m3_4, ie_m3_5, ie_m3_6, ie_m2_m6, ie_m2_m5, ie_m2_m4, ie_m2_m3, ie_m2_m1, ie_m2_0, ie_m2_1, ie_m2_2, ie_m2_3, ie_m2_4, ie_m2_5, ie_m2_6, ie_m1_m6, ie_m1_m5, ie_m1_m4, ie_m1_m3, ie_m1_m2, ie_m1_0, ie_m1_1, ie_m1_2, ie_m1_3, ie_m1_4, ie_m1_5, ie_m1_6, ie_0_m6, ie_0_m5, ie_0_m4, ie_0_m3, ie_0_m2, ie_0_m1, ie_0_1, ie_0_2, ie_0_3, ie_0_4, ie_0_5, ie_0_6, ie_1_m6, ie_1_m5, ie_1_m4, ie_1_m3, ie_1_m2, ie_1_m1, ie_1_0, ie_1_2, ie_1_3, ie_1_4, ie_1_5, ie_1_6, ie_2_m6, ie_2_m5, ie_2_m4, ie_2_m3, ie_2_m2, ie_2_m1, ie_2_0, ie_2_1, ie_2_3, ie_2_4, ie_2_5, ie_2_6, ie_3_m6, ie_3_m5, ie_3_m4, ie_3_m3, ie_3_m2, ie_3_m1, ie_3_0, ie_3_1, ie_3_2, ie_3_4, ie_3_5, ie_3_6, ie_4_m6, ie_4_m5, ie_4_m4, ie_4_m3, ie_4_m2, ie_4_m1, ie_4_0, ie_4_1, ie_4_2, ie_4_3, ie_4_5, ie_4_6, ie_5_m6, ie_5_m5, ie_5_m4, ie_5_m3, ie_5_m2, ie_5_m1, ie_5_0, ie_5_1, ie_5_2, ie_5_3, ie_5_4, ie_5_6, ie_6_m6, ie_6_m5, ie_6_m4, ie_6_m3, ie_6_m2, ie_6_m1, ie_6_0, ie_6_1, ie_6_2, ie_6_3, ie_6_4, ie_6_5, Int32.reduceToInt, Int64.reduceToInt, Int.reduceToNat, Int32.reduceAdd, Int32.reduceSub, Int32.reduceMul, Int32.reduceDiv, Int32.reduceLT, Int32.reduceLE, Int.reduceLE, Int.reduceLT, Int.reduceNeg, Int.reduceAdd, Int.reduceSub, Int.reduceMul, Int.reduceEq, Nat.reduceAdd, Nat.reduceMul, Nat.reduceLT, Nat.reduceEqDiff, true_and, and_true, and_self, false_and, and_false, if_true, if_false, ite_true, ite_false, ↓reduceIte, not_true_eq_false, not_false_eq_true, true_or, or_true, or_false, false_or, Int.cast_ofNat_Int, Int.reduceNatCast]
        exact key 3 (by rw [if_neg (fun e => h1 (e.1 hb))])
      · simp only [if_neg hb, if_pos h1, ie_m6_m5, ie_m6_m4, ie_m6_m3, ie_m6_m2, ie_m6_m1, ie_m6_0, ie_m6_1, ie_m6_2, ie_m6_3, ie_m6_4, ie_m6_5, ie_m6_6, ie_m5_m6, ie_m5_m4, ie_m5_m3, ie_m5_m2, ie_m5_m1, ie_m5_0, ie_m5_1, ie_m5_2, ie_m5_3, ie_m5_4, ie_m5_5, ie_m5_6, ie_m4_m6, ie_m4_m5, ie_m4_m3, ie_m4_m2, ie_m4_m1, ie_m4_0, ie_m4_1, ie_m4_2, ie_m4_3, ie_m4_4, ie_m4_5, ie_m4_6, ie_m3_m6, ie_m3_m5, ie_m3_m4, ie_m3_m2, ie_m3_m1, ie_m3_0, ie_m3_1, ie_m3_2, ie_m3_3, ie_m3_4, ie_m3_5, ie_m3_6, ie_m2_m6, ie_m2_m5, ie_m2_m4, ie_m2_m3, ie_m2_m1, ie_m2_0, ie_m2_1, ie_m2_2, ie_m2_3, ie_m2_4, ie_m2_5, ie_m2_6, ie_m1_m6, ie_m1_m5, ie_m1_m4, ie_m1_m3, ie_m1_m2, ie_m1_0, ie_m1_1, ie_m1_2, ie_m1_3, ie_m1_4, ie_m1_5, ie_m1_6, ie_0_m6, ie_0_m5, ie_0_m4, ie_0_m3, ie_0_m2, ie_0_m1, ie_0_1, ie_0_2, ie_0_3, ie_0_4, ie_0_5, ie_0_6, ie_1_m6, ie_1_m5, ie_1_m4, ie_1_m3, ie_1_m2, ie_1_m1, ie_1_0, ie_1_2, ie_1_3, ie_1_4, ie_1_5, ie_1_6, ie_2_m6, ie_2_m5, ie_2_m4, ie_2_m3, ie_2_m2, ie_2_m1, ie_2_0, ie_2_1, ie_2_3, ie_2_4, ie_2_5, ie_2_6, ie_3_m6, ie_3_m5, ie_3_m4, ie_3_m3, ie_3_m2, ie_3_m1, ie_3_0, ie_3_1, ie_3_2, ie_3_4, ie_3_5, ie_3_6, ie_4_m6, ie_4_m5, ie_4_m4, ie_4_m3, ie_4_m2, ie_4_m1, ie_4_0, ie_4_1, ie_4_2, ie_4_3, ie_4_5, ie_4_6, ie_5_m6, ie_5_m5, ie_5_m4, ie_5_m3, ie_5_m2, ie_5_m1, ie_5_0, ie_5_1, ie_5_2, ie_5_3, ie_5_4, ie_5_6, ie_6_m6, ie_6_m5, ie_6_m4, ie_6_m3, ie_6_m2, ie_6_m1, ie_6_0, ie_6_1, ie_6_2, ie_6_3, ie_6_4, ie_6_5, Int32.reduceToInt, Int64.reduceToInt, Int.reduceToNat, Int32.reduceAdd, Int32.reduceSub, Int32.reduceMul, Int32.reduceDiv, Int32.reduceLT, Int32.reduceLE, Int.reduceLE, Int.reduceLT, Int.reduceNeg, Int.reduceAdd, Int.reduceSub, Int.reduceMul, Int.reduceEq, Nat.reduceAdd, Nat.reduceMul, Nat.reduceLT, Nat.reduceEqDiff, true_and, and_true, and_self, false_and, and_false, if_true, if_false, ite_true, ite_false, ↓reduceIte, not_true_eq_false, not_false_eq_true, true_or, or_true, or_false, false_or, Int.cast_ofNat_Int, Int.reduceNatCast]
        exact key 3 (by rw [if_neg (fun e => hb (e.2 h1))])
      · simp only [if_neg hb, if_neg h1, ie_m6_m5, ie_m6_m4, ie_m6_m3, ie_m6_m2, ie_m6_m1, ie_m6_0, ie_m6_1, ie_m6_2, ie_m6_3, ie_m6_4, ie_m6_5, ie_m6_6, ie_m5_m6, ie_m5_m4, ie_m5_m3, ie_m5_m2, ie_m5_m1, ie_m5_0, ie_m5_1, ie_m5_2, ie_m5_3, ie_m5_4, ie_m5_5, ie_m5_6, ie_m4_m6, ie_m4_m5, ie_m4_m3, ie_m4_m2, ie_m4_m1, ie_m4_0, ie_m4_1, ie_m4_2, ie_m4_3, ie_m4_4, ie_m4_5, ie_m4_6, ie_m3_m6, ie_m3_m5, ie_m3_m4, ie_m3_m2, ie_m3_m1, ie_m3_0, ie_m3_1, ie_m3_2, ie_m3_3, ie_m3_4, ie_m3_5, ie_m3_6, ie_m2_m6, ie_m2_m5, ie_m2_m4, ie_m2_m3, ie_m2_m1, ie_m2_0, ie_m2_1, ie_m2_2, ie_m2_3, ie_m2_4, ie_m2_5, ie_m2_6, ie_m1_m6, ie_m1_m5, ie_m1_m4, ie_m1_m3, ie_m1_m2, ie_m1_0, ie_m1_1, ie_m1_2, ie_m1_3, ie_m1_4, ie_m1_5, ie_m1_6, ie_0_m6, ie_0_m5, ie_0_m4, ie_0_m3, ie_0_m2, ie_0_m1, ie_0_1, ie_0_2, ie_0_3, ie_0_4, ie_0_5, ie_0_6, ie_1_m6, ie_1_m5, ie_1_m4, ie_1_m3, ie_1_m2, ie_1_m1, ie_1_0, ie_1_2, ie_1_3, ie_1_4, ie_1_5, ie_1_6, ie_2_m6, ie_2_m5, ie_2_m4, ie_2_m3, ie_2_m2, ie_2_m1, ie_2_0, ie_2_1, ie_2_3, ie_2_4, ie_2_5, ie_2_6, ie_3_m6, ie_3_m5, ie_3_m4, ie_3_m3, ie_3_m2, ie_3_m1, ie_3_0, ie_3_1, ie_3_2, ie_3_4, ie_3_5, ie_3_6, ie_4_m6, ie_4_m5, ie_4_m4, ie_4_m3, ie_4_m2, ie_4_m1, ie_4_0, ie_4_1, ie_4_2, ie_4_3, ie_4_5, ie_4_6, ie_5_m6, ie_5_m5, ie_5_m4, ie_5_m3, ie_5_m2, ie_5_m1, ie_5_0, ie_5_1, ie_5_2, ie_5_3, ie_5_4, ie_5_6, ie_6_m6, ie_6_m5, ie_6_m4, ie_6_m3, ie_6_m2, ie_6_m1, ie_6_0, ie_6_1, ie_6_2, ie_6_3, ie_6_4, ie_6_5, Int32.reduceToInt, Int64.reduceToInt, Int.reduceToNat, Int32.reduceAdd, Int32.reduceSub, Int32.reduceMul, Int32.reduceDiv, Int32.reduceLT, Int32.reduceLE, Int.reduceLE, Int.reduceLT, Int.reduceNeg, Int.reduceAdd, Int.reduceSub, Int.reduceMul, Int.reduceEq, Nat.reduceAdd, Nat.reduceMul, Nat.reduceLT, Nat.reduceEqDiff, true_and, and_true, and_self, false_and, and_false, if_true, if_false, ite_true, ite_false, ↓reduceIte, not_true_eq_false, not_false_eq_true, true_or, or_true, or_false, false_or, Int.cast_ofNat_Int, Int.reduceNatCast]
        exact key 1 (by rw [if_pos ⟨fun e => absurd e hb, fun e => absurd e h1⟩])
    · rcases hsg with rfl | h0 | h0 | rfl
      · simp only [ie_m6_m5, ie_m6_m4, ie_m6_m3, ie_m6_m2, ie_m6_m1, ie_m6_0, ie_m6_1, ie_m6_2, ie_m6_3, ie_m6_4, ie_m6_5, ie_m6_6, ie_m5_m6, ie_m5_m4, ie_m5_m3, ie_m5_m2, ie_m5_m1, ie_m5_0, ie_m5_1, ie_m5_2, ie_m5_3, ie_m5_4, ie_m5_5, ie_m5_6, ie_m4_m6, ie_m4_m5, ie_m4_m3, ie_m4_m2, ie_m4_m1, ie_m4_0, ie_m4_1, ie_m4_2, ie_m4_3, ie_m4_4, ie_m4_5, ie_m4_6, ie_m3_m6, ie_m3_m5, ie_m3_m4, ie_m3_m2, ie_m3_m1, ie_m3_0, ie_m3_1, ie_m3_2, ie_m3_3, ie_m3_4, ie_m3_5, ie_m3_6, ie_m2_m6, ie_m2_m5, ie_m2_m4, ie_m2_m3, ie_m2_m1, ie_m2_0, ie_m2_1, ie_m2_2, ie_m2_3, ie_m2_4, ie_m2_5, ie_m2_6, ie_m1_m6, ie_m1_m5, ie_m1_m4, ie_m1_m3, ie_m1_m2, ie_m1_0, ie_m1_1, ie_m1_2, ie_m1_3, ie_m1_4, ie_m1_5, ie_m1_6, ie_0_m6, ie_0_m5, ie_0_m4, ie_0_m3, ie_0_m2, ie_0_m1, ie_0_1, ie_0_2, ie_0_3, ie_0_4, ie_0_5, ie_0_6, ie_1_m6, ie_1_m5, ie_1_m4, ie_1_m3, ie_1_m2, ie_1_m1, ie_1_0, ie_1_2, ie_1_3, ie_1_4, ie_1_5, ie_1_6, ie_2_m6, ie_2_m5, ie_2_m4, ie_2_m3, ie_2_m2, ie_2_m1, ie_2_0, ie_2_1, ie_2_3, ie_2_4, ie_2_5, ie_2_6, ie_3_m6, ie_3_m5, ie_3_m4, ie_3_m3, ie_3_m2, ie_3_m1, ie_3_0, ie_3_1, ie_3_2, ie_3_4, ie_3_5, ie_3_6, ie_4_m6, ie_4_m5, ie_4_m4, ie_4_m3, ie_4_m2, ie_4_m1, ie_4_0, ie_4_1, ie_4_2, ie_4_3, ie_4_5, ie_4_6, ie_5_m6, ie_5_m5, ie_5_m4, ie_5_m3, ie_5_m2, ie_5_m1, ie_5_0, ie_5_1, ie_5_2, ie_5_3, ie_5_4, ie_5_6, ie_6_m6, ie_6_m5, ie_6_m4, ie_6_m3, ie_6_m2, ie_6_m1, ie_6_0, ie_6_1, ie_6_2, ie_6_3, ie_6_4, ie_6_5, Int32.reduceToInt, Int64.reduceToInt, Int.reduceToNat, Int32.reduceAdd, Int32.reduceSub, Int32.reduceMul, Int32.reduceDiv, Int32.reduceLT, Int32.reduceLE, Int.reduceLE, Int.reduceLT, Int.reduceNeg, Int.reduceAdd, Int.reduceSub, Int.reduceMul, Int.reduceEq, Nat.reduceAdd, Nat.reduceMul, Nat.reduceLT, Nat.reduceEqDiff, true_and, and_true, and_self, false_and, and_false, if_true, if_false, ite_true, ite_false, ↓reduceIte, not_true_eq_false, not_false_eq_true, true_or, or_true, or_false, false_or, Int.cast_ofNat_Int, Int.reduceNatCast, hs.G411, hs.r7, hv, u1, hs.G412, hs.r8, u2, hs.ob, m_beside h hN hok.1 hok.2.1]
        by_cases hb : bes (aN A 90) (uC u) (uF u) = -1
        · simp only [if_pos hb]
          rw [stp_on1 hl hb] at hk
          exact hk w (fr.refl _ _) (mwS.refl _ _ _) hu ⟨fun _ h2 => absurd hl h2, fun h2 => absurd hl h2⟩
        · rw [stp_on2 hl hb] at hk
          simp only [if_neg hb, hs.pF]
          have h1 : MM (sF w m 417 (uC u)) m A := h.sc (by (repeat' (first | exact fr.refl _ _ | (refine fr.sF ?_ ?_) | (refine fr.sI ?_ ?_) | (refine fr.sL ?_ ?_) | (refine fr.sQ ?_ ?_) | (refine fr.sG ?_ ?_) | (refine fr.nw ?_))) <;> (intro _; unfold mP; omega))
          simp only [h1.sh.G411, h1.sh.w7, hv, true_and]
          have h2 : MM (sI (sF w m 417 (uC u)) (m + 7) i.toInt.toNat (bes (aN A 90) (uC u) (uF u))) m A := h.sc (by (repeat' (first | exact fr.refl _ _ | (refine fr.sF ?_ ?_) | (refine fr.sI ?_ ?_) | (refine fr.sL ?_ ?_) | (refine fr.sQ ?_ ?_) | (refine fr.sG ?_ ?_) | (refine fr.nw ?_))) <;> (intro _; unfold mP; omega))
          simp only [h2.sh.G416, h2.sh.ob, m_hasPond h2 hN (bes_ne hN.side hok.1 hb), h2.sh.w12, hv, true_and]
          generalize i.toInt.toNat = I at *
          by_cases hpn : pnd (aN A) (bes (aN A 90) (uC u) (uF u)) = 1
          · simp only [if_pos hpn, ie_m6_m5, ie_m6_m4, ie_m6_m3, ie_m6_m2, ie_m6_m1, ie_m6_0, ie_m6_1, ie_m6_2, ie_m6_3, ie_m6_4, ie_m6_5, ie_m6_6, ie_m5_m6, ie_m5_m4, ie_m5_m3, ie_m5_m2, ie_m5_m1, ie_m5_0, ie_m5_1, ie_m5_2, ie_m5_3, ie_m5_4, ie_m5_5, ie_m5_6, ie_m4_m6, ie_m4_m5, ie_m4_m3, ie_m4_m2, ie_m4_m1, ie_m4_0, ie_m4_1, ie_m4_2, ie_m4_3, ie_m4_4, ie_m4_5, ie_m4_6, ie_m3_m6, ie_m3_m5, ie_m3_m4, ie_m3_m2, ie_m3_m1, ie_m3_0, ie_m3_1, ie_m3_2, ie_m3_3, ie_m3_4, ie_m3_5, ie_m3_6, ie_m2_m6, ie_m2_m5, ie_m2_m4, ie_m2_m3, ie_m2_m1, ie_m2_0, ie_m2_1, ie_m2_2, ie_m2_3, ie_m2_4, ie_m2_5, ie_m2_6, ie_m1_m6, ie_m1_m5, ie_m1_m4, ie_m1_m3, ie_m1_m2, ie_m1_0, ie_m1_1, ie_m1_2, ie_m1_3, ie_m1_4, ie_m1_5, ie_m1_6, ie_0_m6, ie_0_m5, ie_0_m4, ie_0_m3, ie_0_m2, ie_0_m1, ie_0_1, ie_0_2, ie_0_3, ie_0_4, ie_0_5, ie_0_6, ie_1_m6, ie_1_m5, ie_1_m4, ie_1_m3, ie_1_m2, ie_1_m1, ie_1_0, ie_1_2, ie_1_3, ie_1_4, ie_1_5, ie_1_6, ie_2_m6, ie_2_m5, ie_2_m4, ie_2_m3, ie_2_m2, ie_2_m1, ie_2_0, ie_2_1, ie_2_3, ie_2_4, ie_2_5, ie_2_6, ie_3_m6, ie_3_m5, ie_3_m4, ie_3_m3, ie_3_m2, ie_3_m1, ie_3_0, ie_3_1, ie_3_2, ie_3_4, ie_3_5, ie_3_6, ie_4_m6, ie_4_m5, ie_4_m4, ie_4_m3, ie_4_m2, ie_4_m1, ie_4_0, ie_4_1, ie_4_2, ie_4_3, ie_4_5, ie_4_6, ie_5_m6, ie_5_m5, ie_5_m4, ie_5_m3, ie_5_m2, ie_5_m1, ie_5_0, ie_5_1, ie_5_2, ie_5_3, ie_5_4, ie_5_6, ie_6_m6, ie_6_m5, ie_6_m4, ie_6_m3, ie_6_m2, ie_6_m1, ie_6_0, ie_6_1, ie_6_2, ie_6_3, ie_6_4, ie_6_5, Int32.reduceToInt, Int64.reduceToInt, Int.reduceToNat, Int32.reduceAdd, Int32.reduceSub, Int32.reduceMul, Int32.reduceDiv, Int32.reduceLT, Int32.reduceLE, Int.reduceLE, Int.reduceLT, Int.reduceNeg, Int.reduceAdd, Int.reduceSub, Int.reduceMul, Int.reduceEq, Nat.reduceAdd, Nat.reduceMul, Nat.reduceLT, Nat.reduceEqDiff, true_and, and_true, and_self, false_and, and_false, if_true, if_false, ite_true, ite_false, ↓reduceIte, not_true_eq_false, not_false_eq_true, true_or, or_true, or_false, false_or, Int.cast_ofNat_Int, Int.reduceNatCast]
            rw [if_pos hpn] at hk
            refine hk _ (by (repeat' (first | exact fr.refl _ _ | (refine fr.sF ?_ ?_) | (refine fr.sI ?_ ?_) | (refine fr.sL ?_ ?_) | (refine fr.sQ ?_ ?_) | (refine fr.sG ?_ ?_) | (refine fr.nw ?_))) <;> (intro _; unfold mPw; omega)) ?_ ?_ ?_
            · intro o j ho hj
              simp only [wT_sF, wF_sF, wG_sF, wI_sF, wL_sF, wQ_sF, wz_sF, wk_sF, wT_sG, wF_sG, wG_sG, wI_sG, wL_sG, wQ_sG, wz_sG, wk_sG, wT_sI, wF_sI, wG_sI, wI_sI, wL_sI, wQ_sI, wz_sI, wk_sI, wT_sL, wF_sL, wG_sL, wI_sL, wL_sL, wQ_sL, wz_sL, wk_sL, wT_sQ, wF_sQ, wG_sQ, wI_sQ, wL_sQ, wQ_sQ, wz_sQ, wk_sQ, wT_sZ, wF_sZ, wG_sZ, wI_sZ, wL_sZ, wQ_sZ, wz_sZ, wk_sZ, wT_nw, wF_nw, wG_nw, wI_nw, wL_nw, wQ_nw, wz_nw, wk_nw, wT_sIc, wF_sIc, wG_sIc, wI_sIc, wL_sIc, wQ_sIc, wz_sIc, wk_sIc, wT_sLc, wF_sLc, wG_sLc, wI_sLc, wL_sLc, wQ_sLc, wz_sLc, wk_sLc, wT_sQc, wF_sQc, wG_sQc, wI_sQc, wL_sQc, wQ_sQc, wz_sQc, wk_sQc, wT_sCp, wF_sCp, wG_sCp, wI_sCp, wL_sCp, wQ_sCp, wz_sCp, wk_sCp, hj, and_false, if_false]
            · refine ⟨?_, ?_, ?_, ?_, fun ht => ⟨?_, ?_⟩⟩ <;> simp [wT_sF, wF_sF, wG_sF, wI_sF, wL_sF, wQ_sF, wz_sF, wk_sF, wT_sG, wF_sG, wG_sG, wI_sG, wL_sG, wQ_sG, wz_sG, wk_sG, wT_sI, wF_sI, wG_sI, wI_sI, wL_sI, wQ_sI, wz_sI, wk_sI, wT_sL, wF_sL, wG_sL, wI_sL, wL_sL, wQ_sL, wz_sL, wk_sL, wT_sQ, wF_sQ, wG_sQ, wI_sQ, wL_sQ, wQ_sQ, wz_sQ, wk_sQ, wT_sZ, wF_sZ, wG_sZ, wI_sZ, wL_sZ, wQ_sZ, wz_sZ, wk_sZ, wT_nw, wF_nw, wG_nw, wI_nw, wL_nw, wQ_nw, wz_nw, wk_nw, wT_sIc, wF_sIc, wG_sIc, wI_sIc, wL_sIc, wQ_sIc, wz_sIc, wk_sIc, wT_sLc, wF_sLc, wG_sLc, wI_sLc, wL_sLc, wQ_sLc, wz_sLc, wk_sLc, wT_sQc, wF_sQc, wG_sQc, wI_sQc, wL_sQc, wQ_sQc, wz_sQc, wk_sQc, wT_sCp, wF_sCp, wG_sCp, wI_sCp, wL_sCp, wQ_sCp, wz_sCp, wk_sCp, uC, uF, uT, uL, uS, uB]
              · exact u2
              · exact u3
              · exact (u5 ht).1
              · exact (u5 ht).2
            · refine ⟨fun _ _ => ?_, fun h2 => absurd hl h2⟩
              simp [wT_sF, wF_sF, wG_sF, wI_sF, wL_sF, wQ_sF, wz_sF, wk_sF, wT_sG, wF_sG, wG_sG, wI_sG, wL_sG, wQ_sG, wz_sG, wk_sG, wT_sI, wF_sI, wG_sI, wI_sI, wL_sI, wQ_sI, wz_sI, wk_sI, wT_sL, wF_sL, wG_sL, wI_sL, wL_sL, wQ_sL, wz_sL, wk_sL, wT_sQ, wF_sQ, wG_sQ, wI_sQ, wL_sQ, wQ_sQ, wz_sQ, wk_sQ, wT_sZ, wF_sZ, wG_sZ, wI_sZ, wL_sZ, wQ_sZ, wz_sZ, wk_sZ, wT_nw, wF_nw, wG_nw, wI_nw, wL_nw, wQ_nw, wz_nw, wk_nw, wT_sIc, wF_sIc, wG_sIc, wI_sIc, wL_sIc, wQ_sIc, wz_sIc, wk_sIc, wT_sLc, wF_sLc, wG_sLc, wI_sLc, wL_sLc, wQ_sLc, wz_sLc, wk_sLc, wT_sQc, wF_sQc, wG_sQc, wI_sQc, wL_sQc, wQ_sQc, wz_sQc, wk_sQc, wT_sCp, wF_sCp, wG_sCp, wI_sCp, wL_sCp, wQ_sCp, wz_sCp, wk_sCp]
          · simp only [if_neg hpn, ie_m6_m5, ie_m6_m4, ie_m6_m3, ie_m6_m2, ie_m6_m1, ie_m6_0, ie_m6_1, ie_m6_2, ie_m6_3, ie_m6_4, ie_m6_5, ie_m6_6, ie_m5_m6, ie_m5_m4, ie_m5_m3, ie_m5_m2, ie_m5_m1, ie_m5_0, ie_m5_1, ie_m5_2, ie_m5_3, ie_m5_4, ie_m5_5, ie_m5_6, ie_m4_m6, ie_m4_m5, ie_m4_m3, ie_m4_m2, ie_m4_m1, ie_m4_0, ie_m4_1, ie_m4_2, ie_m4_3, ie_m4_4, ie_m4_5, ie_m4_6, ie_m3_m6, ie_m3_m5, ie_m3_m4, ie_m3_m2, ie_m3_m1, ie_m3_0, ie_m3_1, ie_m3_2, ie_m3_3, ie_m3_4, ie_m3_5, ie_m3_6, ie_m2_m6, ie_m2_m5, ie_m2_m4, ie_m2_m3, ie_m2_m1, ie_m2_0, ie_m2_1, ie_m2_2, ie_m2_3, ie_m2_4, ie_m2_5, ie_m2_6, ie_m1_m6, ie_m1_m5, ie_m1_m4, ie_m1_m3, ie_m1_m2, ie_m1_0, ie_m1_1, ie_m1_2, ie_m1_3, ie_m1_4, ie_m1_5, ie_m1_6, ie_0_m6, ie_0_m5, ie_0_m4, ie_0_m3, ie_0_m2, ie_0_m1, ie_0_1, ie_0_2, ie_0_3, ie_0_4, ie_0_5, ie_0_6, ie_1_m6, ie_1_m5, ie_1_m4, ie_1_m3, ie_1_m2, ie_1_m1, ie_1_0, ie_1_2, ie_1_3, ie_1_4, ie_1_5, ie_1_6, ie_2_m6, ie_2_m5, ie_2_m4, ie_2_m3, ie_2_m2, ie_2_m1, ie_2_0, ie_2_1, ie_2_3, ie_2_4, ie_2_5, ie_2_6, ie_3_m6, ie_3_m5, ie_3_m4, ie_3_m3, ie_3_m2, ie_3_m1, ie_3_0, ie_3_1, ie_3_2, ie_3_4, ie_3_5, ie_3_6, ie_4_m6, ie_4_m5, ie_4_m4, ie_4_m3, ie_4_m2, ie_4_m1, ie_4_0, ie_4_1, ie_4_2, ie_4_3, ie_4_5, ie_4_6, ie_5_m6, ie_5_m5, ie_5_m4, ie_5_m3, ie_5_m2, ie_5_m1, ie_5_0, ie_5_1, ie_5_2, ie_5_3, ie_5_4, ie_5_6, ie_6_m6, ie_6_m5, ie_6_m4, ie_6_m3, ie_6_m2, ie_6_m1, ie_6_0, ie_6_1, ie_6_2, ie_6_3, ie_6_4, ie_6_5, Int32.reduceToInt, Int64.reduceToInt, Int.reduceToNat, Int32.reduceAdd, Int32.reduceSub, Int32.reduceMul, Int32.reduceDiv, Int32.reduceLT, Int32.reduceLE, Int.reduceLE, Int.reduceLT, Int.reduceNeg, Int.reduceAdd, Int.reduceSub, Int.reduceMul, Int.reduceEq, Nat.reduceAdd, Nat.reduceMul, Nat.reduceLT, Nat.reduceEqDiff, true_and, and_true, and_self, false_and, and_false, if_true, if_false, ite_true, ite_false, ↓reduceIte, not_true_eq_false, not_false_eq_true, true_or, or_true, or_false, false_or, Int.cast_ofNat_Int, Int.reduceNatCast]
            rw [if_neg hpn] at hk
            refine hk _ (by (repeat' (first | exact fr.refl _ _ | (refine fr.sF ?_ ?_) | (refine fr.sI ?_ ?_) | (refine fr.sL ?_ ?_) | (refine fr.sQ ?_ ?_) | (refine fr.sG ?_ ?_) | (refine fr.nw ?_))) <;> (intro _; unfold mPw; omega)) ?_ ?_ ?_
            · intro o j ho hj
              simp only [wT_sF, wF_sF, wG_sF, wI_sF, wL_sF, wQ_sF, wz_sF, wk_sF, wT_sG, wF_sG, wG_sG, wI_sG, wL_sG, wQ_sG, wz_sG, wk_sG, wT_sI, wF_sI, wG_sI, wI_sI, wL_sI, wQ_sI, wz_sI, wk_sI, wT_sL, wF_sL, wG_sL, wI_sL, wL_sL, wQ_sL, wz_sL, wk_sL, wT_sQ, wF_sQ, wG_sQ, wI_sQ, wL_sQ, wQ_sQ, wz_sQ, wk_sQ, wT_sZ, wF_sZ, wG_sZ, wI_sZ, wL_sZ, wQ_sZ, wz_sZ, wk_sZ, wT_nw, wF_nw, wG_nw, wI_nw, wL_nw, wQ_nw, wz_nw, wk_nw, wT_sIc, wF_sIc, wG_sIc, wI_sIc, wL_sIc, wQ_sIc, wz_sIc, wk_sIc, wT_sLc, wF_sLc, wG_sLc, wI_sLc, wL_sLc, wQ_sLc, wz_sLc, wk_sLc, wT_sQc, wF_sQc, wG_sQc, wI_sQc, wL_sQc, wQ_sQc, wz_sQc, wk_sQc, wT_sCp, wF_sCp, wG_sCp, wI_sCp, wL_sCp, wQ_sCp, wz_sCp, wk_sCp, hj, and_false, if_false]
            · refine ⟨?_, ?_, ?_, ?_, fun ht => ⟨?_, ?_⟩⟩ <;> simp [wT_sF, wF_sF, wG_sF, wI_sF, wL_sF, wQ_sF, wz_sF, wk_sF, wT_sG, wF_sG, wG_sG, wI_sG, wL_sG, wQ_sG, wz_sG, wk_sG, wT_sI, wF_sI, wG_sI, wI_sI, wL_sI, wQ_sI, wz_sI, wk_sI, wT_sL, wF_sL, wG_sL, wI_sL, wL_sL, wQ_sL, wz_sL, wk_sL, wT_sQ, wF_sQ, wG_sQ, wI_sQ, wL_sQ, wQ_sQ, wz_sQ, wk_sQ, wT_sZ, wF_sZ, wG_sZ, wI_sZ, wL_sZ, wQ_sZ, wz_sZ, wk_sZ, wT_nw, wF_nw, wG_nw, wI_nw, wL_nw, wQ_nw, wz_nw, wk_nw, wT_sIc, wF_sIc, wG_sIc, wI_sIc, wL_sIc, wQ_sIc, wz_sIc, wk_sIc, wT_sLc, wF_sLc, wG_sLc, wI_sLc, wL_sLc, wQ_sLc, wz_sLc, wk_sLc, wT_sQc, wF_sQc, wG_sQc, wI_sQc, wL_sQc, wQ_sQc, wz_sQc, wk_sQc, wT_sCp, wF_sCp, wG_sCp, wI_sCp, wL_sCp, wQ_sCp, wz_sCp, wk_sCp, uC, uF, uT, uL, uS, uB]
              · exact u2
              · exact u3
              · exact (u5 ht).1
              · exact (u5 ht).2
            · exact ⟨fun _ h2 => absurd rfl h2, fun h2 => absurd hl h2⟩
      · exact absurd (Or.inl h0) hs12
      · exact absurd (Or.inr h0) hs12
      · simp only [if_true]
        rw [stp_3] at hk
        exact hk w (fr.refl _ _) (mwS.refl _ _ _) hu ⟨fun _ h2 => absurd hl h2, fun h2 => absurd hl h2⟩
  · simp only [if_neg hl]
    rw [stp_f hl] at hk
    exact hk w (fr.refl _ _) (mwS.refl _ _ _) hu ⟨fun h2 => absurd h2 hl, fun _ => rfl⟩
/-- where one was ahead of the sign by which he fell -/
def dryW (N : Nw) (kd lf : Int32) (p : Nat) (T : Nat → Int32) (u : Wk) : Nat → Int32
  | 0 => uC u
  | n + 1 => if uL (runW N kd lf p T u n) = -1 then uC (runW N kd lf p T u n) else dryW N kd lf p T u n
theorem runW_ok {N : Nw} {kd lf : Int32} {p : Nat} {T : Nat → Int32} {u : Wk} (hN : okN N) (hu : okU N u) : ∀ n : Nat, n < 1000000 → okU N (runW N kd lf p T u n)
  | 0, _ => hu
  | n + 1, h => stp_ok hN (fun e => by have := congrArg Int32.toInt e; rw [i_ti (by omega), i_m1] at this; omega) (runW_ok hN hu n (by omega))
theorem runW_T {N : Nw} {kd lf : Int32} {p : Nat} {T : Nat → Int32} {u : Wk} : ∀ n : Nat, uT (runW N kd lf p T u n) ≤ uT u + n
  | 0 => Nat.le_refl _
  | n + 1 => Nat.le_trans (stp_T ..) (by have := runW_T (N := N) (kd := kd) (lf := lf) (p := p) (T := T) (u := u) n; omega)
theorem m_goL (h : MM w m A) (hN : okN (aN A)) {p : Int32} (hp : isP (aN A) p) {n : Nat} (hn : n ≤ 40) {T : Nat → Int32} (hT : ∀ j < n, wI w (m + 13) j = T j) (hsg : ∀ j < n, T j = 0 ∨ T j = 1 ∨ T j = 2 ∨ T j = 3) {u0 : Wk} (hu0 : okU (aN A) u0) (ht0 : uT u0 = 0) (hl0 : uL u0 = -1)
    {k : Wd → Prop} (hk : ∀ w', fr (mPw m) w w' → mwS w w' m 0 → mw w' m 0 (runW (aN A) (aN A (5 * p.toInt.toNat)) (aN A 91) p.toInt.toNat T u0 n) → (¬ uL (runW (aN A) (aN A (5 * p.toInt.toNat)) (aN A 91) p.toInt.toNat T u0 n) = -1 → wF w' m 417 = dryW (aN A) (aN A (5 * p.toInt.toNat)) (aN A 91) p.toInt.toNat T u0 n) → k w') :
    ∀ (d j fu : Nat), j + d = n → d < fu → ∀ w1, fr (mPw m) w w1 → mwS w w1 m 0 → mw w1 m 0 (runW (aN A) (aN A (5 * p.toInt.toNat)) (aN A 91) p.toInt.toNat T u0 j) → (¬ uL (runW (aN A) (aN A (5 * p.toInt.toNat)) (aN A 91) p.toInt.toNat T u0 j) = -1 → wF w1 m 417 = dryW (aN A) (aN A (5 * p.toInt.toNat)) (aN A 91) p.toInt.toNat T u0 j) → wl_X4_go_17 k fu w1 m p (Int32.ofNat n) (Int32.ofNat j) := by
  intro d
  induction d with
  | zero =>
    intro j fu hj hfu w1 hf hS hw hd
    obtain ⟨fu, rfl⟩ : ∃ g, fu = g + 1 := ⟨fu - 1, by omega⟩
    obtain rfl : j = n := by omega
    rw [wl_X4_go_17_s]
    unfold wb_X4_go_17
    rw [if_pos (by rw [i_le]; omega)]
    exact hk w1 hf hS hw hd
  | succ d ih =>
    intro j fu hj hfu w1 hf hS hw hd
    obtain ⟨fu, rfl⟩ : ∃ g, fu = g + 1 := ⟨fu - 1, by omega⟩
    have h1 : MM w1 m A := h.sc (mPw_P hf)
    have hz := h.sh.z
    have ej : (Int32.ofNat j).toInt = j := i_ti (by omega)
    have en : (Int32.ofNat n).toInt = n := i_ti (by omega)
    have hv : vp_in (Int32.ofNat j) 40 := vp_iff.2 (by omega)
    have e13 : wI w1 (m + 13) j = T j := by rw [hf.I (by omega) (by unfold mPw; omega)]; exact hT j (by omega)
    rw [wl_X4_go_17_s]
    unfold wb_X4_go_17
    rw [if_neg (by rw [i_le]; omega)]
    simp only [h1.sh.G418, h1.sh.r13, hv, h1.sh.ob, ej, Int.toNat_natCast, e13, true_and]
    refine m_step h1 hN (i := 0) (by decide) hp hw (runW_ok hN hu0 j (by omega)) (by have := runW_T (N := aN A) (kd := aN A (5 * p.toInt.toNat)) (lf := aN A 91) (p := p.toInt.toNat) (T := T) (u := u0) j; omega) (hsg j (by omega)) _ (fun w' hf' hS' hw' hd' => ?_)
    rw [i_ofS]
    refine ih (j + 1) fu (by omega) (by omega) w' (hf.trans hf') (hS.trans hS') hw' (fun hl => ?_)
    show wF w' m 417 = if _ then _ else _
    by_cases hc : uL (runW (aN A) (aN A (5 * p.toInt.toNat)) (aN A 91) p.toInt.toNat T u0 j) = -1
    · rw [if_pos hc]
      exact hd'.1 hc hl
    · rw [if_neg hc, hd'.2 hc]
      exact hd hc
theorem m_go (h : MM w m A) (hN : okN (aN A)) {p : Int32} (hp : isP (aN A) p) {n : Nat} (hn : n ≤ 40) {T : Nat → Int32} (hT : ∀ j < n, wI w (m + 13) j = T j) (hsg : ∀ j < n, T j = 0 ∨ T j = 1 ∨ T j = 2 ∨ T j = 3) {c f : Int32} (hc : aN A (5 * p.toInt.toNat + 2) = c) (hf : aN A (5 * p.toInt.toNat + 3) = f) (hu0 : okU (aN A) (beg c f))
    {k : Wd → Prop} (hk : ∀ w', fr (mPw m) w w' → mwS w w' m 0 → mw w' m 0 (runW (aN A) (aN A (5 * p.toInt.toNat)) (aN A 91) p.toInt.toNat T (beg c f) n) → (¬ uL (runW (aN A) (aN A (5 * p.toInt.toNat)) (aN A 91) p.toInt.toNat T (beg c f) n) = -1 → wF w' m 417 = dryW (aN A) (aN A (5 * p.toInt.toNat)) (aN A 91) p.toInt.toNat T (beg c f) n) → k w') : wp_X4_go w m p (Int32.ofNat n) k := by
  unfold wp_X4_go
  simp only [h.sh.ob, m_cell h (isP_8 hN hp), m_faces h (isP_8 hN hp), true_and, hc, hf]
  have hz := h.sh.z
  refine m_start h (by decide) c f (fun w1 hf1 hS1 hw1 => ?_)
  exact m_goL h hN hp hn hT hsg hu0 rfl rfl hk n 0 FU (by omega) (by unfold FU; omega) w1 hf1 hS1 hw1 (fun hl => absurd rfl hl)
end MST
