/-! ===== what brings one somewhere, of the reference ===== -/
/-- a walker by signs T, left being lf -/
def brW (N : Nw) (p : Nat) (lf : Int32) (T : Nat → Int32) (n : Nat) : Wk := runW N (N (5 * p)) lf p T (beg (N (5 * p + 2)) (N (5 * p + 3))) n
abbrev brgP (N : Nw) (p : Nat) (lf : Int32) (T : Nat → Int32) (n : Nat) (cell : Int32) : Prop := uC (brW N p lf T n) = cell ∧ uL (brW N p lf T n) = -1
section MBR
variable {w : Wd} {m : Nat} {A : Ab}
theorem m_brings (h : MM w m A) (hN : okN (aN A)) {p : Int32} (hp : isP (aN A) p) {n : Nat} (hn : n ≤ 40) {T : Nat → Int32} (hT : ∀ j < n, wI w (m + 13) j = T j) (hsg : ∀ j < n, T j = 0 ∨ T j = 1 ∨ T j = 2 ∨ T j = 3) (cell : Int32) {lf : Int32} (hlf : lf = 0 ∨ lf = 1) {k : Int32 → Wd → Prop} (hk : ∀ w', MM w' m A → fr (mQ m) w w' → (∀ j < n, wI w' (m + 13) j = T j) → k (if brgP (aN A) p.toInt.toNat lf T n cell then 1 else 0) w') : wp_X4_brings w m p (Int32.ofNat n) cell lf k := by
  have hp8 := isP_8 hN hp
  have hz := h.sh.z
  unfold wp_X4_brings
  simp only [h.sh.G401, h.sh.r2, h.sh.w2, h.N, v91, true_and, show (91 : Int32).toInt.toNat = 91 from rfl]
  have h1 := h.wN 91 lf
  have hN1 : okN (aN (zN A (up1 (aN A) 91 lf))) := okN_91 hN hlf
  have hp1 : isP (aN (zN A (up1 (aN A) 91 lf))) p := by
    show 0 ≤ p.toInt ∧ p.toInt < (up1 (aN A) 91 lf 89).toInt
    rw [up1_ne (by decide)]
    exact hp
  have hf1 : fr (mQ m) w (sI w (m + 2) 91 lf) := frN (fr.refl _ _)
  have hT1 : ∀ j < n, wI (sI w (m + 2) 91 lf) (m + 13) j = T j := fun j hj => by rw [wI_sI, if_neg (by omega)]; exact hT j hj
  generalize sI w (m + 2) 91 lf = w1 at *
  have e2 : aN (zN A (up1 (aN A) 91 lf)) (5 * p.toInt.toNat + 2) = aN A (5 * p.toInt.toNat + 2) := up1_ne (by omega)
  have e3 : aN (zN A (up1 (aN A) 91 lf)) (5 * p.toInt.toNat + 3) = aN A (5 * p.toInt.toNat + 3) := up1_ne (by omega)
  have e0 : aN (zN A (up1 (aN A) 91 lf)) (5 * p.toInt.toNat) = aN A (5 * p.toInt.toNat) := up1_ne (by omega)
  have e91 : aN (zN A (up1 (aN A) 91 lf)) 91 = lf := by rw [aN_zN, up1_eq]
  have hu1 := okU_beg hN1 (isP_nat hp1)
  rw [e2, e3] at hu1
  refine ⟨by rw [h1.sh.ob]; trivial, m_go h1 hN1 hp1 hn hT1 hsg e2 e3 hu1 (fun w2 hf2 _ hw2 hd2 => ?_)⟩
  have h2 := h1.sc (mPw_P hf2)
  have hT2 : ∀ j < n, wI w2 (m + 13) j = T j := fun j hj => by rw [hf2.I (by have := h1.sh.z; omega) (by unfold mPw; omega)]; exact hT1 j hj
  rw [e0, e91, aN_zN, runW_cg hN (sameI_up (by omega) (Or.inl rfl)) (okU_beg hN (isP_nat hp)) n (by omega)] at hw2
  have hw2' : mw w2 m 0 (brW (aN A) p.toInt.toNat lf T n) := hw2
  simp only [h2.sh.G401, h2.sh.w2, v91, true_and, show (91 : Int32).toInt.toNat = 91 from rfl]
  have h3 := h2.wN 91 (aN A 91)
  rw [aN_zN, zN_zN, up1_upd, up1_self, zN_a] at h3
  have hw3 : mw (sI w2 (m + 2) 91 (aN A 91)) m 0 (brW (aN A) p.toInt.toNat lf T n) := hw2'.wN
  have hf3 : fr (mQ m) w (sI w2 (m + 2) 91 (aN A 91)) := frN (hf1.trans (mPw_Q hf2))
  have hT3 : ∀ j < n, wI (sI w2 (m + 2) 91 (aN A 91)) (m + 13) j = T j := fun j hj => by rw [wI_sI, if_neg (by omega)]; exact hT2 j hj
  have hk3 := hk _ h3 hf3 hT3
  generalize sI w2 (m + 2) 91 (aN A 91) = w3 at *
  simp only [h3.sh.G411, h3.sh.r7, h3.sh.G416, h3.sh.r12, vp_0 (show 0 < 2 by decide), hw3.1, hw3.2.2.2.1, ie_m6_m5, ie_m6_m4, ie_m6_m3, ie_m6_m2, ie_m6_m1, ie_m6_0, ie_m6_1, ie_m6_2, ie_m6_3, ie_m6_4, ie_m6_5, ie_m6_6, ie_m5_m6, ie_m5_m4, ie_m5_m3, ie_m5_m2, ie_m5_m1, ie_m5_0, ie_m5_1, ie_m5_2, ie_m5_3, ie_m5_4, ie_m5_5, ie_m5_6, ie_m4_m6, ie_m4_m5, ie_m4_m3, ie_m4_m2, ie_m4_m1, ie_m4_0, ie_m4_1, ie_m4_2, ie_m4_3, ie_m4_4, ie_m4_5, ie_m4_6, ie_m3_m6, ie_m3_m5, ie_m3_m4, ie_m3_m2, ie_m3_m1, ie_m3_0, ie_m3_1, ie_m3_2, ie_m3_3, ie_m3_4, ie_m3_5, ie_m3_6, ie_m2_m6, ie_m2_m5, ie_m2_m4, ie_m2_m3, ie_m2_m1, ie_m2_0, ie_m2_1, ie_m2_2, ie_m2_3, ie_m2_4, ie_m2_5, ie_m2_6, ie_m1_m6, ie_m1_m5, ie_m1_m4, ie_m1_m3, ie_m1_m2, ie_m1_0, ie_m1_1, ie_m1_2, ie_m1_3, ie_m1_4, ie_m1_5, ie_m1_6, ie_0_m6, ie_0_m5, ie_0_m4, ie_0_m3, ie_0_m2, ie_0_m1, ie_0_1, ie_0_2, ie_0_3, ie_0_4, ie_0_5, ie_0_6, ie_1_m6, ie_1_m5, ie_1_m4, ie_1_m3, ie_1_m2, ie_1_m1, ie_1_0, ie_1_2, ie_1_3, ie_1_4, ie_1_5, ie_1_6, ie_2_m6, ie_2_m5, ie_2_m4, ie_2_m3, ie_2_m2, ie_2_m1, ie_2_0, ie_2_1, ie_2_3, ie_2_4, ie_2_5, ie_2_6, ie_3_m6, ie_3_m5, ie_3_m4, ie_3_m3, ie_3_m2, ie_3_m1, ie_3_0, ie_3_1, ie_3_2, ie_3_4, ie_3_5, ie_3_6, ie_4_m6, ie_4_m5, ie_4_m4, ie_4_m3, ie_4_m2, ie_4_m1, ie_4_0, ie_4_1, ie_4_2, ie_4_3, ie_4_5, ie_4_6, ie_5_m6, ie_5_m5, ie_5_m4, ie_5_m3, ie_5_m2, ie_5_m1, ie_5_0, ie_5_1, ie_5_2, ie_5_3, ie_5_4, ie_5_6, ie_6_m6, ie_6_m5, ie_6_m4, ie_6_m3, ie_6_m2, ie_6_m1, ie_6_0, ie_6_1, ie_6_2, ie_6_3, ie_6_4, ie_6_5, Int32.reduceToInt, Int64.reduceToInt, Int.reduceToNat, Int32.reduceAdd, Int32.reduceSub, Int32.reduceMul, Int32.reduceDiv, Int32.reduceLT, Int32.reduceLE, Int.reduceLE, Int.reduceLT, Int.reduceNeg, Int.reduceAdd, Int.reduceSub, Int.reduceMul, Int.reduceEq, Nat.reduceAdd, Nat.reduceMul, Nat.reduceLT, Nat.reduceEqDiff, true_and, and_true, and_self, false_and, and_false, if_true, if_false, ite_true, ite_false, ↓reduceIte, not_true_eq_false, not_false_eq_true, true_or, or_true, or_false, false_or, Int.cast_ofNat_Int, Int.reduceNatCast]
  by_cases c1 : uC (brW (aN A) p.toInt.toNat lf T n) = cell
  · rw [if_pos c1]
    by_cases c2 : uL (brW (aN A) p.toInt.toNat lf T n) = -1
    · rw [if_pos c2]
      rwa [if_pos ⟨c1, c2⟩] at hk3
    · rw [if_neg c2]
      rwa [if_neg (fun q => c2 q.2)] at hk3
  · rw [if_neg c1]
    rwa [if_neg (fun q => c1 q.1)] at hk3
end MBR
