/-! ===== two who meet; judge; of the reference ===== -/
abbrev sgn (A : Ab) (s n : Int32) : Prop := ∀ j : Nat, j < n.toInt.toNat → 0 ≤ (elA A s j).toInt ∧ (elA A s j).toInt ≤ 3
def bothC (A : Ab) (s n p t m' q : Int32) : Int32 :=
  if isS s ∧ isS t ∧ (0 ≤ n.toInt ∧ n.toInt ≤ 40) ∧ (0 ≤ m'.toInt ∧ m'.toInt ≤ 40) ∧ isP (aN A) p ∧ isP (aN A) q ∧ ¬ p = q then
    (if 10 ≤ (aH A s.toInt.toNat).toInt ∨ 10 ≤ (aH A t.toInt.toNat).toInt then -3 else if aH A s.toInt.toNat = -1 ∨ aH A t.toInt.toNat = -1 then -4 else if (aS A s.toInt.toNat).toInt < n.toInt ∨ (aS A t.toInt.toNat).toInt < m'.toInt then -2 else if sgn A s n ∧ sgn A t m' then 1 else -5)
  else -2
theorem bothC_c (A : Ab) (s n p t m' q : Int32) : (bothC A s n p t m' q).toInt = 1 ∨ (-5 ≤ (bothC A s n p t m' q).toInt ∧ (bothC A s n p t m' q).toInt ≤ -2) := by
  unfold bothC
  split
  · split
    · decide
    · split
      · decide
      · split
        · decide
        · split <;> decide
  · decide
theorem bothC_1 {A : Ab} {s n p t m' q : Int32} (h : 0 ≤ (bothC A s n p t m' q).toInt) : (isS s ∧ isS t ∧ (0 ≤ n.toInt ∧ n.toInt ≤ 40) ∧ (0 ≤ m'.toInt ∧ m'.toInt ≤ 40) ∧ isP (aN A) p ∧ isP (aN A) q ∧ ¬ p = q) ∧ sgn A s n ∧ sgn A t m' := by
  unfold bothC at h
  split at h
  · rename_i c
    split at h
    · exact absurd h (by decide)
    · split at h
      · exact absurd h (by decide)
      · split at h
        · exact absurd h (by decide)
        · split at h
          · rename_i d; exact ⟨c, d⟩
          · exact absurd h (by decide)
  · exact absurd h (by decide)
/-- signs with waiting ahead and behind -/
def sgT (A : Ab) (s : Int32) (n wt : Nat) : Nat → Int32 := fun k => if wt ≤ k ∧ k < n + wt then tlg A s (k - wt) else 3
theorem sgT_c {A : Ab} {s : Int32} {n : Nat} (h : ∀ j < n, tlg A s j = 0 ∨ tlg A s j = 1 ∨ tlg A s j = 2 ∨ tlg A s j = 3) (wt k : Nat) : sgT A s n wt k = 0 ∨ sgT A s n wt k = 1 ∨ sgT A s n wt k = 2 ∨ sgT A s n wt k = 3 := by
  unfold sgT
  split
  · exact h _ (by omega)
  · exact Or.inr (Or.inr (Or.inr rfl))
def mtW (A : Ab) (p : Nat) (s : Int32) (n wt : Nat) : Nat → Wk := runW (aN A) (aN A (5 * p)) (aN A 91) p (sgT A s n wt) (beg (aN A (5 * p + 2)) (aN A (5 * p + 3)))
theorem mtW_ok {A : Ab} (hA : okN (aN A)) {p : Nat} (hp : p < pe (aN A)) (s : Int32) (n wt j : Nat) (hj : j < 1000) : okU (aN A) (mtW A p s n wt j) ∧ uT (mtW A p s n wt j) < 1000000 := ⟨runW_ok hA (okU_beg hA hp) j (by omega), by
  have := runW_T (N := aN A) (kd := aN A (5 * p)) (lf := aN A 91) (p := p) (T := sgT A s n wt) (u := beg (aN A (5 * p + 2)) (aN A (5 * p + 3))) j
  have e : uT (beg (aN A (5 * p + 2)) (aN A (5 * p + 3))) = 0 := rfl
  unfold mtW
  omega⟩
abbrev metP (A : Ab) (p : Nat) (s : Int32) (n : Nat) (q : Nat) (t : Int32) (m' wt k : Nat) : Prop :=
  uC (mtW A p s n 0 (k + 1)) = uC (mtW A q t m' wt (k + 1)) ∨ (uC (mtW A p s n 0 (k + 1)) = uC (mtW A q t m' wt k) ∧ uC (mtW A q t m' wt (k + 1)) = uC (mtW A p s n 0 k))
def metV (A : Ab) (p : Nat) (s : Int32) (n : Nat) (q : Nat) (t : Int32) (m' wt : Nat) : Int32 :=
  if aN A (5 * p + 2) = aN A (5 * q + 2) then 0 else srch (metP A p s n q t m' wt) (fun k => Int32.ofNat (k + 1)) (max n (m' + wt)) 0
section MB
variable {w : Wd} {m : Nat} {A : Ab}
/-- the first telling kept -/
def fsd (w : Wd) (m : Nat) (A : Ab) (s n : Int32) : Prop := (0 ≤ n.toInt ∧ n.toInt ≤ 40) ∧ (∀ j, j < n.toInt.toNat → wI w (m + 20) j = tlg A s j) ∧ ∀ j < n.toInt.toNat, tlg A s j = 0 ∨ tlg A s j = 1 ∨ tlg A s j = 2 ∨ tlg A s j = 3
theorem fsd.sc {w' : Wd} {s n : Int32} {P : Nat → Nat → Prop} (h : fsd w m A s n) (hf : fr P w w') (hz : m + 21 ≤ wz w) (hP : ¬ P (m + 20) 9999) : fsd w' m A s n := ⟨h.1, fun j hj => by rw [hf.I (by omega) hP]; exact h.2.1 j hj, h.2.2⟩
/-- what both tellings loaded means -/
def ld2 (w : Wd) (m : Nat) (A : Ab) (s n t m' : Int32) : Prop := fsd w m A s n ∧ ldd w m A t m'
theorem ld2.sc {w' : Wd} {s n t m' : Int32} (h : ld2 w m A s n t m') (hf : fr (mPw m) w w') (hz : m + 21 ≤ wz w) : ld2 w' m A s n t m' := ⟨h.1.sc hf hz (by unfold mPw; omega), h.2.sc hf hz (by unfold mPw; omega)⟩
theorem m_lb152 (h : MM w m A) (hA : okS A) {s n t m' : Int32} (hl : ldd w m A s n) (ht : isS t) (hm : 0 ≤ m'.toInt ∧ m'.toInt ≤ 40) (hnl : ¬ 10 ≤ (aH A t.toInt.toNat).toInt ∧ ¬ aH A t.toInt.toNat = -1 ∧ m'.toInt ≤ (aS A t.toInt.toNat).toInt) {k : Int32 → Wd → Prop}
    (hk : ∀ w', fr (mP m) w w' → MM w' m A → (sgn A t m' → ld2 w' m A s n t m') → k (if sgn A t m' then 1 else -5) w') : wl_X4_loadBoth_152 k FU w m n t m' 1 0 := by
  have hn := hl.1
  have hz := h.sh.z
  refine loopN (n := n.toInt.toNat) (I := fun j w2 => MM w2 m A ∧ fr (mP m) w w2 ∧ ldd w2 m A s n ∧ ∀ i, i < j → wI w2 (m + 20) i = tlg A s i) (L := fun fu j w2 => wl_X4_loadBoth_152 k fu w2 m n t m' 1 (Int32.ofNat j)) ?_ ?_ n.toInt.toNat FU 0 w (by omega) (by unfold FU; omega) ⟨h, fr.refl _ _, hl, fun i hi => absurd hi (by omega)⟩
  · intro fu j w2 hj ⟨h2, hf2, hl2, hw2⟩ ih
    have hv : vp_in (Int32.ofNat j) 40 := vp_iff.2 (by rw [i_ti (by omega)]; omega)
    rw [wl_X4_loadBoth_152_s]
    unfold wb_X4_loadBoth_152
    rw [if_neg (by rw [le_of (by omega)]; omega), if_pos rfl]
    simp only [h2.sh.G425, h2.sh.G418, tl_rd h2 hl2 hj, h2.sh.w20, hv, i_tt (show j < 1000000 by omega), i_ofS, true_and]
    have hf3 : fr (fun q k => q = m + 20 ∧ k = 9999) w2 (sI w2 (m + 20) j (tlg A s j)) := (fr.refl _ _).sI (fun _ => ⟨rfl, rfl⟩)
    have hf3' : fr (mP m) w2 (sI w2 (m + 20) j (tlg A s j)) := hf3.mono (fun q k _ hp => by unfold mP; omega)
    refine ih _ ⟨h2.sc hf3', hf2.trans hf3', hl2.sc hf3 h2.sh.z (by omega), fun i hi => ?_⟩
    rw [wI_sI]
    by_cases e : i = j
    · rw [if_pos ⟨rfl, e⟩, e]
    · rw [if_neg (fun e' => e e'.2)]
      exact hw2 i (by omega)
  · intro fu w2 ⟨h2, hf2, hl2, hw2⟩
    have hz2 := h2.sh.z
    rw [wl_X4_loadBoth_152_s]
    unfold wb_X4_loadBoth_152 wb_X4_loadBoth_184
    rw [if_pos (by rw [le_of (by omega)]; omega), if_pos rfl]
    refine ⟨by rw [h2.sh.ob]; trivial, m_load h2 hA ht hm (fun w3 hf3 hT => ?_)⟩
    have et : tellC (aH A t.toInt.toNat) (aS A t.toInt.toNat) (elA A t) m' = if sgn A t m' then 1 else -5 := by
      unfold tellC
      rw [if_neg hnl.1, if_neg hnl.2.1, if_neg (by omega)]
    rw [et] at hT ⊢
    refine hk w3 (hf2.trans (mPt_P hf3)) (h2.sc (mPt_P hf3)) (fun hs => ⟨⟨hn, fun j hj => ?_, hl.2.2⟩, hm, hT (by rw [if_pos hs]; decide), fun j hj => sgn_c (hs j hj)⟩)
    rw [hf3.I (by omega) (by unfold mPt; omega)]
    exact hw2 j hj
theorem m_loadBoth (h : MM w m A) (hN : okN (aN A)) (hA : okS A) (s n p t m' q : Int32) {k : Int32 → Wd → Prop}
    (hk : ∀ w', fr (mP m) w w' → MM w' m A → (0 ≤ (bothC A s n p t m' q).toInt → ld2 w' m A s n t m') → k (bothC A s n p t m' q) w') : wp_X4_loadBoth w m s n p t m' q k := by
  have bad : ¬ (isS s ∧ isS t ∧ (0 ≤ n.toInt ∧ n.toInt ≤ 40) ∧ (0 ≤ m'.toInt ∧ m'.toInt ≤ 40) ∧ isP (aN A) p ∧ isP (aN A) q ∧ ¬ p = q) → k (-2) w := by
    intro hb
    unfold bothC at hk
    simp only [if_neg hb] at hk
    exact hk w (fr.refl _ _) h (fun e => absurd e (by decide))
  unfold wp_X4_loadBoth
  rw [m_isShelf]
  by_cases c1 : isS s
  · rw [if_pos c1, if_neg (by decide), m_isShelf]
    by_cases c2 : isS t
    · rw [if_pos c2, if_neg (by decide)]
      simp only [m_isIn, lg_lit, ie_m6_m5, ie_m6_m4, ie_m6_m3, ie_m6_m2, ie_m6_m1, ie_m6_0, ie_m6_1, ie_m6_2, ie_m6_3, ie_m6_4, ie_m6_5, ie_m6_6, ie_m5_m6, ie_m5_m4, ie_m5_m3, ie_m5_m2, ie_m5_m1, ie_m5_0, ie_m5_1, ie_m5_2, ie_m5_3, ie_m5_4, ie_m5_5, ie_m5_6, ie_m4_m6, ie_m4_m5, ie_m4_m3, ie_m4_m2, ie_m4_m1, ie_m4_0, ie_m4_1, ie_m4_2, ie_m4_3, ie_m4_4, ie_m4_5, ie_m4_6, ie_m3_m6, ie_m3_m5, ie_m3_m4, ie_m3_m2, ie_m3_m1, ie_m3_0, ie_m3_1, ie_m3_2, ie_m3_3, ie_m3_4, ie_m3_5, ie_m3_6, ie_m2_m6, ie_m2_m5, ie_m2_m4, ie_m2_m3, ie_m2_m1, ie_m2_0, ie_m2_1, ie_m2_2, ie_m2_3, ie_m2_4, ie_m2_5, ie_m2_6, ie_m1_m6, ie_m1_m5, ie_m1_m4, ie_m1_m3, ie_m1_m2, ie_m1_0, ie_m1_1, ie_m1_2, ie_m1_3, ie_m1_4, ie_m1_5, ie_m1_6, ie_0_m6, ie_0_m5, ie_0_m4, ie_0_m3, ie_0_m2, ie_0_m1, ie_0_1, ie_0_2, ie_0_3, ie_0_4, ie_0_5, ie_0_6, ie_1_m6, ie_1_m5, ie_1_m4, ie_1_m3, ie_1_m2, ie_1_m1, ie_1_0, ie_1_2, ie_1_3, ie_1_4, ie_1_5, ie_1_6, ie_2_m6, ie_2_m5, ie_2_m4, ie_2_m3, ie_2_m2, ie_2_m1, ie_2_0, ie_2_1, ie_2_3, ie_2_4, ie_2_5, ie_2_6, ie_3_m6, ie_3_m5, ie_3_m4, ie_3_m3, ie_3_m2, ie_3_m1, ie_3_0, ie_3_1, ie_3_2, ie_3_4, ie_3_5, ie_3_6, ie_4_m6, ie_4_m5, ie_4_m4, ie_4_m3, ie_4_m2, ie_4_m1, ie_4_0, ie_4_1, ie_4_2, ie_4_3, ie_4_5, ie_4_6, ie_5_m6, ie_5_m5, ie_5_m4, ie_5_m3, ie_5_m2, ie_5_m1, ie_5_0, ie_5_1, ie_5_2, ie_5_3, ie_5_4, ie_5_6, ie_6_m6, ie_6_m5, ie_6_m4, ie_6_m3, ie_6_m2, ie_6_m1, ie_6_0, ie_6_1, ie_6_2, ie_6_3, ie_6_4, ie_6_5, Int32.reduceToInt, Int64.reduceToInt, Int.reduceToNat, Int32.reduceAdd, Int32.reduceSub, Int32.reduceMul, Int32.reduceDiv, Int32.reduceLT, Int32.reduceLE, Int.reduceLE, Int.reduceLT, Int.reduceNeg, Int.reduceAdd, Int.reduceSub, Int.reduceMul, Int.reduceEq, Nat.reduceAdd, Nat.reduceMul, Nat.reduceLT, Nat.reduceEqDiff, true_and, and_true, and_self, false_and, and_false, if_true, if_false, ite_true, ite_false, ↓reduceIte, not_true_eq_false, not_false_eq_true, true_or, or_true, or_false, false_or, Int.cast_ofNat_Int, Int.reduceNatCast]
      by_cases c3 : 0 ≤ n.toInt ∧ n.toInt ≤ 40
      · rw [if_pos c3]
        by_cases c4 : 0 ≤ m'.toInt ∧ m'.toInt ≤ 40
        · rw [if_pos c4]
          refine ⟨by rw [h.sh.ob]; trivial, ?_⟩
          rw [m_isPerson h hN]
          by_cases c5 : isP (aN A) p
          · rw [if_pos c5, if_neg (by decide)]
            refine ⟨by rw [h.sh.ob]; trivial, ?_⟩
            rw [m_isPerson h hN]
            by_cases c6 : isP (aN A) q
            · rw [if_pos c6, if_neg (by decide)]
              by_cases c7 : p = q
              · rw [if_pos c7]
                exact bad (fun e => e.2.2.2.2.2.2 c7)
              · rw [if_neg c7]
                have hv1 : vp_in s 8 := vp_iff.2 (by omega)
                have hv2 : vp_in t 8 := vp_iff.2 (by omega)
                unfold bothC at hk
                simp only [if_pos (show isS s ∧ isS t ∧ (0 ≤ n.toInt ∧ n.toInt ≤ 40) ∧ (0 ≤ m'.toInt ∧ m'.toInt ≤ 40) ∧ isP (aN A) p ∧ isP (aN A) q ∧ ¬ p = q from ⟨c1, c2, c3, c4, c5, c6, c7⟩)] at hk
                simp only [h.sh.G419, h.sh.r14, h.H, h.sh.G420, h.sh.r15, h.S, hv1, hv2, true_and, i_le, i_lt, Int32.reduceToInt]
                by_cases d1 : 10 ≤ (aH A s.toInt.toNat).toInt
                · rw [if_pos d1]
                  simp only [if_pos (show 10 ≤ (aH A s.toInt.toNat).toInt ∨ 10 ≤ (aH A t.toInt.toNat).toInt from Or.inl d1)] at hk
                  exact hk w (fr.refl _ _) h (fun e => absurd e (by decide))
                · rw [if_neg d1]
                  by_cases d2 : 10 ≤ (aH A t.toInt.toNat).toInt
                  · rw [if_neg (by omega)]
                    simp only [if_pos (show 10 ≤ (aH A s.toInt.toNat).toInt ∨ 10 ≤ (aH A t.toInt.toNat).toInt from Or.inr d2)] at hk
                    exact hk w (fr.refl _ _) h (fun e => absurd e (by decide))
                  · rw [if_pos (by omega)]
                    simp only [if_neg (show ¬ (10 ≤ (aH A s.toInt.toNat).toInt ∨ 10 ≤ (aH A t.toInt.toNat).toInt) from fun e => e.elim d1 d2)] at hk
                    by_cases d3 : aH A s.toInt.toNat = -1
                    · rw [if_pos d3]
                      simp only [if_pos (show aH A s.toInt.toNat = -1 ∨ aH A t.toInt.toNat = -1 from Or.inl d3)] at hk
                      exact hk w (fr.refl _ _) h (fun e => absurd e (by decide))
                    · rw [if_neg d3]
                      by_cases d4 : aH A t.toInt.toNat = -1
                      · rw [if_pos d4]
                        simp only [if_pos (show aH A s.toInt.toNat = -1 ∨ aH A t.toInt.toNat = -1 from Or.inr d4)] at hk
                        exact hk w (fr.refl _ _) h (fun e => absurd e (by decide))
                      · rw [if_neg d4]
                        simp only [if_neg (show ¬ (aH A s.toInt.toNat = -1 ∨ aH A t.toInt.toNat = -1) from fun e => e.elim d3 d4)] at hk
                        by_cases d5 : (aS A s.toInt.toNat).toInt < n.toInt
                        · rw [if_pos d5]
                          simp only [if_pos (show (aS A s.toInt.toNat).toInt < n.toInt ∨ (aS A t.toInt.toNat).toInt < m'.toInt from Or.inl d5)] at hk
                          exact hk w (fr.refl _ _) h (fun e => absurd e (by decide))
                        · rw [if_neg d5]
                          by_cases d6 : (aS A t.toInt.toNat).toInt < m'.toInt
                          · rw [if_neg (by omega)]
                            simp only [if_pos (show (aS A s.toInt.toNat).toInt < n.toInt ∨ (aS A t.toInt.toNat).toInt < m'.toInt from Or.inr d6)] at hk
                            exact hk w (fr.refl _ _) h (fun e => absurd e (by decide))
                          · rw [if_pos (by omega)]
                            simp only [if_neg (show ¬ ((aS A s.toInt.toNat).toInt < n.toInt ∨ (aS A t.toInt.toNat).toInt < m'.toInt) from fun e => e.elim d5 d6)] at hk
                            refine ⟨by rw [h.sh.ob]; trivial, m_load h hA c1 c3 (fun w2 hf2 hT => ?_)⟩
                            have h2 := h.sc (mPt_P hf2)
                            have et : tellC (aH A s.toInt.toNat) (aS A s.toInt.toNat) (elA A s) n = if sgn A s n then 1 else -5 := by
                              unfold tellC
                              rw [if_neg d1, if_neg d3, if_neg (by omega)]
                            rw [et] at hT ⊢
                            by_cases d7 : sgn A s n
                            · rw [if_pos d7] at hT ⊢
                              refine m_lb152 h2 hA ⟨c3, hT (by decide), fun j hj => sgn_c (d7 j hj)⟩ c2 c4 ⟨d2, d4, by omega⟩ (fun w3 hf3 h3 hl3 => ?_)
                              have := hk w3 ((mPt_P hf2).trans hf3) h3
                              by_cases d8 : sgn A t m'
                              · rw [if_pos d8]
                                rw [if_pos ⟨d7, d8⟩] at this
                                exact this (fun _ => hl3 d8)
                              · rw [if_neg d8]
                                rw [if_neg (fun e => d8 e.2)] at this
                                exact this (fun e => absurd e (by decide))
                            · rw [if_neg d7] at hT ⊢
                              simp only [if_neg (show ¬ (sgn A s n ∧ sgn A t m') from fun e => d7 e.1)] at hk
                              have := hk w2 (mPt_P hf2) h2 (fun e => absurd e (by decide))
                              have hFU : FU = 999 + 1 := rfl
                              rw [hFU, wl_X4_loadBoth_152_s]
                              unfold wb_X4_loadBoth_152 wb_X4_loadBoth_184
                              simp only [ie_m6_m5, ie_m6_m4, ie_m6_m3, ie_m6_m2, ie_m6_m1, ie_m6_0, ie_m6_1, ie_m6_2, ie_m6_3, ie_m6_4, ie_m6_5, ie_m6_6, ie_m5_m6, ie_m5_m4, ie_m5_m3, ie_m5_m2, ie_m5_m1, ie_m5_0, ie_m5_1, ie_m5_2, ie_m5_3, ie_m5_4, ie_m5_5, ie_m5_6, ie_m4_m6, ie_m4_m5, ie_m4_m3, ie_m4_m2, ie_m4_m1, ie_m4_0, ie_m4_1, ie_m4_2, ie_m4_3, ie_m4_4, ie_m4_5, ie_m4_6, ie_m3_m6, ie_m3_m5, ie_m3_m4, ie_m3_m2, ie_m3_m1, ie_m3_0, ie_m3_1, ie_m3_2, ie_m3_3, ie_m3_4, ie_m3_5, ie_m3_6, ie_m2_m6, ie_m2_m5, ie_m2_m4, ie_m2_m3, ie_m2_m1, ie_m2_0, ie_m2_1, ie_m2_2, ie_m2_3, ie_m2_4, ie_m2_5, ie_m2_6, ie_m1_m6, ie_m1_m5, ie_m1_m4, ie_m1_m3, ie_m1_m2, ie_m1_0, ie_m1_1, ie_m1_2, ie_m1_3, ie_m1_4, ie_m1_5, ie_m1_6, ie_0_m6, ie_0_m5, ie_0_m4, ie_0_m3, ie_0_m2, ie_0_m1, ie_0_1, ie_0_2, ie_0_3, ie_0_4, ie_0_5, ie_0_6, ie_1_m6, ie_1_m5, ie_1_m4, ie_1_m3, ie_1_m2, ie_1_m1, ie_1_0, ie_1_2, ie_1_3, ie_1_4, ie_1_5, ie_1_6, ie_2_m6, ie_2_m5, ie_2_m4, ie_2_m3, ie_2_m2, ie_2_m1, ie_2_0, ie_2_1, ie_2_3, ie_2_4, ie_2_5, ie_2_6, ie_3_m6, ie_3_m5, ie_3_m4, ie_3_m3, ie_3_m2, ie_3_m1, ie_3_0, ie_3_1, ie_3_2, ie_3_4, ie_3_5, ie_3_6, ie_4_m6, ie_4_m5, ie_4_m4, ie_4_m3, ie_4_m2, ie_4_m1, ie_4_0, ie_4_1, ie_4_2, ie_4_3, ie_4_5, ie_4_6, ie_5_m6, ie_5_m5, ie_5_m4, ie_5_m3, ie_5_m2, ie_5_m1, ie_5_0, ie_5_1, ie_5_2, ie_5_3, ie_5_4, ie_5_6, ie_6_m6, ie_6_m5, ie_6_m4, ie_6_m3, ie_6_m2, ie_6_m1, ie_6_0, ie_6_1, ie_6_2, ie_6_3, ie_6_4, ie_6_5, Int32.reduceToInt, Int64.reduceToInt, Int.reduceToNat, Int32.reduceAdd, Int32.reduceSub, Int32.reduceMul, Int32.reduceDiv, Int32.reduceLT, Int32.reduceLE, Int.reduceLE, Int.reduceLT, Int.reduceNeg, Int.reduceAdd, Int.reduceSub, Int.reduceMul, Int.reduceEq, Nat.reduceAdd, Nat.reduceMul, Nat.reduceLT, Nat.reduceEqDiff, true_and, and_true, and_self, false_and, and_false, if_true, if_false, ite_true, ite_false, ↓reduceIte, not_true_eq_false, not_false_eq_true, true_or, or_true, or_false, false_or, Int.cast_ofNat_Int, Int.reduceNatCast]
                              split <;> exact this
            · rw [if_neg c6, if_pos rfl]
              exact bad (fun e => c6 e.2.2.2.2.2.1)
          · rw [if_neg c5, if_pos rfl]
            exact bad (fun e => c5 e.2.2.2.2.1)
        · rw [if_neg c4]
          exact bad (fun e => c4 e.2.2.2.1)
      · rw [if_neg c3]
        exact bad (fun e => c3 e.2.2.1)
    · rw [if_neg c2, if_pos rfl]
      exact bad (fun e => c2 e.2.1)
  · rw [if_neg c1, if_pos rfl]
    exact bad (fun e => c1 e.1)
end MB
