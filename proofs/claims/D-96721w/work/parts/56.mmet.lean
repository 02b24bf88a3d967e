/-! ===== meet, waits, judge, of the reference ===== -/
section MMT
variable {w : Wd} {m : Nat} {A : Ab}
theorem jmax (w : Wd) (a b : Int32) (k : Int32 → Wd → Prop) : wp_J14_max w a b k = k (if a < b then b else a) w := by
  unfold wp_J14_max
  split <;> rfl
theorem m_met (h : MM w m A) (hN : okN (aN A)) {s n t m' p q : Int32} (hl : ld2 w m A s n t m') (hp : isP (aN A) p) (hq : isP (aN A) q) {wt : Nat} (hwt : wt < 10) {k : Int32 → Wd → Prop} (hk : ∀ w', fr (mPw m) w w' → MM w' m A → ld2 w' m A s n t m' → k (metV A p.toInt.toNat s n.toInt.toNat q.toInt.toNat t m'.toInt.toNat wt) w') : wp_X4_met w m n p m' q (Int32.ofNat wt) k := by
  have hz := h.sh.z
  have hp8 := isP_8 hN hp
  have hq8 := isP_8 hN hq
  have v1 : vp_in 1 2 := vp_iff.2 (by decide)
  have hn := hl.1.1
  have hm := hl.2.1
  unfold wp_X4_met
  simp only [h.sh.ob, m_cell h hp8, m_faces h hp8, true_and]
  refine m_start h (by decide) _ _ (fun w2 hf2 _ hw2 => ?_)
  have h2 := h.sc (mPw_P hf2)
  simp only [h2.sh.ob, m_cell h2 hq8, m_faces h2 hq8, true_and]
  refine m_start h2 (by decide) _ _ (fun w3 hf3 hS3 hv3 => ?_)
  have h3 := h2.sc (mPw_P hf3)
  have hw3 := hw2.keep hS3 (by decide)
  have b1 : wI w3 (m + 7) 0 = aN A (5 * p.toInt.toNat + 2) := hw3.1
  have b2 : wI w3 (m + 7) 1 = aN A (5 * q.toInt.toNat + 2) := hv3.1
  simp only [h3.sh.G411, h3.sh.r7, vp_0 (show 0 < 2 by decide), v1, b1, b2, ie_m6_m5, ie_m6_m4, ie_m6_m3, ie_m6_m2, ie_m6_m1, ie_m6_0, ie_m6_1, ie_m6_2, ie_m6_3, ie_m6_4, ie_m6_5, ie_m6_6, ie_m5_m6, ie_m5_m4, ie_m5_m3, ie_m5_m2, ie_m5_m1, ie_m5_0, ie_m5_1, ie_m5_2, ie_m5_3, ie_m5_4, ie_m5_5, ie_m5_6, ie_m4_m6, ie_m4_m5, ie_m4_m3, ie_m4_m2, ie_m4_m1, ie_m4_0, ie_m4_1, ie_m4_2, ie_m4_3, ie_m4_4, ie_m4_5, ie_m4_6, ie_m3_m6, ie_m3_m5, ie_m3_m4, ie_m3_m2, ie_m3_m1, ie_m3_0, ie_m3_1, ie_m3_2, ie_m3_3, ie_m3_4, ie_m3_5, ie_m3_6, ie_m2_m6, ie_m2_m5, ie_m2_m4, ie_m2_m3, ie_m2_m1, ie_m2_0, ie_m2_1, ie_m2_2, ie_m2_3, ie_m2_4, ie_m2_5, ie_m2_6, ie_m1_m6, ie_m1_m5, ie_m1_m4, ie_m1_m3, ie_m1_m2, ie_m1_0, ie_m1_1, ie_m1_2, ie_m1_3, ie_m1_4, ie_m1_5, ie_m1_6, ie_0_m6, ie_0_m5, ie_0_m4, ie_0_m3, ie_0_m2, ie_0_m1, ie_0_1, ie_0_2, ie_0_3, ie_0_4, ie_0_5, ie_0_6, ie_1_m6, ie_1_m5, ie_1_m4, ie_1_m3, ie_1_m2, ie_1_m1, ie_1_0, ie_1_2, ie_1_3, ie_1_4, ie_1_5, ie_1_6, ie_2_m6, ie_2_m5, ie_2_m4, ie_2_m3, ie_2_m2, ie_2_m1, ie_2_0, ie_2_1, ie_2_3, ie_2_4, ie_2_5, ie_2_6, ie_3_m6, ie_3_m5, ie_3_m4, ie_3_m3, ie_3_m2, ie_3_m1, ie_3_0, ie_3_1, ie_3_2, ie_3_4, ie_3_5, ie_3_6, ie_4_m6, ie_4_m5, ie_4_m4, ie_4_m3, ie_4_m2, ie_4_m1, ie_4_0, ie_4_1, ie_4_2, ie_4_3, ie_4_5, ie_4_6, ie_5_m6, ie_5_m5, ie_5_m4, ie_5_m3, ie_5_m2, ie_5_m1, ie_5_0, ie_5_1, ie_5_2, ie_5_3, ie_5_4, ie_5_6, ie_6_m6, ie_6_m5, ie_6_m4, ie_6_m3, ie_6_m2, ie_6_m1, ie_6_0, ie_6_1, ie_6_2, ie_6_3, ie_6_4, ie_6_5, Int32.reduceToInt, Int64.reduceToInt, Int.reduceToNat, Int32.reduceAdd, Int32.reduceSub, Int32.reduceMul, Int32.reduceDiv, Int32.reduceLT, Int32.reduceLE, Int.reduceLE, Int.reduceLT, Int.reduceNeg, Int.reduceAdd, Int.reduceSub, Int.reduceMul, Int.reduceEq, Nat.reduceAdd, Nat.reduceMul, Nat.reduceLT, Nat.reduceEqDiff, true_and, and_true, and_self, false_and, and_false, if_true, if_false, ite_true, ite_false, ↓reduceIte, not_true_eq_false, not_false_eq_true, true_or, or_true, or_false, false_or, Int.cast_ofNat_Int, Int.reduceNatCast]
  unfold metV at hk
  by_cases e : aN A (5 * p.toInt.toNat + 2) = aN A (5 * q.toInt.toNat + 2)
  · rw [if_pos e]
    have := hk w3 (hf2.trans hf3) h3 ((hl.sc hf2 hz).sc hf3 h2.sh.z)
    rwa [if_pos e] at this
  · rw [if_neg e]
    simp only [if_neg e] at hk
    have hmx : max n.toInt.toNat (m'.toInt.toNat + wt) ≤ 50 := by omega
    have ewt : (Int32.ofNat wt).toInt = wt := i_ti (by omega)
    have emw : (m' + Int32.ofNat wt).toInt = m'.toInt + wt := i_addv rfl ewt (by omega) (by omega)
    have key : ∀ d fu j w4, j + d = max n.toInt.toNat (m'.toInt.toNat + wt) → d < fu → (MM w4 m A ∧ fr (mPw m) w w4 ∧ ld2 w4 m A s n t m' ∧ mw w4 m 0 (mtW A p.toInt.toNat s n.toInt.toNat 0 j) ∧ mw w4 m 1 (mtW A q.toInt.toNat t m'.toInt.toNat wt j)) → (∀ w', fr (mPw m) w w' → MM w' m A → ld2 w' m A s n t m' → k (srch (metP A p.toInt.toNat s n.toInt.toNat q.toInt.toNat t m'.toInt.toNat wt) (fun k => Int32.ofNat (k + 1)) d j) w') → wl_X4_met_52 k fu w4 m n p m' q (Int32.ofNat wt) (Int32.ofNat j) := by
      intro d
      induction d with
      | zero =>
        intro fu j w4 hj hfu ⟨h4, hf4, hl4, hw4, hv4⟩ he
        obtain ⟨fu, rfl⟩ : ∃ g, fu = g + 1 := ⟨fu - 1, by omega⟩
        rw [wl_X4_met_52_s]
        unfold wb_X4_met_52
        rw [jmax, if_pos (by rw [i_le, i_ti (by omega)]; split <;> (rename_i c; rw [i_lt] at c; omega))]
        exact he w4 hf4 h4 hl4
      | succ d ih =>
        intro fu j w4 hj hfu ⟨h4, hf4, hl4, hw4, hv4⟩ he
        obtain ⟨fu, rfl⟩ : ∃ g, fu = g + 1 := ⟨fu - 1, by omega⟩
        have ej : (Int32.ofNat j).toInt = j := i_ti (by omega)
        have hz4 := h4.sh.z
        rw [wl_X4_met_52_s]
        unfold wb_X4_met_52
        rw [jmax, if_neg (by rw [i_le, ej]; split <;> (rename_i c; rw [i_lt] at c; omega))]
        have c1 : wI w4 (m + 7) 0 = uC (mtW A p.toInt.toNat s n.toInt.toNat 0 j) := hw4.1
        have c2 : wI w4 (m + 7) 1 = uC (mtW A q.toInt.toNat t m'.toInt.toNat wt j) := hv4.1
        simp only [h4.sh.G411, h4.sh.r7, vp_0 (show 0 < 2 by decide), v1, c1, c2, ie_m6_m5, ie_m6_m4, ie_m6_m3, ie_m6_m2, ie_m6_m1, ie_m6_0, ie_m6_1, ie_m6_2, ie_m6_3, ie_m6_4, ie_m6_5, ie_m6_6, ie_m5_m6, ie_m5_m4, ie_m5_m3, ie_m5_m2, ie_m5_m1, ie_m5_0, ie_m5_1, ie_m5_2, ie_m5_3, ie_m5_4, ie_m5_5, ie_m5_6, ie_m4_m6, ie_m4_m5, ie_m4_m3, ie_m4_m2, ie_m4_m1, ie_m4_0, ie_m4_1, ie_m4_2, ie_m4_3, ie_m4_4, ie_m4_5, ie_m4_6, ie_m3_m6, ie_m3_m5, ie_m3_m4, ie_m3_m2, ie_m3_m1, ie_m3_0, ie_m3_1, ie_m3_2, ie_m3_3, ie_m3_4, ie_m3_5, ie_m3_6, ie_m2_m6, ie_m2_m5, ie_m2_m4, ie_m2_m3, ie_m2_m1, ie_m2_0, ie_m2_1, ie_m2_2, ie_m2_3, ie_m2_4, ie_m2_5, ie_m2_6, ie_m1_m6, ie_m1_m5, ie_m1_m4, ie_m1_m3, ie_m1_m2, ie_m1_0, ie_m1_1, ie_m1_2, ie_m1_3, ie_m1_4, ie_m1_5, ie_m1_6, ie_0_m6, ie_0_m5, ie_0_m4, ie_0_m3, ie_0_m2, ie_0_m1, ie_0_1, ie_0_2, ie_0_3, ie_0_4, ie_0_5, ie_0_6, ie_1_m6, ie_1_m5, ie_1_m4, ie_1_m3, ie_1_m2, ie_1_m1, ie_1_0, ie_1_2, ie_1_3, ie_1_4, ie_1_5, ie_1_6, ie_2_m6, ie_2_m5, ie_2_m4, ie_2_m3, ie_2_m2, ie_2_m1, ie_2_0, ie_2_1, ie_2_3, ie_2_4, ie_2_5, ie_2_6, ie_3_m6, ie_3_m5, ie_3_m4, ie_3_m3, ie_3_m2, ie_3_m1, ie_3_0, ie_3_1, ie_3_2, ie_3_4, ie_3_5, ie_3_6, ie_4_m6, ie_4_m5, ie_4_m4, ie_4_m3, ie_4_m2, ie_4_m1, ie_4_0, ie_4_1, ie_4_2, ie_4_3, ie_4_5, ie_4_6, ie_5_m6, ie_5_m5, ie_5_m4, ie_5_m3, ie_5_m2, ie_5_m1, ie_5_0, ie_5_1, ie_5_2, ie_5_3, ie_5_4, ie_5_6, ie_6_m6, ie_6_m5, ie_6_m4, ie_6_m3, ie_6_m2, ie_6_m1, ie_6_0, ie_6_1, ie_6_2, ie_6_3, ie_6_4, ie_6_5, Int32.reduceToInt, Int64.reduceToInt, Int.reduceToNat, Int32.reduceAdd, Int32.reduceSub, Int32.reduceMul, Int32.reduceDiv, Int32.reduceLT, Int32.reduceLE, Int.reduceLE, Int.reduceLT, Int.reduceNeg, Int.reduceAdd, Int.reduceSub, Int.reduceMul, Int.reduceEq, Nat.reduceAdd, Nat.reduceMul, Nat.reduceLT, Nat.reduceEqDiff, true_and, and_true, and_self, false_and, and_false, if_true, if_false, ite_true, ite_false, ↓reduceIte, not_true_eq_false, not_false_eq_true, true_or, or_true, or_false, false_or, Int.cast_ofNat_Int, Int.reduceNatCast]
        have o1 := mtW_ok hN (isP_nat hp) s n.toInt.toNat 0 j (by omega)
        have o2 := mtW_ok hN (isP_nat hq) t m'.toInt.toNat wt j (by omega)
        rw [show srch (metP A p.toInt.toNat s n.toInt.toNat q.toInt.toNat t m'.toInt.toNat wt) (fun k => Int32.ofNat (k + 1)) (d + 1) j = if metP A p.toInt.toNat s n.toInt.toNat q.toInt.toNat t m'.toInt.toNat wt j then Int32.ofNat (j + 1) else srch (metP A p.toInt.toNat s n.toInt.toNat q.toInt.toNat t m'.toInt.toNat wt) (fun k => Int32.ofNat (k + 1)) d (j + 1) from rfl] at he
        -- the second one's step and what follows
        have g143 : ∀ (w5 : Wd) (sg : Int32), sg = sgT A t m'.toInt.toNat wt j → MM w5 m A → fr (mPw m) w w5 → ld2 w5 m A s n t m' → mw w5 m 0 (mtW A p.toInt.toNat s n.toInt.toNat 0 (j + 1)) → mw w5 m 1 (mtW A q.toInt.toNat t m'.toInt.toNat wt j) → wb_X4_met_143 k (wl_X4_met_52 k fu) w5 m n p m' q (Int32.ofNat wt) (Int32.ofNat j) (uC (mtW A p.toInt.toNat s n.toInt.toNat 0 j)) (uC (mtW A q.toInt.toNat t m'.toInt.toNat wt j)) (some m) 1 q sg := by
          intro w5 sg hsg h5 hf5 hl5 hw5 hv5
          have hz5 := h5.sh.z
          unfold wb_X4_met_143
          refine ⟨by rw [h5.sh.ob]; trivial, m_step h5 hN (i := 1) (by decide) hq hv5 o2.1 o2.2 (hsg ▸ sgT_c hl.2.2.2 wt j) _ (fun w6 hf6 hS6 hv6 _ => ?_)⟩
          have h6 := h5.sc (mPw_P hf6)
          have hw6 : mw w6 m 0 (mtW A p.toInt.toNat s n.toInt.toNat 0 (j + 1)) := hw5.keep hS6 (by decide)
          rw [hsg] at hv6
          have hv6' : mw w6 m 1 (mtW A q.toInt.toNat t m'.toInt.toNat wt (j + 1)) := hv6
          have a1 : wI w6 (m + 7) 0 = uC (mtW A p.toInt.toNat s n.toInt.toNat 0 (j + 1)) := hw6.1
          have a2 : wI w6 (m + 7) 1 = uC (mtW A q.toInt.toNat t m'.toInt.toNat wt (j + 1)) := hv6'.1
          simp only [h6.sh.G411, h6.sh.r7, vp_0 (show 0 < 2 by decide), v1, a1, a2, i_ofS, ie_m6_m5, ie_m6_m4, ie_m6_m3, ie_m6_m2, ie_m6_m1, ie_m6_0, ie_m6_1, ie_m6_2, ie_m6_3, ie_m6_4, ie_m6_5, ie_m6_6, ie_m5_m6, ie_m5_m4, ie_m5_m3, ie_m5_m2, ie_m5_m1, ie_m5_0, ie_m5_1, ie_m5_2, ie_m5_3, ie_m5_4, ie_m5_5, ie_m5_6, ie_m4_m6, ie_m4_m5, ie_m4_m3, ie_m4_m2, ie_m4_m1, ie_m4_0, ie_m4_1, ie_m4_2, ie_m4_3, ie_m4_4, ie_m4_5, ie_m4_6, ie_m3_m6, ie_m3_m5, ie_m3_m4, ie_m3_m2, ie_m3_m1, ie_m3_0, ie_m3_1, ie_m3_2, ie_m3_3, ie_m3_4, ie_m3_5, ie_m3_6, ie_m2_m6, ie_m2_m5, ie_m2_m4, ie_m2_m3, ie_m2_m1, ie_m2_0, ie_m2_1, ie_m2_2, ie_m2_3, ie_m2_4, ie_m2_5, ie_m2_6, ie_m1_m6, ie_m1_m5, ie_m1_m4, ie_m1_m3, ie_m1_m2, ie_m1_0, ie_m1_1, ie_m1_2, ie_m1_3, ie_m1_4, ie_m1_5, ie_m1_6, ie_0_m6, ie_0_m5, ie_0_m4, ie_0_m3, ie_0_m2, ie_0_m1, ie_0_1, ie_0_2, ie_0_3, ie_0_4, ie_0_5, ie_0_6, ie_1_m6, ie_1_m5, ie_1_m4, ie_1_m3, ie_1_m2, ie_1_m1, ie_1_0, ie_1_2, ie_1_3, ie_1_4, ie_1_5, ie_1_6, ie_2_m6, ie_2_m5, ie_2_m4, ie_2_m3, ie_2_m2, ie_2_m1, ie_2_0, ie_2_1, ie_2_3, ie_2_4, ie_2_5, ie_2_6, ie_3_m6, ie_3_m5, ie_3_m4, ie_3_m3, ie_3_m2, ie_3_m1, ie_3_0, ie_3_1, ie_3_2, ie_3_4, ie_3_5, ie_3_6, ie_4_m6, ie_4_m5, ie_4_m4, ie_4_m3, ie_4_m2, ie_4_m1, ie_4_0, ie_4_1, ie_4_2, ie_4_3, ie_4_5, ie_4_6, ie_5_m6, ie_5_m5, ie_5_m4, ie_5_m3, ie_5_m2, ie_5_m1, ie_5_0, ie_5_1, ie_5_2, ie_5_3, ie_5_4, ie_5_6, ie_6_m6, ie_6_m5, ie_6_m4, ie_6_m3, ie_6_m2, ie_6_m1, ie_6_0, ie_6_1, ie_6_2, ie_6_3, ie_6_4, ie_6_5, Int32.reduceToInt, Int64.reduceToInt, Int.reduceToNat, Int32.reduceAdd, Int32.reduceSub, Int32.reduceMul, Int32.reduceDiv, Int32.reduceLT, Int32.reduceLE, Int.reduceLE, Int.reduceLT, Int.reduceNeg, Int.reduceAdd, Int.reduceSub, Int.reduceMul, Int.reduceEq, Nat.reduceAdd, Nat.reduceMul, Nat.reduceLT, Nat.reduceEqDiff, true_and, and_true, and_self, false_and, and_false, if_true, if_false, ite_true, ite_false, ↓reduceIte, not_true_eq_false, not_false_eq_true, true_or, or_true, or_false, false_or, Int.cast_ofNat_Int, Int.reduceNatCast]
          have hl6 := hl5.sc hf6 hz5
          have hf06 := hf5.trans hf6
          by_cases q1 : uC (mtW A p.toInt.toNat s n.toInt.toNat 0 (j + 1)) = uC (mtW A q.toInt.toNat t m'.toInt.toNat wt (j + 1))
          · rw [if_pos q1]
            rw [if_pos (Or.inl q1)] at he
            exact he w6 hf06 h6 hl6
          · rw [if_neg q1]
            by_cases q2 : uC (mtW A p.toInt.toNat s n.toInt.toNat 0 (j + 1)) = uC (mtW A q.toInt.toNat t m'.toInt.toNat wt j)
            · rw [if_pos q2]
              by_cases q3 : uC (mtW A q.toInt.toNat t m'.toInt.toNat wt (j + 1)) = uC (mtW A p.toInt.toNat s n.toInt.toNat 0 j)
              · rw [if_pos q3]
                rw [if_pos (Or.inr ⟨q2, q3⟩)] at he
                exact he w6 hf06 h6 hl6
              · rw [if_neg q3]
                rw [if_neg (fun c => c.elim q1 (fun c => q3 c.2))] at he
                exact ih fu (j + 1) w6 (by omega) (by omega) ⟨h6, hf06, hl6, hw6, hv6'⟩ he
            · rw [if_neg q2]
              rw [if_neg (fun c => c.elim q1 (fun c => q2 c.1))] at he
              exact ih fu (j + 1) w6 (by omega) (by omega) ⟨h6, hf06, hl6, hw6, hv6'⟩ he
        have g101 : ∀ sg : Int32, sg = sgT A s n.toInt.toNat 0 j → wb_X4_met_101 k (wl_X4_met_52 k fu) w4 m n p m' q (Int32.ofNat wt) (Int32.ofNat j) (uC (mtW A p.toInt.toNat s n.toInt.toNat 0 j)) (uC (mtW A q.toInt.toNat t m'.toInt.toNat wt j)) (some m) 0 p sg := by
          intro sg hsg
          unfold wb_X4_met_101
          refine ⟨by rw [h4.sh.ob]; trivial, m_step h4 hN (i := 0) (by decide) hp hw4 o1.1 o1.2 (hsg ▸ sgT_c hl.1.2.2 0 j) _ (fun w5 hf5 hS5 hw5 _ => ?_)⟩
          have h5 := h4.sc (mPw_P hf5)
          have hv5 := hv4.keep hS5 (by decide)
          rw [hsg] at hw5
          have hw5' : mw w5 m 0 (mtW A p.toInt.toNat s n.toInt.toNat 0 (j + 1)) := hw5
          have hl5 := hl4.sc hf5 hz4
          have em1 : (m' + Int32.ofNat wt - 1).toInt = m'.toInt + wt - 1 := (i_dec (by omega)).trans (by rw [emw])
          simp only [m_isIn, lg_lit, ej, ewt, em1, ie_m6_m5, ie_m6_m4, ie_m6_m3, ie_m6_m2, ie_m6_m1, ie_m6_0, ie_m6_1, ie_m6_2, ie_m6_3, ie_m6_4, ie_m6_5, ie_m6_6, ie_m5_m6, ie_m5_m4, ie_m5_m3, ie_m5_m2, ie_m5_m1, ie_m5_0, ie_m5_1, ie_m5_2, ie_m5_3, ie_m5_4, ie_m5_5, ie_m5_6, ie_m4_m6, ie_m4_m5, ie_m4_m3, ie_m4_m2, ie_m4_m1, ie_m4_0, ie_m4_1, ie_m4_2, ie_m4_3, ie_m4_4, ie_m4_5, ie_m4_6, ie_m3_m6, ie_m3_m5, ie_m3_m4, ie_m3_m2, ie_m3_m1, ie_m3_0, ie_m3_1, ie_m3_2, ie_m3_3, ie_m3_4, ie_m3_5, ie_m3_6, ie_m2_m6, ie_m2_m5, ie_m2_m4, ie_m2_m3, ie_m2_m1, ie_m2_0, ie_m2_1, ie_m2_2, ie_m2_3, ie_m2_4, ie_m2_5, ie_m2_6, ie_m1_m6, ie_m1_m5, ie_m1_m4, ie_m1_m3, ie_m1_m2, ie_m1_0, ie_m1_1, ie_m1_2, ie_m1_3, ie_m1_4, ie_m1_5, ie_m1_6, ie_0_m6, ie_0_m5, ie_0_m4, ie_0_m3, ie_0_m2, ie_0_m1, ie_0_1, ie_0_2, ie_0_3, ie_0_4, ie_0_5, ie_0_6, ie_1_m6, ie_1_m5, ie_1_m4, ie_1_m3, ie_1_m2, ie_1_m1, ie_1_0, ie_1_2, ie_1_3, ie_1_4, ie_1_5, ie_1_6, ie_2_m6, ie_2_m5, ie_2_m4, ie_2_m3, ie_2_m2, ie_2_m1, ie_2_0, ie_2_1, ie_2_3, ie_2_4, ie_2_5, ie_2_6, ie_3_m6, ie_3_m5, ie_3_m4, ie_3_m3, ie_3_m2, ie_3_m1, ie_3_0, ie_3_1, ie_3_2, ie_3_4, ie_3_5, ie_3_6, ie_4_m6, ie_4_m5, ie_4_m4, ie_4_m3, ie_4_m2, ie_4_m1, ie_4_0, ie_4_1, ie_4_2, ie_4_3, ie_4_5, ie_4_6, ie_5_m6, ie_5_m5, ie_5_m4, ie_5_m3, ie_5_m2, ie_5_m1, ie_5_0, ie_5_1, ie_5_2, ie_5_3, ie_5_4, ie_5_6, ie_6_m6, ie_6_m5, ie_6_m4, ie_6_m3, ie_6_m2, ie_6_m1, ie_6_0, ie_6_1, ie_6_2, ie_6_3, ie_6_4, ie_6_5, Int32.reduceToInt, Int64.reduceToInt, Int.reduceToNat, Int32.reduceAdd, Int32.reduceSub, Int32.reduceMul, Int32.reduceDiv, Int32.reduceLT, Int32.reduceLE, Int.reduceLE, Int.reduceLT, Int.reduceNeg, Int.reduceAdd, Int.reduceSub, Int.reduceMul, Int.reduceEq, Nat.reduceAdd, Nat.reduceMul, Nat.reduceLT, Nat.reduceEqDiff, true_and, and_true, and_self, false_and, and_false, if_true, if_false, ite_true, ite_false, ↓reduceIte, not_true_eq_false, not_false_eq_true, true_or, or_true, or_false, false_or, Int.cast_ofNat_Int, Int.reduceNatCast]
          by_cases c : (wt : Int) ≤ (j : Int) ∧ (j : Int) ≤ m'.toInt + wt - 1
          · rw [if_pos c]
            have ejw : Int32.ofNat j - Int32.ofNat wt = Int32.ofNat (j - wt) := (Int32.ofNat_sub j wt (by omega)).symm
            simp only [h5.sh.G418, ejw]
            rw [tl_rd h5 hl5.2 (show j - wt < m'.toInt.toNat by omega)]
            exact g143 w5 _ (by unfold sgT; rw [if_pos (by omega)]) h5 (hf4.trans hf5) hl5 hw5' hv5
          · rw [if_neg c]
            exact g143 w5 3 (by unfold sgT; rw [if_neg (by omega)]) h5 (hf4.trans hf5) hl5 hw5' hv5
        by_cases c : n ≤ Int32.ofNat j
        · rw [if_pos c]
          rw [i_le, ej] at c
          exact g101 3 (by unfold sgT; rw [if_neg (by omega)])
        · rw [if_neg c]
          rw [i_le, ej] at c
          have hv : vp_in (Int32.ofNat j) 40 := vp_iff.2 (by rw [ej]; omega)
          simp only [h4.sh.G425, h4.sh.r20, hv, i_tt (show j < 1000000 by omega), hl4.1.2.1 j (by omega), true_and]
          exact g101 _ (by unfold sgT; rw [if_pos (by omega)]; rfl)
    exact key _ FU 0 w3 (by omega) (by unfold FU; omega) ⟨h3, hf2.trans hf3, (hl.sc hf2 hz).sc hf3 h2.sh.z, hw3, hv3⟩ hk
def F_meet (A : Ab) (s n p t m' q : Int32) : Int32 × Ab := if 0 ≤ (bothC A s n p t m' q).toInt then (metV A p.toInt.toNat s n.toInt.toNat q.toInt.toNat t m'.toInt.toNat 0, A) else rf A (bothC A s n p t m' q)
theorem m_meet (h : MM w m A) (hN : okN (aN A)) (hA : okS A) (s n p t m' q : Int32) {k : Int32 → Wd → Prop} (hk : mR w m (F_meet A s n p t m' q).2 (k (F_meet A s n p t m' q).1)) : wp_X4_meet w m s n p t m' q k := by
  unfold wp_X4_meet
  unfold F_meet at hk
  refine ⟨by rw [h.sh.ob]; trivial, m_loadBoth h hN hA s n p t m' q (fun w1 hf1 h1 hl1 => ?_)⟩
  by_cases c : 0 ≤ (bothC A s n p t m' q).toInt
  · rw [if_pos (by rw [i_le, i_0]; exact c)]
    rw [if_pos c] at hk
    have hb := (bothC_1 c).1
    refine ⟨by rw [h1.sh.ob]; trivial, m_met h1 hN (hl1 c) hb.2.2.2.2.1 hb.2.2.2.2.2.1 (wt := 0) (by decide) (fun w2 hf2 h2 _ => hk w2 h2 ((mP_Q hf1).trans (mPw_Q hf2)))⟩
  · rw [if_neg (by rw [i_le, i_0]; exact c)]
    rw [if_neg c] at hk
    have hb := bothC_c A s n p t m' q
    exact ⟨by rw [h1.sh.ob]; trivial, m_refuse h1 (by omega) (fun w2 h2 hf2 => hk w2 h2 ((mP_Q hf1).trans hf2))⟩
abbrev waiP (A : Ab) (p : Nat) (s : Int32) (n : Nat) (q : Nat) (t : Int32) (m' wt : Nat) : Prop := metV A p s n q t m' wt = -1
def F_waits (A : Ab) (s n p t m' q : Int32) : Int32 × Ab := if 0 ≤ (bothC A s n p t m' q).toInt then (srch (waiP A p.toInt.toNat s n.toInt.toNat q.toInt.toNat t m'.toInt.toNat) (fun wt => Int32.ofNat wt) 10 0, A) else rf A (bothC A s n p t m' q)
theorem m_waits (h : MM w m A) (hN : okN (aN A)) (hA : okS A) (s n p t m' q : Int32) {k : Int32 → Wd → Prop} (hk : mR w m (F_waits A s n p t m' q).2 (k (F_waits A s n p t m' q).1)) : wp_X4_waits w m s n p t m' q k := by
  unfold wp_X4_waits
  unfold F_waits at hk
  refine ⟨by rw [h.sh.ob]; trivial, m_loadBoth h hN hA s n p t m' q (fun w1 hf1 h1 hl1 => ?_)⟩
  by_cases c : 0 ≤ (bothC A s n p t m' q).toInt
  · rw [if_pos (by rw [i_le, i_0]; exact c)]
    rw [if_pos c] at hk
    have hb := (bothC_1 c).1
    have key : ∀ d fu wt w4, wt + d = 10 → d < fu → (MM w4 m A ∧ fr (mQ m) w w4 ∧ ld2 w4 m A s n t m') → mR w m A (k (srch (waiP A p.toInt.toNat s n.toInt.toNat q.toInt.toNat t m'.toInt.toNat) (fun wt => Int32.ofNat wt) d wt)) → wl_X4_waits_30 k fu w4 m n p m' q (Int32.ofNat wt) := by
      intro d
      induction d with
      | zero =>
        intro fu wt w4 hj hfu ⟨h4, hf4, hl4⟩ he
        obtain ⟨fu, rfl⟩ : ∃ g, fu = g + 1 := ⟨fu - 1, by omega⟩
        obtain rfl : wt = 10 := by omega
        rw [wl_X4_waits_30_s]
        unfold wb_X4_waits_30
        rw [if_pos (by decide)]
        exact he w4 h4 hf4
      | succ d ih =>
        intro fu wt w4 hj hfu ⟨h4, hf4, hl4⟩ he
        obtain ⟨fu, rfl⟩ : ∃ g, fu = g + 1 := ⟨fu - 1, by omega⟩
        rw [wl_X4_waits_30_s]
        unfold wb_X4_waits_30
        rw [if_neg (by rw [i_le, i_ti (by omega)]; show ¬ (10 : Int) ≤ wt; omega)]
        rw [show srch (waiP A p.toInt.toNat s n.toInt.toNat q.toInt.toNat t m'.toInt.toNat) (fun wt => Int32.ofNat wt) (d + 1) wt = if waiP A p.toInt.toNat s n.toInt.toNat q.toInt.toNat t m'.toInt.toNat wt then Int32.ofNat wt else srch (waiP A p.toInt.toNat s n.toInt.toNat q.toInt.toNat t m'.toInt.toNat) (fun wt => Int32.ofNat wt) d (wt + 1) from rfl] at he
        refine ⟨by rw [h4.sh.ob]; trivial, m_met h4 hN hl4 hb.2.2.2.2.1 hb.2.2.2.2.2.1 (by omega) (fun w5 hf5 h5 hl5 => ?_)⟩
        by_cases e : metV A p.toInt.toNat s n.toInt.toNat q.toInt.toNat t m'.toInt.toNat wt = -1
        · rw [if_pos e]
          rw [if_pos e] at he
          exact he w5 h5 (hf4.trans (mPw_Q hf5))
        · rw [if_neg e, i_ofS]
          rw [if_neg e] at he
          exact ih fu (wt + 1) w5 (by omega) (by omega) ⟨h5, hf4.trans (mPw_Q hf5), hl5⟩ he
    exact key 10 FU 0 w1 (by omega) (by unfold FU; omega) ⟨h1, mP_Q hf1, hl1 c⟩ hk
  · rw [if_neg (by rw [i_le, i_0]; exact c)]
    rw [if_neg c] at hk
    have hb := bothC_c A s n p t m' q
    exact ⟨by rw [h1.sh.ob]; trivial, m_refuse h1 (by omega) (fun w2 h2 hf2 => hk w2 h2 ((mP_Q hf1).trans hf2))⟩
abbrev judP (A : Ab) (s : Int32) (j : Nat) : Prop := ¬ (0 ≤ (elA A s j).toInt ∧ (elA A s j).toInt ≤ 3)
def rowC (A : Ab) (s : Nat) : Int32 := if 10 ≤ (aH A s).toInt then -3 else if aH A s = -1 then -4 else 1
theorem rowC_c (A : Ab) (s : Nat) : rowC A s = -3 ∨ rowC A s = -4 ∨ rowC A s = 1 := by
  unfold rowC
  split
  · exact Or.inl rfl
  · split
    · exact Or.inr (Or.inl rfl)
    · exact Or.inr (Or.inr rfl)
def F_judge (A : Ab) (s n : Int32) : Int32 × Ab := if isS s ∧ 0 ≤ n.toInt ∧ n.toInt ≤ 40 then (if 0 ≤ (rowC A s.toInt.toNat).toInt then (if n.toInt ≤ (aS A s.toInt.toNat).toInt then (srch (judP A s) (fun j => Int32.ofNat j) n.toInt.toNat 0, A) else rf A (-2)) else rf A (rowC A s.toInt.toNat)) else rf A (-2)
theorem m_judge (h : MM w m A) (s n : Int32) {k : Int32 → Wd → Prop} (hk : mR w m (F_judge A s n).2 (k (F_judge A s n).1)) : wp_X4_judge w m s n k := by
  unfold wp_X4_judge
  unfold F_judge at hk
  rw [m_isShelf]
  by_cases c1 : isS s
  · rw [if_pos c1, if_neg (by decide)]
    simp only [m_isIn, lg_lit, ie_m6_m5, ie_m6_m4, ie_m6_m3, ie_m6_m2, ie_m6_m1, ie_m6_0, ie_m6_1, ie_m6_2, ie_m6_3, ie_m6_4, ie_m6_5, ie_m6_6, ie_m5_m6, ie_m5_m4, ie_m5_m3, ie_m5_m2, ie_m5_m1, ie_m5_0, ie_m5_1, ie_m5_2, ie_m5_3, ie_m5_4, ie_m5_5, ie_m5_6, ie_m4_m6, ie_m4_m5, ie_m4_m3, ie_m4_m2, ie_m4_m1, ie_m4_0, ie_m4_1, ie_m4_2, ie_m4_3, ie_m4_4, ie_m4_5, ie_m4_6, ie_m3_m6, ie_m3_m5, ie_m3_m4, ie_m3_m2, ie_m3_m1, ie_m3_0, ie_m3_1, ie_m3_2, ie_m3_3, ie_m3_4, ie_m3_5, ie_m3_6, ie_m2_m6, ie_m2_m5, ie_m2_m4, ie_m2_m3, ie_m2_m1, ie_m2_0, ie_m2_1, ie_m2_2, ie_m2_3, ie_m2_4, ie_m2_5, ie_m2_6, ie_m1_m6, ie_m1_m5, ie_m1_m4, ie_m1_m3, ie_m1_m2, ie_m1_0, ie_m1_1, ie_m1_2, ie_m1_3, ie_m1_4, ie_m1_5, ie_m1_6, ie_0_m6, ie_0_m5, ie_0_m4, ie_0_m3, ie_0_m2, ie_0_m1, ie_0_1, ie_0_2, ie_0_3, ie_0_4, ie_0_5, ie_0_6, ie_1_m6, ie_1_m5, ie_1_m4, ie_1_m3, ie_1_m2, ie_1_m1, ie_1_0, ie_1_2, ie_1_3, ie_1_4, ie_1_5, ie_1_6, ie_2_m6, ie_2_m5, ie_2_m4, ie_2_m3, ie_2_m2, ie_2_m1, ie_2_0, ie_2_1, ie_2_3, ie_2_4, ie_2_5, ie_2_6, ie_3_m6, ie_3_m5, ie_3_m4, ie_3_m3, ie_3_m2, ie_3_m1, ie_3_0, ie_3_1, ie_3_2, ie_3_4, ie_3_5, ie_3_6, ie_4_m6, ie_4_m5, ie_4_m4, ie_4_m3, ie_4_m2, ie_4_m1, ie_4_0, ie_4_1, ie_4_2, ie_4_3, ie_4_5, ie_4_6, ie_5_m6, ie_5_m5, ie_5_m4, ie_5_m3, ie_5_m2, ie_5_m1, ie_5_0, ie_5_1, ie_5_2, ie_5_3, ie_5_4, ie_5_6, ie_6_m6, ie_6_m5, ie_6_m4, ie_6_m3, ie_6_m2, ie_6_m1, ie_6_0, ie_6_1, ie_6_2, ie_6_3, ie_6_4, ie_6_5, Int32.reduceToInt, Int64.reduceToInt, Int.reduceToNat, Int32.reduceAdd, Int32.reduceSub, Int32.reduceMul, Int32.reduceDiv, Int32.reduceLT, Int32.reduceLE, Int.reduceLE, Int.reduceLT, Int.reduceNeg, Int.reduceAdd, Int.reduceSub, Int.reduceMul, Int.reduceEq, Nat.reduceAdd, Nat.reduceMul, Nat.reduceLT, Nat.reduceEqDiff, true_and, and_true, and_self, false_and, and_false, if_true, if_false, ite_true, ite_false, ↓reduceIte, not_true_eq_false, not_false_eq_true, true_or, or_true, or_false, false_or, Int.cast_ofNat_Int, Int.reduceNatCast]
    by_cases c2 : 0 ≤ n.toInt ∧ n.toInt ≤ 40
    · rw [if_pos c2]
      rw [if_pos ⟨c1, c2⟩] at hk
      have hv : vp_in s 8 := vp_iff.2 (by omega)
      refine ⟨by rw [h.sh.ob]; trivial, ?_⟩
      rw [m_rowIn h c1]
      show if (0 : Int32) ≤ rowC A s.toInt.toNat then _ else _
      by_cases c3 : 0 ≤ (rowC A s.toInt.toNat).toInt
      · rw [if_pos (by rw [i_le, i_0]; exact c3)]
        rw [if_pos c3] at hk
        simp only [h.sh.G420, h.sh.r15, h.S, hv, true_and, i_le]
        by_cases c4 : n.toInt ≤ (aS A s.toInt.toNat).toInt
        · rw [if_pos c4]
          rw [if_pos c4] at hk
          have key : ∀ d fu j, j + d = n.toInt.toNat → d < fu → k (srch (judP A s) (fun j => Int32.ofNat j) d j) w → wl_X4_judge_63 k fu w m s n (Int32.ofNat j) := by
            intro d
            induction d with
            | zero =>
              intro fu j hj hfu he
              obtain ⟨fu, rfl⟩ : ∃ g, fu = g + 1 := ⟨fu - 1, by omega⟩
              rw [wl_X4_judge_63_s]
              unfold wb_X4_judge_63
              rw [if_pos (by rw [le_of (by omega)]; omega)]
              exact he
            | succ d ih =>
              intro fu j hj hfu he
              obtain ⟨fu, rfl⟩ : ∃ g, fu = g + 1 := ⟨fu - 1, by omega⟩
              have e40 := i_40 (show s.toInt = ((s.toInt.toNat : Nat) : Int) by omega) (by omega) (i_ti (show j < 2147483648 by omega)) (by omega)
              have hv2 : vp_in (40 * s + Int32.ofNat j) 320 := vp_iff.2 (by omega)
              rw [wl_X4_judge_63_s]
              unfold wb_X4_judge_63
              rw [if_neg (by rw [le_of (by omega)]; omega)]
              rw [show srch (judP A s) (fun j => Int32.ofNat j) (d + 1) j = if judP A s j then Int32.ofNat j else srch (judP A s) (fun j => Int32.ofNat j) d (j + 1) from rfl] at he
              simp only [h.sh.G421, h.sh.r16, h.E, hv2, e40, Int.toNat_natCast, m_isIn, i_ofS, ie_m6_m5, ie_m6_m4, ie_m6_m3, ie_m6_m2, ie_m6_m1, ie_m6_0, ie_m6_1, ie_m6_2, ie_m6_3, ie_m6_4, ie_m6_5, ie_m6_6, ie_m5_m6, ie_m5_m4, ie_m5_m3, ie_m5_m2, ie_m5_m1, ie_m5_0, ie_m5_1, ie_m5_2, ie_m5_3, ie_m5_4, ie_m5_5, ie_m5_6, ie_m4_m6, ie_m4_m5, ie_m4_m3, ie_m4_m2, ie_m4_m1, ie_m4_0, ie_m4_1, ie_m4_2, ie_m4_3, ie_m4_4, ie_m4_5, ie_m4_6, ie_m3_m6, ie_m3_m5, ie_m3_m4, ie_m3_m2, ie_m3_m1, ie_m3_0, ie_m3_1, ie_m3_2, ie_m3_3, ie_m3_4, ie_m3_5, ie_m3_6, ie_m2_m6, ie_m2_m5, ie_m2_m4, ie_m2_m3, ie_m2_m1, ie_m2_0, ie_m2_1, ie_m2_2, ie_m2_3, ie_m2_4, ie_m2_5, ie_m2_6, ie_m1_m6, ie_m1_m5, ie_m1_m4, ie_m1_m3, ie_m1_m2, ie_m1_0, ie_m1_1, ie_m1_2, ie_m1_3, ie_m1_4, ie_m1_5, ie_m1_6, ie_0_m6, ie_0_m5, ie_0_m4, ie_0_m3, ie_0_m2, ie_0_m1, ie_0_1, ie_0_2, ie_0_3, ie_0_4, ie_0_5, ie_0_6, ie_1_m6, ie_1_m5, ie_1_m4, ie_1_m3, ie_1_m2, ie_1_m1, ie_1_0, ie_1_2, ie_1_3, ie_1_4, ie_1_5, ie_1_6, ie_2_m6, ie_2_m5, ie_2_m4, ie_2_m3, ie_2_m2, ie_2_m1, ie_2_0, ie_2_1, ie_2_3, ie_2_4, ie_2_5, ie_2_6, ie_3_m6, ie_3_m5, ie_3_m4, ie_3_m3, ie_3_m2, ie_3_m1, ie_3_0, ie_3_1, ie_3_2, ie_3_4, ie_3_5, ie_3_6, ie_4_m6, ie_4_m5, ie_4_m4, ie_4_m3, ie_4_m2, ie_4_m1, ie_4_0, ie_4_1, ie_4_2, ie_4_3, ie_4_5, ie_4_6, ie_5_m6, ie_5_m5, ie_5_m4, ie_5_m3, ie_5_m2, ie_5_m1, ie_5_0, ie_5_1, ie_5_2, ie_5_3, ie_5_4, ie_5_6, ie_6_m6, ie_6_m5, ie_6_m4, ie_6_m3, ie_6_m2, ie_6_m1, ie_6_0, ie_6_1, ie_6_2, ie_6_3, ie_6_4, ie_6_5, Int32.reduceToInt, Int64.reduceToInt, Int.reduceToNat, Int32.reduceAdd, Int32.reduceSub, Int32.reduceMul, Int32.reduceDiv, Int32.reduceLT, Int32.reduceLE, Int.reduceLE, Int.reduceLT, Int.reduceNeg, Int.reduceAdd, Int.reduceSub, Int.reduceMul, Int.reduceEq, Nat.reduceAdd, Nat.reduceMul, Nat.reduceLT, Nat.reduceEqDiff, true_and, and_true, and_self, false_and, and_false, if_true, if_false, ite_true, ite_false, ↓reduceIte, not_true_eq_false, not_false_eq_true, true_or, or_true, or_false, false_or, Int.cast_ofNat_Int, Int.reduceNatCast]
              by_cases e : 0 ≤ (aE A (40 * s.toInt.toNat + j)).toInt ∧ (aE A (40 * s.toInt.toNat + j)).toInt ≤ 3
              · rw [if_pos e]
                rw [if_neg (fun hc => hc e)] at he
                exact ih fu (j + 1) (by omega) (by omega) he
              · rw [if_neg e]
                rw [if_pos (show judP A s j from e)] at he
                exact he
          exact key _ FU 0 (by omega) (by unfold FU; omega) (hk.self h)
        · rw [if_neg c4]
          rw [if_neg c4] at hk
          exact ⟨by rw [h.sh.ob]; trivial, m_refuse h (by decide) hk⟩
      · rw [if_neg (by rw [i_le, i_0]; exact c3)]
        rw [if_neg c3] at hk
        refine ⟨by rw [h.sh.ob]; trivial, ?_⟩
        rw [m_rowIn h c1]
        refine ⟨by rw [h.sh.ob]; trivial, m_refuse (c := rowC A s.toInt.toNat) h ?_ hk⟩
        rcases rowC_c A s.toInt.toNat with e | e | e
        · rw [e]; decide
        · rw [e]; decide
        · exact absurd (by rw [e]; decide) c3
    · rw [if_neg c2]
      rw [if_neg (fun e => c2 e.2)] at hk
      exact ⟨by rw [h.sh.ob]; trivial, m_refuse h (by decide) hk⟩
  · rw [if_neg c1, if_pos rfl]
    rw [if_neg (fun e => c1 e.1)] at hk
    exact ⟨by rw [h.sh.ob]; trivial, m_refuse h (by decide) hk⟩
end MMT
