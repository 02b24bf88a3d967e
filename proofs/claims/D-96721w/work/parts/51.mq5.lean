/-! ===== queries of the reference: lefts, again, ring, kinds, ponds ===== -/
section MQ5
variable {w : Wd} {m : Nat} {A : Ab}
/-- one turns left again and again -/
def ltW (A : Ab) (p : Nat) : Nat → Wk := runW (aN A) (aN A (5 * p)) (aN A 91) p (fun _ => 1) (beg (aN A (5 * p + 2)) (aN A (5 * p + 3)))
theorem ltW_ok (hA : okN (aN A)) {p : Nat} (hp : p < pe (aN A)) (j : Nat) (hj : j < 1000) : okU (aN A) (ltW A p j) ∧ uT (ltW A p j) < 1000000 := ⟨runW_ok hA (okU_beg hA hp) j (by omega), by
  have := runW_T (N := aN A) (kd := aN A (5 * p)) (lf := aN A 91) (p := p) (T := fun _ => 1) (u := beg (aN A (5 * p + 2)) (aN A (5 * p + 3))) j
  have e : uT (beg (aN A (5 * p + 2)) (aN A (5 * p + 3))) = 0 := rfl
  unfold ltW
  omega⟩
abbrev lefP (A : Ab) (p : Nat) (f : Int32) (j : Nat) : Prop := uF (ltW A p j) = f
def F_lefts (A : Ab) (p f : Int32) : Int32 × Ab := if isP (aN A) p ∧ okF f then (srch (lefP A p.toInt.toNat f) (fun j => Int32.ofNat j) 21 0, A) else rf A (-2)
theorem i_20 : (20 : Int32).toInt = 20 := rfl
theorem i_3 : (3 : Int32).toInt = 3 := rfl
theorem m_lefts (h : MM w m A) (hN : okN (aN A)) (p f : Int32) {k : Int32 → Wd → Prop} (hk : mR w m (F_lefts A p f).2 (k (F_lefts A p f).1)) : wp_X4_lefts w m p f k := by
  unfold wp_X4_lefts
  unfold F_lefts at hk
  refine ⟨by rw [h.sh.ob]; trivial, ?_⟩
  rw [m_isPerson h hN]
  by_cases hp : isP (aN A) p
  · rw [if_pos hp, if_neg (by decide)]
    have hp8 := isP_8 hN hp
    simp only [m_isIn, lg_lit, ie_m6_m5, ie_m6_m4, ie_m6_m3, ie_m6_m2, ie_m6_m1, ie_m6_0, ie_m6_1, ie_m6_2, ie_m6_3, ie_m6_4, ie_m6_5, ie_m6_6, ie_m5_m6, ie_m5_m4, ie_m5_m3, ie_m5_m2, ie_m5_m1, ie_m5_0, ie_m5_1, ie_m5_2, ie_m5_3, ie_m5_4, ie_m5_5, ie_m5_6, ie_m4_m6, ie_m4_m5, ie_m4_m3, ie_m4_m2, ie_m4_m1, ie_m4_0, ie_m4_1, ie_m4_2, ie_m4_3, ie_m4_4, ie_m4_5, ie_m4_6, ie_m3_m6, ie_m3_m5, ie_m3_m4, ie_m3_m2, ie_m3_m1, ie_m3_0, ie_m3_1, ie_m3_2, ie_m3_3, ie_m3_4, ie_m3_5, ie_m3_6, ie_m2_m6, ie_m2_m5, ie_m2_m4, ie_m2_m3, ie_m2_m1, ie_m2_0, ie_m2_1, ie_m2_2, ie_m2_3, ie_m2_4, ie_m2_5, ie_m2_6, ie_m1_m6, ie_m1_m5, ie_m1_m4, ie_m1_m3, ie_m1_m2, ie_m1_0, ie_m1_1, ie_m1_2, ie_m1_3, ie_m1_4, ie_m1_5, ie_m1_6, ie_0_m6, ie_0_m5, ie_0_m4, ie_0_m3, ie_0_m2, ie_0_m1, ie_0_1, ie_0_2, ie_0_3, ie_0_4, ie_0_5, ie_0_6, ie_1_m6, ie_1_m5, ie_1_m4, ie_1_m3, ie_1_m2, ie_1_m1, ie_1_0, ie_1_2, ie_1_3, ie_1_4, ie_1_5, ie_1_6, ie_2_m6, ie_2_m5, ie_2_m4, ie_2_m3, ie_2_m2, ie_2_m1, ie_2_0, ie_2_1, ie_2_3, ie_2_4, ie_2_5, ie_2_6, ie_3_m6, ie_3_m5, ie_3_m4, ie_3_m3, ie_3_m2, ie_3_m1, ie_3_0, ie_3_1, ie_3_2, ie_3_4, ie_3_5, ie_3_6, ie_4_m6, ie_4_m5, ie_4_m4, ie_4_m3, ie_4_m2, ie_4_m1, ie_4_0, ie_4_1, ie_4_2, ie_4_3, ie_4_5, ie_4_6, ie_5_m6, ie_5_m5, ie_5_m4, ie_5_m3, ie_5_m2, ie_5_m1, ie_5_0, ie_5_1, ie_5_2, ie_5_3, ie_5_4, ie_5_6, ie_6_m6, ie_6_m5, ie_6_m4, ie_6_m3, ie_6_m2, ie_6_m1, ie_6_0, ie_6_1, ie_6_2, ie_6_3, ie_6_4, ie_6_5, Int32.reduceToInt, Int64.reduceToInt, Int.reduceToNat, Int32.reduceAdd, Int32.reduceSub, Int32.reduceMul, Int32.reduceDiv, Int32.reduceLT, Int32.reduceLE, Int.reduceLE, Int.reduceLT, Int.reduceNeg, Int.reduceAdd, Int.reduceSub, Int.reduceMul, Int.reduceEq, Nat.reduceAdd, Nat.reduceMul, Nat.reduceLT, Nat.reduceEqDiff, true_and, and_true, and_self, false_and, and_false, if_true, if_false, ite_true, ite_false, ↓reduceIte, not_true_eq_false, not_false_eq_true, true_or, or_true, or_false, false_or, Int.cast_ofNat_Int, Int.reduceNatCast]
    by_cases hf : okF f
    · rw [if_pos (by unfold okF at hf; omega)]
      rw [if_pos ⟨hp, hf⟩] at hk
      simp only [h.sh.ob, m_cell h hp8, m_faces h hp8, true_and]
      refine m_start h (by decide) _ _ (fun w2 hf2 _ hw2 => ?_)
      have key : ∀ d fu j w4, j + d = 21 → d < fu → (fr (mPw m) w w4 ∧ mw w4 m 0 (ltW A p.toInt.toNat j)) → mR w m A (k (srch (lefP A p.toInt.toNat f) (fun j => Int32.ofNat j) d j)) → wl_X4_lefts_44 k fu w4 m p f (Int32.ofNat j) := by
        intro d
        induction d with
        | zero =>
          intro fu j w4 hj hfu ⟨hf4, hw4⟩ he
          obtain ⟨fu, rfl⟩ : ∃ g, fu = g + 1 := ⟨fu - 1, by omega⟩
          have h4 := h.sc (mPw_P hf4)
          obtain rfl : j = 21 := by omega
          rw [wl_X4_lefts_44_s]
          unfold wb_X4_lefts_44 wb_X4_lefts_74
          simp only [h4.sh.G412, h4.sh.r8, vp_0 (show 0 < 2 by decide), hw4.2.1, true_and]
          rw [if_neg (show ¬ Int32.ofNat 21 ≤ 20 by decide), if_pos (show (20 : Int32) < Int32.ofNat 21 by decide)]
          have := he w4 h4 (mPw_Q hf4)
          split <;> exact this
        | succ d ih =>
          intro fu j w4 hj hfu ⟨hf4, hw4⟩ he
          obtain ⟨fu, rfl⟩ : ∃ g, fu = g + 1 := ⟨fu - 1, by omega⟩
          have h4 := h.sc (mPw_P hf4)
          rw [wl_X4_lefts_44_s]
          unfold wb_X4_lefts_44 wb_X4_lefts_74
          simp only [h4.sh.G412, h4.sh.r8, vp_0 (show 0 < 2 by decide), show (0 : Int32).toInt.toNat = 0 from rfl, hw4.2.1, true_and]
          rw [show srch (lefP A p.toInt.toNat f) (fun j => Int32.ofNat j) (d + 1) j = if lefP A p.toInt.toNat f j then Int32.ofNat j else srch (lefP A p.toInt.toNat f) (fun j => Int32.ofNat j) d (j + 1) from rfl] at he
          have e20 : Int32.ofNat j ≤ 20 := by rw [i_le, i_ti (by omega), i_20]; omega
          have e20' : ¬ (20 : Int32) < Int32.ofNat j := by rw [i_lt, i_ti (by omega), i_20]; omega
          by_cases e : uF (ltW A p.toInt.toNat j) = f
          · rw [if_pos e, if_pos e20]
            rw [if_pos e] at he
            exact he w4 h4 (mPw_Q hf4)
          · rw [if_neg e, if_neg e20']
            rw [if_neg e] at he
            have o1 := ltW_ok hN (isP_nat hp) j (by omega)
            refine ⟨by rw [h4.sh.ob]; trivial, m_step h4 hN (i := 0) (by decide) hp hw4 o1.1 o1.2 (Or.inr (Or.inl rfl)) _ (fun w5 hf5 _ hw5 _ => ?_)⟩
            rw [i_ofS]
            exact ih fu (j + 1) w5 (by omega) (by omega) ⟨hf4.trans hf5, hw5⟩ he
      exact key 21 FU 0 w2 (by omega) (by unfold FU; omega) ⟨hf2, hw2⟩ hk
    · rw [if_neg (by unfold okF at hf; omega)]
      rw [if_neg (fun e => hf e.2)] at hk
      exact ⟨by rw [h.sh.ob]; trivial, m_refuse h (by decide) hk⟩
  · rw [if_neg hp, if_pos rfl]
    rw [if_neg (fun e => hp e.1)] at hk
    exact ⟨by rw [h.sh.ob]; trivial, m_refuse h (by decide) hk⟩
/-- a telling told again and again, as one -/
def agW (A : Ab) (p : Nat) (s : Int32) (n : Nat) : Nat → Wk := runW (aN A) (aN A (5 * p)) (aN A 91) p (fun k => tlg A s (k % n)) (beg (aN A (5 * p + 2)) (aN A (5 * p + 3)))
theorem agW_ok (hA : okN (aN A)) {p : Nat} (hp : p < pe (aN A)) (s : Int32) (n j : Nat) (hj : j < 1000) : okU (aN A) (agW A p s n j) ∧ uT (agW A p s n j) < 1000000 := ⟨runW_ok hA (okU_beg hA hp) j (by omega), by
  have := runW_T (N := aN A) (kd := aN A (5 * p)) (lf := aN A 91) (p := p) (T := fun k => tlg A s (k % n)) (u := beg (aN A (5 * p + 2)) (aN A (5 * p + 3))) j
  have e : uT (beg (aN A (5 * p + 2)) (aN A (5 * p + 3))) = 0 := rfl
  unfold agW
  omega⟩
def F_again (A : Ab) (s n p t : Int32) : Int32 × Ab := qF A (isP (aN A) p ∧ 0 ≤ t.toInt ∧ t.toInt ≤ 20) s n (uC (agW A p.toInt.toNat s n.toInt.toNat (n.toInt.toNat * t.toInt.toNat)))
theorem i_mod {j n : Nat} (hj : j < 1000) (hn : 0 < n) (hn4 : n ≤ 40) {nI : Int32} (hI : nI.toInt = n) : Int32.ofNat j - Int32.ofNat j / nI * nI = Int32.ofNat (j % n) := by
  have e0 : (Int32.ofNat j).toInt = j := i_ti (by omega)
  have e1 : (Int32.ofNat j / nI).toInt = (j : Int) / n := (i_dv (by rw [e0]; omega) (by rw [hI]; omega)).trans (by rw [e0, hI])
  have hdm : (n : Int) * ((j : Int) / n) + (j : Int) % n = j := Int.mul_ediv_add_emod j n
  have hm0 : 0 ≤ (j : Int) % n := Int.emod_nonneg _ (by omega)
  have hmn : (j : Int) % n < n := Int.emod_lt_of_pos _ (by omega)
  have e2 : (Int32.ofNat j / nI * nI).toInt = j - (j : Int) % n := i_mulv e1 hI (by rw [Int.mul_comm]; omega) (by omega)
  have e3 : (Int32.ofNat j - Int32.ofNat j / nI * nI).toInt = (j : Int) % n := by rw [i_sub (by rw [e0, e2]; omega), e0, e2]; omega
  apply Int32.toInt_inj.1
  have hlt : j % n < n := Nat.mod_lt _ hn
  rw [e3, i_ti (by omega), Int.natCast_emod]
theorem m_again (h : MM w m A) (hN : okN (aN A)) (hA : okS A) (s n p t : Int32) {k : Int32 → Wd → Prop} (hk : mR w m (F_again A s n p t).2 (k (F_again A s n p t).1)) : wp_X4_again w m s n p t k := by
  have h27 : ∀ wl : Int32, (¬ wl = 0 ↔ isP (aN A) p ∧ 0 ≤ t.toInt ∧ t.toInt ≤ 20) → wb_X4_again_27 k w m s n p t (some m) wl := by
    intro wl hw
    unfold wb_X4_again_27
    refine ⟨by rw [h.sh.ob]; trivial, m_q h hA hw hk (fun ⟨hp, ht⟩ w1 h1 hf1 hl1 hk1 => ?_)⟩
    have hp8 := isP_8 hN hp
    have hn := hl1.1
    simp only [h1.sh.ob, m_cell h1 hp8, m_faces h1 hp8, true_and]
    refine m_bgL h1 hl1 (by decide) _ _ (fun w2 hf2 h2 hl2 _ hw2 => ?_)
    have hnt : n.toInt.toNat * t.toInt.toNat ≤ 800 := Nat.le_trans (Nat.mul_le_mul (show n.toInt.toNat ≤ 40 by omega) (show t.toInt.toNat ≤ 20 by omega)) (by decide)
    have ent : (n * t).toInt = (n.toInt.toNat * t.toInt.toNat : Nat) := i_mulv (show n.toInt = ((n.toInt.toNat : Nat) : Int) by omega) (show t.toInt = ((t.toInt.toNat : Nat) : Int) by omega) (by push_cast; rfl) (by omega)
    generalize n.toInt.toNat * t.toInt.toNat = M at *
    refine loopN (n := M) (I := fun j w3 => MM w3 m A ∧ fr (mPw m) w1 w3 ∧ ldd w3 m A s n ∧ mw w3 m 0 (agW A p.toInt.toNat s n.toInt.toNat j)) (L := fun fu j w3 => wl_X4_again_64 k fu w3 m n p t (Int32.ofNat j)) ?_ ?_ M FU 0 w2 (by omega) (by unfold FU; omega) ⟨h2, hf2, hl2, hw2⟩
    · intro fu j w3 hj ⟨h3, hf3, hl3, hw3⟩ ih
      rw [wl_X4_again_64_s]
      unfold wb_X4_again_64
      rw [if_neg (by rw [le_of (by omega)]; omega)]
      have hok := agW_ok hN (isP_nat hp) s n.toInt.toNat j (by omega)
      have hn0 : 0 < n.toInt.toNat := Nat.pos_of_ne_zero (fun e => by
        have e2 : n.toInt = 0 := by omega
        have : (n * t).toInt = 0 := i_mulv e2 rfl (Int.zero_mul _) (by omega)
        omega)
      have hn1 : ¬ n = 0 := fun e => by rw [e, i_0] at hn0; exact absurd hn0 (by decide)
      have hjn : j % n.toInt.toNat < n.toInt.toNat := Nat.mod_lt _ hn0
      simp only [h3.sh.ob, h3.sh.G418, i_mod (show j < 1000 by omega) hn0 (by omega) (show n.toInt = ((n.toInt.toNat : Nat) : Int) by omega), tl_rd h3 hl3 hjn, true_and]
      refine ⟨hn1, m_stL h3 hN hl3 (i := 0) (by decide) hp hw3 hok.1 hok.2 (hl3.2.2 _ hjn) _ (fun w4 hf4 h4 hl4 _ hw4 => ?_)⟩
      rw [i_ofS]
      exact ih w4 ⟨h4, hf3.trans hf4, hl4, hw4⟩
    · intro fu w3 ⟨h3, hf3, hl3, hw3⟩
      rw [wl_X4_again_64_s]
      unfold wb_X4_again_64
      rw [if_pos (by rw [le_of (by omega)]; omega)]
      simp only [h3.sh.G411, h3.sh.r7, vp_0 (show 0 < 2 by decide), hw3.1, ie_m6_m5, ie_m6_m4, ie_m6_m3, ie_m6_m2, ie_m6_m1, ie_m6_0, ie_m6_1, ie_m6_2, ie_m6_3, ie_m6_4, ie_m6_5, ie_m6_6, ie_m5_m6, ie_m5_m4, ie_m5_m3, ie_m5_m2, ie_m5_m1, ie_m5_0, ie_m5_1, ie_m5_2, ie_m5_3, ie_m5_4, ie_m5_5, ie_m5_6, ie_m4_m6, ie_m4_m5, ie_m4_m3, ie_m4_m2, ie_m4_m1, ie_m4_0, ie_m4_1, ie_m4_2, ie_m4_3, ie_m4_4, ie_m4_5, ie_m4_6, ie_m3_m6, ie_m3_m5, ie_m3_m4, ie_m3_m2, ie_m3_m1, ie_m3_0, ie_m3_1, ie_m3_2, ie_m3_3, ie_m3_4, ie_m3_5, ie_m3_6, ie_m2_m6, ie_m2_m5, ie_m2_m4, ie_m2_m3, ie_m2_m1, ie_m2_0, ie_m2_1, ie_m2_2, ie_m2_3, ie_m2_4, ie_m2_5, ie_m2_6, ie_m1_m6, ie_m1_m5, ie_m1_m4, ie_m1_m3, ie_m1_m2, ie_m1_0, ie_m1_1, ie_m1_2, ie_m1_3, ie_m1_4, ie_m1_5, ie_m1_6, ie_0_m6, ie_0_m5, ie_0_m4, ie_0_m3, ie_0_m2, ie_0_m1, ie_0_1, ie_0_2, ie_0_3, ie_0_4, ie_0_5, ie_0_6, ie_1_m6, ie_1_m5, ie_1_m4, ie_1_m3, ie_1_m2, ie_1_m1, ie_1_0, ie_1_2, ie_1_3, ie_1_4, ie_1_5, ie_1_6, ie_2_m6, ie_2_m5, ie_2_m4, ie_2_m3, ie_2_m2, ie_2_m1, ie_2_0, ie_2_1, ie_2_3, ie_2_4, ie_2_5, ie_2_6, ie_3_m6, ie_3_m5, ie_3_m4, ie_3_m3, ie_3_m2, ie_3_m1, ie_3_0, ie_3_1, ie_3_2, ie_3_4, ie_3_5, ie_3_6, ie_4_m6, ie_4_m5, ie_4_m4, ie_4_m3, ie_4_m2, ie_4_m1, ie_4_0, ie_4_1, ie_4_2, ie_4_3, ie_4_5, ie_4_6, ie_5_m6, ie_5_m5, ie_5_m4, ie_5_m3, ie_5_m2, ie_5_m1, ie_5_0, ie_5_1, ie_5_2, ie_5_3, ie_5_4, ie_5_6, ie_6_m6, ie_6_m5, ie_6_m4, ie_6_m3, ie_6_m2, ie_6_m1, ie_6_0, ie_6_1, ie_6_2, ie_6_3, ie_6_4, ie_6_5, Int32.reduceToInt, Int64.reduceToInt, Int.reduceToNat, Int32.reduceAdd, Int32.reduceSub, Int32.reduceMul, Int32.reduceDiv, Int32.reduceLT, Int32.reduceLE, Int.reduceLE, Int.reduceLT, Int.reduceNeg, Int.reduceAdd, Int.reduceSub, Int.reduceMul, Int.reduceEq, Nat.reduceAdd, Nat.reduceMul, Nat.reduceLT, Nat.reduceEqDiff, true_and, and_true, and_self, false_and, and_false, if_true, if_false, ite_true, ite_false, ↓reduceIte, not_true_eq_false, not_false_eq_true, true_or, or_true, or_false, false_or, Int.cast_ofNat_Int, Int.reduceNatCast]
      exact hk1 w3 h3 (mPw_Q hf3)
  unfold wp_X4_again wb_X4_again_26
  refine ⟨by rw [h.sh.ob]; trivial, ?_⟩
  simp only [m_isPerson h hN, m_isIn, lg_lit, ie_m6_m5, ie_m6_m4, ie_m6_m3, ie_m6_m2, ie_m6_m1, ie_m6_0, ie_m6_1, ie_m6_2, ie_m6_3, ie_m6_4, ie_m6_5, ie_m6_6, ie_m5_m6, ie_m5_m4, ie_m5_m3, ie_m5_m2, ie_m5_m1, ie_m5_0, ie_m5_1, ie_m5_2, ie_m5_3, ie_m5_4, ie_m5_5, ie_m5_6, ie_m4_m6, ie_m4_m5, ie_m4_m3, ie_m4_m2, ie_m4_m1, ie_m4_0, ie_m4_1, ie_m4_2, ie_m4_3, ie_m4_4, ie_m4_5, ie_m4_6, ie_m3_m6, ie_m3_m5, ie_m3_m4, ie_m3_m2, ie_m3_m1, ie_m3_0, ie_m3_1, ie_m3_2, ie_m3_3, ie_m3_4, ie_m3_5, ie_m3_6, ie_m2_m6, ie_m2_m5, ie_m2_m4, ie_m2_m3, ie_m2_m1, ie_m2_0, ie_m2_1, ie_m2_2, ie_m2_3, ie_m2_4, ie_m2_5, ie_m2_6, ie_m1_m6, ie_m1_m5, ie_m1_m4, ie_m1_m3, ie_m1_m2, ie_m1_0, ie_m1_1, ie_m1_2, ie_m1_3, ie_m1_4, ie_m1_5, ie_m1_6, ie_0_m6, ie_0_m5, ie_0_m4, ie_0_m3, ie_0_m2, ie_0_m1, ie_0_1, ie_0_2, ie_0_3, ie_0_4, ie_0_5, ie_0_6, ie_1_m6, ie_1_m5, ie_1_m4, ie_1_m3, ie_1_m2, ie_1_m1, ie_1_0, ie_1_2, ie_1_3, ie_1_4, ie_1_5, ie_1_6, ie_2_m6, ie_2_m5, ie_2_m4, ie_2_m3, ie_2_m2, ie_2_m1, ie_2_0, ie_2_1, ie_2_3, ie_2_4, ie_2_5, ie_2_6, ie_3_m6, ie_3_m5, ie_3_m4, ie_3_m3, ie_3_m2, ie_3_m1, ie_3_0, ie_3_1, ie_3_2, ie_3_4, ie_3_5, ie_3_6, ie_4_m6, ie_4_m5, ie_4_m4, ie_4_m3, ie_4_m2, ie_4_m1, ie_4_0, ie_4_1, ie_4_2, ie_4_3, ie_4_5, ie_4_6, ie_5_m6, ie_5_m5, ie_5_m4, ie_5_m3, ie_5_m2, ie_5_m1, ie_5_0, ie_5_1, ie_5_2, ie_5_3, ie_5_4, ie_5_6, ie_6_m6, ie_6_m5, ie_6_m4, ie_6_m3, ie_6_m2, ie_6_m1, ie_6_0, ie_6_1, ie_6_2, ie_6_3, ie_6_4, ie_6_5, Int32.reduceToInt, Int64.reduceToInt, Int.reduceToNat, Int32.reduceAdd, Int32.reduceSub, Int32.reduceMul, Int32.reduceDiv, Int32.reduceLT, Int32.reduceLE, Int.reduceLE, Int.reduceLT, Int.reduceNeg, Int.reduceAdd, Int.reduceSub, Int.reduceMul, Int.reduceEq, Nat.reduceAdd, Nat.reduceMul, Nat.reduceLT, Nat.reduceEqDiff, true_and, and_true, and_self, false_and, and_false, if_true, if_false, ite_true, ite_false, ↓reduceIte, not_true_eq_false, not_false_eq_true, true_or, or_true, or_false, false_or, Int.cast_ofNat_Int, Int.reduceNatCast]
  by_cases hp : isP (aN A) p
  · rw [if_pos hp]
    by_cases ht : 0 ≤ t.toInt ∧ t.toInt ≤ 20
    · rw [if_pos ht]
      exact h27 1 (one_iff ⟨hp, ht⟩)
    · rw [if_neg ht]
      exact h27 0 (zero_iff (fun e => ht e.2))
  · rw [if_neg hp]
    exact h27 0 (zero_iff (fun e => hp e.1))
/-- a telling told so many times -/
def rgW (A : Ab) (p : Nat) (s : Int32) (n : Nat) : Nat → Wk
  | 0 => beg (aN A (5 * p + 2)) (aN A (5 * p + 3))
  | t + 1 => runW (aN A) (aN A (5 * p)) (aN A 91) p (tlg A s) (rgW A p s n t) n
theorem rgW_ok (hA : okN (aN A)) {p : Nat} (hp : p < pe (aN A)) (s : Int32) {n : Nat} (hn : n ≤ 40) : ∀ t : Nat, okU (aN A) (rgW A p s n t) ∧ uT (rgW A p s n t) ≤ 40 * t
  | 0 => ⟨okU_beg hA hp, Nat.le_refl _⟩
  | t + 1 => by
    have ih := rgW_ok hA hp s hn t
    refine ⟨runW_ok hA ih.1 n (by omega), ?_⟩
    have := runW_T (N := aN A) (kd := aN A (5 * p)) (lf := aN A 91) (p := p) (T := tlg A s) (u := rgW A p s n t) n
    show uT (runW _ _ _ _ _ _ _) ≤ _
    omega
abbrev rgP (A : Ab) (p : Nat) (s : Int32) (n t : Nat) : Prop := uC (rgW A p s n (t + 1)) = aN A (5 * p + 2) ∧ uF (rgW A p s n (t + 1)) = aN A (5 * p + 3)
def F_ring (A : Ab) (s n p : Int32) : Int32 × Ab := qF A (isP (aN A) p) s n (srch (rgP A p.toInt.toNat s n.toInt.toNat) (fun t => Int32.ofNat (t + 1)) 20 0)
theorem m_ring (h : MM w m A) (hN : okN (aN A)) (hA : okS A) (s n p : Int32) {k : Int32 → Wd → Prop} (hk : mR w m (F_ring A s n p).2 (k (F_ring A s n p).1)) : wp_X4_ring w m s n p k := by
  unfold wp_X4_ring
  refine ⟨by rw [h.sh.ob]; trivial, ?_⟩
  rw [m_isPerson h hN]
  by_cases hp : isP (aN A) p
  · rw [if_pos hp]
    have hp8 := isP_8 hN hp
    refine ⟨by rw [h.sh.ob]; trivial, m_q h hA (one_iff hp) hk (fun _ w1 h1 hf1 hl1 hk1 => ?_)⟩
    have hn := hl1.1
    simp only [h1.sh.ob, m_cell h1 hp8, m_faces h1 hp8, true_and]
    refine m_bgL h1 hl1 (by decide) _ _ (fun w2 hf2 h2 hl2 _ hw2 => ?_)
    have key : ∀ d fu t w4, t + d = 20 → d < fu → (MM w4 m A ∧ fr (mPw m) w1 w4 ∧ ldd w4 m A s n ∧ mw w4 m 0 (rgW A p.toInt.toNat s n.toInt.toNat t)) → mR w1 m A (k (srch (rgP A p.toInt.toNat s n.toInt.toNat) (fun t => Int32.ofNat (t + 1)) d t)) → wl_X4_ring_43 k fu w4 m n p (Int32.ofNat (t + 1)) := by
      intro d
      induction d with
      | zero =>
        intro fu t w4 ht hfu ⟨h4, hf4, hl4, hw4⟩ he
        obtain ⟨fu, rfl⟩ : ∃ g, fu = g + 1 := ⟨fu - 1, by omega⟩
        obtain rfl : t = 20 := by omega
        rw [wl_X4_ring_43_s]
        unfold wb_X4_ring_43
        rw [if_pos (by decide)]
        exact he w4 h4 (mPw_Q hf4)
      | succ d ih =>
        intro fu t w4 ht hfu ⟨h4, hf4, hl4, hw4⟩ he
        obtain ⟨fu, rfl⟩ : ∃ g, fu = g + 1 := ⟨fu - 1, by omega⟩
        rw [wl_X4_ring_43_s]
        unfold wb_X4_ring_43
        rw [if_neg (by rw [i_lt, i_ti (by omega), i_20]; omega)]
        rw [show srch (rgP A p.toInt.toNat s n.toInt.toNat) (fun t => Int32.ofNat (t + 1)) (d + 1) t = if rgP A p.toInt.toNat s n.toInt.toNat t then Int32.ofNat (t + 1) else srch (rgP A p.toInt.toNat s n.toInt.toNat) (fun t => Int32.ofNat (t + 1)) d (t + 1) from rfl] at he
        have ho := rgW_ok hN (isP_nat hp) s (show n.toInt.toNat ≤ 40 by omega) t
        refine loopN (n := n.toInt.toNat) (I := fun j w5 => MM w5 m A ∧ fr (mPw m) w1 w5 ∧ ldd w5 m A s n ∧ mw w5 m 0 (runW (aN A) (aN A (5 * p.toInt.toNat)) (aN A 91) p.toInt.toNat (tlg A s) (rgW A p.toInt.toNat s n.toInt.toNat t) j)) (L := fun fu' j w5 => wl_X4_ring_53 k (wl_X4_ring_43 k fu) fu' w5 m n p (Int32.ofNat (t + 1)) (Int32.ofNat j)) ?_ ?_ n.toInt.toNat FU 0 w4 (by omega) (by unfold FU; omega) ⟨h4, hf4, hl4, hw4⟩
        · intro fu' j w5 hj ⟨h5, hf5, hl5, hw5⟩ ih'
          rw [wl_X4_ring_53_s]
          unfold wb_X4_ring_53
          rw [if_neg (by rw [le_of (by omega)]; omega)]
          have oT := runW_T (N := aN A) (kd := aN A (5 * p.toInt.toNat)) (lf := aN A 91) (p := p.toInt.toNat) (T := tlg A s) (u := rgW A p.toInt.toNat s n.toInt.toNat t) j
          simp only [h5.sh.ob, h5.sh.G418, tl_rd h5 hl5 hj, true_and]
          refine m_stL h5 hN hl5 (i := 0) (by decide) hp hw5 (runW_ok hN ho.1 j (by omega)) (by omega) (hl5.2.2 j hj) _ (fun w6 hf6 h6 hl6 _ hw6 => ?_)
          rw [i_ofS]
          exact ih' w6 ⟨h6, hf5.trans hf6, hl6, hw6⟩
        · intro fu' w5 ⟨h5, hf5, hl5, hw5⟩
          have hw5' : mw w5 m 0 (rgW A p.toInt.toNat s n.toInt.toNat (t + 1)) := hw5
          rw [wl_X4_ring_53_s]
          unfold wb_X4_ring_53
          rw [if_pos (by rw [le_of (by omega)]; omega)]
          simp only [h5.sh.G411, h5.sh.r7, h5.sh.G412, h5.sh.r8, vp_0 (show 0 < 2 by decide), hw5'.1, hw5'.2.1, h5.sh.ob, m_cell h5 hp8, m_faces h5 hp8, i_ofS, ie_m6_m5, ie_m6_m4, ie_m6_m3, ie_m6_m2, ie_m6_m1, ie_m6_0, ie_m6_1, ie_m6_2, ie_m6_3, ie_m6_4, ie_m6_5, ie_m6_6, ie_m5_m6, ie_m5_m4, ie_m5_m3, ie_m5_m2, ie_m5_m1, ie_m5_0, ie_m5_1, ie_m5_2, ie_m5_3, ie_m5_4, ie_m5_5, ie_m5_6, ie_m4_m6, ie_m4_m5, ie_m4_m3, ie_m4_m2, ie_m4_m1, ie_m4_0, ie_m4_1, ie_m4_2, ie_m4_3, ie_m4_4, ie_m4_5, ie_m4_6, ie_m3_m6, ie_m3_m5, ie_m3_m4, ie_m3_m2, ie_m3_m1, ie_m3_0, ie_m3_1, ie_m3_2, ie_m3_3, ie_m3_4, ie_m3_5, ie_m3_6, ie_m2_m6, ie_m2_m5, ie_m2_m4, ie_m2_m3, ie_m2_m1, ie_m2_0, ie_m2_1, ie_m2_2, ie_m2_3, ie_m2_4, ie_m2_5, ie_m2_6, ie_m1_m6, ie_m1_m5, ie_m1_m4, ie_m1_m3, ie_m1_m2, ie_m1_0, ie_m1_1, ie_m1_2, ie_m1_3, ie_m1_4, ie_m1_5, ie_m1_6, ie_0_m6, ie_0_m5, ie_0_m4, ie_0_m3, ie_0_m2, ie_0_m1, ie_0_1, ie_0_2, ie_0_3, ie_0_4, ie_0_5, ie_0_6, ie_1_m6, ie_1_m5, ie_1_m4, ie_1_m3, ie_1_m2, ie_1_m1, ie_1_0, ie_1_2, ie_1_3, ie_1_4, ie_1_5, ie_1_6, ie_2_m6, ie_2_m5, ie_2_m4, ie_2_m3, ie_2_m2, ie_2_m1, ie_2_0, ie_2_1, ie_2_3, ie_2_4, ie_2_5, ie_2_6, ie_3_m6, ie_3_m5, ie_3_m4, ie_3_m3, ie_3_m2, ie_3_m1, ie_3_0, ie_3_1, ie_3_2, ie_3_4, ie_3_5, ie_3_6, ie_4_m6, ie_4_m5, ie_4_m4, ie_4_m3, ie_4_m2, ie_4_m1, ie_4_0, ie_4_1, ie_4_2, ie_4_3, ie_4_5, ie_4_6, ie_5_m6, ie_5_m5, ie_5_m4, ie_5_m3, ie_5_m2, ie_5_m1, ie_5_0, ie_5_1, ie_5_2, ie_5_3, ie_5_4, ie_5_6, ie_6_m6, ie_6_m5, ie_6_m4, ie_6_m3, ie_6_m2, ie_6_m1, ie_6_0, ie_6_1, ie_6_2, ie_6_3, ie_6_4, ie_6_5, Int32.reduceToInt, Int64.reduceToInt, Int.reduceToNat, Int32.reduceAdd, Int32.reduceSub, Int32.reduceMul, Int32.reduceDiv, Int32.reduceLT, Int32.reduceLE, Int.reduceLE, Int.reduceLT, Int.reduceNeg, Int.reduceAdd, Int.reduceSub, Int.reduceMul, Int.reduceEq, Nat.reduceAdd, Nat.reduceMul, Nat.reduceLT, Nat.reduceEqDiff, true_and, and_true, and_self, false_and, and_false, if_true, if_false, ite_true, ite_false, ↓reduceIte, not_true_eq_false, not_false_eq_true, true_or, or_true, or_false, false_or, Int.cast_ofNat_Int, Int.reduceNatCast]
          by_cases e : uC (rgW A p.toInt.toNat s n.toInt.toNat (t + 1)) = aN A (5 * p.toInt.toNat + 2)
          · rw [if_pos e]
            by_cases e2 : uF (rgW A p.toInt.toNat s n.toInt.toNat (t + 1)) = aN A (5 * p.toInt.toNat + 3)
            · rw [if_pos e2]
              rw [if_pos ⟨e, e2⟩] at he
              exact he w5 h5 (mPw_Q hf5)
            · rw [if_neg e2]
              rw [if_neg (fun hd => e2 hd.2)] at he
              exact ih fu (t + 1) w5 (by omega) (by omega) ⟨h5, hf5, hl5, hw5'⟩ he
          · rw [if_neg e]
            rw [if_neg (fun hd => e hd.1)] at he
            exact ih fu (t + 1) w5 (by omega) (by omega) ⟨h5, hf5, hl5, hw5'⟩ he
    exact key 20 FU 0 w2 (by omega) (by unfold FU; omega) ⟨h2, hf2, hl2, hw2⟩ hk1
  · rw [if_neg hp]
    exact ⟨by rw [h.sh.ob]; trivial, m_q h hA (zero_iff hp) hk (fun hp' => absurd hp' hp)⟩
end MQ5
