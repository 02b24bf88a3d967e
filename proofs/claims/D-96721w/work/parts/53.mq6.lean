/-! ===== power, agreed, open, shore, kinds, ponds, of the reference ===== -/
section MQ6
variable {w : Wd} {m : Nat} {A : Ab}
/-- a set's weight -/
def wsF (N : Nw) (set : Int32) : Int32 := foldP (fun q a => a + sbit set q * N (5 * q + 1)) 0 (pe N)
/-- how many sets need one -/
def powF (N : Nw) (p : Nat) : Int32 := foldP (fun c a => if sbit (Int32.ofNat c) p = 0 then a + (if 2 * wsF N (Int32.ofNat c) ≤ wghF N 0 + wghF N 1 ∧ wghF N 0 + wghF N 1 < 2 * (wsF N (Int32.ofNat c) + N (5 * p + 1)) then 1 else 0) else a) 0 (2 ^ pe N)
theorem m_power (h : MM w m A) (hP : okP (aN A)) {p : Nat} (hp : p < 8) {k : Int32 → Wd → Prop} (hk : k (powF (aN A) p) w) : wp_X4_power w m (Int32.ofNat p) k := by
  have h8 := hP.2
  have hpw := pow8 h8
  have hp8 : 0 ≤ (Int32.ofNat p).toInt ∧ (Int32.ofNat p).toInt < 8 := by rw [i_ti (by omega)]; omega
  unfold wp_X4_power
  refine ⟨by rw [h.sh.ob]; trivial, m_weigh h hP 0 ⟨by rw [h.sh.ob]; trivial, m_weigh h hP 1 ?_⟩⟩
  refine loopN (n := 2 ^ pe (aN A)) (I := fun j w2 => w2 = w) (L := fun fu j w2 => wl_X4_power_17 k fu w2 m (Int32.ofNat p) (wghF (aN A) 0 + wghF (aN A) 1) (foldP (fun c a => if sbit (Int32.ofNat c) p = 0 then a + (if 2 * wsF (aN A) (Int32.ofNat c) ≤ wghF (aN A) 0 + wghF (aN A) 1 ∧ wghF (aN A) 0 + wghF (aN A) 1 < 2 * (wsF (aN A) (Int32.ofNat c) + aN A (5 * p + 1)) then 1 else 0) else a) 0 j) (Int32.ofNat j)) ?_ ?_ (2 ^ pe (aN A)) FU 0 w (by omega) (by unfold FU; omega) rfl
  · rintro fu c w2 hc rfl ih
    rw [wl_X4_power_17_s]
    unfold wb_X4_power_17
    refine ⟨by rw [h.sh.ob]; trivial, ?_⟩
    have hpe : aN A 89 = Int32.ofNat (pe (aN A)) := by rw [i_eq, hP.1, i_ti (by omega)]
    rw [m_many h, hpe, if_neg (by rw [sh_le h8 _ (by omega)]; omega)]
    have ih' := ih _ rfl
    simp only [foldP] at ih'
    by_cases e : sbit (Int32.ofNat c) p = 0
    · rw [if_pos e] at ih'
      refine (if_pos (show (Int32.ofNat c >>> (Int32.ofNat p &&& 31)) &&& 1 = 0 from e)).mpr ?_
      generalize (foldP (fun c a => if sbit (Int32.ofNat c) p = 0 then a + (if 2 * wsF (aN A) (Int32.ofNat c) ≤ wghF (aN A) 0 + wghF (aN A) 1 ∧ wghF (aN A) 0 + wghF (aN A) 1 < 2 * (wsF (aN A) (Int32.ofNat c) + aN A (5 * p + 1)) then 1 else 0) else a) 0 c : Int32) = acc at ih' ⊢
      refine loopN (n := pe (aN A)) (I := fun j w3 => w3 = w2) (L := fun fu' j w3 => wl_X4_power_43 k (wl_X4_power_17 k fu) fu' w3 m (Int32.ofNat p) (wghF (aN A) 0 + wghF (aN A) 1) acc (Int32.ofNat c) (foldP (fun q a => a + sbit (Int32.ofNat c) q * aN A (5 * q + 1)) 0 j) (Int32.ofNat j)) ?_ ?_ (pe (aN A)) FU 0 w2 (by omega) (by unfold FU; omega) rfl
      · rintro fu' j w3 hj rfl ih2
        have hj8 : 0 ≤ (Int32.ofNat j).toInt ∧ (Int32.ofNat j).toInt < 8 := by rw [i_ti (by omega)]; omega
        rw [wl_X4_power_43_s]
        unfold wb_X4_power_43
        refine ⟨by rw [h.sh.ob]; trivial, ?_⟩
        rw [m_many h, if_neg (by rw [hP.le (by omega)]; omega)]
        refine ⟨by rw [h.sh.ob]; trivial, ?_⟩
        rw [m_a h hj8, i_tt (by omega), i_ofS]
        exact ih2 _ rfl
      · rintro fu' w3 rfl
        rw [wl_X4_power_43_s]
        unfold wb_X4_power_43
        refine ⟨by rw [h.sh.ob]; trivial, ?_⟩
        rw [m_many h, if_pos (by rw [hP.le (by omega)]; omega)]
        show if wghF (aN A) 0 + wghF (aN A) 1 < 2 * wsF (aN A) (Int32.ofNat c) then _ else _
        rw [i_ofS]
        by_cases e1 : wghF (aN A) 0 + wghF (aN A) 1 < 2 * wsF (aN A) (Int32.ofNat c)
        · rw [if_pos e1]
          rwa [if_neg (fun q => by have := q.1; rw [i_le] at this; rw [i_lt] at e1; omega)] at ih'
        · rw [if_neg e1]
          refine ⟨by rw [h.sh.ob]; trivial, ?_⟩
          rw [m_a h hp8, i_tt (by omega)]
          show if 2 * (wsF (aN A) (Int32.ofNat c) + aN A (5 * p + 1)) ≤ wghF (aN A) 0 + wghF (aN A) 1 then _ else _
          by_cases e2 : 2 * (wsF (aN A) (Int32.ofNat c) + aN A (5 * p + 1)) ≤ wghF (aN A) 0 + wghF (aN A) 1
          · rw [if_pos e2]
            rwa [if_neg (fun q => by have := q.2; rw [i_lt] at this; rw [i_le] at e2; omega)] at ih'
          · rw [if_neg e2]
            rwa [if_pos ⟨by rw [i_le]; rw [i_lt] at e1; omega, by rw [i_lt]; rw [i_le] at e2; omega⟩] at ih'
    · rw [if_neg e] at ih'
      refine (if_neg (show ¬ (Int32.ofNat c >>> (Int32.ofNat p &&& 31)) &&& 1 = 0 from e)).mpr ?_
      rw [i_ofS]
      exact ih'
  · rintro fu w2 rfl
    rw [wl_X4_power_17_s]
    unfold wb_X4_power_17
    refine ⟨by rw [h.sh.ob]; trivial, ?_⟩
    have hpe : aN A 89 = Int32.ofNat (pe (aN A)) := by rw [i_eq, hP.1, i_ti (by omega)]
    rw [m_many h, hpe, if_pos (by rw [sh_le h8 _ (by omega)]; omega)]
    exact hk
def F_personOf (A : Ab) (p what : Int32) : Int32 × Ab := if isP (aN A) p ∧ 0 ≤ what.toInt ∧ what.toInt ≤ 5 then (if what.toInt = 5 then powF (aN A) p.toInt.toNat else aN A (5 * p.toInt.toNat + what.toInt.toNat), A) else rf A (-2)
theorem m_personOf (h : MM w m A) (hN : okN (aN A)) (p what : Int32) {k : Int32 → Wd → Prop} (hk : mR w m (F_personOf A p what).2 (k (F_personOf A p what).1)) : wp_X4_personOf w m p what k := by
  unfold wp_X4_personOf
  unfold F_personOf at hk
  refine ⟨by rw [h.sh.ob]; trivial, ?_⟩
  rw [m_isPerson h hN]
  by_cases hp : isP (aN A) p
  · have hp8 := isP_8 hN hp
    rw [if_pos hp, if_neg (by decide)]
    simp only [m_isIn, lg_lit, ie_m6_m5, ie_m6_m4, ie_m6_m3, ie_m6_m2, ie_m6_m1, ie_m6_0, ie_m6_1, ie_m6_2, ie_m6_3, ie_m6_4, ie_m6_5, ie_m6_6, ie_m5_m6, ie_m5_m4, ie_m5_m3, ie_m5_m2, ie_m5_m1, ie_m5_0, ie_m5_1, ie_m5_2, ie_m5_3, ie_m5_4, ie_m5_5, ie_m5_6, ie_m4_m6, ie_m4_m5, ie_m4_m3, ie_m4_m2, ie_m4_m1, ie_m4_0, ie_m4_1, ie_m4_2, ie_m4_3, ie_m4_4, ie_m4_5, ie_m4_6, ie_m3_m6, ie_m3_m5, ie_m3_m4, ie_m3_m2, ie_m3_m1, ie_m3_0, ie_m3_1, ie_m3_2, ie_m3_3, ie_m3_4, ie_m3_5, ie_m3_6, ie_m2_m6, ie_m2_m5, ie_m2_m4, ie_m2_m3, ie_m2_m1, ie_m2_0, ie_m2_1, ie_m2_2, ie_m2_3, ie_m2_4, ie_m2_5, ie_m2_6, ie_m1_m6, ie_m1_m5, ie_m1_m4, ie_m1_m3, ie_m1_m2, ie_m1_0, ie_m1_1, ie_m1_2, ie_m1_3, ie_m1_4, ie_m1_5, ie_m1_6, ie_0_m6, ie_0_m5, ie_0_m4, ie_0_m3, ie_0_m2, ie_0_m1, ie_0_1, ie_0_2, ie_0_3, ie_0_4, ie_0_5, ie_0_6, ie_1_m6, ie_1_m5, ie_1_m4, ie_1_m3, ie_1_m2, ie_1_m1, ie_1_0, ie_1_2, ie_1_3, ie_1_4, ie_1_5, ie_1_6, ie_2_m6, ie_2_m5, ie_2_m4, ie_2_m3, ie_2_m2, ie_2_m1, ie_2_0, ie_2_1, ie_2_3, ie_2_4, ie_2_5, ie_2_6, ie_3_m6, ie_3_m5, ie_3_m4, ie_3_m3, ie_3_m2, ie_3_m1, ie_3_0, ie_3_1, ie_3_2, ie_3_4, ie_3_5, ie_3_6, ie_4_m6, ie_4_m5, ie_4_m4, ie_4_m3, ie_4_m2, ie_4_m1, ie_4_0, ie_4_1, ie_4_2, ie_4_3, ie_4_5, ie_4_6, ie_5_m6, ie_5_m5, ie_5_m4, ie_5_m3, ie_5_m2, ie_5_m1, ie_5_0, ie_5_1, ie_5_2, ie_5_3, ie_5_4, ie_5_6, ie_6_m6, ie_6_m5, ie_6_m4, ie_6_m3, ie_6_m2, ie_6_m1, ie_6_0, ie_6_1, ie_6_2, ie_6_3, ie_6_4, ie_6_5, Int32.reduceToInt, Int64.reduceToInt, Int.reduceToNat, Int32.reduceAdd, Int32.reduceSub, Int32.reduceMul, Int32.reduceDiv, Int32.reduceLT, Int32.reduceLE, Int.reduceLE, Int.reduceLT, Int.reduceNeg, Int.reduceAdd, Int.reduceSub, Int.reduceMul, Int.reduceEq, Nat.reduceAdd, Nat.reduceMul, Nat.reduceLT, Nat.reduceEqDiff, true_and, and_true, and_self, false_and, and_false, if_true, if_false, ite_true, ite_false, ↓reduceIte, not_true_eq_false, not_false_eq_true, true_or, or_true, or_false, false_or, Int.cast_ofNat_Int, Int.reduceNatCast]
    by_cases hw : 0 ≤ what.toInt ∧ what.toInt ≤ 5
    · rw [if_pos hw]
      rw [if_pos ⟨hp, hw⟩] at hk
      have hk' := hk.self h
      by_cases h5 : what.toInt = 5
      · rw [if_pos (by rw [i_le]; show (5 : Int) ≤ _; omega)]
        rw [if_pos h5] at hk'
        rw [← i_of hp8.1]
        exact ⟨by rw [h.sh.ob]; trivial, m_power h hN.P (by omega) hk'⟩
      · rw [if_neg (by rw [i_le]; show ¬ (5 : Int) ≤ _; omega)]
        rw [if_neg h5] at hk'
        simp only [h.sh.G401]
        rw [m_rd h hp8 (by omega)]
        exact hk'
    · rw [if_neg hw]
      rw [if_neg (fun e => hw e.2)] at hk
      exact ⟨by rw [h.sh.ob]; trivial, m_refuse h (by decide) hk⟩
  · rw [if_neg hp, if_pos rfl]
    rw [if_neg (fun e => hp e.1)] at hk
    exact ⟨by rw [h.sh.ob]; trivial, m_refuse h (by decide) hk⟩
/-- who has most, among the first j + 1 -/
def migJ (N : Nw) (j : Nat) : Nat := foldP (fun c best => if powF N best < powF N (c + 1) then c + 1 else best) 0 j
theorem migJ_le (N : Nw) : ∀ j, migJ N j ≤ j
  | 0 => Nat.le_refl _
  | j + 1 => by
    show (if powF N (migJ N j) < powF N (j + 1) then j + 1 else migJ N j) ≤ j + 1
    have := migJ_le N j
    split <;> omega
def F_mightiest (A : Ab) : Int32 × Ab := if pe (aN A) = 0 then rf A (-5) else (Int32.ofNat (migJ (aN A) (pe (aN A) - 1)), A)
theorem m_mightiest (h : MM w m A) (hN : okN (aN A)) {k : Int32 → Wd → Prop} (hk : mR w m (F_mightiest A).2 (k (F_mightiest A).1)) : wp_X4_mightiest w m k := by
  have hP := hN.P
  have h8 := hP.2
  unfold wp_X4_mightiest
  unfold F_mightiest at hk
  refine ⟨by rw [h.sh.ob]; trivial, ?_⟩
  rw [m_many h]
  by_cases h0 : pe (aN A) = 0
  · rw [if_pos (hP.z.2 h0)]
    rw [if_pos h0] at hk
    exact ⟨by rw [h.sh.ob]; trivial, m_refuse h (by decide) hk⟩
  · rw [if_neg (fun e => h0 (hP.z.1 e))]
    rw [if_neg h0] at hk
    refine loopN (n := pe (aN A) - 1) (I := fun j w2 => w2 = w) (L := fun fu j w2 => wl_X4_mightiest_18 k fu w2 m (Int32.ofNat (migJ (aN A) j)) (Int32.ofNat (j + 1))) ?_ ?_ (pe (aN A) - 1) FU 0 w (by omega) (by unfold FU; omega) rfl
    · rintro fu j w2 hj rfl ih
      have hmj := migJ_le (aN A) j
      rw [wl_X4_mightiest_18_s]
      unfold wb_X4_mightiest_18
      refine ⟨by rw [h.sh.ob]; trivial, ?_⟩
      rw [m_many h, if_neg (by rw [hP.le (by omega)]; omega)]
      refine ⟨by rw [h.sh.ob]; trivial, m_power h hP (by omega) ⟨by rw [h.sh.ob]; trivial, m_power h hP (by omega) ?_⟩⟩
      have ih' := ih _ rfl
      rw [show migJ (aN A) (j + 1) = if powF (aN A) (migJ (aN A) j) < powF (aN A) (j + 1) then j + 1 else migJ (aN A) j from rfl] at ih'
      rw [i_ofS]
      by_cases e : powF (aN A) (migJ (aN A) j) < powF (aN A) (j + 1)
      · rw [if_neg (by rw [i_le]; rw [i_lt] at e; omega)]
        rwa [if_pos e] at ih'
      · rw [if_pos (by rw [i_le]; rw [i_lt] at e; omega)]
        rwa [if_neg e] at ih'
    · rintro fu w2 rfl
      rw [wl_X4_mightiest_18_s]
      unfold wb_X4_mightiest_18
      refine ⟨by rw [h.sh.ob]; trivial, ?_⟩
      rw [m_many h, if_pos (by rw [hP.le (by omega)]; omega)]
      exact hk.self h
/-- who goes by what is agreed -/
def agrJ (N : Nw) (j : Nat) : Int32 := foldP (fun p a => a ||| (if by1 N (N (5 * p)) (N 91) p (beg (N (5 * p + 2)) (N (5 * p + 3))) 1 = N 91 then bit1 p else 0)) 0 j
def F_agreed (A : Ab) : Int32 × Ab := (agrJ (aN A) (pe (aN A)), A)
theorem m_agreed (h : MM w m A) (hN : okN (aN A)) {k : Int32 → Wd → Prop} (hk : mR w m (F_agreed A).2 (k (F_agreed A).1)) : wp_X4_agreed w m k := by
  have hP := hN.P
  have h8 := hP.2
  unfold wp_X4_agreed
  refine loopN (n := pe (aN A)) (I := fun j w2 => MM w2 m A ∧ fr (mPw m) w w2) (L := fun fu j w2 => wl_X4_agreed_4 k fu w2 m (agrJ (aN A) j) (Int32.ofNat j)) ?_ ?_ (pe (aN A)) FU 0 w (by omega) (by unfold FU; omega) ⟨h, fr.refl _ _⟩
  · intro fu j w2 hj ⟨h2, hf2⟩ ih
    have hj8 : 0 ≤ (Int32.ofNat j).toInt ∧ (Int32.ofNat j).toInt < 8 := by rw [i_ti (by omega)]; omega
    have v91 : vp_in 91 97 := vp_iff.2 (by decide)
    rw [wl_X4_agreed_4_s]
    unfold wb_X4_agreed_4
    refine ⟨by rw [h2.sh.ob]; trivial, ?_⟩
    rw [m_many h2, if_neg (by rw [hP.le (by omega)]; omega)]
    simp only [h2.sh.ob, m_cell h2 hj8, m_faces h2 hj8, i_tt (show j < 1000000 by omega), true_and]
    refine m_start h2 (by decide) _ _ (fun w3 hf3 _ hw3 => ?_)
    have h3 := h2.sc (mPw_P hf3)
    refine ⟨by rw [h3.sh.ob]; trivial, ?_⟩
    rw [m_goesBy h3 hN (i := 0) (by decide) (isP_of hN hj).1 hw3 (okU_beg hN hj) (show 0 < 1000000 by decide), (isP_of hN hj).2]
    simp only [h3.sh.G401, h3.sh.r2, h3.N, v91, i_ofS, ie_m6_m5, ie_m6_m4, ie_m6_m3, ie_m6_m2, ie_m6_m1, ie_m6_0, ie_m6_1, ie_m6_2, ie_m6_3, ie_m6_4, ie_m6_5, ie_m6_6, ie_m5_m6, ie_m5_m4, ie_m5_m3, ie_m5_m2, ie_m5_m1, ie_m5_0, ie_m5_1, ie_m5_2, ie_m5_3, ie_m5_4, ie_m5_5, ie_m5_6, ie_m4_m6, ie_m4_m5, ie_m4_m3, ie_m4_m2, ie_m4_m1, ie_m4_0, ie_m4_1, ie_m4_2, ie_m4_3, ie_m4_4, ie_m4_5, ie_m4_6, ie_m3_m6, ie_m3_m5, ie_m3_m4, ie_m3_m2, ie_m3_m1, ie_m3_0, ie_m3_1, ie_m3_2, ie_m3_3, ie_m3_4, ie_m3_5, ie_m3_6, ie_m2_m6, ie_m2_m5, ie_m2_m4, ie_m2_m3, ie_m2_m1, ie_m2_0, ie_m2_1, ie_m2_2, ie_m2_3, ie_m2_4, ie_m2_5, ie_m2_6, ie_m1_m6, ie_m1_m5, ie_m1_m4, ie_m1_m3, ie_m1_m2, ie_m1_0, ie_m1_1, ie_m1_2, ie_m1_3, ie_m1_4, ie_m1_5, ie_m1_6, ie_0_m6, ie_0_m5, ie_0_m4, ie_0_m3, ie_0_m2, ie_0_m1, ie_0_1, ie_0_2, ie_0_3, ie_0_4, ie_0_5, ie_0_6, ie_1_m6, ie_1_m5, ie_1_m4, ie_1_m3, ie_1_m2, ie_1_m1, ie_1_0, ie_1_2, ie_1_3, ie_1_4, ie_1_5, ie_1_6, ie_2_m6, ie_2_m5, ie_2_m4, ie_2_m3, ie_2_m2, ie_2_m1, ie_2_0, ie_2_1, ie_2_3, ie_2_4, ie_2_5, ie_2_6, ie_3_m6, ie_3_m5, ie_3_m4, ie_3_m3, ie_3_m2, ie_3_m1, ie_3_0, ie_3_1, ie_3_2, ie_3_4, ie_3_5, ie_3_6, ie_4_m6, ie_4_m5, ie_4_m4, ie_4_m3, ie_4_m2, ie_4_m1, ie_4_0, ie_4_1, ie_4_2, ie_4_3, ie_4_5, ie_4_6, ie_5_m6, ie_5_m5, ie_5_m4, ie_5_m3, ie_5_m2, ie_5_m1, ie_5_0, ie_5_1, ie_5_2, ie_5_3, ie_5_4, ie_5_6, ie_6_m6, ie_6_m5, ie_6_m4, ie_6_m3, ie_6_m2, ie_6_m1, ie_6_0, ie_6_1, ie_6_2, ie_6_3, ie_6_4, ie_6_5, Int32.reduceToInt, Int64.reduceToInt, Int.reduceToNat, Int32.reduceAdd, Int32.reduceSub, Int32.reduceMul, Int32.reduceDiv, Int32.reduceLT, Int32.reduceLE, Int.reduceLE, Int.reduceLT, Int.reduceNeg, Int.reduceAdd, Int.reduceSub, Int.reduceMul, Int.reduceEq, Nat.reduceAdd, Nat.reduceMul, Nat.reduceLT, Nat.reduceEqDiff, true_and, and_true, and_self, false_and, and_false, if_true, if_false, ite_true, ite_false, ↓reduceIte, not_true_eq_false, not_false_eq_true, true_or, or_true, or_false, false_or, Int.cast_ofNat_Int, Int.reduceNatCast]
    have ih' := ih w3 ⟨h3, hf2.trans hf3⟩
    rw [show agrJ (aN A) (j + 1) = agrJ (aN A) j ||| (if by1 (aN A) (aN A (5 * j)) (aN A 91) j (beg (aN A (5 * j + 2)) (aN A (5 * j + 3))) 1 = aN A 91 then bit1 j else 0) from rfl] at ih'
    by_cases e : by1 (aN A) (aN A (5 * j)) (aN A 91) j (beg (aN A (5 * j + 2)) (aN A (5 * j + 3))) 1 = aN A 91
    · rw [if_pos e] at ih' ⊢
      exact ih'
    · rw [if_neg e] at ih' ⊢
      exact ih'
  · intro fu w2 ⟨h2, hf2⟩
    rw [wl_X4_agreed_4_s]
    unfold wb_X4_agreed_4
    refine ⟨by rw [h2.sh.ob]; trivial, ?_⟩
    rw [m_many h2, if_pos (by rw [hP.le (by omega)]; omega)]
    exact hk w2 h2 (mPw_Q hf2)
/-- how many cells one may go on -/
def opnF (N : Nw) (f : Int32) : Nat → Int32 → Int32 → Int32
  | 0, n, _ => n
  | d + 1, n, c => if c = -1 then n else if pnd N c = 1 then n else opnF N f d (n + 1) (bes (N 90) c f)
/-- how far the end is, that way -/
def endD (sd c f : Int32) : Nat := if c = -1 then 0 else if f = 0 then (c.toInt / 10 + 1).toNat else if f = 2 then (sd.toInt - c.toInt / 10).toNat else if f = 3 then (c.toInt % 10 + 1).toNat else (sd.toInt - c.toInt % 10).toNat
theorem endD_lt {sd c f : Int32} (hs : sd.toInt ≤ 7) (hc : isC sd c) (hf : okF f) : endD sd (bes sd c f) f < endD sd c f ∧ endD sd c f ≤ 7 := by
  have hne := isC_ne hc
  have hc' := hc
  unfold isC at hc'
  by_cases hb : bes sd c f = -1
  · rw [hb]
    unfold endD
    rw [if_pos rfl, if_neg hne]
    rcases okF_c hf with rfl | rfl | rfl | rfl <;> simp only [ie_m6_m5, ie_m6_m4, ie_m6_m3, ie_m6_m2, ie_m6_m1, ie_m6_0, ie_m6_1, ie_m6_2, ie_m6_3, ie_m6_4, ie_m6_5, ie_m6_6, ie_m5_m6, ie_m5_m4, ie_m5_m3, ie_m5_m2, ie_m5_m1, ie_m5_0, ie_m5_1, ie_m5_2, ie_m5_3, ie_m5_4, ie_m5_5, ie_m5_6, ie_m4_m6, ie_m4_m5, ie_m4_m3, ie_m4_m2, ie_m4_m1, ie_m4_0, ie_m4_1, ie_m4_2, ie_m4_3, ie_m4_4, ie_m4_5, ie_m4_6, ie_m3_m6, ie_m3_m5, ie_m3_m4, ie_m3_m2, ie_m3_m1, ie_m3_0, ie_m3_1, ie_m3_2, ie_m3_3, ie_m3_4, ie_m3_5, ie_m3_6, ie_m2_m6, ie_m2_m5, ie_m2_m4, ie_m2_m3, ie_m2_m1, ie_m2_0, ie_m2_1, ie_m2_2, ie_m2_3, ie_m2_4, ie_m2_5, ie_m2_6, ie_m1_m6, ie_m1_m5, ie_m1_m4, ie_m1_m3, ie_m1_m2, ie_m1_0, ie_m1_1, ie_m1_2, ie_m1_3, ie_m1_4, ie_m1_5, ie_m1_6, ie_0_m6, ie_0_m5, ie_0_m4, ie_0_m3, ie_0_m2, ie_0_m1, ie_0_1, ie_0_2, ie_0_3, ie_0_4, ie_0_5, ie_0_6, ie_1_m6, ie_1_m5, ie_1_m4, ie_1_m3, ie_1_m2, ie_1_m1, ie_1_0, ie_1_2, ie_1_3, ie_1_4, ie_1_5, ie_1_6, ie_2_m6, ie_2_m5, ie_2_m4, ie_2_m3, ie_2_m2, ie_2_m1, ie_2_0, ie_2_1, ie_2_3, ie_2_4, ie_2_5, ie_2_6, ie_3_m6, ie_3_m5, ie_3_m4, ie_3_m3, ie_3_m2, ie_3_m1, ie_3_0, ie_3_1, ie_3_2, ie_3_4, ie_3_5, ie_3_6, ie_4_m6, ie_4_m5, ie_4_m4, ie_4_m3, ie_4_m2, ie_4_m1, ie_4_0, ie_4_1, ie_4_2, ie_4_3, ie_4_5, ie_4_6, ie_5_m6, ie_5_m5, ie_5_m4, ie_5_m3, ie_5_m2, ie_5_m1, ie_5_0, ie_5_1, ie_5_2, ie_5_3, ie_5_4, ie_5_6, ie_6_m6, ie_6_m5, ie_6_m4, ie_6_m3, ie_6_m2, ie_6_m1, ie_6_0, ie_6_1, ie_6_2, ie_6_3, ie_6_4, ie_6_5, Int32.reduceToInt, Int64.reduceToInt, Int.reduceToNat, Int32.reduceAdd, Int32.reduceSub, Int32.reduceMul, Int32.reduceDiv, Int32.reduceLT, Int32.reduceLE, Int.reduceLE, Int.reduceLT, Int.reduceNeg, Int.reduceAdd, Int.reduceSub, Int.reduceMul, Int.reduceEq, Nat.reduceAdd, Nat.reduceMul, Nat.reduceLT, Nat.reduceEqDiff, true_and, and_true, and_self, false_and, and_false, if_true, if_false, ite_true, ite_false, ↓reduceIte, not_true_eq_false, not_false_eq_true, true_or, or_true, or_false, false_or, Int.cast_ofNat_Int, Int.reduceNatCast] <;> omega
  · have e : bes sd c f = Int32.ofInt (10 * (c.toInt / 10 + dnF f) + (c.toInt % 10 + acF f)) ∧ (0 ≤ c.toInt / 10 + dnF f ∧ c.toInt / 10 + dnF f < sd.toInt ∧ 0 ≤ c.toInt % 10 + acF f ∧ c.toInt % 10 + acF f < sd.toInt) := by
      unfold bes at hb ⊢
      split
      · rename_i q; exact ⟨rfl, q⟩
      · rename_i q; rw [if_neg q] at hb; exact absurd rfl hb
    have e2 : (bes sd c f).toInt = 10 * (c.toInt / 10 + dnF f) + (c.toInt % 10 + acF f) := by rw [e.1, i_ofInt (by omega)]
    have e3 := e.2
    unfold endD
    rw [if_neg hb, if_neg hne, e2]
    clear e e2 hb
    rcases okF_c hf with rfl | rfl | rfl | rfl <;> simp only [ie_m6_m5, ie_m6_m4, ie_m6_m3, ie_m6_m2, ie_m6_m1, ie_m6_0, ie_m6_1, ie_m6_2, ie_m6_3, ie_m6_4, ie_m6_5, ie_m6_6, ie_m5_m6, ie_m5_m4, ie_m5_m3, ie_m5_m2, ie_m5_m1, ie_m5_0, ie_m5_1, ie_m5_2, ie_m5_3, ie_m5_4, ie_m5_5, ie_m5_6, ie_m4_m6, ie_m4_m5, ie_m4_m3, ie_m4_m2, ie_m4_m1, ie_m4_0, ie_m4_1, ie_m4_2, ie_m4_3, ie_m4_4, ie_m4_5, ie_m4_6, ie_m3_m6, ie_m3_m5, ie_m3_m4, ie_m3_m2, ie_m3_m1, ie_m3_0, ie_m3_1, ie_m3_2, ie_m3_3, ie_m3_4, ie_m3_5, ie_m3_6, ie_m2_m6, ie_m2_m5, ie_m2_m4, ie_m2_m3, ie_m2_m1, ie_m2_0, ie_m2_1, ie_m2_2, ie_m2_3, ie_m2_4, ie_m2_5, ie_m2_6, ie_m1_m6, ie_m1_m5, ie_m1_m4, ie_m1_m3, ie_m1_m2, ie_m1_0, ie_m1_1, ie_m1_2, ie_m1_3, ie_m1_4, ie_m1_5, ie_m1_6, ie_0_m6, ie_0_m5, ie_0_m4, ie_0_m3, ie_0_m2, ie_0_m1, ie_0_1, ie_0_2, ie_0_3, ie_0_4, ie_0_5, ie_0_6, ie_1_m6, ie_1_m5, ie_1_m4, ie_1_m3, ie_1_m2, ie_1_m1, ie_1_0, ie_1_2, ie_1_3, ie_1_4, ie_1_5, ie_1_6, ie_2_m6, ie_2_m5, ie_2_m4, ie_2_m3, ie_2_m2, ie_2_m1, ie_2_0, ie_2_1, ie_2_3, ie_2_4, ie_2_5, ie_2_6, ie_3_m6, ie_3_m5, ie_3_m4, ie_3_m3, ie_3_m2, ie_3_m1, ie_3_0, ie_3_1, ie_3_2, ie_3_4, ie_3_5, ie_3_6, ie_4_m6, ie_4_m5, ie_4_m4, ie_4_m3, ie_4_m2, ie_4_m1, ie_4_0, ie_4_1, ie_4_2, ie_4_3, ie_4_5, ie_4_6, ie_5_m6, ie_5_m5, ie_5_m4, ie_5_m3, ie_5_m2, ie_5_m1, ie_5_0, ie_5_1, ie_5_2, ie_5_3, ie_5_4, ie_5_6, ie_6_m6, ie_6_m5, ie_6_m4, ie_6_m3, ie_6_m2, ie_6_m1, ie_6_0, ie_6_1, ie_6_2, ie_6_3, ie_6_4, ie_6_5, Int32.reduceToInt, Int64.reduceToInt, Int.reduceToNat, Int32.reduceAdd, Int32.reduceSub, Int32.reduceMul, Int32.reduceDiv, Int32.reduceLT, Int32.reduceLE, Int.reduceLE, Int.reduceLT, Int.reduceNeg, Int.reduceAdd, Int.reduceSub, Int.reduceMul, Int.reduceEq, Nat.reduceAdd, Nat.reduceMul, Nat.reduceLT, Nat.reduceEqDiff, true_and, and_true, and_self, false_and, and_false, if_true, if_false, ite_true, ite_false, ↓reduceIte, not_true_eq_false, not_false_eq_true, true_or, or_true, or_false, false_or, Int.cast_ofNat_Int, Int.reduceNatCast, dnF_0, dnF_1, dnF_2, dnF_3, acF_0, acF_1, acF_2, acF_3] at e3 ⊢ <;> omega
def F_open (A : Ab) (c f : Int32) : Int32 × Ab := if isC (aN A 90) c ∧ okF f then (opnF (aN A) f 8 0 (bes (aN A 90) c f), A) else rf A (-2)
theorem m_openL (h : MM w m A) (hN : okN (aN A)) {f : Int32} (hf : okF f) {k : Int32 → Wd → Prop} : ∀ (d fu : Nat) (n c : Int32), endD (aN A 90) c f < d → d ≤ fu → (c = -1 ∨ isC (aN A 90) c) → k (opnF (aN A) f d n c) w → wl_X4_open_37 k fu w m f n c := by
  intro d
  induction d with
  | zero => intro fu n c h1; exact absurd h1 (by omega)
  | succ d ih =>
    intro fu n c h1 h2 hc hk
    obtain ⟨fu, rfl⟩ : ∃ g, fu = g + 1 := ⟨fu - 1, by omega⟩
    rw [wl_X4_open_37_s]
    unfold wb_X4_open_37
    unfold opnF at hk
    by_cases e : c = -1
    · rw [if_pos e] at hk ⊢; exact hk
    · rw [if_neg e] at hk ⊢
      have hc' := hc.resolve_left e
      refine ⟨by rw [h.sh.ob]; trivial, ?_⟩
      rw [m_hasPond h hN hc']
      by_cases e2 : pnd (aN A) c = 1
      · rw [if_pos e2, if_neg (by decide)]
        rwa [if_pos e2] at hk
      · rw [if_neg e2, if_pos rfl]
        rw [if_neg e2] at hk
        refine ⟨by rw [h.sh.ob]; trivial, ?_⟩
        rw [m_beside h hN hc' hf]
        have := (endD_lt hN.side hc' hf).1
        exact ih fu (n + 1) _ (by omega) (by omega) (bes_ok hN.side hc') hk
theorem m_open (h : MM w m A) (hN : okN (aN A)) (c f : Int32) {k : Int32 → Wd → Prop} (hk : mR w m (F_open A c f).2 (k (F_open A c f).1)) : wp_X4_open w m c f k := by
  unfold wp_X4_open
  unfold F_open at hk
  refine ⟨by rw [h.sh.ob]; trivial, ?_⟩
  rw [m_isCell h]
  by_cases hc : isC (aN A 90) c
  · rw [if_pos hc, if_neg (by decide)]
    simp only [m_isIn, lg_lit, ie_m6_m5, ie_m6_m4, ie_m6_m3, ie_m6_m2, ie_m6_m1, ie_m6_0, ie_m6_1, ie_m6_2, ie_m6_3, ie_m6_4, ie_m6_5, ie_m6_6, ie_m5_m6, ie_m5_m4, ie_m5_m3, ie_m5_m2, ie_m5_m1, ie_m5_0, ie_m5_1, ie_m5_2, ie_m5_3, ie_m5_4, ie_m5_5, ie_m5_6, ie_m4_m6, ie_m4_m5, ie_m4_m3, ie_m4_m2, ie_m4_m1, ie_m4_0, ie_m4_1, ie_m4_2, ie_m4_3, ie_m4_4, ie_m4_5, ie_m4_6, ie_m3_m6, ie_m3_m5, ie_m3_m4, ie_m3_m2, ie_m3_m1, ie_m3_0, ie_m3_1, ie_m3_2, ie_m3_3, ie_m3_4, ie_m3_5, ie_m3_6, ie_m2_m6, ie_m2_m5, ie_m2_m4, ie_m2_m3, ie_m2_m1, ie_m2_0, ie_m2_1, ie_m2_2, ie_m2_3, ie_m2_4, ie_m2_5, ie_m2_6, ie_m1_m6, ie_m1_m5, ie_m1_m4, ie_m1_m3, ie_m1_m2, ie_m1_0, ie_m1_1, ie_m1_2, ie_m1_3, ie_m1_4, ie_m1_5, ie_m1_6, ie_0_m6, ie_0_m5, ie_0_m4, ie_0_m3, ie_0_m2, ie_0_m1, ie_0_1, ie_0_2, ie_0_3, ie_0_4, ie_0_5, ie_0_6, ie_1_m6, ie_1_m5, ie_1_m4, ie_1_m3, ie_1_m2, ie_1_m1, ie_1_0, ie_1_2, ie_1_3, ie_1_4, ie_1_5, ie_1_6, ie_2_m6, ie_2_m5, ie_2_m4, ie_2_m3, ie_2_m2, ie_2_m1, ie_2_0, ie_2_1, ie_2_3, ie_2_4, ie_2_5, ie_2_6, ie_3_m6, ie_3_m5, ie_3_m4, ie_3_m3, ie_3_m2, ie_3_m1, ie_3_0, ie_3_1, ie_3_2, ie_3_4, ie_3_5, ie_3_6, ie_4_m6, ie_4_m5, ie_4_m4, ie_4_m3, ie_4_m2, ie_4_m1, ie_4_0, ie_4_1, ie_4_2, ie_4_3, ie_4_5, ie_4_6, ie_5_m6, ie_5_m5, ie_5_m4, ie_5_m3, ie_5_m2, ie_5_m1, ie_5_0, ie_5_1, ie_5_2, ie_5_3, ie_5_4, ie_5_6, ie_6_m6, ie_6_m5, ie_6_m4, ie_6_m3, ie_6_m2, ie_6_m1, ie_6_0, ie_6_1, ie_6_2, ie_6_3, ie_6_4, ie_6_5, Int32.reduceToInt, Int64.reduceToInt, Int.reduceToNat, Int32.reduceAdd, Int32.reduceSub, Int32.reduceMul, Int32.reduceDiv, Int32.reduceLT, Int32.reduceLE, Int.reduceLE, Int.reduceLT, Int.reduceNeg, Int.reduceAdd, Int.reduceSub, Int.reduceMul, Int.reduceEq, Nat.reduceAdd, Nat.reduceMul, Nat.reduceLT, Nat.reduceEqDiff, true_and, and_true, and_self, false_and, and_false, if_true, if_false, ite_true, ite_false, ↓reduceIte, not_true_eq_false, not_false_eq_true, true_or, or_true, or_false, false_or, Int.cast_ofNat_Int, Int.reduceNatCast]
    by_cases hf : okF f
    · rw [if_pos (by unfold okF at hf; omega)]
      rw [if_pos ⟨hc, hf⟩] at hk
      refine ⟨by rw [h.sh.ob]; trivial, ?_⟩
      rw [m_beside h hN hc hf]
      have := endD_lt hN.side hc hf
      exact m_openL h hN hf 8 FU 0 _ (by omega) (by unfold FU; omega) (bes_ok hN.side hc) (hk.self h)
    · rw [if_neg (by unfold okF at hf; omega)]
      rw [if_neg (fun e => hf e.2)] at hk
      exact ⟨by rw [h.sh.ob]; trivial, m_refuse h (by decide) hk⟩
  · rw [if_neg hc, if_pos rfl]
    rw [if_neg (fun e => hc e.1)] at hk
    exact ⟨by rw [h.sh.ob]; trivial, m_refuse h (by decide) hk⟩
/-- dry cells beside a pond, among the first j -/
def shoJ (N : Nw) (j : Nat) : Int32 := foldP (fun c a => a + (if isC (N 90) (Int32.ofNat c) ∧ ¬ pnd N (Int32.ofNat c) = 1 ∧ shr N (Int32.ofNat c) then 1 else 0)) 0 j
def F_shore (A : Ab) : Int32 × Ab := (shoJ (aN A) 67, A)
theorem m_shore (h : MM w m A) (hN : okN (aN A)) {k : Int32 → Wd → Prop} (hk : mR w m (F_shore A).2 (k (F_shore A).1)) : wp_X4_shore w m k := by
  unfold wp_X4_shore
  refine loopN (n := 67) (I := fun j w2 => w2 = w) (L := fun fu j w2 => wl_X4_shore_4 k fu w2 m (shoJ (aN A) j) (Int32.ofNat j)) ?_ ?_ 67 FU 0 w (by omega) (by unfold FU; omega) rfl
  · rintro fu j w2 hj rfl ih
    rw [wl_X4_shore_4_s]
    unfold wb_X4_shore_4
    rw [if_neg (by rw [i_le, i_ti (by omega)]; show ¬ (67 : Int) ≤ j; omega)]
    refine ⟨by rw [h.sh.ob]; trivial, ?_⟩
    rw [m_isCell h, i_ofS]
    have ih' := ih _ rfl
    rw [show shoJ (aN A) (j + 1) = shoJ (aN A) j + (if isC (aN A 90) (Int32.ofNat j) ∧ ¬ pnd (aN A) (Int32.ofNat j) = 1 ∧ shr (aN A) (Int32.ofNat j) then 1 else 0) from rfl] at ih'
    by_cases hc : isC (aN A 90) (Int32.ofNat j)
    · rw [if_pos hc, if_neg (by decide)]
      refine ⟨by rw [h.sh.ob]; trivial, ?_⟩
      rw [m_hasPond h hN hc]
      by_cases e : pnd (aN A) (Int32.ofNat j) = 1
      · rw [if_pos e, if_neg (by decide)]
        rwa [if_neg (fun q => q.2.1 e)] at ih'
      · rw [if_neg e, if_pos rfl]
        refine ⟨by rw [h.sh.ob]; trivial, ?_⟩
        rw [m_isShore h hN hc]
        by_cases e2 : shr (aN A) (Int32.ofNat j)
        · rw [if_pos e2, if_neg (by decide)]
          rwa [if_pos ⟨hc, e, e2⟩] at ih'
        · rw [if_neg e2, if_pos rfl]
          rwa [if_neg (fun q => e2 q.2.2)] at ih'
    · rw [if_neg hc, if_pos rfl]
      rwa [if_neg (fun q => hc q.1)] at ih'
  · rintro fu w2 rfl
    rw [wl_X4_shore_4_s]
    unfold wb_X4_shore_4
    rw [if_pos (by decide)]
    exact hk.self h
end MQ6
