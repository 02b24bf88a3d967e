/-! ===== kinds, ponds, of the reference ===== -/
section MQ7
variable {w : Wd} {m : Nat} {A : Ab}
/-- a walk by another kind, or another left -/
def knW (A : Ab) (p : Nat) (s n what : Int32) (i : Nat) : Wk := runW (aN A) (if what = 0 then Int32.ofNat i else aN A (5 * p)) (if what = 0 then aN A 91 else Int32.ofNat i) p (tlg A s) (beg (aN A (5 * p + 2)) (aN A (5 * p + 3))) n.toInt.toNat
def knJ (A : Ab) (p : Nat) (s n c what : Int32) (j : Nat) : Int32 := foldP (fun i a => a ||| (if uC (knW A p s n what i) = c then bit1 i else 0)) 0 j
def F_kinds (A : Ab) (s n p c what : Int32) : Int32 × Ab := qF A (isP (aN A) p ∧ isC (aN A 90) c ∧ 0 ≤ what.toInt ∧ what.toInt ≤ 1) s n (knJ A p.toInt.toNat s n c what (if what = 0 then 6 else 2))
theorem m_kinds (h : MM w m A) (hN : okN (aN A)) (hA : okS A) (s n p c what : Int32) {k : Int32 → Wd → Prop} (hk : mR w m (F_kinds A s n p c what).2 (k (F_kinds A s n p c what).1)) : wp_X4_kinds w m s n p c what k := by
  have h34 : ∀ wl : Int32, (¬ wl = 0 ↔ isP (aN A) p ∧ isC (aN A 90) c ∧ 0 ≤ what.toInt ∧ what.toInt ≤ 1) → wb_X4_kinds_34 k w m s n p c what (some m) wl := by
    intro wl hw
    unfold wb_X4_kinds_34
    refine ⟨by rw [h.sh.ob]; trivial, m_q h hA hw hk (fun ⟨hp, hc, hwh⟩ w1 h1 hf1 hl1 hk1 => ?_)⟩
    have hp8 := isP_8 hN hp
    have hpn := isP_nat hp
    have h8 := hN.pe8
    have e5 : (5 * p).toInt = 5 * p.toInt := i_5z (by omega)
    -- the place
    have body : ∀ (pl : Int32) (PL : Nat), pl.toInt.toNat = PL → vp_in pl 97 → (what = 0 ∧ PL = 5 * p.toInt.toNat ∨ ¬ what = 0 ∧ PL = 91) → wb_X4_kinds_66 k w1 m n p c what pl := by
      intro pl PL hpl hv hPL
      unfold wb_X4_kinds_66
      simp only [h1.sh.G401, h1.sh.r2, h1.N, hv, hpl, true_and]
      have main : ∀ (M : Nat), (M = if what = 0 then 6 else 2) → wl_X4_kinds_83 k FU w1 m n p c what pl (aN A PL) 0 0 := by
        intro M hM
        have hMI : ∀ (k' : Int32 → Wd → Prop) (L : Wd → Nat → Int32 → Int32 → Int32 → Int32 → Int32 → Int32 → Int32 → Int32 → Prop) (w2 : Wd) (a b : Int32), wb_X4_kinds_83 k' L w2 m n p c what pl (aN A PL) a b = wb_X4_kinds_96 k' L w2 m n p c what pl (aN A PL) a b b (Int32.ofNat M) := by
          intro k' L w2 a b
          unfold wb_X4_kinds_83
          by_cases e : what = 0
          · rw [if_pos e] at hM ⊢; rw [hM]; rfl
          · rw [if_neg e] at hM ⊢; rw [hM]; rfl
        have hM6 : M ≤ 6 := by rw [hM]; split <;> decide
        have hM2 : ¬ what = 0 → M = 2 := fun e => by rw [hM, if_neg e]
        have hne : ∀ v, up1 (up1 (aN A) PL v) PL (aN A PL) = aN A := fun v => by rw [up1_upd, up1_self]
        refine loopN (n := M) (I := fun j w2 => MM w2 m (zN A (up1 (aN A) PL (wI w2 (m + 2) PL))) ∧ fr (mQ m) w1 w2 ∧ ldd w2 m A s n) (L := fun fu j w2 => wl_X4_kinds_83 k fu w2 m n p c what pl (aN A PL) (knJ A p.toInt.toNat s n c what j) (Int32.ofNat j)) ?_ ?_ M FU 0 w1 (by omega) (by unfold FU; omega) ⟨by rw [h1.N, up1_self, zN_a]; exact h1, fr.refl _ _, hl1⟩
        · intro fu j w2 hj ⟨h2, hf2, hl2⟩ ih
          rw [wl_X4_kinds_83_s, hMI]
          unfold wb_X4_kinds_96
          rw [if_neg (by rw [le_of (by omega), i_ti (by omega)]; omega)]
          simp only [h2.sh.G401, h2.sh.w2, hv, hpl, true_and]
          have g3 : MM (sI w2 (m + 2) PL (Int32.ofNat j)) m (zN A (up1 (aN A) PL (Int32.ofNat j))) := by have := h2.wN' PL (Int32.ofNat j); rwa [up1_upd] at this
          have hj6 : 0 ≤ (Int32.ofNat j).toInt ∧ (Int32.ofNat j).toInt < 6 := by rw [i_ti (by omega)]; omega
          have hN' : okN (up1 (aN A) PL (Int32.ofNat j)) := by
            rcases hPL with ⟨e, e'⟩ | ⟨e, e'⟩
            · subst e'
              refine okN_per hN (by omega) (fun q hq => ⟨fun _ => hj6, fun e => by omega, fun e => by omega, fun e => by omega⟩)
            · subst e'
              have := hM2 e
              refine okN_left hN ?_
              rcases (show j = 0 ∨ j = 1 by omega) with rfl | rfl
              · exact Or.inl rfl
              · exact Or.inr rfl
          have hP' : isP (up1 (aN A) PL (Int32.ofNat j)) p := by unfold isP; rw [up1_at, if_neg (by omega)]; exact hp
          refine ⟨by rw [g3.sh.ob]; trivial, m_goN g3 hN hN' hl2.wN hP' (sameI_up (by omega) (by omega)) (c := aN A (5 * p.toInt.toNat + 2)) (f := aN A (5 * p.toInt.toNat + 3)) (kd := if what = 0 then Int32.ofNat j else aN A (5 * p.toInt.toNat)) (lf := if what = 0 then aN A 91 else Int32.ofNat j) (by rw [up1_at, if_neg (by omega)]) (by rw [up1_at, if_neg (by omega)]) ?_ ?_ (fun w4 hf4 h4 hl4 hw4 _ => ?_)⟩
          · rcases hPL with ⟨e, e'⟩ | ⟨e, e'⟩
            · rw [if_pos e, up1_at, if_pos e'.symm]
            · rw [if_neg e, up1_at, if_neg (by omega)]
          · rcases hPL with ⟨e, e'⟩ | ⟨e, e'⟩
            · rw [if_pos e, up1_at, if_neg (by omega)]
            · rw [if_neg e, up1_at, if_pos e'.symm]
          have hw4' : mw w4 m 0 (knW A p.toInt.toNat s n what j) := hw4
          have hv4 : wI w4 (m + 2) PL = Int32.ofNat j := by rw [h4.N]; show up1 (aN A) PL _ PL = _; rw [up1_at, if_pos rfl]
          have ih' := ih w4 ⟨by rw [hv4]; exact h4, (frN hf2).trans (mPw_Q hf4), hl4⟩
          rw [show knJ A p.toInt.toNat s n c what (j + 1) = knJ A p.toInt.toNat s n c what j ||| (if uC (knW A p.toInt.toNat s n what j) = c then bit1 j else 0) from rfl] at ih'
          simp only [h4.sh.G411, h4.sh.r7, vp_0 (show 0 < 2 by decide), hw4'.1, i_ofS, ie_m6_m5, ie_m6_m4, ie_m6_m3, ie_m6_m2, ie_m6_m1, ie_m6_0, ie_m6_1, ie_m6_2, ie_m6_3, ie_m6_4, ie_m6_5, ie_m6_6, ie_m5_m6, ie_m5_m4, ie_m5_m3, ie_m5_m2, ie_m5_m1, ie_m5_0, ie_m5_1, ie_m5_2, ie_m5_3, ie_m5_4, ie_m5_5, ie_m5_6, ie_m4_m6, ie_m4_m5, ie_m4_m3, ie_m4_m2, ie_m4_m1, ie_m4_0, ie_m4_1, ie_m4_2, ie_m4_3, ie_m4_4, ie_m4_5, ie_m4_6, ie_m3_m6, ie_m3_m5, ie_m3_m4, ie_m3_m2, ie_m3_m1, ie_m3_0, ie_m3_1, ie_m3_2, ie_m3_3, ie_m3_4, ie_m3_5, ie_m3_6, ie_m2_m6, ie_m2_m5, ie_m2_m4, ie_m2_m3, ie_m2_m1, ie_m2_0, ie_m2_1, ie_m2_2, ie_m2_3, ie_m2_4, ie_m2_5, ie_m2_6, ie_m1_m6, ie_m1_m5, ie_m1_m4, ie_m1_m3, ie_m1_m2, ie_m1_0, ie_m1_1, ie_m1_2, ie_m1_3, ie_m1_4, ie_m1_5, ie_m1_6, ie_0_m6, ie_0_m5, ie_0_m4, ie_0_m3, ie_0_m2, ie_0_m1, ie_0_1, ie_0_2, ie_0_3, ie_0_4, ie_0_5, ie_0_6, ie_1_m6, ie_1_m5, ie_1_m4, ie_1_m3, ie_1_m2, ie_1_m1, ie_1_0, ie_1_2, ie_1_3, ie_1_4, ie_1_5, ie_1_6, ie_2_m6, ie_2_m5, ie_2_m4, ie_2_m3, ie_2_m2, ie_2_m1, ie_2_0, ie_2_1, ie_2_3, ie_2_4, ie_2_5, ie_2_6, ie_3_m6, ie_3_m5, ie_3_m4, ie_3_m3, ie_3_m2, ie_3_m1, ie_3_0, ie_3_1, ie_3_2, ie_3_4, ie_3_5, ie_3_6, ie_4_m6, ie_4_m5, ie_4_m4, ie_4_m3, ie_4_m2, ie_4_m1, ie_4_0, ie_4_1, ie_4_2, ie_4_3, ie_4_5, ie_4_6, ie_5_m6, ie_5_m5, ie_5_m4, ie_5_m3, ie_5_m2, ie_5_m1, ie_5_0, ie_5_1, ie_5_2, ie_5_3, ie_5_4, ie_5_6, ie_6_m6, ie_6_m5, ie_6_m4, ie_6_m3, ie_6_m2, ie_6_m1, ie_6_0, ie_6_1, ie_6_2, ie_6_3, ie_6_4, ie_6_5, Int32.reduceToInt, Int64.reduceToInt, Int.reduceToNat, Int32.reduceAdd, Int32.reduceSub, Int32.reduceMul, Int32.reduceDiv, Int32.reduceLT, Int32.reduceLE, Int.reduceLE, Int.reduceLT, Int.reduceNeg, Int.reduceAdd, Int.reduceSub, Int.reduceMul, Int.reduceEq, Nat.reduceAdd, Nat.reduceMul, Nat.reduceLT, Nat.reduceEqDiff, true_and, and_true, and_self, false_and, and_false, if_true, if_false, ite_true, ite_false, ↓reduceIte, not_true_eq_false, not_false_eq_true, true_or, or_true, or_false, false_or, Int.cast_ofNat_Int, Int.reduceNatCast]
          by_cases e : uC (knW A p.toInt.toNat s n what j) = c
          · rw [if_pos e] at ih' ⊢
            exact ih'
          · rw [if_neg e] at ih' ⊢
            exact ih'
        · intro fu w2 ⟨h2, hf2, hl2⟩
          rw [wl_X4_kinds_83_s, hMI]
          unfold wb_X4_kinds_96
          rw [if_pos (by rw [le_of (by omega), i_ti (by omega)]; omega)]
          simp only [h2.sh.G401, h2.sh.w2, hv, hpl, true_and]
          have g3 : MM (sI w2 (m + 2) PL (aN A PL)) m A := by have := h2.wN' PL (aN A PL); rwa [hne, zN_a] at this
          rw [hM]
          exact hk1 _ g3 (frN hf2)
      exact main _ rfl
    by_cases e : what = 0
    · rw [if_pos e]
      exact body (5 * p) (5 * p.toInt.toNat) (by rw [e5]; omega) (vp_iff.2 (by rw [e5]; omega)) (Or.inl ⟨e, rfl⟩)
    · rw [if_neg e]
      exact body 91 91 rfl (vp_iff.2 (by decide)) (Or.inr ⟨e, rfl⟩)
  unfold wp_X4_kinds wb_X4_kinds_33
  refine ⟨by rw [h.sh.ob]; trivial, ?_⟩
  rw [m_isPerson h hN]
  by_cases hp : isP (aN A) p
  · rw [if_pos hp, if_neg (by decide)]
    refine ⟨by rw [h.sh.ob]; trivial, ?_⟩
    rw [m_isCell h]
    by_cases hc : isC (aN A 90) c
    · rw [if_pos hc, if_neg (by decide)]
      simp only [m_isIn, lg_lit, ie_m6_m5, ie_m6_m4, ie_m6_m3, ie_m6_m2, ie_m6_m1, ie_m6_0, ie_m6_1, ie_m6_2, ie_m6_3, ie_m6_4, ie_m6_5, ie_m6_6, ie_m5_m6, ie_m5_m4, ie_m5_m3, ie_m5_m2, ie_m5_m1, ie_m5_0, ie_m5_1, ie_m5_2, ie_m5_3, ie_m5_4, ie_m5_5, ie_m5_6, ie_m4_m6, ie_m4_m5, ie_m4_m3, ie_m4_m2, ie_m4_m1, ie_m4_0, ie_m4_1, ie_m4_2, ie_m4_3, ie_m4_4, ie_m4_5, ie_m4_6, ie_m3_m6, ie_m3_m5, ie_m3_m4, ie_m3_m2, ie_m3_m1, ie_m3_0, ie_m3_1, ie_m3_2, ie_m3_3, ie_m3_4, ie_m3_5, ie_m3_6, ie_m2_m6, ie_m2_m5, ie_m2_m4, ie_m2_m3, ie_m2_m1, ie_m2_0, ie_m2_1, ie_m2_2, ie_m2_3, ie_m2_4, ie_m2_5, ie_m2_6, ie_m1_m6, ie_m1_m5, ie_m1_m4, ie_m1_m3, ie_m1_m2, ie_m1_0, ie_m1_1, ie_m1_2, ie_m1_3, ie_m1_4, ie_m1_5, ie_m1_6, ie_0_m6, ie_0_m5, ie_0_m4, ie_0_m3, ie_0_m2, ie_0_m1, ie_0_1, ie_0_2, ie_0_3, ie_0_4, ie_0_5, ie_0_6, ie_1_m6, ie_1_m5, ie_1_m4, ie_1_m3, ie_1_m2, ie_1_m1, ie_1_0, ie_1_2, ie_1_3, ie_1_4, ie_1_5, ie_1_6, ie_2_m6, ie_2_m5, ie_2_m4, ie_2_m3, ie_2_m2, ie_2_m1, ie_2_0, ie_2_1, ie_2_3, ie_2_4, ie_2_5, ie_2_6, ie_3_m6, ie_3_m5, ie_3_m4, ie_3_m3, ie_3_m2, ie_3_m1, ie_3_0, ie_3_1, ie_3_2, ie_3_4, ie_3_5, ie_3_6, ie_4_m6, ie_4_m5, ie_4_m4, ie_4_m3, ie_4_m2, ie_4_m1, ie_4_0, ie_4_1, ie_4_2, ie_4_3, ie_4_5, ie_4_6, ie_5_m6, ie_5_m5, ie_5_m4, ie_5_m3, ie_5_m2, ie_5_m1, ie_5_0, ie_5_1, ie_5_2, ie_5_3, ie_5_4, ie_5_6, ie_6_m6, ie_6_m5, ie_6_m4, ie_6_m3, ie_6_m2, ie_6_m1, ie_6_0, ie_6_1, ie_6_2, ie_6_3, ie_6_4, ie_6_5, Int32.reduceToInt, Int64.reduceToInt, Int.reduceToNat, Int32.reduceAdd, Int32.reduceSub, Int32.reduceMul, Int32.reduceDiv, Int32.reduceLT, Int32.reduceLE, Int.reduceLE, Int.reduceLT, Int.reduceNeg, Int.reduceAdd, Int.reduceSub, Int.reduceMul, Int.reduceEq, Nat.reduceAdd, Nat.reduceMul, Nat.reduceLT, Nat.reduceEqDiff, true_and, and_true, and_self, false_and, and_false, if_true, if_false, ite_true, ite_false, ↓reduceIte, not_true_eq_false, not_false_eq_true, true_or, or_true, or_false, false_or, Int.cast_ofNat_Int, Int.reduceNatCast]
      by_cases hw : 0 ≤ what.toInt ∧ what.toInt ≤ 1
      · rw [if_pos hw]
        exact h34 1 (one_iff ⟨hp, hc, hw⟩)
      · rw [if_neg hw]
        exact h34 0 (zero_iff (fun e => hw e.2.2))
    · rw [if_neg hc, if_pos rfl]
      exact h34 0 (zero_iff (fun e => hc e.2.1))
  · rw [if_neg hp, if_pos rfl]
    exact h34 0 (zero_iff (fun e => hp e.1))
/-- a walk from another cell -/
def pdW (A : Ab) (p : Nat) (s n : Int32) (c : Nat) : Wk := runW (aN A) (aN A (5 * p)) (aN A 91) p (tlg A s) (beg (Int32.ofNat c) (aN A (5 * p + 3))) n.toInt.toNat
def pdJ (A : Ab) (p : Nat) (s n : Int32) (j : Nat) : Int32 := foldP (fun c a => a + (if isC (aN A 90) (Int32.ofNat c) ∧ ¬ pnd (aN A) (Int32.ofNat c) = 1 ∧ ¬ uL (pdW A p s n c) = -1 then 1 else 0)) 0 j
def F_ponds (A : Ab) (s n p : Int32) : Int32 × Ab := qF A (isP (aN A) p) s n (pdJ A p.toInt.toNat s n 67)
theorem m_ponds (h : MM w m A) (hN : okN (aN A)) (hA : okS A) (s n p : Int32) {k : Int32 → Wd → Prop} (hk : mR w m (F_ponds A s n p).2 (k (F_ponds A s n p).1)) : wp_X4_ponds w m s n p k := by
  unfold wp_X4_ponds
  refine ⟨by rw [h.sh.ob]; trivial, ?_⟩
  rw [m_isPerson h hN]
  by_cases hp : isP (aN A) p
  · rw [if_pos hp]
    have hp8 := isP_8 hN hp
    have hpn := isP_nat hp
    have h8 := hN.pe8
    have e5 : (5 * p + 2).toInt = 5 * p.toInt + (2 : Int32).toInt := i_5 (by omega) (by decide)
    have e5n : (5 * p + 2).toInt.toNat = 5 * p.toInt.toNat + 2 := by rw [e5]; show (5 * p.toInt + 2).toNat = _; omega
    have hv : vp_in (5 * p + 2) 97 := vp_iff.2 (by rw [e5]; show 0 ≤ 5 * p.toInt + 2 ∧ 5 * p.toInt + 2 < (97 : Nat); omega)
    refine ⟨by rw [h.sh.ob]; trivial, m_q h hA (one_iff hp) hk (fun _ w1 h1 hf1 hl1 hk1 => ?_)⟩
    simp only [h1.sh.ob, m_cell h1 hp8, true_and]
    generalize hPL : 5 * p.toInt.toNat + 2 = PL at *
    refine loopN (n := 67) (I := fun j w2 => MM w2 m (zN A (up1 (aN A) PL (wI w2 (m + 2) PL))) ∧ fr (mQ m) w1 w2 ∧ ldd w2 m A s n) (L := fun fu j w2 => wl_X4_ponds_38 k fu w2 m n p (aN A PL) (pdJ A p.toInt.toNat s n j) (Int32.ofNat j)) ?_ ?_ 67 FU 0 w1 (by omega) (by unfold FU; omega) ⟨by rw [h1.N, up1_self, zN_a]; exact h1, fr.refl _ _, hl1⟩
    · intro fu j w2 hj ⟨h2, hf2, hl2⟩ ih
      have n90 : up1 (aN A) PL (wI w2 (m + 2) PL) 90 = aN A 90 := by rw [up1_at, if_neg (by omega)]
      have ih0 := ih w2 ⟨h2, hf2, hl2⟩
      rw [wl_X4_ponds_38_s]
      unfold wb_X4_ponds_38
      rw [if_neg (by rw [i_le, i_ti (by omega)]; show ¬ (67 : Int) ≤ j; omega)]
      refine ⟨by rw [h2.sh.ob]; trivial, ?_⟩
      rw [m_isCell h2, aN_zN, n90, i_ofS]
      have ej : pdJ A p.toInt.toNat s n (j + 1) = pdJ A p.toInt.toNat s n j + (if isC (aN A 90) (Int32.ofNat j) ∧ ¬ pnd (aN A) (Int32.ofNat j) = 1 ∧ ¬ uL (pdW A p.toInt.toNat s n j) = -1 then 1 else 0) := rfl
      by_cases hc : isC (aN A 90) (Int32.ofNat j)
      · rw [if_pos hc, if_neg (by decide)]
        refine ⟨by rw [h2.sh.ob]; trivial, ?_⟩
        have hpd : ∀ K : Int32 → Wd → Prop, wp_X4_hasPond w2 m (Int32.ofNat j) K = if pnd (aN A) (Int32.ofNat j) = 1 then K 1 w2 else K 0 w2 := by
          intro K
          unfold wp_X4_hasPond wp_X4_pondAt
          have e1 := i_pat hN.side hc
          have e2 := pat_b hN.side hc
          have e3 : (↑(pat (Int32.ofNat j)) : Int).toNat = pat (Int32.ofNat j) := rfl
          have e4 : up1 (aN A) PL (wI w2 (m + 2) PL) (pat (Int32.ofNat j)) = pnd (aN A) (Int32.ofNat j) := by rw [up1_at, if_neg (by omega)]; rfl
          have e5 : wI w2 (m + 2) (pat (Int32.ofNat j)) = pnd (aN A) (Int32.ofNat j) := by rw [h2.N, aN_zN]; exact e4
          simp only [h2.sh.G401, h2.sh.r2, vp_iff, e1, e3, e5]
          exact propext ⟨fun h => h.2, fun h => ⟨by omega, h⟩⟩
        rw [hpd]
        by_cases e : pnd (aN A) (Int32.ofNat j) = 1
        · rw [if_pos e, if_neg (by decide)]
          rw [ej, if_neg (fun q => q.2.1 e), add0] at ih0
          exact ih0
        · rw [if_neg e, if_pos rfl]
          simp only [h2.sh.G401, h2.sh.w2, hv, e5n, true_and]
          have g3 : MM (sI w2 (m + 2) PL (Int32.ofNat j)) m (zN A (up1 (aN A) PL (Int32.ofNat j))) := by have := h2.wN' PL (Int32.ofNat j); rwa [up1_upd] at this
          have hN' : okN (up1 (aN A) PL (Int32.ofNat j)) := okN_per hN (by omega) (fun q hq => ⟨fun e => by omega, fun _ => ⟨hc, e⟩, fun e => by omega, fun e => by omega⟩)
          have hP' : isP (up1 (aN A) PL (Int32.ofNat j)) p := by unfold isP; rw [up1_at, if_neg (by omega)]; exact hp
          refine ⟨by rw [g3.sh.ob]; trivial, m_goN g3 hN hN' hl2.wN hP' (sameI_up (by omega) (by omega)) (c := Int32.ofNat j) (f := aN A (5 * p.toInt.toNat + 3)) (kd := aN A (5 * p.toInt.toNat)) (lf := aN A 91) (by rw [up1_at, if_pos hPL]) (by rw [up1_at, if_neg (by omega)]) (by rw [up1_at, if_neg (by omega)]) (by rw [up1_at, if_neg (by omega)]) (fun w4 hf4 h4 hl4 hw4 _ => ?_)⟩
          have hw4' : mw w4 m 0 (pdW A p.toInt.toNat s n j) := hw4
          have hv4 : wI w4 (m + 2) PL = Int32.ofNat j := by rw [h4.N]; show up1 (aN A) PL _ PL = _; rw [up1_at, if_pos rfl]
          have ih' := ih w4 ⟨by rw [hv4]; exact h4, (frN hf2).trans (mPw_Q hf4), hl4⟩
          rw [ej] at ih'
          simp only [h4.sh.G416, h4.sh.r12, vp_0 (show 0 < 2 by decide), hw4'.2.2.2.1, ie_m6_m5, ie_m6_m4, ie_m6_m3, ie_m6_m2, ie_m6_m1, ie_m6_0, ie_m6_1, ie_m6_2, ie_m6_3, ie_m6_4, ie_m6_5, ie_m6_6, ie_m5_m6, ie_m5_m4, ie_m5_m3, ie_m5_m2, ie_m5_m1, ie_m5_0, ie_m5_1, ie_m5_2, ie_m5_3, ie_m5_4, ie_m5_5, ie_m5_6, ie_m4_m6, ie_m4_m5, ie_m4_m3, ie_m4_m2, ie_m4_m1, ie_m4_0, ie_m4_1, ie_m4_2, ie_m4_3, ie_m4_4, ie_m4_5, ie_m4_6, ie_m3_m6, ie_m3_m5, ie_m3_m4, ie_m3_m2, ie_m3_m1, ie_m3_0, ie_m3_1, ie_m3_2, ie_m3_3, ie_m3_4, ie_m3_5, ie_m3_6, ie_m2_m6, ie_m2_m5, ie_m2_m4, ie_m2_m3, ie_m2_m1, ie_m2_0, ie_m2_1, ie_m2_2, ie_m2_3, ie_m2_4, ie_m2_5, ie_m2_6, ie_m1_m6, ie_m1_m5, ie_m1_m4, ie_m1_m3, ie_m1_m2, ie_m1_0, ie_m1_1, ie_m1_2, ie_m1_3, ie_m1_4, ie_m1_5, ie_m1_6, ie_0_m6, ie_0_m5, ie_0_m4, ie_0_m3, ie_0_m2, ie_0_m1, ie_0_1, ie_0_2, ie_0_3, ie_0_4, ie_0_5, ie_0_6, ie_1_m6, ie_1_m5, ie_1_m4, ie_1_m3, ie_1_m2, ie_1_m1, ie_1_0, ie_1_2, ie_1_3, ie_1_4, ie_1_5, ie_1_6, ie_2_m6, ie_2_m5, ie_2_m4, ie_2_m3, ie_2_m2, ie_2_m1, ie_2_0, ie_2_1, ie_2_3, ie_2_4, ie_2_5, ie_2_6, ie_3_m6, ie_3_m5, ie_3_m4, ie_3_m3, ie_3_m2, ie_3_m1, ie_3_0, ie_3_1, ie_3_2, ie_3_4, ie_3_5, ie_3_6, ie_4_m6, ie_4_m5, ie_4_m4, ie_4_m3, ie_4_m2, ie_4_m1, ie_4_0, ie_4_1, ie_4_2, ie_4_3, ie_4_5, ie_4_6, ie_5_m6, ie_5_m5, ie_5_m4, ie_5_m3, ie_5_m2, ie_5_m1, ie_5_0, ie_5_1, ie_5_2, ie_5_3, ie_5_4, ie_5_6, ie_6_m6, ie_6_m5, ie_6_m4, ie_6_m3, ie_6_m2, ie_6_m1, ie_6_0, ie_6_1, ie_6_2, ie_6_3, ie_6_4, ie_6_5, Int32.reduceToInt, Int64.reduceToInt, Int.reduceToNat, Int32.reduceAdd, Int32.reduceSub, Int32.reduceMul, Int32.reduceDiv, Int32.reduceLT, Int32.reduceLE, Int.reduceLE, Int.reduceLT, Int.reduceNeg, Int.reduceAdd, Int.reduceSub, Int.reduceMul, Int.reduceEq, Nat.reduceAdd, Nat.reduceMul, Nat.reduceLT, Nat.reduceEqDiff, true_and, and_true, and_self, false_and, and_false, if_true, if_false, ite_true, ite_false, ↓reduceIte, not_true_eq_false, not_false_eq_true, true_or, or_true, or_false, false_or, Int.cast_ofNat_Int, Int.reduceNatCast]
          show if uL (pdW A p.toInt.toNat s n j) = -1 then _ else _
          by_cases e2 : uL (pdW A p.toInt.toNat s n j) = -1
          · rw [if_neg (fun q => q.2.2 e2)] at ih'
            rw [if_pos e2]
            exact ih'
          · rw [if_pos ⟨hc, e, e2⟩] at ih'
            rw [if_neg e2]
            exact ih'
      · rw [if_neg hc, if_pos rfl]
        rw [ej, if_neg (fun q => hc q.1), add0] at ih0
        exact ih0
    · intro fu w2 ⟨h2, hf2, hl2⟩
      rw [wl_X4_ponds_38_s]
      unfold wb_X4_ponds_38
      rw [if_pos (by decide)]
      simp only [h2.sh.G401, h2.sh.w2, hv, e5n, true_and]
      have g3 : MM (sI w2 (m + 2) PL (aN A PL)) m A := by have := h2.wN' PL (aN A PL); rwa [up1_upd, up1_self, zN_a] at this
      exact hk1 _ g3 (frN hf2)
  · rw [if_neg hp]
    exact ⟨by rw [h.sh.ob]; trivial, m_q h hA (zero_iff hp) hk (fun hp' => absurd hp' hp)⟩
end MQ7
