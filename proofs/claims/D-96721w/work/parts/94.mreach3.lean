/-! ===== reach, of the reference: walked ===== -/
theorem hitB_iff {N : Nw} {p k n : Nat} : ∀ c, hitB N p k n c = true ↔ ∃ x, x < c ∧ hitP N p k n x
  | 0 => ⟨fun e => absurd e Bool.false_ne_true, fun ⟨x, h, _⟩ => absurd h (Nat.not_lt_zero x)⟩
  | c + 1 => by
    show (hitB N p k n c || decide (hitP N p k n c)) = true ↔ _
    rw [Bool.or_eq_true, decide_eq_true_iff, hitB_iff c]
    constructor
    · rintro (⟨x, h1, h2⟩ | h)
      · exact ⟨x, by omega, h2⟩
      · exact ⟨c, by omega, h⟩
    · rintro ⟨x, h1, h2⟩
      by_cases e : x = c
      · subst e
        exact Or.inr h2
      · exact Or.inl ⟨x, by omega, h2⟩
theorem hitL_iff {N : Nw} {p k : Nat} : ∀ n, hitL N p k n = true ↔ ∃ m x, m < n ∧ x < 3 ^ m ∧ hitP N p k m x
  | 0 => ⟨fun e => absurd e Bool.false_ne_true, fun ⟨x, _, h, _⟩ => absurd h (Nat.not_lt_zero x)⟩
  | n + 1 => by
    show (hitL N p k n || hitB N p k n (3 ^ n)) = true ↔ _
    rw [Bool.or_eq_true, hitL_iff n, hitB_iff]
    constructor
    · rintro (⟨m, x, h1, h2, h3⟩ | ⟨x, h1, h2⟩)
      · exact ⟨m, x, by omega, h2, h3⟩
      · exact ⟨n, x, by omega, h1, h2⟩
    · rintro ⟨m, x, h1, h2, h3⟩
      by_cases e : m = n
      · subst e
        exact Or.inr ⟨x, h2, h3⟩
      · exact Or.inl ⟨m, x, by omega, h2, h3⟩
section MRC
variable {w : Wd} {m : Nat} {A : Ab}
theorem m_reach121 {x : Int64} {b : Nat → Bool} (hb : ∀ j, j < 49 → lbit x j = if b j then 1 else 0) {k : Int32 → Wd → Prop} (hk : k (foldP (fun j a => a + (if b j then 1 else 0)) 0 49) w) : wl_X4_reach_121 k FU w x 0 0 := by
  refine loopN (n := 49) (I := fun _ w2 => w2 = w) (L := fun fu j w2 => wl_X4_reach_121 k fu w2 x (foldP (fun j a => a + (if b j then 1 else 0)) 0 j) (Int32.ofNat j)) ?_ ?_ 49 FU 0 w (by omega) (by unfold FU; omega) rfl
  · rintro fu j w2 hj rfl ih
    rw [wl_X4_reach_121_s]
    unfold wb_X4_reach_121
    rw [if_neg (by rw [i_le, i_ti (by omega)]; show ¬ (49 : Int) ≤ j; omega)]
    have e := hb j hj
    unfold lbit at e
    rw [e, i_ofS]
    exact ih _ rfl
  · rintro fu w2 rfl
    rw [wl_X4_reach_121_s]
    unfold wb_X4_reach_121
    rw [if_pos (by decide)]
    exact hk
theorem m_reach44 (h : MM w m A) (hN : okN (aN A)) {p : Int32} (hp : isP (aN A) p) {n : Nat} (hn : n ≤ 6) {len : Int32} {x : Int64} (hx : ∀ j, j < 49 → lbit x j = if hitL (aN A) p.toInt.toNat j n then 1 else 0) {k : Int32 → Wd → Prop} {L35 : Wd → Nat → Int32 → Int32 → Int64 → Int32 → Int32 → Prop} (hL : ∀ w' x', MM w' m A → fr (mQ m) w w' → (∀ j, j < 49 → lbit x' j = if hitL (aN A) p.toInt.toNat j (n + 1) then 1 else 0) → L35 w' m p len x' (Int32.ofNat (3 ^ n * 3)) (Int32.ofNat (n + 1))) : wl_X4_reach_44 k L35 FU w m p len x (Int32.ofNat (3 ^ n)) (Int32.ofNat n) 0 := by
  have hpw := pow3 hn
  have key : ∀ d fu c w2 x2, c + d = 3 ^ n → d < fu → MM w2 m A → fr (mQ m) w w2 → (∀ j, j < 49 → lbit x2 j = if hitL (aN A) p.toInt.toNat j n || hitB (aN A) p.toInt.toNat j n c then 1 else 0) → wl_X4_reach_44 k L35 fu w2 m p len x2 (Int32.ofNat (3 ^ n)) (Int32.ofNat n) (Int32.ofNat c) := by
    intro d
    induction d with
    | zero =>
      intro fu c w2 x2 hc hfu h2 hf2 hx2
      obtain ⟨fu, rfl⟩ : ∃ g, fu = g + 1 := ⟨fu - 1, by omega⟩
      obtain rfl : c = 3 ^ n := by omega
      rw [wl_X4_reach_44_s]
      unfold wb_X4_reach_44
      rw [if_pos (by rw [i_le]; omega), i_ofS, show Int32.ofNat (3 ^ n) * 3 = Int32.ofNat (3 ^ n * 3) from (Int32.ofNat_mul _ _).symm]
      exact hL w2 x2 h2 hf2 hx2
    | succ d ih =>
      intro fu c w2 x2 hc hfu h2 hf2 hx2
      obtain ⟨fu, rfl⟩ : ∃ g, fu = g + 1 := ⟨fu - 1, by omega⟩
      rw [wl_X4_reach_44_s]
      unfold wb_X4_reach_44
      rw [if_neg (by rw [i_le, i_ti (by omega), i_ti (by omega)]; omega)]
      refine ⟨by rw [h2.sh.ob]; trivial, m_spell h2 hn (by omega) (fun w3 hf3 hT3 => ?_)⟩
      have h3 := h2.sc (mPt_P hf3)
      refine ⟨by rw [h3.sh.ob]; trivial, m_go h3 hN hp (by omega) hT3 (fun j _ => wrdN_c c n j) rfl rfl (okU_beg hN (isP_nat hp)) (fun w4 hf4 _ hw4 _ => ?_)⟩
      have h4 := h3.sc (mPw_P hf4)
      have hf04 := (hf2.trans (mPt_Q hf3)).trans (mPw_Q hf4)
      have hw4' : mw w4 m 0 (brW (aN A) p.toInt.toNat (aN A 91) (wrdN c n) n) := hw4
      have hok : okU (aN A) (brW (aN A) p.toInt.toNat (aN A 91) (wrdN c n) n) := runW_ok hN (okU_beg hN (isP_nat hp)) n (by omega)
      have eb : ∀ j, hitB (aN A) p.toInt.toNat j n (c + 1) = (hitB (aN A) p.toInt.toNat j n c || decide (hitP (aN A) p.toInt.toNat j n c)) := fun j => rfl
      simp only [h4.sh.G416, h4.sh.r12, h4.sh.G411, h4.sh.r7, vp_0 (show 0 < 2 by decide), hw4'.1, hw4'.2.2.2.1, ie_m6_m5, ie_m6_m4, ie_m6_m3, ie_m6_m2, ie_m6_m1, ie_m6_0, ie_m6_1, ie_m6_2, ie_m6_3, ie_m6_4, ie_m6_5, ie_m6_6, ie_m5_m6, ie_m5_m4, ie_m5_m3, ie_m5_m2, ie_m5_m1, ie_m5_0, ie_m5_1, ie_m5_2, ie_m5_3, ie_m5_4, ie_m5_5, ie_m5_6, ie_m4_m6, ie_m4_m5, ie_m4_m3, ie_m4_m2, ie_m4_m1, ie_m4_0, ie_m4_1, ie_m4_2, ie_m4_3, ie_m4_4, ie_m4_5, ie_m4_6, ie_m3_m6, ie_m3_m5, ie_m3_m4, ie_m3_m2, ie_m3_m1, ie_m3_0, ie_m3_1, ie_m3_2, ie_m3_3, ie_m3_4, ie_m3_5, ie_m3_6, ie_m2_m6, ie_m2_m5, ie_m2_m4, ie_m2_m3, ie_m2_m1, ie_m2_0, ie_m2_1, ie_m2_2, ie_m2_3, ie_m2_4, ie_m2_5, ie_m2_6, ie_m1_m6, ie_m1_m5, ie_m1_m4, ie_m1_m3, ie_m1_m2, ie_m1_0, ie_m1_1, ie_m1_2, ie_m1_3, ie_m1_4, ie_m1_5, ie_m1_6, ie_0_m6, ie_0_m5, ie_0_m4, ie_0_m3, ie_0_m2, ie_0_m1, ie_0_1, ie_0_2, ie_0_3, ie_0_4, ie_0_5, ie_0_6, ie_1_m6, ie_1_m5, ie_1_m4, ie_1_m3, ie_1_m2, ie_1_m1, ie_1_0, ie_1_2, ie_1_3, ie_1_4, ie_1_5, ie_1_6, ie_2_m6, ie_2_m5, ie_2_m4, ie_2_m3, ie_2_m2, ie_2_m1, ie_2_0, ie_2_1, ie_2_3, ie_2_4, ie_2_5, ie_2_6, ie_3_m6, ie_3_m5, ie_3_m4, ie_3_m3, ie_3_m2, ie_3_m1, ie_3_0, ie_3_1, ie_3_2, ie_3_4, ie_3_5, ie_3_6, ie_4_m6, ie_4_m5, ie_4_m4, ie_4_m3, ie_4_m2, ie_4_m1, ie_4_0, ie_4_1, ie_4_2, ie_4_3, ie_4_5, ie_4_6, ie_5_m6, ie_5_m5, ie_5_m4, ie_5_m3, ie_5_m2, ie_5_m1, ie_5_0, ie_5_1, ie_5_2, ie_5_3, ie_5_4, ie_5_6, ie_6_m6, ie_6_m5, ie_6_m4, ie_6_m3, ie_6_m2, ie_6_m1, ie_6_0, ie_6_1, ie_6_2, ie_6_3, ie_6_4, ie_6_5, Int32.reduceToInt, Int64.reduceToInt, Int.reduceToNat, Int32.reduceAdd, Int32.reduceSub, Int32.reduceMul, Int32.reduceDiv, Int32.reduceLT, Int32.reduceLE, Int.reduceLE, Int.reduceLT, Int.reduceNeg, Int.reduceAdd, Int.reduceSub, Int.reduceMul, Int.reduceEq, Nat.reduceAdd, Nat.reduceMul, Nat.reduceLT, Nat.reduceEqDiff, true_and, and_true, and_self, false_and, and_false, if_true, if_false, ite_true, ite_false, ↓reduceIte, not_true_eq_false, not_false_eq_true, true_or, or_true, or_false, false_or, Int.cast_ofNat_Int, Int.reduceNatCast]
      by_cases c1 : uL (brW (aN A) p.toInt.toNat (aN A 91) (wrdN c n) n) = -1
      · rw [if_pos c1]
        unfold wp_X4_pondAt
        have hb := pat_b hN.side hok.1
        have e1 := i_pat hN.side hok.1
        have e2 : 40 + 7 * (uC (brW (aN A) p.toInt.toNat (aN A 91) (wrdN c n) n) / 10) + (uC (brW (aN A) p.toInt.toNat (aN A 91) (wrdN c n) n) - uC (brW (aN A) p.toInt.toNat (aN A 91) (wrdN c n) n) / 10 * 10) - 40 = Int32.ofNat (pat (uC (brW (aN A) p.toInt.toNat (aN A 91) (wrdN c n) n)) - 40) := by
          rw [i_eq, i_sub (by rw [e1, show (40 : Int32).toInt = 40 from rfl]; omega), e1, i_ti (by omega), show (40 : Int32).toInt = 40 from rfl]
          omega
        dsimp only
        rw [e2, i_ofS]
        refine ih fu (c + 1) w4 _ (by omega) (by omega) h4 hf04 (fun j hj => ?_)
        show lbit (x2 ||| lone (pat (uC (brW (aN A) p.toInt.toNat (aN A 91) (wrdN c n) n)) - 40)) j = _
        rw [lbit_or _ (by omega) hj, hx2 j hj, eb, ← Bool.or_assoc]
        have ed : decide (hitP (aN A) p.toInt.toNat j n c) = decide (j = pat (uC (brW (aN A) p.toInt.toNat (aN A 91) (wrdN c n) n)) - 40) := decide_eq_decide.2 ⟨fun q => by have := q.2; omega, fun q => ⟨c1, by omega⟩⟩
        rw [ed]
        generalize (hitL (aN A) p.toInt.toNat j n || hitB (aN A) p.toInt.toNat j n c) = a
        cases a
        · by_cases e : j = pat (uC (brW (aN A) p.toInt.toNat (aN A 91) (wrdN c n) n)) - 40
          · rw [if_pos (Or.inr e), decide_eq_true e]; rfl
          · rw [if_neg (fun q => q.elim (fun q => absurd q (by decide)) e), decide_eq_false e]; rfl
        · exact if_pos (Or.inl (if_pos rfl))
      · rw [if_neg c1, i_ofS]
        refine ih fu (c + 1) w4 _ (by omega) (by omega) h4 hf04 (fun j hj => ?_)
        rw [Int64.or_zero, hx2 j hj, eb, decide_eq_false (fun q => c1 q.1), Bool.or_false]
  exact key (3 ^ n) FU 0 w x (by omega) (by unfold FU; omega) h (fr.refl _ _) (fun j hj => by rw [hx j hj, show hitB (aN A) p.toInt.toNat j n 0 = false from rfl, Bool.or_false])
theorem m_reach (h : MM w m A) (hN : okN (aN A)) (p len : Int32) {k : Int32 → Wd → Prop} (hk : mR w m (F_reach A p len).2 (k (F_reach A p len).1)) : wp_X4_reach w m p len k := by
  unfold wp_X4_reach
  unfold F_reach at hk
  refine ⟨by rw [h.sh.ob]; trivial, ?_⟩
  rw [m_isPerson h hN]
  by_cases c1 : isP (aN A) p
  · rw [if_pos c1, if_neg (by decide)]
    simp only [m_isIn, lg_lit, ie_m6_m5, ie_m6_m4, ie_m6_m3, ie_m6_m2, ie_m6_m1, ie_m6_0, ie_m6_1, ie_m6_2, ie_m6_3, ie_m6_4, ie_m6_5, ie_m6_6, ie_m5_m6, ie_m5_m4, ie_m5_m3, ie_m5_m2, ie_m5_m1, ie_m5_0, ie_m5_1, ie_m5_2, ie_m5_3, ie_m5_4, ie_m5_5, ie_m5_6, ie_m4_m6, ie_m4_m5, ie_m4_m3, ie_m4_m2, ie_m4_m1, ie_m4_0, ie_m4_1, ie_m4_2, ie_m4_3, ie_m4_4, ie_m4_5, ie_m4_6, ie_m3_m6, ie_m3_m5, ie_m3_m4, ie_m3_m2, ie_m3_m1, ie_m3_0, ie_m3_1, ie_m3_2, ie_m3_3, ie_m3_4, ie_m3_5, ie_m3_6, ie_m2_m6, ie_m2_m5, ie_m2_m4, ie_m2_m3, ie_m2_m1, ie_m2_0, ie_m2_1, ie_m2_2, ie_m2_3, ie_m2_4, ie_m2_5, ie_m2_6, ie_m1_m6, ie_m1_m5, ie_m1_m4, ie_m1_m3, ie_m1_m2, ie_m1_0, ie_m1_1, ie_m1_2, ie_m1_3, ie_m1_4, ie_m1_5, ie_m1_6, ie_0_m6, ie_0_m5, ie_0_m4, ie_0_m3, ie_0_m2, ie_0_m1, ie_0_1, ie_0_2, ie_0_3, ie_0_4, ie_0_5, ie_0_6, ie_1_m6, ie_1_m5, ie_1_m4, ie_1_m3, ie_1_m2, ie_1_m1, ie_1_0, ie_1_2, ie_1_3, ie_1_4, ie_1_5, ie_1_6, ie_2_m6, ie_2_m5, ie_2_m4, ie_2_m3, ie_2_m2, ie_2_m1, ie_2_0, ie_2_1, ie_2_3, ie_2_4, ie_2_5, ie_2_6, ie_3_m6, ie_3_m5, ie_3_m4, ie_3_m3, ie_3_m2, ie_3_m1, ie_3_0, ie_3_1, ie_3_2, ie_3_4, ie_3_5, ie_3_6, ie_4_m6, ie_4_m5, ie_4_m4, ie_4_m3, ie_4_m2, ie_4_m1, ie_4_0, ie_4_1, ie_4_2, ie_4_3, ie_4_5, ie_4_6, ie_5_m6, ie_5_m5, ie_5_m4, ie_5_m3, ie_5_m2, ie_5_m1, ie_5_0, ie_5_1, ie_5_2, ie_5_3, ie_5_4, ie_5_6, ie_6_m6, ie_6_m5, ie_6_m4, ie_6_m3, ie_6_m2, ie_6_m1, ie_6_0, ie_6_1, ie_6_2, ie_6_3, ie_6_4, ie_6_5, Int32.reduceToInt, Int64.reduceToInt, Int.reduceToNat, Int32.reduceAdd, Int32.reduceSub, Int32.reduceMul, Int32.reduceDiv, Int32.reduceLT, Int32.reduceLE, Int.reduceLE, Int.reduceLT, Int.reduceNeg, Int.reduceAdd, Int.reduceSub, Int.reduceMul, Int.reduceEq, Nat.reduceAdd, Nat.reduceMul, Nat.reduceLT, Nat.reduceEqDiff, true_and, and_true, and_self, false_and, and_false, if_true, if_false, ite_true, ite_false, ↓reduceIte, not_true_eq_false, not_false_eq_true, true_or, or_true, or_false, false_or, Int.cast_ofNat_Int, Int.reduceNatCast]
    by_cases c2 : 0 ≤ len.toInt ∧ len.toInt ≤ 6
    · rw [if_pos c2]
      rw [if_pos ⟨c1, c2⟩] at hk
      have key : ∀ d fu n w2 x, n + d = len.toInt.toNat + 1 → d < fu → MM w2 m A → fr (mQ m) w w2 → (∀ j, j < 49 → lbit x j = if hitL (aN A) p.toInt.toNat j n then 1 else 0) → wl_X4_reach_35 k fu w2 m p len x (Int32.ofNat (3 ^ n)) (Int32.ofNat n) := by
        intro d
        induction d with
        | zero =>
          intro fu n w2 x hn hfu h2 hf2 hx
          obtain ⟨fu, rfl⟩ : ∃ g, fu = g + 1 := ⟨fu - 1, by omega⟩
          obtain rfl : n = len.toInt.toNat + 1 := by omega
          rw [wl_X4_reach_35_s]
          unfold wb_X4_reach_35
          rw [if_pos (by rw [lt_of (by omega)]; omega)]
          exact m_reach121 hx (hk w2 h2 hf2)
        | succ d ih =>
          intro fu n w2 x hn hfu h2 hf2 hx
          obtain ⟨fu, rfl⟩ : ∃ g, fu = g + 1 := ⟨fu - 1, by omega⟩
          rw [wl_X4_reach_35_s]
          unfold wb_X4_reach_35
          rw [if_neg (by rw [lt_of (by omega)]; omega)]
          refine m_reach44 h2 hN c1 (by omega) hx (fun w3 x3 h3 hf3 hx3 => ?_)
          rw [← Nat.pow_succ]
          exact ih fu (n + 1) w3 x3 (by omega) (by omega) h3 (hf2.trans hf3) hx3
      exact key (len.toInt.toNat + 1) FU 0 w 0 (by omega) (by unfold FU; omega) h (fr.refl _ _) (fun j hj => by rw [lbit_l _ hj, show (0 : Int64).toBitVec = 0#64 from rfl, BitVec.getLsbD_zero]; rfl)
    · rw [if_neg c2]
      rw [if_neg (fun q => c2 q.2)] at hk
      exact ⟨by rw [h.sh.ob]; trivial, m_refuse h (by decide) hk⟩
  · rw [if_neg c1, if_pos rfl]
    rw [if_neg (fun q => c1 q.1)] at hk
    exact ⟨by rw [h.sh.ob]; trivial, m_refuse h (by decide) hk⟩
end MRC
