/-! ===== the reference's texts: statements ===== -/
def pfP (m : Nat) : Nat → Nat → Prop := fun q k => (q = m ∧ (k = 407 ∨ k = 408 ∨ k = 409)) ∨ (q = m + 2 ∧ k = 9999)
theorem pfP_Q {w w' : Wd} {m : Nat} (h : fr (pfP m) w w') : fr (mQ m) w w' := h.mono (fun q k _ hp => by unfold pfP at hp; unfold mQ; omega)
theorem tkP_pf {w w' : Wd} {m : Nat} (h : fr (tkP m) w w') : fr (pfP m) w w' := h.mono (fun q k _ hp => Or.inl hp)
/-- what a statement leaves: 1 and an island, or 0 and where it fails -/
def mPK (w : Wd) (m : Nat) (A : Ab) (k : Int32 → Wd → Prop) (r : PR) : Prop := match r.2 with
  | some N' => ∀ w', MM w' m (zN A N') → fr (pfP m) w w' → wF w' m 407 = Int32.ofNat r.1 → k 1 w'
  | none => ∀ w', MM w' m A → fr (pfP m) w w' → wF w' m 408 = Int32.ofNat r.1 → k 0 w'
section MPB
variable {w : Wd} {m : Nat} {A : Ab}
theorem mPK_fr {w' : Wd} {k : Int32 → Wd → Prop} {r : PR} (h : mPK w m A k r) (hf : fr (pfP m) w w') : mPK w' m A k r := by
  obtain ⟨e, N'⟩ := r
  cases N' with
  | some N' => exact fun w2 h2 hf2 e7 => h w2 h2 (hf.trans hf2) e7
  | none => exact fun w2 h2 hf2 e7 => h w2 h2 (hf.trans hf2) e7
theorem mPK_m {k k' : Int32 → Wd → Prop} {r : PR} (h : mPK w m A k r) (h0 : ∀ w', k 0 w' → k' 0 w') (h1 : ∀ w', k 1 w' → k' 1 w') : mPK w m A k' r := by
  obtain ⟨e, N'⟩ := r
  cases N' with
  | some N' => exact fun w2 h2 hf2 e7 => h1 w2 (h w2 h2 hf2 e7)
  | none => exact fun w2 h2 hf2 e7 => h0 w2 (h w2 h2 hf2 e7)
theorem m_numK (h : MM w m A) (hT : okT A) {i : Nat} (hi : i ≤ zA A) (hat : wF w m 407 = Int32.ofNat i) (lo hi' : Int32) {k : Int32 → Wd → Prop} {kk : Int32 → Nat → PR} (hK : mPK w m A k (pN (aT A) (zA A) (rngP lo hi') i kk)) {X : Int32 → Wd → Prop} (hX1 : ∀ w', MM w' m A → fr (pfP m) w w' → k 0 w' → X (-1) w') (hX2 : ∀ v w', (0 ≤ v.toInt ∧ v.toInt ≤ 99) → rngP lo hi' v → MM w' m A → fr (pfP m) w w' → wF w' m 407 = Int32.ofNat (tkE (aT A) (zA A) i) → mPK w' m A k (kk v (tkE (aT A) (zA A) i)) → X v w') : wp_X4_number w m lo hi' X := by
  refine m_number h hT hi hat lo hi' (fun w' h' hf e7 e8 => ?_)
  unfold nmA
  unfold pN at hK
  by_cases c : tkS (aT A) (zA A) i = 2 ∧ tkE (aT A) (zA A) i - tkF (aT A) (zA A) i ≤ 2 ∧ rngP lo hi' (tkV (aT A) (zA A) i)
  · rw [if_pos c] at hK ⊢
    exact hX2 _ w' (tkV_b hi c.1 c.2.1) c.2.2 h' (tkP_pf hf) e7 (mPK_fr hK (tkP_pf hf))
  · rw [if_neg c] at hK ⊢
    exact hX1 w' h' (tkP_pf hf) (hK w' h' (tkP_pf hf) e8)
theorem ne_m1 {v : Int32} (h : 0 ≤ v.toInt) : ¬ v = -1 := fun e => by rw [e, i_m1] at h; omega
theorem m_cellK (h : MM w m A) (hN : okN (aN A)) (hT : okT A) {i : Nat} (hi : i ≤ zA A) (hat : wF w m 407 = Int32.ofNat i) {Q : Int32 → Prop} [DecidablePred Q] {k : Int32 → Wd → Prop} {kk : Int32 → Nat → PR} (hK : mPK w m A k (pN (aT A) (zA A) (fun v => isC (aN A 90) v ∧ Q v) i kk)) {X : Int32 → Wd → Prop} (hX1 : ∀ w', MM w' m A → fr (pfP m) w w' → k 0 w' → X (-1) w') (hX2 : ∀ v w', isC (aN A 90) v → MM w' m A → fr (pfP m) w w' → wF w' m 407 = Int32.ofNat (tkE (aT A) (zA A) i) → wF w' m 408 = Int32.ofNat (tkF (aT A) (zA A) i) → mPK w' m A k (if Q v then kk v (tkE (aT A) (zA A) i) else (tkF (aT A) (zA A) i, none)) → X v w') : wp_X4_cellNumber w m X := by
  unfold wp_X4_cellNumber
  refine ⟨by rw [h.sh.ob]; trivial, m_number h hT hi hat 0 99 (fun w' h' hf e7 e8 => ?_)⟩
  unfold pN at hK
  by_cases c : tkS (aT A) (zA A) i = 2 ∧ tkE (aT A) (zA A) i - tkF (aT A) (zA A) i ≤ 2
  · have hb := tkV_b hi c.1 c.2
    have hr : rngP 0 99 (tkV (aT A) (zA A) i) := hb
    have en : nmA (aT A) (zA A) 0 99 i = tkV (aT A) (zA A) i := if_pos ⟨c.1, c.2, hr⟩
    rw [en, if_neg (ne_m1 hb.1)]
    refine ⟨by rw [h'.sh.ob]; trivial, ?_⟩
    rw [m_isCell h']
    by_cases d : isC (aN A 90) (tkV (aT A) (zA A) i)
    · rw [if_pos d, if_neg (by decide)]
      refine hX2 _ w' d h' (tkP_pf hf) e7 e8 (mPK_fr ?_ (tkP_pf hf))
      by_cases q : Q (tkV (aT A) (zA A) i)
      · rw [if_pos q]
        rwa [if_pos ⟨c.1, c.2, d, q⟩] at hK
      · rw [if_neg q]
        rwa [if_neg (fun x => q x.2.2.2)] at hK
    · rw [if_neg d, if_pos rfl]
      rw [if_neg (fun x => d x.2.2.1)] at hK
      exact hX1 w' h' (tkP_pf hf) (hK w' h' (tkP_pf hf) e8)
  · have en : nmA (aT A) (zA A) 0 99 i = -1 := if_neg (fun x => c ⟨x.1, x.2.1⟩)
    rw [en, if_pos rfl]
    rw [if_neg (fun x => c ⟨x.1, x.2.1⟩)] at hK
    exact hX1 w' h' (tkP_pf hf) (hK w' h' (tkP_pf hf) e8)
theorem m_addP (h : MM w m A) (hP : okP (aN A)) (h8 : pe (aN A) < 8) (kd a c f : Int32) {k : Int32 → Wd → Prop} (hk : ∀ w', MM w' m (zN A (addN (aN A) kd a c f)) → fr (pfP m) w w' → wF w' m 407 = wF w m 407 → k (aN A 89) w') : wp_X4_add w m kd a c f k := by
  have v89 : vp_in 89 97 := vp_iff.2 (by decide)
  have e89 : (aN A 89).toInt = pe (aN A) := hP.1
  unfold wp_X4_add
  simp only [h.sh.G401, h.sh.r2, h.N, v89, m_wr0 h e89 h8, ie_m6_m5, ie_m6_m4, ie_m6_m3, ie_m6_m2, ie_m6_m1, ie_m6_0, ie_m6_1, ie_m6_2, ie_m6_3, ie_m6_4, ie_m6_5, ie_m6_6, ie_m5_m6, ie_m5_m4, ie_m5_m3, ie_m5_m2, ie_m5_m1, ie_m5_0, ie_m5_1, ie_m5_2, ie_m5_3, ie_m5_4, ie_m5_5, ie_m5_6, ie_m4_m6, ie_m4_m5, ie_m4_m3, ie_m4_m2, ie_m4_m1, ie_m4_0, ie_m4_1, ie_m4_2, ie_m4_3, ie_m4_4, ie_m4_5, ie_m4_6, ie_m3_m6, ie_m3_m5, ie_m3_m4, ie_m3_m2, ie_m3_m1, ie_m3_0, ie_m3_1, ie_m3_2, ie_m3_3, ie_m3_4, ie_m3_5, ie_m3_6, ie_m2_m6, ie_m2_m5, ie_m2_m4, ie_m2_m3, ie_m2_m1, ie_m2_0, ie_m2_1, ie_m2_2, ie_m2_3, ie_m2_4, ie_m2_5, ie_m2_6, ie_m1_m6, ie_m1_m5, ie_m1_m4, ie_m1_m3, ie_m1_m2, ie_m1_0, ie_m1_1, ie_m1_2, ie_m1_3, ie_m1_4, ie_m1_5, ie_m1_6, ie_0_m6, ie_0_m5, ie_0_m4, ie_0_m3, ie_0_m2, ie_0_m1, ie_0_1, ie_0_2, ie_0_3, ie_0_4, ie_0_5, ie_0_6, ie_1_m6, ie_1_m5, ie_1_m4, ie_1_m3, ie_1_m2, ie_1_m1, ie_1_0, ie_1_2, ie_1_3, ie_1_4, ie_1_5, ie_1_6, ie_2_m6, ie_2_m5, ie_2_m4, ie_2_m3, ie_2_m2, ie_2_m1, ie_2_0, ie_2_1, ie_2_3, ie_2_4, ie_2_5, ie_2_6, ie_3_m6, ie_3_m5, ie_3_m4, ie_3_m3, ie_3_m2, ie_3_m1, ie_3_0, ie_3_1, ie_3_2, ie_3_4, ie_3_5, ie_3_6, ie_4_m6, ie_4_m5, ie_4_m4, ie_4_m3, ie_4_m2, ie_4_m1, ie_4_0, ie_4_1, ie_4_2, ie_4_3, ie_4_5, ie_4_6, ie_5_m6, ie_5_m5, ie_5_m4, ie_5_m3, ie_5_m2, ie_5_m1, ie_5_0, ie_5_1, ie_5_2, ie_5_3, ie_5_4, ie_5_6, ie_6_m6, ie_6_m5, ie_6_m4, ie_6_m3, ie_6_m2, ie_6_m1, ie_6_0, ie_6_1, ie_6_2, ie_6_3, ie_6_4, ie_6_5, Int32.reduceToInt, Int64.reduceToInt, Int.reduceToNat, Int32.reduceAdd, Int32.reduceSub, Int32.reduceMul, Int32.reduceDiv, Int32.reduceLT, Int32.reduceLE, Int.reduceLE, Int.reduceLT, Int.reduceNeg, Int.reduceAdd, Int.reduceSub, Int.reduceMul, Int.reduceEq, Nat.reduceAdd, Nat.reduceMul, Nat.reduceLT, Nat.reduceEqDiff, true_and, and_true, and_self, false_and, and_false, if_true, if_false, ite_true, ite_false, ↓reduceIte, not_true_eq_false, not_false_eq_true, true_or, or_true, or_false, false_or, Int.cast_ofNat_Int, Int.reduceNatCast]
  have h1 := h.wN (5 * pe (aN A)) kd
  simp only [h1.sh.G401, m_wr h1 e89 h8 (show (1 : Int32).toInt = ((1 : Nat) : Int) from rfl) (by decide)]
  have h2 := h1.wN (5 * pe (aN A) + 1) a
  simp only [h2.sh.G401, m_wr h2 e89 h8 (show (2 : Int32).toInt = ((2 : Nat) : Int) from rfl) (by decide)]
  have h3 := h2.wN (5 * pe (aN A) + 2) c
  simp only [h3.sh.G401, m_wr h3 e89 h8 (show (3 : Int32).toInt = ((3 : Nat) : Int) from rfl) (by decide)]
  have h4 := h3.wN (5 * pe (aN A) + 3) f
  simp only [h4.sh.G401, m_wr h4 e89 h8 (show (4 : Int32).toInt = ((4 : Nat) : Int) from rfl) (by decide)]
  have h5 := h4.wN (5 * pe (aN A) + 4) 0
  have e : wI (sI (sI (sI (sI (sI w (m + 2) (5 * pe (aN A)) kd) (m + 2) (5 * pe (aN A) + 1) a) (m + 2) (5 * pe (aN A) + 2) c) (m + 2) (5 * pe (aN A) + 3) f) (m + 2) (5 * pe (aN A) + 4) 0) (m + 2) 89 = aN A 89 := by
    rw [h5.N]
    simp only [aN_zN, up1_at]
    rw [if_neg (by omega), if_neg (by omega), if_neg (by omega), if_neg (by omega), if_neg (by omega)]
  simp only [h5.sh.G401, h5.sh.r2, h5.sh.w2, v89, e, ie_m6_m5, ie_m6_m4, ie_m6_m3, ie_m6_m2, ie_m6_m1, ie_m6_0, ie_m6_1, ie_m6_2, ie_m6_3, ie_m6_4, ie_m6_5, ie_m6_6, ie_m5_m6, ie_m5_m4, ie_m5_m3, ie_m5_m2, ie_m5_m1, ie_m5_0, ie_m5_1, ie_m5_2, ie_m5_3, ie_m5_4, ie_m5_5, ie_m5_6, ie_m4_m6, ie_m4_m5, ie_m4_m3, ie_m4_m2, ie_m4_m1, ie_m4_0, ie_m4_1, ie_m4_2, ie_m4_3, ie_m4_4, ie_m4_5, ie_m4_6, ie_m3_m6, ie_m3_m5, ie_m3_m4, ie_m3_m2, ie_m3_m1, ie_m3_0, ie_m3_1, ie_m3_2, ie_m3_3, ie_m3_4, ie_m3_5, ie_m3_6, ie_m2_m6, ie_m2_m5, ie_m2_m4, ie_m2_m3, ie_m2_m1, ie_m2_0, ie_m2_1, ie_m2_2, ie_m2_3, ie_m2_4, ie_m2_5, ie_m2_6, ie_m1_m6, ie_m1_m5, ie_m1_m4, ie_m1_m3, ie_m1_m2, ie_m1_0, ie_m1_1, ie_m1_2, ie_m1_3, ie_m1_4, ie_m1_5, ie_m1_6, ie_0_m6, ie_0_m5, ie_0_m4, ie_0_m3, ie_0_m2, ie_0_m1, ie_0_1, ie_0_2, ie_0_3, ie_0_4, ie_0_5, ie_0_6, ie_1_m6, ie_1_m5, ie_1_m4, ie_1_m3, ie_1_m2, ie_1_m1, ie_1_0, ie_1_2, ie_1_3, ie_1_4, ie_1_5, ie_1_6, ie_2_m6, ie_2_m5, ie_2_m4, ie_2_m3, ie_2_m2, ie_2_m1, ie_2_0, ie_2_1, ie_2_3, ie_2_4, ie_2_5, ie_2_6, ie_3_m6, ie_3_m5, ie_3_m4, ie_3_m3, ie_3_m2, ie_3_m1, ie_3_0, ie_3_1, ie_3_2, ie_3_4, ie_3_5, ie_3_6, ie_4_m6, ie_4_m5, ie_4_m4, ie_4_m3, ie_4_m2, ie_4_m1, ie_4_0, ie_4_1, ie_4_2, ie_4_3, ie_4_5, ie_4_6, ie_5_m6, ie_5_m5, ie_5_m4, ie_5_m3, ie_5_m2, ie_5_m1, ie_5_0, ie_5_1, ie_5_2, ie_5_3, ie_5_4, ie_5_6, ie_6_m6, ie_6_m5, ie_6_m4, ie_6_m3, ie_6_m2, ie_6_m1, ie_6_0, ie_6_1, ie_6_2, ie_6_3, ie_6_4, ie_6_5, Int32.reduceToInt, Int64.reduceToInt, Int.reduceToNat, Int32.reduceAdd, Int32.reduceSub, Int32.reduceMul, Int32.reduceDiv, Int32.reduceLT, Int32.reduceLE, Int.reduceLE, Int.reduceLT, Int.reduceNeg, Int.reduceAdd, Int.reduceSub, Int.reduceMul, Int.reduceEq, Nat.reduceAdd, Nat.reduceMul, Nat.reduceLT, Nat.reduceEqDiff, true_and, and_true, and_self, false_and, and_false, if_true, if_false, ite_true, ite_false, ↓reduceIte, not_true_eq_false, not_false_eq_true, true_or, or_true, or_false, false_or, Int.cast_ofNat_Int, Int.reduceNatCast]
  have h6 := h5.wN 89 (aN A 89 + 1)
  simp only [aN_zN, zN_zN] at h6
  exact hk _ h6 (by (repeat' (first | exact fr.refl _ _ | (refine fr.sF ?_ ?_) | (refine fr.sI ?_ ?_) | (refine fr.sL ?_ ?_) | (refine fr.sQ ?_ ?_) | (refine fr.sG ?_ ?_) | (refine fr.nw ?_))) <;> (intro _; unfold pfP; omega)) rfl
theorem m_persF {k : Int32 → Wd → Prop} (hk : k 0 w) (x : Int32) : wb_X4_isPersonStatement_23 k w m x (-1) := by
  unfold wb_X4_isPersonStatement_23
  rw [if_pos rfl]
  unfold wb_X4_isPersonStatement_37
  rw [if_pos rfl]
  unfold wb_X4_isPersonStatement_51 wb_X4_isPersonStatement_61
  rw [if_pos rfl]
  exact hk
theorem m_pers (h : MM w m A) (hN : okN (aN A)) (hT : okT A) (h8 : pe (aN A) < 8) {i : Nat} (hi : i ≤ zA A) (hat : wF w m 407 = Int32.ofNat i) {k : Int32 → Wd → Prop} (hK : mPK w m A k (stP (aT A) (zA A) (aN A) i)) : wp_X4_isPersonStatement w m k := by
  unfold wp_X4_isPersonStatement
  unfold stP at hK
  refine ⟨by rw [h.sh.ob]; trivial, m_numK h hT hi hat 0 5 hK (fun w1 h1 hf1 k1 => ?_) (fun kd w1 hb1 hr1 h1 hf1 e1 hK1 => ?_)⟩
  · rw [if_pos rfl]
    exact m_persF k1 _
  · have hi1 := (tkE_b (T := aT A) hi).2
    rw [if_neg (ne_m1 hb1.1)]
    refine ⟨by rw [h1.sh.ob]; trivial, m_numK h1 hT hi1 e1 0 9 hK1 (fun w2 h2 hf2 k2 => m_persF k2 _) (fun a w2 hb2 hr2 h2 hf2 e2 hK2 => ?_)⟩
    have hi2 := (tkE_b (T := aT A) hi1).2
    unfold wb_X4_isPersonStatement_23
    rw [if_neg (ne_m1 hb2.1)]
    refine ⟨by rw [h2.sh.ob]; trivial, m_cellK (Q := fun v => ¬ pnd (aN A) v = 1) h2 hN hT hi2 e2 hK2 (fun w3 h3 hf3 k3 => ?_) (fun c w3 hc h3 hf3 e3 e38 hK3 => ?_)⟩
    · unfold wb_X4_isPersonStatement_37
      rw [if_pos rfl]
      unfold wb_X4_isPersonStatement_51 wb_X4_isPersonStatement_61
      rw [if_pos rfl]
      exact k3
    · have hi3 := (tkE_b (T := aT A) hi2).2
      unfold wb_X4_isPersonStatement_37
      rw [if_neg (isC_ne hc)]
      refine ⟨by rw [h3.sh.ob]; trivial, ?_⟩
      rw [m_hasPond h3 hN hc]
      by_cases q : pnd (aN A) c = 1
      · rw [if_pos q, if_neg (by decide)]
        rw [if_neg (fun x => x q)] at hK3
        unfold wb_X4_isPersonStatement_51 wb_X4_isPersonStatement_61
        rw [if_pos rfl]
        exact hK3 w3 h3 (fr.refl _ _) e38
      · rw [if_neg q, if_pos rfl]
        rw [if_pos q] at hK3
        refine ⟨by rw [h3.sh.ob]; trivial, m_numK h3 hT hi3 e3 0 3 hK3 (fun w4 h4 hf4 k4 => ?_) (fun f w4 hb4 hr4 h4 hf4 e4 hK4 => ?_)⟩
        · unfold wb_X4_isPersonStatement_61
          rw [if_pos rfl]
          exact k4
        · unfold wb_X4_isPersonStatement_61
          rw [if_neg (ne_m1 hb4.1)]
          refine ⟨by rw [h4.sh.ob]; trivial, m_addP h4 hN.P h8 kd a c f (fun w5 h5 hf5 e5 => ?_)⟩
          exact hK4 w5 h5 hf5 (e5.trans e4)
/-- a number written -/
theorem m_st172 (h : MM w m A) (hT : okT A) {i : Nat} (hi : i ≤ zA A) (hat : wF w m 407 = Int32.ofNat i) (lo hi' : Int32) {pl : Int32} {P : Nat} (hpl : pl.toInt = (P : Int)) (hP : P < 97) {k : Int32 → Wd → Prop} (hK : mPK w m A k (pN (aT A) (zA A) (rngP lo hi') i (fun v e => (e, some (up1 (aN A) P v))))) : wb_X4_isStatement_172 k w m pl (some m) lo hi' := by
  unfold wb_X4_isStatement_172
  simp only [wnn]
  refine ⟨by rw [h.sh.ob]; trivial, m_numK h hT hi hat lo hi' hK (fun w1 h1 hf1 k1 => ?_) (fun v w1 hb1 hr1 h1 hf1 e1 hK1 => ?_)⟩
  · rw [if_pos rfl]
    exact k1
  · have hv : vp_in pl 97 := vp_iff.2 (by omega)
    rw [if_neg (ne_m1 hb1.1), h1.sh.G401, h1.sh.w2, hpl, Int.toNat_natCast]
    refine ⟨hv, ?_⟩
    have h2 := h1.wN P v
    exact hK1 _ h2 ((fr.refl _ _).sI (fun _ => Or.inr ⟨rfl, rfl⟩)) e1
theorem m_st75 (h : MM w m A) (hN : okN (aN A)) {wh c : Int32} (hc : isC (aN A 90) c) {v : Int32} (hv : 2 - wh = v) {e : Nat} (e1 : wF w m 407 = Int32.ofNat e) {k : Int32 → Wd → Prop} (hK : mPK w m A k (e, some (up1 (aN A) (pat c) v))) : wb_X4_isStatement_75 k w m wh c := by
  unfold wb_X4_isStatement_75 wp_X4_pondAt
  rw [h.sh.G401]
  dsimp only
  rw [m_patw h hN hc, hv]
  exact hK _ (h.wN _ _) ((fr.refl _ _).sI (fun _ => Or.inr ⟨rfl, rfl⟩)) e1
theorem m_stat (h : MM w m A) (hN : okN (aN A)) (hT : okT A) {i : Nat} (hi : i ≤ zA A) (hat : wF w m 407 = Int32.ofNat i) {k : Int32 → Wd → Prop} (hK : mPK w m A k (stF (aT A) (zA A) (aN A) i)) : wp_X4_isStatement w m k := by
  unfold wp_X4_isStatement
  refine ⟨by rw [h.sh.ob]; trivial, m_next h hT hi hat (fun w1 h1 hf1 e7 e8 e9 => ⟨by rw [h1.sh.ob]; trivial, m_word h1 hT hi e7 e8 e9 ?_⟩)⟩
  have hK1 := mPK_fr hK (tkP_pf hf1)
  have hi1 := (tkE_b (T := aT A) hi).2
  unfold stF at hK1
  have hc := whJ_c (aT A) (zA A) i 8
  have hc' : wch (aT A) (zA A) i = -1 ∨ ∃ j, j < 8 ∧ wch (aT A) (zA A) i = Int32.ofNat j := hc
  generalize wch (aT A) (zA A) i = W at *
  rcases hc' with rfl | ⟨j, hj, rfl⟩
  · rw [if_pos rfl] at hK1 ⊢
    exact hK1 w1 h1 (fr.refl _ _) e8
  · rcases (show j = 0 ∨ j = 1 ∨ j = 2 ∨ j = 3 ∨ j = 4 ∨ j = 5 ∨ j = 6 ∨ j = 7 by omega) with rfl | rfl | rfl | rfl | rfl | rfl | rfl | rfl
    · rw [if_neg (by decide), if_neg (by decide), if_neg (by decide), if_neg (by decide), if_pos (by decide)] at hK1
      rw [if_neg (by decide), if_neg (by decide)]
      unfold wb_X4_isStatement_30
      rw [if_neg (by decide), if_neg (by decide), if_neg (by decide), if_pos (by decide)]
      unfold wb_X4_isStatement_104
      rw [if_neg (by decide)]
      unfold wb_X4_isStatement_135
      rw [if_pos (by decide), h1.sh.G401, h1.sh.r2, show (90 : Int32).toInt.toNat = 90 from rfl, h1.N]
      refine ⟨v90, ?_⟩
      unfold wb_X4_isStatement_151
      rw [if_pos (by decide)]
      exact m_st172 h1 hT hi1 e7 (aN A 90) 7 rfl (by decide) hK1
    · rw [if_neg (by decide), if_neg (by decide), if_pos (by decide)] at hK1
      rw [if_neg (by decide), if_neg (by decide)]
      unfold wb_X4_isStatement_30
      rw [if_neg (by decide), if_pos (by decide)]
      unfold wb_X4_isStatement_50
      refine ⟨by rw [h1.sh.ob]; trivial, m_cellK (Q := fun v => ¬ smb (aN A) v) h1 hN hT hi1 e7 hK1 (fun w2 h2 hf2 k2 => ?_) (fun c w2 hc h2 hf2 e27 e28 hK2 => ?_)⟩
      · rw [if_pos rfl]; exact k2
      · rw [if_neg (isC_ne hc), if_pos (by decide)]
        refine ⟨by rw [h2.sh.ob]; trivial, m_isSomebody h2 hN.P c ?_⟩
        by_cases q : smb (aN A) c
        · rw [if_pos q, if_neg (by decide)]
          rw [if_neg (fun x => x q)] at hK2
          exact hK2 w2 h2 (fr.refl _ _) e28
        · rw [if_neg q, if_pos rfl]
          rw [if_pos q] at hK2
          exact m_st75 h2 hN hc (by decide) e27 hK2
    · rw [if_neg (by decide), if_neg (by decide), if_neg (by decide), if_pos (by decide)] at hK1
      rw [if_neg (by decide), if_neg (by decide)]
      unfold wb_X4_isStatement_30
      rw [if_neg (by decide), if_neg (by decide), if_pos (by decide)]
      unfold wb_X4_isStatement_50
      refine ⟨by rw [h1.sh.ob]; trivial, m_cellK (Q := fun _ => True) h1 hN hT hi1 e7 hK1 (fun w2 h2 hf2 k2 => ?_) (fun c w2 hc h2 hf2 e27 e28 hK2 => ?_)⟩
      · rw [if_pos rfl]; exact k2
      · rw [if_neg (isC_ne hc), if_neg (by decide)]
        rw [if_pos trivial] at hK2
        exact m_st75 h2 hN hc (by decide) e27 hK2
    · rw [if_neg (by decide), if_pos (by decide)] at hK1
      rw [if_neg (by decide), if_pos (by decide)]
      refine ⟨by rw [h1.sh.ob]; trivial, ?_⟩
      rw [m_many h1]
      have hpI := hN.peI
      by_cases c8 : pe (aN A) = 8
      · rw [if_pos (by rw [i_eq, hpI, c8]; rfl)]
        rw [if_pos c8] at hK1
        exact hK1 w1 h1 (fr.refl _ _) e8
      · rw [if_neg (by rw [i_eq, hpI, show (8 : Int32).toInt = 8 from rfl]; omega)]
        rw [if_neg c8] at hK1
        unfold wb_X4_isStatement_30
        rw [if_pos (by decide)]
        refine ⟨by rw [h1.sh.ob]; trivial, m_pers h1 hN hT (by have := hN.pe8; omega) hi1 e7 (mPK_m hK1 (fun w' q => ⟨of_eq_true nar_0, q⟩) (fun w' q => ⟨of_eq_true nar_1, q⟩))⟩
    · rw [if_neg (by decide), if_neg (by decide), if_neg (by decide), if_neg (by decide), if_neg (by decide), if_pos (by decide)] at hK1
      rw [if_neg (by decide), if_neg (by decide)]
      unfold wb_X4_isStatement_30
      rw [if_neg (by decide), if_neg (by decide), if_neg (by decide), if_neg (by decide)]
      unfold wb_X4_isStatement_104
      rw [if_pos (by decide)]
      refine ⟨by rw [h1.sh.ob]; trivial, ?_⟩
      rw [m_many h1]
      refine ⟨by rw [h1.sh.ob]; trivial, m_numK h1 hT hi1 e7 0 (aN A 89 - 1) hK1 (fun w2 h2 hf2 k2 => ?_) (fun x w2 hb2 hr2 h2 hf2 e2 hK2 => ?_)⟩
      · rw [if_pos rfl]; exact k2
      · have hi2 := (tkE_b (T := aT A) hi1).2
        have hx := hr2.2
        rw [i_dec (by have := hN.1; omega)] at hx
        have hN1 := hN.1
        rw [if_neg (ne_m1 hb2.1)]
        unfold wb_X4_isStatement_135
        rw [if_neg (by decide)]
        unfold wb_X4_isStatement_151
        rw [if_neg (by decide), if_neg (by decide)]
        exact m_st172 h2 hT hi2 e2 0 1 (by rw [i_5 (by omega) (by decide), show (4 : Int32).toInt = 4 from rfl]; omega) (by omega) hK2
    · rw [if_neg (by decide), if_neg (by decide), if_neg (by decide), if_neg (by decide), if_neg (by decide), if_neg (by decide), if_neg (by decide)] at hK1
      rw [if_neg (by decide), if_neg (by decide)]
      unfold wb_X4_isStatement_30
      rw [if_neg (by decide), if_neg (by decide), if_neg (by decide), if_neg (by decide)]
      unfold wb_X4_isStatement_104
      rw [if_neg (by decide)]
      unfold wb_X4_isStatement_135
      rw [if_neg (by decide)]
      unfold wb_X4_isStatement_151
      rw [if_neg (by decide), if_neg (by decide)]
      exact m_st172 h1 hT hi1 e7 0 1 (P := 91) rfl (by decide) hK1
    · rw [if_neg (by decide), if_neg (by decide), if_neg (by decide), if_neg (by decide), if_neg (by decide), if_neg (by decide), if_neg (by decide)] at hK1
      rw [if_neg (by decide), if_neg (by decide)]
      unfold wb_X4_isStatement_30
      rw [if_neg (by decide), if_neg (by decide), if_neg (by decide), if_neg (by decide)]
      unfold wb_X4_isStatement_104
      rw [if_neg (by decide)]
      unfold wb_X4_isStatement_135
      rw [if_neg (by decide)]
      unfold wb_X4_isStatement_151
      rw [if_neg (by decide), if_neg (by decide)]
      exact m_st172 h1 hT hi1 e7 0 1 (P := 92) rfl (by decide) hK1
    · rw [if_neg (by decide), if_neg (by decide), if_neg (by decide), if_neg (by decide), if_neg (by decide), if_neg (by decide), if_pos (by decide)] at hK1
      rw [if_neg (by decide), if_neg (by decide)]
      unfold wb_X4_isStatement_30
      rw [if_neg (by decide), if_neg (by decide), if_neg (by decide), if_neg (by decide)]
      unfold wb_X4_isStatement_104
      rw [if_neg (by decide)]
      unfold wb_X4_isStatement_135
      rw [if_neg (by decide)]
      unfold wb_X4_isStatement_151
      rw [if_neg (by decide), if_pos (by decide)]
      exact m_st172 h1 hT hi1 e7 0 12 (P := 93) rfl (by decide) hK1
end MPB
