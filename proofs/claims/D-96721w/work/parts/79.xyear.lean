/-! ===== years, of the class ===== -/
theorem okN_c {N N' : Nw} (h : okN N) (e89 : N' 89 = N 89) (e90 : N' 90 = N 90) (h91 : N' 91 = 0 ∨ N' 91 = 1) (hp : ∀ k, k < 49 → N' (40 + k) = N (40 + k)) (hq : ∀ p, p < pe N → N' (5 * p) = N (5 * p) ∧ N' (5 * p + 2) = N (5 * p + 2) ∧ N' (5 * p + 3) = N (5 * p + 3) ∧ (N' (5 * p + 4) = 0 ∨ N' (5 * p + 4) = 1)) : okN N' := by
  have hpe : pe N' = pe N := by unfold pe; rw [e89]
  refine ⟨by rw [e89]; exact h.1, by rw [e90]; exact h.2.1, h91, fun k hk => by rw [hp k hk]; exact h.2.2.2.1 k hk, fun p hpp => ?_⟩
  rw [hpe] at hpp
  obtain ⟨a1, a2, a3, a4⟩ := hq p hpp
  obtain ⟨b1, b2, b3, b4, b5⟩ := h.2.2.2.2 p hpp
  rw [a1, a2, a3, e90]
  refine ⟨b1, b2, b3, a4, ?_⟩
  have hb := pat_b h.side b2
  have := hp (pat (N (5 * p + 2)) - 40) (by omega)
  rw [show 40 + (pat (N (5 * p + 2)) - 40) = pat (N (5 * p + 2)) by omega] at this
  unfold pnd at b5 ⊢
  rwa [this]
theorem okN_hi {N : Nw} (h : okN N) {k : Nat} {v : Int32} (hk : 92 ≤ k) : okN (up1 N k v) := by
  have h8 := h.pe8
  refine okN_c h (up1_ne (by omega)) (up1_ne (by omega)) (by rw [up1_ne (by omega)]; exact h.2.2.1) (fun j hj => up1_ne (by omega)) (fun p hp => ⟨up1_ne (by omega), up1_ne (by omega), up1_ne (by omega), by rw [up1_ne (by omega)]; exact (h.2.2.2.2 p hp).2.2.2.1⟩)
theorem okN_91 {N : Nw} (h : okN N) {v : Int32} (hv : v = 0 ∨ v = 1) : okN (up1 N 91 v) := by
  have h8 := h.pe8
  refine okN_c h (up1_ne (by omega)) (up1_ne (by omega)) (by rw [up1_eq]; exact hv) (fun j hj => up1_ne (by omega)) (fun p hp => ⟨up1_ne (by omega), up1_ne (by omega), up1_ne (by omega), by rw [up1_ne (by omega)]; exact (h.2.2.2.2 p hp).2.2.2.1⟩)
theorem okN_wn {N : Nw} (h : okN N) {p : Nat} (hp : p < 8) {v : Int32} (hv : v = 0 ∨ v = 1) : okN (up1 N (5 * p + 4) v) := by
  have h8 := h.pe8
  refine okN_c h (up1_ne (by omega)) (up1_ne (by omega)) (by rw [up1_ne (by omega)]; exact h.2.2.1) (fun j hj => up1_ne (by omega)) (fun q hq => ⟨up1_ne (by omega), up1_ne (by omega), up1_ne (by omega), ?_⟩)
  by_cases e : q = p
  · rw [e, up1_eq]; exact hv
  · rw [up1_ne (by omega)]; exact (h.2.2.2.2 q hq).2.2.2.1
theorem carF_c {N : Nw} (h : okN N) : carF N = 0 ∨ carF N = 1 := by
  unfold carF
  split
  · exact Or.inr rfl
  · split
    · exact Or.inl rfl
    · exact h.2.2.1
theorem okN_yr1 {N : Nw} (h : okN N) : okN (yr1 N) := okN_91 (okN_hi h (by decide)) (carF_c h)
theorem okN_yrJ {N : Nw} (h : okN N) : ∀ j, j ≤ pe N → okN (yrJ N j)
  | 0, _ => h
  | j + 1, hj => by
    have h8 := h.pe8
    have ih := okN_yrJ h j (by omega)
    have e89 : yrJ N j 89 = N 89 := yrJ_at _ _ (by decide) _ (by omega)
    refine okN_wn (okN_hi ih (by decide)) (by omega) ?_
    have hpe : pe (yrJ N j) = pe N := by unfold pe; rw [e89]
    rcases (ih.2.2.2.2 j (by omega)).2.2.2.1 with e | e <;> rw [e] <;> split <;> decide
theorem okN_yrN {N : Nw} (h : okN N) : okN (yrN N) := by
  have h1 := okN_yr1 h
  have hpe : pe (yr1 N) = pe N := by unfold pe; rw [yr1_89]
  exact okN_hi (okN_yrJ h1 _ (by omega)) (by decide)
theorem okN_itY {N : Nw} (h : okN N) : ∀ n, okN (itY n N)
  | 0 => h
  | n + 1 => okN_yrN (okN_itY h n)
section XYEAR
variable {w w' : Wd} {b i : Nat} {o : Option Nat} {A : Ab} {N : Nw}
theorem x_draw (h : XX w b i o (zN A N)) (h8 : pe N ≤ 8) {k : Int32 → Wd → Prop} (hk : ∀ w', XX w' b i o (zN A (up1 N 96 (sdN (N 96)))) → fr (xQ b) w w' → k (drw (sdN (N 96))) w') : wp_X1_draw w i 12 k := by
  unfold wp_X1_draw
  rw [h.is.F110, h.is.pF]
  have u := h.upF (h.is.wSeed h8 (sdN (N 96))) (pe_up (by decide))
  show wgF (sF w i 110 (sdN (N 96))) (some i) [21] 110 _
  have u1 : XX (sF w i 110 (sdN (N 96))) b i o (zN A (up1 N 96 (sdN (N 96)))) := u.1
  rw [u1.is.F110, aN_zN, up1_eq]
  exact ⟨by decide, hk _ u1 u.2⟩
theorem x_year (h : XX w b i o (zN A N)) (hN : okN N) {k : Wd → Prop} (hk : ∀ w', XX w' b i o (zN A (yrN N)) → fr (xQ b) w w' → k w') : wp_X1_year w i k := by
  have h8 := hN.pe8
  have v0 : vp_in 0 3 := vp_iff.2 (by decide)
  have v1 : vp_in 1 3 := vp_iff.2 (by decide)
  have v2 : vp_in 2 3 := vp_iff.2 (by decide)
  unfold wp_X1_year
  refine ⟨by rw [h.is.ob]; trivial, x_car0 h (by rw [aN_zN]; exact hN) ?_⟩
  rw [h.is.G105, h.is.G105, x_t0 h, h.is.w6]
  refine ⟨v1, ?_⟩
  have u1 := h.upI (a := i + 6) (by omega) (h.is.wTold h8 (t := 1) (by decide) (N 91)) (pe_up (by decide))
  have h1 : XX (sI w (i + 6) (1 : Int32).toInt.toNat (N 91)) b i o (zN A (up1 N 92 (N 91))) := u1.1
  have f1 : fr (xQ b) w (sI w (i + 6) (1 : Int32).toInt.toNat (N 91)) := u1.2
  simp only [aN_zN]
  generalize sI w (i + 6) (1 : Int32).toInt.toNat (N 91) = w1 at *
  rw [h1.is.G105, h1.is.w6]
  refine ⟨v0, ?_⟩
  have u2 := h1.upI (a := i + 6) (by omega) (h1.is.wTold (by rw [aN_zN, pe_up (by decide)]; exact h8) (t := 0) (by decide) (carF N)) (pe_up (by decide))
  have h2 : XX (sI w1 (i + 6) (0 : Int32).toInt.toNat (carF N)) b i o (zN A (yr1 N)) := u2.1
  have f2 : fr (xQ b) w1 (sI w1 (i + 6) (0 : Int32).toInt.toNat (carF N)) := u2.2
  show wl_X1_year_27 k FU (sI w1 (i + 6) (0 : Int32).toInt.toNat (carF N)) i 0
  generalize sI w1 (i + 6) (0 : Int32).toInt.toNat (carF N) = w2 at *
  have hM := okN_yr1 hN
  have hMpe : pe (yr1 N) = pe N := by unfold pe; rw [yr1_89]
  unfold yrN at hk
  rw [← hMpe] at hk
  generalize yr1 N = M at *
  have hP := hM.P
  have h8M := hM.pe8
  refine loopN (n := pe M) (I := fun j w3 => XX w3 b i o (zN A (yrJ M j)) ∧ fr (xQ b) w w3) (L := fun fu j w3 => wl_X1_year_27 k fu w3 i (Int32.ofNat j)) ?_ ?_ (pe M) FU 0 w2 (by omega) (by unfold FU; omega) ⟨h2, f1.trans f2⟩
  · intro fu j w3 hj ⟨h3, hf3⟩ ih
    have e89 : yrJ M j 89 = M 89 := yrJ_at _ _ (by decide) _ (by omega)
    have hpj : pe (yrJ M j) = pe M := by unfold pe; rw [e89]
    have hJ := okN_yrJ hM j (by omega)
    have hv : vp_in (Int32.ofNat j) 8 := vp_iff.2 (by rw [i_ti (by omega)]; omega)
    rw [wl_X1_year_27_s]
    unfold wb_X1_year_27
    rw [h3.is.F107, aN_zN, e89, if_neg (by rw [hP.le (by omega)]; omega), h3.is.G104]
    refine ⟨by rw [h3.is.ob]; trivial, x_draw h3 (by omega) (fun w4 h4 hf4 => ?_)⟩
    rw [h4.is.G105, h4.is.r6]
    refine ⟨v2, ?_⟩
    have e93 : wI w4 (i + 6) (2 : Int32).toInt.toNat = yrJ M j 93 := h4.is.o2.trans (by rw [aN_zN, up1_ne (by decide)])
    rw [e93]
    have hpe4 : pe (up1 (yrJ M j) 96 (sdN (yrJ M j 96))) = pe M := by rw [pe_up (by decide), hpj]
    have hj4 : j < pe (aN (zN A (up1 (yrJ M j) 96 (sdN (yrJ M j 96))))) := by rw [aN_zN, hpe4]; exact hj
    have e5 : wI w4 (i + 5) (Int32.ofNat j).toInt.toNat = yrJ M j (5 * j + 4) := by rw [i_tt (by omega), (h4.is.p3 hj4).2.2, aN_zN, up1_ne (by omega)]
    have stpv : ∀ v : Int32, v = (yrJ M j (5 * j + 4) ^^^ (if yrJ M j 93 ≤ drw (sdN (yrJ M j 96)) then 0 else 1)) → wl_X1_year_27 k fu (sI w4 (i + 5) (Int32.ofNat j).toInt.toNat v) i (Int32.ofNat j + 1) := by
      intro v hv'
      rw [i_tt (by omega), i_ofS]
      have u5 := h4.upI (a := i + 5) (by omega) (h4.is.wP (by rw [aN_zN, hpe4]; omega) (d := 4) (by decide) hj4 v) (pe_up (by omega))
      rw [hv'] at u5 ⊢
      exact ih _ ⟨u5.1, (hf3.trans hf4).trans u5.2⟩
    by_cases c : yrJ M j 93 ≤ drw (sdN (yrJ M j 96))
    · rw [if_pos c, h4.is.G104, h4.is.r5, e5, h4.is.w5]
      refine ⟨hv, hv, stpv _ ?_⟩
      rw [if_pos c, Int32.xor_zero]
    · rw [if_neg c, h4.is.G104, h4.is.r5, e5, h4.is.w5]
      refine ⟨hv, hv, stpv _ ?_⟩
      rw [if_neg c]
      rcases (hJ.2.2.2.2 j (by omega)).2.2.2.1 with e | e <;> rw [e] <;> decide
  · intro fu w3 ⟨h3, hf3⟩
    have e89 : yrJ M (pe M) 89 = M 89 := yrJ_at _ _ (by decide) _ (by omega)
    have hpj : pe (yrJ M (pe M)) = pe M := congrArg (fun x => x.toInt.toNat) e89
    rw [wl_X1_year_27_s]
    unfold wb_X1_year_27
    rw [h3.is.F107, aN_zN, e89, if_pos (by rw [hP.le (by omega)]; omega), h3.is.F108, h3.is.pF]
    have u := h3.upF (h3.is.wYears (by rw [aN_zN]; omega) (yrJ M (pe M) 94 + 1)) (pe_up (by decide))
    exact hk _ u.1 (hf3.trans u.2)
theorem x_years (h : XX w b i o A) (hN : okN (aN A)) (n : Int32) {k : Int32 → Wd → Prop} (hk : xR w b i o (F_years A n).2 (k (F_years A n).1)) : wp_X0_years w b n k := by
  unfold wp_X0_years
  unfold F_years at hk
  simp only [x_isIn, ie_m6_m5, ie_m6_m4, ie_m6_m3, ie_m6_m2, ie_m6_m1, ie_m6_0, ie_m6_1, ie_m6_2, ie_m6_3, ie_m6_4, ie_m6_5, ie_m6_6, ie_m5_m6, ie_m5_m4, ie_m5_m3, ie_m5_m2, ie_m5_m1, ie_m5_0, ie_m5_1, ie_m5_2, ie_m5_3, ie_m5_4, ie_m5_5, ie_m5_6, ie_m4_m6, ie_m4_m5, ie_m4_m3, ie_m4_m2, ie_m4_m1, ie_m4_0, ie_m4_1, ie_m4_2, ie_m4_3, ie_m4_4, ie_m4_5, ie_m4_6, ie_m3_m6, ie_m3_m5, ie_m3_m4, ie_m3_m2, ie_m3_m1, ie_m3_0, ie_m3_1, ie_m3_2, ie_m3_3, ie_m3_4, ie_m3_5, ie_m3_6, ie_m2_m6, ie_m2_m5, ie_m2_m4, ie_m2_m3, ie_m2_m1, ie_m2_0, ie_m2_1, ie_m2_2, ie_m2_3, ie_m2_4, ie_m2_5, ie_m2_6, ie_m1_m6, ie_m1_m5, ie_m1_m4, ie_m1_m3, ie_m1_m2, ie_m1_0, ie_m1_1, ie_m1_2, ie_m1_3, ie_m1_4, ie_m1_5, ie_m1_6, ie_0_m6, ie_0_m5, ie_0_m4, ie_0_m3, ie_0_m2, ie_0_m1, ie_0_1, ie_0_2, ie_0_3, ie_0_4, ie_0_5, ie_0_6, ie_1_m6, ie_1_m5, ie_1_m4, ie_1_m3, ie_1_m2, ie_1_m1, ie_1_0, ie_1_2, ie_1_3, ie_1_4, ie_1_5, ie_1_6, ie_2_m6, ie_2_m5, ie_2_m4, ie_2_m3, ie_2_m2, ie_2_m1, ie_2_0, ie_2_1, ie_2_3, ie_2_4, ie_2_5, ie_2_6, ie_3_m6, ie_3_m5, ie_3_m4, ie_3_m3, ie_3_m2, ie_3_m1, ie_3_0, ie_3_1, ie_3_2, ie_3_4, ie_3_5, ie_3_6, ie_4_m6, ie_4_m5, ie_4_m4, ie_4_m3, ie_4_m2, ie_4_m1, ie_4_0, ie_4_1, ie_4_2, ie_4_3, ie_4_5, ie_4_6, ie_5_m6, ie_5_m5, ie_5_m4, ie_5_m3, ie_5_m2, ie_5_m1, ie_5_0, ie_5_1, ie_5_2, ie_5_3, ie_5_4, ie_5_6, ie_6_m6, ie_6_m5, ie_6_m4, ie_6_m3, ie_6_m2, ie_6_m1, ie_6_0, ie_6_1, ie_6_2, ie_6_3, ie_6_4, ie_6_5, Int32.reduceToInt, Int64.reduceToInt, Int.reduceToNat, Int32.reduceAdd, Int32.reduceSub, Int32.reduceMul, Int32.reduceDiv, Int32.reduceLT, Int32.reduceLE, Int.reduceLE, Int.reduceLT, Int.reduceNeg, Int.reduceAdd, Int.reduceSub, Int.reduceMul, Int.reduceEq, Nat.reduceAdd, Nat.reduceMul, Nat.reduceLT, Nat.reduceEqDiff, true_and, and_true, and_self, false_and, and_false, if_true, if_false, ite_true, ite_false, ↓reduceIte, not_true_eq_false, not_false_eq_true, true_or, or_true, or_false, false_or, Int.cast_ofNat_Int, Int.reduceNatCast]
  by_cases c : 1 ≤ n.toInt ∧ n.toInt ≤ 60
  · rw [if_pos c] at hk ⊢
    refine loopN (n := n.toInt.toNat) (I := fun j w2 => XX w2 b i o (zN A (itY j (aN A))) ∧ fr (xQ b) w w2) (L := fun fu j w2 => wl_X0_years_19 k fu w2 b n (Int32.ofNat j)) ?_ ?_ n.toInt.toNat FU 0 w (by omega) (by unfold FU; omega) ⟨by show XX w b i o (zN A (aN A)); rw [zN_a]; exact h, fr.refl _ _⟩
    · intro fu j w2 hj ⟨h2, hf2⟩ ih
      rw [wl_X0_years_19_s]
      unfold wb_X0_years_19
      rw [if_neg (by rw [le_of (by omega)]; omega), h2.G0]
      show wob w2 i [21] ∧ _
      refine ⟨by rw [h2.is.ob]; trivial, x_year h2 (okN_itY hN j) (fun w3 h3 hf3 => ?_)⟩
      rw [i_ofS]
      exact ih w3 ⟨h3, hf2.trans hf3⟩
    · intro fu w2 ⟨h2, hf2⟩
      rw [wl_X0_years_19_s]
      unfold wb_X0_years_19
      rw [if_pos (by rw [le_of (by omega)]; omega), h2.G0, h2.is.G105, x_t0 h2]
      exact hk w2 h2 hf2
  · rw [if_neg c] at hk ⊢
    exact ⟨by rw [h.sh.ob]; trivial, x_no h (by decide) hk⟩
end XYEAR
