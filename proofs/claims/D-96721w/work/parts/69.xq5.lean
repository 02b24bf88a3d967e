/-! ===== open, shore, ponds, agreed, kinds, of the class ===== -/
section XQ5
variable {w : Wd} {b i : Nat} {o : Option Nat} {A : Ab}
theorem x_openL (h : XX w b i o A) (hN : okN (aN A)) {f : Int32} (hf : okF f) {k : Int32 → Wd → Prop} : ∀ (d fu : Nat) (n c : Int32), endD (aN A 90) c f < d → d ≤ fu → (c = -1 ∨ isC (aN A 90) c) → k (opnF (aN A) f d n c) w → wl_X0_open_38 k fu w b f n c := by
  intro d
  induction d with
  | zero => intro fu n c h1; exact absurd h1 (by omega)
  | succ d ih =>
    intro fu n c h1 h2 hc hk
    obtain ⟨fu, rfl⟩ : ∃ g, fu = g + 1 := ⟨fu - 1, by omega⟩
    rw [wl_X0_open_38_s]
    unfold wb_X0_open_38
    unfold opnF at hk
    by_cases e : c = -1
    · rw [if_pos e] at hk ⊢; exact hk
    · rw [if_neg e] at hk ⊢
      have hc' := hc.resolve_left e
      rw [h.G0]
      show wob w i [21] ∧ _
      refine ⟨by rw [h.is.ob]; trivial, ?_⟩
      rw [x_isPond h.is hN hc']
      by_cases e2 : pnd (aN A) c = 1
      · rw [if_pos e2, if_neg (by decide)]
        rwa [if_pos e2] at hk
      · rw [if_neg e2, if_pos rfl, h.G0]
        rw [if_neg e2] at hk
        show wob w i [21] ∧ _
        refine ⟨by rw [h.is.ob]; trivial, ?_⟩
        rw [x_ahead h.k h.is hN hc' hf]
        have := (endD_lt hN.side hc' hf).1
        exact ih fu (n + 1) _ (by omega) (by omega) (bes_ok hN.side hc') hk
theorem x_open (h : XX w b i o A) (hN : okN (aN A)) (c f : Int32) {k : Int32 → Wd → Prop} (hk : xR w b i o (F_open A c f).2 (k (F_open A c f).1)) : wp_X0_open w b c f k := by
  unfold wp_X0_open
  unfold F_open at hk
  rw [h.G0]
  show wob w i [21] ∧ _
  refine ⟨by rw [h.is.ob]; trivial, ?_⟩
  rw [x_isCell h.is]
  by_cases hc : isC (aN A 90) c
  · rw [if_pos hc, if_neg (by decide), x_isFaced]
    by_cases hf : okF f
    · rw [if_pos hf, if_neg (by decide), h.G0]
      rw [if_pos ⟨hc, hf⟩] at hk
      show wob w i [21] ∧ _
      refine ⟨by rw [h.is.ob]; trivial, ?_⟩
      rw [x_ahead h.k h.is hN hc hf]
      have := endD_lt hN.side hc hf
      exact x_openL h hN hf 8 FU 0 _ (by omega) (by unfold FU; omega) (bes_ok hN.side hc) (hk.self h)
    · rw [if_neg hf, if_pos rfl]
      rw [if_neg (fun e => hf e.2)] at hk
      exact ⟨by rw [h.sh.ob]; trivial, x_no h (by decide) hk⟩
  · rw [if_neg hc, if_pos rfl]
    rw [if_neg (fun e => hc e.1)] at hk
    exact ⟨by rw [h.sh.ob]; trivial, x_no h (by decide) hk⟩
theorem shoJ_s {N : Nw} (hN : okN N) {j : Nat} (h1 : 67 ≤ j) (h2 : j < 70) : shoJ N (j + 1) = shoJ N j := by
  show shoJ N j + _ = _
  rw [if_neg, add0]
  intro q
  have := isC_b hN.side q.1
  rw [i_ti (by omega)] at this
  omega
theorem x_shore (h : XX w b i o A) (hN : okN (aN A)) {k : Int32 → Wd → Prop} (hk : xR w b i o (F_shore A).2 (k (F_shore A).1)) : wp_X0_shore w b k := by
  unfold wp_X0_shore
  refine loopN (n := 70) (I := fun j w2 => w2 = w) (L := fun fu j w2 => wl_X0_shore_4 k fu w2 b (shoJ (aN A) j) (Int32.ofNat j)) ?_ ?_ 70 FU 0 w (by omega) (by unfold FU; omega) rfl
  · rintro fu j w2 hj rfl ih
    rw [wl_X0_shore_4_s]
    unfold wb_X0_shore_4
    rw [if_neg (by rw [i_le, i_ti (by omega)]; show ¬ (70 : Int) ≤ j; omega), h.G0]
    show wob _ i [21] ∧ _
    refine ⟨by rw [h.is.ob]; trivial, ?_⟩
    rw [x_isCell h.is, i_ofS]
    have ih' := ih _ rfl
    rw [show shoJ (aN A) (j + 1) = shoJ (aN A) j + (if isC (aN A 90) (Int32.ofNat j) ∧ ¬ pnd (aN A) (Int32.ofNat j) = 1 ∧ shr (aN A) (Int32.ofNat j) then 1 else 0) from rfl] at ih'
    by_cases hc : isC (aN A 90) (Int32.ofNat j)
    · rw [if_pos hc, if_neg (by decide), h.G0]
      show wob _ i [21] ∧ _
      refine ⟨by rw [h.is.ob]; trivial, ?_⟩
      rw [x_isPond h.is hN hc]
      by_cases e : pnd (aN A) (Int32.ofNat j) = 1
      · rw [if_pos e, if_neg (by decide)]
        rwa [if_neg (fun q => q.2.1 e)] at ih'
      · rw [if_neg e, if_pos rfl, h.G0]
        show wob _ i [21] ∧ _
        refine ⟨by rw [h.is.ob]; trivial, ?_⟩
        rw [x_isByPond h.k h.is hN hc]
        by_cases e2 : shr (aN A) (Int32.ofNat j)
        · rw [if_pos e2, if_neg (by decide)]
          rwa [if_pos ⟨hc, e, e2⟩] at ih'
        · rw [if_neg e2, if_pos rfl]
          rwa [if_neg (fun q => e2 q.2.2)] at ih'
    · rw [if_neg hc, if_pos rfl]
      rwa [if_neg (fun q => hc q.1)] at ih'
  · rintro fu w2 rfl
    rw [wl_X0_shore_4_s]
    unfold wb_X0_shore_4
    rw [if_pos (by decide)]
    have := hk.self h
    unfold F_shore at this
    rwa [← shoJ_s hN (j := 67) (by decide) (by decide), ← shoJ_s hN (j := 68) (by decide) (by decide), ← shoJ_s hN (j := 69) (by decide) (by decide)] at this
theorem pdJ_s {A : Ab} (hN : okN (aN A)) {p : Nat} {s n : Int32} {j : Nat} (h1 : 67 ≤ j) (h2 : j < 70) : pdJ A p s n (j + 1) = pdJ A p s n j := by
  show pdJ A p s n j + _ = _
  rw [if_neg, add0]
  intro q
  have := isC_b hN.side q.1
  rw [i_ti (by omega)] at this
  omega
theorem x_ponds (h : XX w b i o A) (hN : okN (aN A)) (s n p : Int32) {k : Int32 → Wd → Prop} (hk : xR w b i o (F_ponds A s n p).2 (k (F_ponds A s n p).1)) : wp_X0_ponds w b s n p k := by
  unfold wp_X0_ponds
  refine x_qP h hN hk (fun hn0 P hpP hPp hP t w1 h1 hf1 hl1 hk1 => ?_)
  rw [hpP]
  rw [← hPp] at hk1
  rw [← pdJ_s hN (j := 67) (by decide) (by decide), ← pdJ_s hN (j := 68) (by decide) (by decide), ← pdJ_s hN (j := 69) (by decide) (by decide)] at hk1
  refine loopN (n := 70) (I := fun j w2 => lpI w1 b i o A t s n w2) (L := fun fu j w2 => wl_X0_ponds_22 k fu w2 b (Int32.ofNat P) (some t) (pdJ A P s n j) (Int32.ofNat j)) ?_ ?_ 70 FU 0 w1 (by omega) (by unfold FU; omega) ⟨h1, fr.refl _ _, hl1⟩
  · intro fu j w2 hj h2 ih
    have ej : pdJ A P s n (j + 1) = pdJ A P s n j + (if isC (aN A 90) (Int32.ofNat j) ∧ ¬ pnd (aN A) (Int32.ofNat j) = 1 ∧ ¬ uL (pdW A P s n j) = -1 then 1 else 0) := rfl
    rw [wl_X0_ponds_22_s]
    unfold wb_X0_ponds_22
    rw [if_neg (by rw [i_le, i_ti (by omega)]; show ¬ (70 : Int) ≤ j; omega), h2.1.G0]
    show wob w2 i [21] ∧ _
    refine ⟨by rw [h2.1.is.ob]; trivial, ?_⟩
    have ih0 := ih w2 h2
    rw [ej] at ih0
    rw [x_isCell h2.1.is]
    unfold wb_X0_ponds_57 wb_X0_ponds_58
    rw [i_ofS]
    by_cases hc : isC (aN A 90) (Int32.ofNat j)
    · rw [if_pos hc, if_neg (by decide), h2.1.G0]
      show wob w2 i [21] ∧ _
      refine ⟨by rw [h2.1.is.ob]; trivial, ?_⟩
      rw [x_isPond h2.1.is hN hc]
      by_cases e : pnd (aN A) (Int32.ofNat j) = 1
      · rw [if_pos e, if_neg (by decide), if_pos rfl]
        rwa [if_neg (fun q => q.2.1 e)] at ih0
      · rw [if_neg e, if_pos rfl, if_neg (by decide)]
        obtain ⟨v, hv, hvt⟩ := x_vt h2.1 hN hP
        simp only [h2.1.G0, h2.1.is.G101, hvt, h2.1.is.G105, x_t0 h2.1]
        refine ⟨by rw [h2.1.sh.ob]; trivial, x_walked h2.1 hN h2.2.2 hP hv ⟨hc, e⟩ _ (fun w3 hf3 hw3 => ?_)⟩
        have hw3' : wlk w3 (b + 8) (pdW A P s n j) (Int32.ofNat n.toInt.toNat) := hw3
        rw [hw3'.gF, hw3'.2.2.2.2.2.2.2]
        have ih' := ih w3 (h2.step hf3)
        rw [ej] at ih'
        by_cases e2 : uL (pdW A P s n j) = -1
        · rw [if_pos e2]
          rwa [if_neg (fun q => q.2.2 e2)] at ih'
        · rw [if_neg e2]
          rwa [if_pos ⟨hc, e, e2⟩] at ih'
    · rw [if_neg hc, if_pos rfl, if_pos rfl]
      rwa [if_neg (fun q => hc q.1)] at ih0
  · intro fu w2 h2
    rw [wl_X0_ponds_22_s]
    unfold wb_X0_ponds_22
    rw [if_pos (by decide)]
    exact hk1 w2 h2.1 (xP_Q h2.2.1)
theorem x_agreed (h : XX w b i o A) (hN : okN (aN A)) {k : Int32 → Wd → Prop} (hk : xR w b i o (F_agreed A).2 (k (F_agreed A).1)) : wp_X0_agreed w b k := by
  have hP := hN.P
  have h8 := hN.pe8
  unfold wp_X0_agreed
  refine loopN (n := pe (aN A)) (I := fun j w2 => XX w2 b i o A ∧ fr (xP b) w w2) (L := fun fu j w2 => wl_X0_agreed_4 k fu w2 b (agrJ (aN A) j) (Int32.ofNat j)) ?_ ?_ (pe (aN A)) FU 0 w (by omega) (by unfold FU; omega) ⟨h, fr.refl _ _⟩
  · intro fu j w2 hj ⟨h2, hf2⟩ ih
    have hz2 := h2.sh.z
    rw [wl_X0_agreed_4_s]
    unfold wb_X0_agreed_4
    simp only [h2.G0, h2.is.F107]
    rw [if_neg (by rw [hP.le (by omega)]; omega)]
    simp only [h2.sh.G2, h2.is.G102, h2.is.G103, x_cl h2 hN hj, x_fc h2 hN hj]
    show wob w2 (b + 8) [22] ∧ _
    refine ⟨by rw [h2.sh.obW8]; trivial, x_begins h2.sh.t8 (by omega) _ _ (fun w3 hf3 hw3 _ => ?_)⟩
    have h3 := h2.scP (at8_P hf3)
    obtain ⟨v, hv, hvt⟩ := x_vt h3 hN hj
    simp only [h3.G0, h3.sh.G2, h3.is.G101, hvt, h3.is.G105, x_t0 h3]
    refine x_by h3.k h3.is hN hj hv hw3 (okU_beg hN hj) (show 0 < 1000000 by decide) _ _ ?_
    simp only [h3.G0, h3.is.G105, x_t0 h3, i_ofS]
    have ih' := ih w3 ⟨h3, hf2.trans (at8_P hf3)⟩
    rw [show agrJ (aN A) (j + 1) = agrJ (aN A) j ||| (if by1 (aN A) (aN A (5 * j)) (aN A 91) j (beg (aN A (5 * j + 2)) (aN A (5 * j + 3))) 1 = aN A 91 then bit1 j else 0) from rfl] at ih'
    by_cases e : by1 (aN A) (aN A (5 * j)) (aN A 91) j (beg (aN A (5 * j + 2)) (aN A (5 * j + 3))) 1 = aN A 91
    · rw [if_pos e] at ih' ⊢
      exact ih'
    · rw [if_neg e] at ih' ⊢
      exact ih'
  · intro fu w2 ⟨h2, hf2⟩
    rw [wl_X0_agreed_4_s]
    unfold wb_X0_agreed_4
    simp only [h2.G0, h2.is.F107]
    rw [if_pos (by rw [hP.le (by omega)]; omega)]
    exact hk w2 h2 (xP_Q hf2)
/-- a voter made -/
theorem x_made (hz : b + 60 ≤ wz w) {kd : Int32} (hkd : 0 ≤ kd.toInt ∧ kd.toInt < 6) (p : Nat) (a : Int32) {k : Option Nat → Wd → Prop} (hk : ∀ w', fr x0 w w' → vot w' b (wz w) kd p a → wz w' = wz w + 1 → k (some (wz w)) w') : wp_X0_made w kd (Int32.ofNat p) a k := by
  unfold wp_X0_made wp_X10_init wp_X9_init wp_X11_init wp_X8_init wp_X7_init wp_X6_init wnew
  have fin : ∀ c : Nat, c = 26 + kd.toInt.toNat → k (some (wz w)) (sF (sF (nw w (c, 2, true)) (wz w) 600 (Int32.ofNat p)) (wz w) 601 a) := by
    intro c hc
    refine hk _ (((fr.refl _ _).nw.sF (fun hlt => absurd hlt (Nat.lt_irrefl _))).sF (fun hlt => absurd hlt (Nat.lt_irrefl _))) ⟨⟨hz, ?_⟩, ?_, hkd, ?_, ?_⟩ ?_
    · simp only [wT_sF, wF_sF, wG_sF, wI_sF, wL_sF, wQ_sF, wz_sF, wk_sF, wT_sG, wF_sG, wG_sG, wI_sG, wL_sG, wQ_sG, wz_sG, wk_sG, wT_sI, wF_sI, wG_sI, wI_sI, wL_sI, wQ_sI, wz_sI, wk_sI, wT_sL, wF_sL, wG_sL, wI_sL, wL_sL, wQ_sL, wz_sL, wk_sL, wT_sQ, wF_sQ, wG_sQ, wI_sQ, wL_sQ, wQ_sQ, wz_sQ, wk_sQ, wT_sZ, wF_sZ, wG_sZ, wI_sZ, wL_sZ, wQ_sZ, wz_sZ, wk_sZ, wT_nw, wF_nw, wG_nw, wI_nw, wL_nw, wQ_nw, wz_nw, wk_nw, wT_sIc, wF_sIc, wG_sIc, wI_sIc, wL_sIc, wQ_sIc, wz_sIc, wk_sIc, wT_sLc, wF_sLc, wG_sLc, wI_sLc, wL_sLc, wQ_sLc, wz_sLc, wk_sLc, wT_sQc, wF_sQc, wG_sQc, wI_sQc, wL_sQc, wQ_sQc, wz_sQc, wk_sQc, wT_sCp, wF_sCp, wG_sCp, wI_sCp, wL_sCp, wQ_sCp, wz_sCp, wk_sCp]; omega
    · simp only [wT_sF, wF_sF, wG_sF, wI_sF, wL_sF, wQ_sF, wz_sF, wk_sF, wT_sG, wF_sG, wG_sG, wI_sG, wL_sG, wQ_sG, wz_sG, wk_sG, wT_sI, wF_sI, wG_sI, wI_sI, wL_sI, wQ_sI, wz_sI, wk_sI, wT_sL, wF_sL, wG_sL, wI_sL, wL_sL, wQ_sL, wz_sL, wk_sL, wT_sQ, wF_sQ, wG_sQ, wI_sQ, wL_sQ, wQ_sQ, wz_sQ, wk_sQ, wT_sZ, wF_sZ, wG_sZ, wI_sZ, wL_sZ, wQ_sZ, wz_sZ, wk_sZ, wT_nw, wF_nw, wG_nw, wI_nw, wL_nw, wQ_nw, wz_nw, wk_nw, wT_sIc, wF_sIc, wG_sIc, wI_sIc, wL_sIc, wQ_sIc, wz_sIc, wk_sIc, wT_sLc, wF_sLc, wG_sLc, wI_sLc, wL_sLc, wQ_sLc, wz_sLc, wk_sLc, wT_sQc, wF_sQc, wG_sQc, wI_sQc, wL_sQc, wQ_sQc, wz_sQc, wk_sQc, wT_sCp, wF_sCp, wG_sCp, wI_sCp, wL_sCp, wQ_sCp, wz_sCp, wk_sCp, if_true]; rw [hc]
    · simp [wT_sF, wF_sF, wG_sF, wI_sF, wL_sF, wQ_sF, wz_sF, wk_sF, wT_sG, wF_sG, wG_sG, wI_sG, wL_sG, wQ_sG, wz_sG, wk_sG, wT_sI, wF_sI, wG_sI, wI_sI, wL_sI, wQ_sI, wz_sI, wk_sI, wT_sL, wF_sL, wG_sL, wI_sL, wL_sL, wQ_sL, wz_sL, wk_sL, wT_sQ, wF_sQ, wG_sQ, wI_sQ, wL_sQ, wQ_sQ, wz_sQ, wk_sQ, wT_sZ, wF_sZ, wG_sZ, wI_sZ, wL_sZ, wQ_sZ, wz_sZ, wk_sZ, wT_nw, wF_nw, wG_nw, wI_nw, wL_nw, wQ_nw, wz_nw, wk_nw, wT_sIc, wF_sIc, wG_sIc, wI_sIc, wL_sIc, wQ_sIc, wz_sIc, wk_sIc, wT_sLc, wF_sLc, wG_sLc, wI_sLc, wL_sLc, wQ_sLc, wz_sLc, wk_sLc, wT_sQc, wF_sQc, wG_sQc, wI_sQc, wL_sQc, wQ_sQc, wz_sQc, wk_sQc, wT_sCp, wF_sCp, wG_sCp, wI_sCp, wL_sCp, wQ_sCp, wz_sCp, wk_sCp]
    · simp [wT_sF, wF_sF, wG_sF, wI_sF, wL_sF, wQ_sF, wz_sF, wk_sF, wT_sG, wF_sG, wG_sG, wI_sG, wL_sG, wQ_sG, wz_sG, wk_sG, wT_sI, wF_sI, wG_sI, wI_sI, wL_sI, wQ_sI, wz_sI, wk_sI, wT_sL, wF_sL, wG_sL, wI_sL, wL_sL, wQ_sL, wz_sL, wk_sL, wT_sQ, wF_sQ, wG_sQ, wI_sQ, wL_sQ, wQ_sQ, wz_sQ, wk_sQ, wT_sZ, wF_sZ, wG_sZ, wI_sZ, wL_sZ, wQ_sZ, wz_sZ, wk_sZ, wT_nw, wF_nw, wG_nw, wI_nw, wL_nw, wQ_nw, wz_nw, wk_nw, wT_sIc, wF_sIc, wG_sIc, wI_sIc, wL_sIc, wQ_sIc, wz_sIc, wk_sIc, wT_sLc, wF_sLc, wG_sLc, wI_sLc, wL_sLc, wQ_sLc, wz_sLc, wk_sLc, wT_sQc, wF_sQc, wG_sQc, wI_sQc, wL_sQc, wQ_sQc, wz_sQc, wk_sQc, wT_sCp, wF_sCp, wG_sCp, wI_sCp, wL_sCp, wQ_sCp, wz_sCp, wk_sCp]
    · simp only [wT_sF, wF_sF, wG_sF, wI_sF, wL_sF, wQ_sF, wz_sF, wk_sF, wT_sG, wF_sG, wG_sG, wI_sG, wL_sG, wQ_sG, wz_sG, wk_sG, wT_sI, wF_sI, wG_sI, wI_sI, wL_sI, wQ_sI, wz_sI, wk_sI, wT_sL, wF_sL, wG_sL, wI_sL, wL_sL, wQ_sL, wz_sL, wk_sL, wT_sQ, wF_sQ, wG_sQ, wI_sQ, wL_sQ, wQ_sQ, wz_sQ, wk_sQ, wT_sZ, wF_sZ, wG_sZ, wI_sZ, wL_sZ, wQ_sZ, wz_sZ, wk_sZ, wT_nw, wF_nw, wG_nw, wI_nw, wL_nw, wQ_nw, wz_nw, wk_nw, wT_sIc, wF_sIc, wG_sIc, wI_sIc, wL_sIc, wQ_sIc, wz_sIc, wk_sIc, wT_sLc, wF_sLc, wG_sLc, wI_sLc, wL_sLc, wQ_sLc, wz_sLc, wk_sLc, wT_sQc, wF_sQc, wG_sQc, wI_sQc, wL_sQc, wQ_sQc, wz_sQc, wk_sQc, wT_sCp, wF_sCp, wG_sCp, wI_sCp, wL_sCp, wQ_sCp, wz_sCp, wk_sCp]
  rcases in6n hkd with rfl | rfl | rfl | rfl | rfl | rfl <;> simp only [wpF, wobw, wT_sF, wF_sF, wG_sF, wI_sF, wL_sF, wQ_sF, wz_sF, wk_sF, wT_sG, wF_sG, wG_sG, wI_sG, wL_sG, wQ_sG, wz_sG, wk_sG, wT_sI, wF_sI, wG_sI, wI_sI, wL_sI, wQ_sI, wz_sI, wk_sI, wT_sL, wF_sL, wG_sL, wI_sL, wL_sL, wQ_sL, wz_sL, wk_sL, wT_sQ, wF_sQ, wG_sQ, wI_sQ, wL_sQ, wQ_sQ, wz_sQ, wk_sQ, wT_sZ, wF_sZ, wG_sZ, wI_sZ, wL_sZ, wQ_sZ, wz_sZ, wk_sZ, wT_nw, wF_nw, wG_nw, wI_nw, wL_nw, wQ_nw, wz_nw, wk_nw, wT_sIc, wF_sIc, wG_sIc, wI_sIc, wL_sIc, wQ_sIc, wz_sIc, wk_sIc, wT_sLc, wF_sLc, wG_sLc, wI_sLc, wL_sLc, wQ_sLc, wz_sLc, wk_sLc, wT_sQc, wF_sQc, wG_sQc, wI_sQc, wL_sQc, wQ_sQc, wz_sQc, wk_sQc, wT_sCp, wF_sCp, wG_sCp, wI_sCp, wL_sCp, wQ_sCp, wz_sCp, wk_sCp, List.mem_cons, ie_m6_m5, ie_m6_m4, ie_m6_m3, ie_m6_m2, ie_m6_m1, ie_m6_0, ie_m6_1, ie_m6_2, ie_m6_3, ie_m6_4, ie_m6_5, ie_m6_6, ie_m5_m6, ie_m5_m4, ie_m5_m3, ie_m5_m2, ie_m5_m1, ie_m5_0, ie_m5_1, ie_m5_2, ie_m5_3, ie_m5_4, ie_m5_5, ie_m5_6, ie_m4_m6, ie_m4_m5, ie_m4_m3, ie_m4_m2, ie_m4_m1, ie_m4_0, ie_m4_1, ie_m4_2, ie_m4_3, ie_m4_4, ie_m4_5, ie_m4_6, ie_m3_m6, ie_m3_m5, ie_m3_m4, ie_m3_m2, ie_m3_m1, ie_m3_0, ie_m3_1, ie_m3_2, ie_m3_3, ie_m3_4, ie_m3_5, ie_m3_6, ie_m2_m6, ie_m2_m5, ie_m2_m4, ie_m2_m3, ie_m2_m1, ie_m2_0, ie_m2_1, ie_m2_2, ie_m2_3, ie_m2_4, ie_m2_5, ie_m2_6, ie_m1_m6, ie_m1_m5, ie_m1_m4, ie_m1_m3, ie_m1_m2, ie_m1_0, ie_m1_1, ie_m1_2, ie_m1_3, ie_m1_4, ie_m1_5, ie_m1_6, ie_0_m6, ie_0_m5, ie_0_m4, ie_0_m3, ie_0_m2, ie_0_m1, ie_0_1, ie_0_2, ie_0_3, ie_0_4, ie_0_5, ie_0_6, ie_1_m6, ie_1_m5, ie_1_m4, ie_1_m3, ie_1_m2, ie_1_m1, ie_1_0, ie_1_2, ie_1_3, ie_1_4, ie_1_5, ie_1_6, ie_2_m6, ie_2_m5, ie_2_m4, ie_2_m3, ie_2_m2, ie_2_m1, ie_2_0, ie_2_1, ie_2_3, ie_2_4, ie_2_5, ie_2_6, ie_3_m6, ie_3_m5, ie_3_m4, ie_3_m3, ie_3_m2, ie_3_m1, ie_3_0, ie_3_1, ie_3_2, ie_3_4, ie_3_5, ie_3_6, ie_4_m6, ie_4_m5, ie_4_m4, ie_4_m3, ie_4_m2, ie_4_m1, ie_4_0, ie_4_1, ie_4_2, ie_4_3, ie_4_5, ie_4_6, ie_5_m6, ie_5_m5, ie_5_m4, ie_5_m3, ie_5_m2, ie_5_m1, ie_5_0, ie_5_1, ie_5_2, ie_5_3, ie_5_4, ie_5_6, ie_6_m6, ie_6_m5, ie_6_m4, ie_6_m3, ie_6_m2, ie_6_m1, ie_6_0, ie_6_1, ie_6_2, ie_6_3, ie_6_4, ie_6_5, Int32.reduceToInt, Int64.reduceToInt, Int.reduceToNat, Int32.reduceAdd, Int32.reduceSub, Int32.reduceMul, Int32.reduceDiv, Int32.reduceLT, Int32.reduceLE, Int.reduceLE, Int.reduceLT, Int.reduceNeg, Int.reduceAdd, Int.reduceSub, Int.reduceMul, Int.reduceEq, Nat.reduceAdd, Nat.reduceMul, Nat.reduceLT, Nat.reduceEqDiff, true_and, and_true, and_self, false_and, and_false, if_true, if_false, ite_true, ite_false, ↓reduceIte, not_true_eq_false, not_false_eq_true, true_or, or_true, or_false, false_or, Int.cast_ofNat_Int, Int.reduceNatCast] <;> exact fin _ rfl
theorem x_kinds (h : XX w b i o A) (hN : okN (aN A)) (s n p c what : Int32) {k : Int32 → Wd → Prop} (hk : xR w b i o (F_kinds A s n p c what).2 (k (F_kinds A s n p c what).1)) : wp_X0_kinds w b s n p c what k := by
  have h38 : ∀ wl : Int32, (¬ wl = 0 ↔ isP (aN A) p ∧ isC (aN A 90) c ∧ 0 ≤ what.toInt ∧ what.toInt ≤ 1) → wb_X0_kinds_38 k w b s n p c what wl := by
    intro wl hw
    unfold wb_X0_kinds_38
    refine ⟨by rw [h.sh.ob]; trivial, x_q h hN hw hk (fun ⟨hp, hc, hwh⟩ hn t w1 h1 hf1 hl1 hk1 => ?_)⟩
    have hP := isP_nat hp
    rw [show p = Int32.ofNat p.toInt.toNat from (i_of hp.1).symm]
    generalize p.toInt.toNat = P at *
    have hq := hN.2.2.2.2 P hP
    obtain ⟨v, hv, hvt⟩ := x_vt h1 hN hP
    simp only [h1.G0, h1.is.G101, h1.is.G102, hvt, x_cl h1 hN hP]
    have main : ∀ M : Nat, (M = if what = 0 then 6 else 2) → wl_X0_kinds_78 k 8 w1 b (Int32.ofNat P) c what (some t) (some v) (aN A (5 * P + 2)) 0 0 := by
      intro M hM
      have hMI : ∀ (k' : Int32 → Wd → Prop) (L : Wd → Nat → Int32 → Int32 → Int32 → Option Nat → Option Nat → Int32 → Int32 → Int32 → Prop) (w2 : Wd) (l7 l8 : Option Nat) (l9 a b' : Int32), wb_X0_kinds_78 k' L w2 b (Int32.ofNat P) c what l7 l8 l9 a b' = wb_X0_kinds_91 k' L w2 b (Int32.ofNat P) c what l7 l8 l9 a b' b' (Int32.ofNat M) := by
        intro k' L w2 l7 l8 l9 a b'
        unfold wb_X0_kinds_78
        by_cases e : what = 0
        · rw [if_pos e] at hM ⊢; rw [hM]; rfl
        · rw [if_neg e] at hM ⊢; rw [hM]; rfl
      have hM6 : M ≤ 6 := by rw [hM]; split <;> decide
      refine loopN (n := M) (I := fun j w2 => lpI w1 b i o A t s n w2 ∧ vot w2 b v (aN A (5 * P)) P (aN A (5 * P + 1))) (L := fun fu j w2 => wl_X0_kinds_78 k fu w2 b (Int32.ofNat P) c what (some t) (some v) (aN A (5 * P + 2)) (knJ A P s n c what j) (Int32.ofNat j)) ?_ ?_ M 8 0 w1 (by omega) (by omega) ⟨⟨h1, fr.refl _ _, hl1⟩, hv⟩
      · intro fu j w2 hj ⟨h2, hv2⟩ ih
        have hz2 := h2.1.sh.z
        rw [wl_X0_kinds_78_s, hMI]
        unfold wb_X0_kinds_91
        rw [if_neg (by rw [i_le, i_ti (by omega), i_ti (by omega)]; omega)]
        have hj6 : 0 ≤ (Int32.ofNat j).toInt ∧ (Int32.ofNat j).toInt < 6 := by rw [i_ti (by omega)]; omega
        have last : ∀ (w3 : Wd) (v' : Nat) (kd lf av : Int32), lpI w1 b i o A t s n w3 → vot w3 b v (aN A (5 * P)) P (aN A (5 * P + 1)) → vot w3 b v' kd P av → kd = (if what = 0 then Int32.ofNat j else aN A (5 * P)) → lf = (if what = 0 then aN A 91 else Int32.ofNat j) → wb_X0_kinds_145 k (wl_X0_kinds_78 k fu) w3 b (Int32.ofNat P) c what (some t) (some v) (aN A (5 * P + 2)) (Int32.ofNat j) (knJ A P s n c what j) (some b) (some v') (aN A (5 * P + 2)) (some t) lf := by
          intro w3 v' kd lf av h3 hv3 hv' hkd hlf
          unfold wb_X0_kinds_145
          refine ⟨by rw [h3.1.sh.ob]; trivial, x_walked h3.1 hN h3.2.2 hP hv' ⟨hq.2.1, hq.2.2.2.2⟩ lf (fun w4 hf4 hw4 => ?_)⟩
          rw [hkd, hlf] at hw4
          have hw4' : wlk w4 (b + 8) (knW A P s n what j) (Int32.ofNat n.toInt.toNat) := hw4
          rw [hw4'.gF, hw4'.2.1, i_ofS]
          have ih' := ih w4 ⟨h3.step hf4, hv3.sc hf4 (fun k hp => by have := hv3.1.1; unfold at1 at hp; omega)⟩
          rw [show knJ A P s n c what (j + 1) = knJ A P s n c what j ||| (if uC (knW A P s n what j) = c then bit1 j else 0) from rfl] at ih'
          by_cases e : uC (knW A P s n what j) = c
          · rw [if_pos e] at ih' ⊢; exact ih'
          · rw [if_neg e] at ih' ⊢; exact ih'
        unfold wb_X0_kinds_115
        by_cases e : what = 0
        · rw [if_pos e]
          have hob : wob w2 v [26, 27, 28, 29, 30, 31] := by
            have hk0 := hv2.2.2.1
            unfold wob
            rw [hv2.2.1]
            show 26 + _ ∈ _
            rcases (show (aN A (5 * P)).toInt.toNat = 0 ∨ (aN A (5 * P)).toInt.toNat = 1 ∨ (aN A (5 * P)).toInt.toNat = 2 ∨ (aN A (5 * P)).toInt.toNat = 3 ∨ (aN A (5 * P)).toInt.toNat = 4 ∨ (aN A (5 * P)).toInt.toNat = 5 by omega) with e | e | e | e | e | e <;> rw [e] <;> decide
          show wob w2 v [26, 27, 28, 29, 30, 31] ∧ _
          refine ⟨hob, x_made hz2 hj6 P _ (fun w3 hf3 hv3 hz3 => ?_)⟩
          rw [if_pos e]
          have h3 : lpI w1 b i o A t s n w3 := ⟨h2.1.sc0 hf3, h2.2.1.trans (x0_P hf3), h2.2.2.sc (x0_P hf3)⟩
          simp only [h3.1.G0, h3.1.is.G105, x_t0 h3.1]
          exact last w3 _ _ _ _ h3 (hv2.sc hf3 (fun k hp => hp)) hv3 (by rw [if_pos e]) (by rw [if_pos e])
        · rw [if_neg e, if_neg e]
          exact last w2 v _ _ _ h2 hv2 hv2 (by rw [if_neg e]) (by rw [if_neg e])
      · intro fu w2 ⟨h2, hv2⟩
        rw [wl_X0_kinds_78_s, hMI]
        unfold wb_X0_kinds_91
        rw [if_pos (by rw [i_le]; omega), hM]
        exact hk1 w2 h2.1 (xP_Q h2.2.1)
    exact main _ rfl
  unfold wp_X0_kinds wb_X0_kinds_37
  rw [h.G0]
  show wob w i [21] ∧ _
  refine ⟨by rw [h.is.ob]; trivial, ?_⟩
  rw [x_isPerson h.is hN]
  by_cases hp : isP (aN A) p
  · rw [if_pos hp, if_neg (by decide), h.G0]
    show wob w i [21] ∧ _
    refine ⟨by rw [h.is.ob]; trivial, ?_⟩
    rw [x_isCell h.is]
    by_cases hc : isC (aN A 90) c
    · rw [if_pos hc, if_neg (by decide)]
      simp only [x_isIn, ie_m6_m5, ie_m6_m4, ie_m6_m3, ie_m6_m2, ie_m6_m1, ie_m6_0, ie_m6_1, ie_m6_2, ie_m6_3, ie_m6_4, ie_m6_5, ie_m6_6, ie_m5_m6, ie_m5_m4, ie_m5_m3, ie_m5_m2, ie_m5_m1, ie_m5_0, ie_m5_1, ie_m5_2, ie_m5_3, ie_m5_4, ie_m5_5, ie_m5_6, ie_m4_m6, ie_m4_m5, ie_m4_m3, ie_m4_m2, ie_m4_m1, ie_m4_0, ie_m4_1, ie_m4_2, ie_m4_3, ie_m4_4, ie_m4_5, ie_m4_6, ie_m3_m6, ie_m3_m5, ie_m3_m4, ie_m3_m2, ie_m3_m1, ie_m3_0, ie_m3_1, ie_m3_2, ie_m3_3, ie_m3_4, ie_m3_5, ie_m3_6, ie_m2_m6, ie_m2_m5, ie_m2_m4, ie_m2_m3, ie_m2_m1, ie_m2_0, ie_m2_1, ie_m2_2, ie_m2_3, ie_m2_4, ie_m2_5, ie_m2_6, ie_m1_m6, ie_m1_m5, ie_m1_m4, ie_m1_m3, ie_m1_m2, ie_m1_0, ie_m1_1, ie_m1_2, ie_m1_3, ie_m1_4, ie_m1_5, ie_m1_6, ie_0_m6, ie_0_m5, ie_0_m4, ie_0_m3, ie_0_m2, ie_0_m1, ie_0_1, ie_0_2, ie_0_3, ie_0_4, ie_0_5, ie_0_6, ie_1_m6, ie_1_m5, ie_1_m4, ie_1_m3, ie_1_m2, ie_1_m1, ie_1_0, ie_1_2, ie_1_3, ie_1_4, ie_1_5, ie_1_6, ie_2_m6, ie_2_m5, ie_2_m4, ie_2_m3, ie_2_m2, ie_2_m1, ie_2_0, ie_2_1, ie_2_3, ie_2_4, ie_2_5, ie_2_6, ie_3_m6, ie_3_m5, ie_3_m4, ie_3_m3, ie_3_m2, ie_3_m1, ie_3_0, ie_3_1, ie_3_2, ie_3_4, ie_3_5, ie_3_6, ie_4_m6, ie_4_m5, ie_4_m4, ie_4_m3, ie_4_m2, ie_4_m1, ie_4_0, ie_4_1, ie_4_2, ie_4_3, ie_4_5, ie_4_6, ie_5_m6, ie_5_m5, ie_5_m4, ie_5_m3, ie_5_m2, ie_5_m1, ie_5_0, ie_5_1, ie_5_2, ie_5_3, ie_5_4, ie_5_6, ie_6_m6, ie_6_m5, ie_6_m4, ie_6_m3, ie_6_m2, ie_6_m1, ie_6_0, ie_6_1, ie_6_2, ie_6_3, ie_6_4, ie_6_5, Int32.reduceToInt, Int64.reduceToInt, Int.reduceToNat, Int32.reduceAdd, Int32.reduceSub, Int32.reduceMul, Int32.reduceDiv, Int32.reduceLT, Int32.reduceLE, Int.reduceLE, Int.reduceLT, Int.reduceNeg, Int.reduceAdd, Int.reduceSub, Int.reduceMul, Int.reduceEq, Nat.reduceAdd, Nat.reduceMul, Nat.reduceLT, Nat.reduceEqDiff, true_and, and_true, and_self, false_and, and_false, if_true, if_false, ite_true, ite_false, ↓reduceIte, not_true_eq_false, not_false_eq_true, true_or, or_true, or_false, false_or, Int.cast_ofNat_Int, Int.reduceNatCast]
      by_cases hw : 0 ≤ what.toInt ∧ what.toInt ≤ 1
      · rw [if_pos hw]
        exact h38 1 (one_iff ⟨hp, hc, hw⟩)
      · rw [if_neg hw]
        exact h38 0 (zero_iff (fun e => hw e.2.2))
    · rw [if_neg hc, if_pos rfl]
      exact h38 0 (zero_iff (fun e => hc e.2.1))
  · rw [if_neg hp, if_pos rfl]
    exact h38 0 (zero_iff (fun e => hp e.1))
end XQ5
