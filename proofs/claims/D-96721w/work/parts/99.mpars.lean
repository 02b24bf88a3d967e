/-! ===== the reference's texts: tokens ===== -/
abbrev zA (A : Ab) : Nat := (aZ A).toInt.toNat
/-- where tokens are kept -/
def tkP (m : Nat) : Nat → Nat → Prop := fun q k => q = m ∧ (k = 407 ∨ k = 408 ∨ k = 409)
theorem tkP_P {w w' : Wd} {m : Nat} (h : fr (tkP m) w w') : fr (mP m) w w' := h.mono (fun q k _ hp => by unfold tkP at hp; unfold mP; omega)
theorem ofN_inj {a b : Nat} (ha : a < 1000000) (hb : b < 1000000) : Int32.ofNat a = Int32.ofNat b ↔ a = b := by
  rw [i_eq, i_ti (by omega), i_ti (by omega)]
  omega
theorem srtA_4 (T : Nw) (z i : Nat) : srtA T z i ≤ 4 := by
  unfold srtA
  repeat' split
  all_goals omega
section MPA
variable {w : Wd} {m : Nat} {A : Ab}
theorem okT.z (hT : okT A) : zA A ≤ 250 ∧ (aZ A).toInt = ((zA A : Nat) : Int) := by
  have := hT.1
  unfold zA
  omega
theorem m_sortAt (h : MM w m A) (hT : okT A) {j : Nat} (hj : j ≤ 250) (k : Int32 → Wd → Prop) : wp_X4_sortAt w m (Int32.ofNat j) k = k (Int32.ofNat (srtA (aT A) (zA A) j)) w := by
  obtain ⟨z1, z2⟩ := hT.z
  have ej : (Int32.ofNat j).toInt = j := i_ti (by omega)
  unfold wp_X4_sortAt srtA
  simp only [h.sh.gF, h.Z, h.sh.G405, h.sh.r5, h.T, i_tt (show j < 1000000 by omega)]
  by_cases c : zA A ≤ j
  · rw [if_pos c, if_neg (by rw [i_lt, ej, z2]; omega)]; rfl
  · rw [if_neg c, if_pos (by rw [i_lt, ej, z2]; omega)]
    have hv : vp_in (Int32.ofNat j) 250 := vp_iff.2 (by omega)
    simp only [hv, true_and, m_isIn, lg_lit, h.sh.G405, h.sh.r5, h.T, i_tt (show j < 1000000 by omega), ie_m6_m5, ie_m6_m4, ie_m6_m3, ie_m6_m2, ie_m6_m1, ie_m6_0, ie_m6_1, ie_m6_2, ie_m6_3, ie_m6_4, ie_m6_5, ie_m6_6, ie_m5_m6, ie_m5_m4, ie_m5_m3, ie_m5_m2, ie_m5_m1, ie_m5_0, ie_m5_1, ie_m5_2, ie_m5_3, ie_m5_4, ie_m5_5, ie_m5_6, ie_m4_m6, ie_m4_m5, ie_m4_m3, ie_m4_m2, ie_m4_m1, ie_m4_0, ie_m4_1, ie_m4_2, ie_m4_3, ie_m4_4, ie_m4_5, ie_m4_6, ie_m3_m6, ie_m3_m5, ie_m3_m4, ie_m3_m2, ie_m3_m1, ie_m3_0, ie_m3_1, ie_m3_2, ie_m3_3, ie_m3_4, ie_m3_5, ie_m3_6, ie_m2_m6, ie_m2_m5, ie_m2_m4, ie_m2_m3, ie_m2_m1, ie_m2_0, ie_m2_1, ie_m2_2, ie_m2_3, ie_m2_4, ie_m2_5, ie_m2_6, ie_m1_m6, ie_m1_m5, ie_m1_m4, ie_m1_m3, ie_m1_m2, ie_m1_0, ie_m1_1, ie_m1_2, ie_m1_3, ie_m1_4, ie_m1_5, ie_m1_6, ie_0_m6, ie_0_m5, ie_0_m4, ie_0_m3, ie_0_m2, ie_0_m1, ie_0_1, ie_0_2, ie_0_3, ie_0_4, ie_0_5, ie_0_6, ie_1_m6, ie_1_m5, ie_1_m4, ie_1_m3, ie_1_m2, ie_1_m1, ie_1_0, ie_1_2, ie_1_3, ie_1_4, ie_1_5, ie_1_6, ie_2_m6, ie_2_m5, ie_2_m4, ie_2_m3, ie_2_m2, ie_2_m1, ie_2_0, ie_2_1, ie_2_3, ie_2_4, ie_2_5, ie_2_6, ie_3_m6, ie_3_m5, ie_3_m4, ie_3_m3, ie_3_m2, ie_3_m1, ie_3_0, ie_3_1, ie_3_2, ie_3_4, ie_3_5, ie_3_6, ie_4_m6, ie_4_m5, ie_4_m4, ie_4_m3, ie_4_m2, ie_4_m1, ie_4_0, ie_4_1, ie_4_2, ie_4_3, ie_4_5, ie_4_6, ie_5_m6, ie_5_m5, ie_5_m4, ie_5_m3, ie_5_m2, ie_5_m1, ie_5_0, ie_5_1, ie_5_2, ie_5_3, ie_5_4, ie_5_6, ie_6_m6, ie_6_m5, ie_6_m4, ie_6_m3, ie_6_m2, ie_6_m1, ie_6_0, ie_6_1, ie_6_2, ie_6_3, ie_6_4, ie_6_5, Int32.reduceToInt, Int64.reduceToInt, Int.reduceToNat, Int32.reduceAdd, Int32.reduceSub, Int32.reduceMul, Int32.reduceDiv, Int32.reduceLT, Int32.reduceLE, Int.reduceLE, Int.reduceLT, Int.reduceNeg, Int.reduceAdd, Int.reduceSub, Int.reduceMul, Int.reduceEq, Nat.reduceAdd, Nat.reduceMul, Nat.reduceLT, Nat.reduceEqDiff, true_and, and_true, and_self, false_and, and_false, if_true, if_false, ite_true, ite_false, ↓reduceIte, not_true_eq_false, not_false_eq_true, true_or, or_true, or_false, false_or, Int.cast_ofNat_Int, Int.reduceNatCast]
    by_cases c1 : 97 ≤ (aT A j).toInt ∧ (aT A j).toInt ≤ 122
    · rw [if_pos c1, if_pos c1]; rfl
    · rw [if_neg c1, if_neg c1]
      by_cases c2 : 48 ≤ (aT A j).toInt ∧ (aT A j).toInt ≤ 57
      · rw [if_pos c2, if_pos c2]; rfl
      · rw [if_neg c2, if_neg c2]
        by_cases c3 : aT A j = 59
        · rw [if_pos c3, if_pos c3]; rfl
        · rw [if_neg c3, if_neg c3]; rfl
theorem m_next (h : MM w m A) (hT : okT A) {i : Nat} (hi : i ≤ zA A) (hat : wF w m 407 = Int32.ofNat i) {k : Wd → Prop} (hk : ∀ w', MM w' m A → fr (tkP m) w w' → wF w' m 407 = Int32.ofNat (tkE (aT A) (zA A) i) → wF w' m 408 = Int32.ofNat (tkF (aT A) (zA A) i) → wF w' m 409 = Int32.ofNat (tkS (aT A) (zA A) i) → k w') : wp_X4_next w m k := by
  obtain ⟨z1, z2⟩ := hT.z
  have hF := tkF_b (T := aT A) hi
  have hE := tkE_b (T := aT A) hi
  generalize hf : tkF (aT A) (zA A) i = f at *
  have hs : tkS (aT A) (zA A) i = srtA (aT A) (zA A) f := by unfold tkS; rw [hf]
  have hs4 := srtA_4 (aT A) (zA A) f
  have he : tkE (aT A) (zA A) i = if srtA (aT A) (zA A) f = 0 then f else if srtA (aT A) (zA A) f < 3 then rnR (aT A) (zA A) (srtA (aT A) (zA A) f) (zA A - (f + 1)) (f + 1) else f + 1 := by unfold tkE; rw [hs, hf]
  rw [hs, he] at hk
  clear he hE
  generalize hsv : srtA (aT A) (zA A) f = s at *
  -- the rest of a word or a number
  have g75 : s = 1 ∨ s = 2 → ∀ d fu x w5, x + d = zA A → d < fu → fr (tkP m) w w5 → wF w5 m 407 = Int32.ofNat x → wF w5 m 408 = Int32.ofNat f → wF w5 m 409 = Int32.ofNat s → rnR (aT A) (zA A) s (zA A - (f + 1)) (f + 1) = rnR (aT A) (zA A) s d x → wl_X4_next_75 k fu w5 m := by
    intro hs12 d
    rw [if_neg (by omega), if_pos (by omega)] at hk
    induction d with
    | zero =>
      intro fu x w5 hx hfu hf5 e7 e8 e9 hr
      obtain ⟨fu, rfl⟩ : ∃ g, fu = g + 1 := ⟨fu - 1, by omega⟩
      have h5 := h.sc (tkP_P hf5)
      rw [wl_X4_next_75_s]
      unfold wb_X4_next_75
      rw [h5.sh.gF, e9, if_neg (by rw [i_le, i_ti (by omega)]; show ¬ (3 : Int) ≤ s; omega), h5.sh.gF, e7]
      refine ⟨by rw [h5.sh.ob]; trivial, ?_⟩
      rw [m_sortAt h5 hT (by omega), h5.sh.gF, e9, show srtA (aT A) (zA A) x = 0 from srtA_0.2 (by omega), if_neg (by rw [ofN_inj (by omega) (by omega)]; omega)]
      exact hk w5 h5 hf5 (by rw [hr]; exact e7) e8 e9
    | succ d ih =>
      intro fu x w5 hx hfu hf5 e7 e8 e9 hr
      obtain ⟨fu, rfl⟩ : ∃ g, fu = g + 1 := ⟨fu - 1, by omega⟩
      have h5 := h.sc (tkP_P hf5)
      rw [wl_X4_next_75_s]
      unfold wb_X4_next_75
      rw [h5.sh.gF, e9, if_neg (by rw [i_le, i_ti (by omega)]; show ¬ (3 : Int) ≤ s; omega), h5.sh.gF, e7]
      refine ⟨by rw [h5.sh.ob]; trivial, ?_⟩
      rw [m_sortAt h5 hT (by omega), h5.sh.gF, e9]
      have er : rnR (aT A) (zA A) s (d + 1) x = if srtA (aT A) (zA A) x = s then rnR (aT A) (zA A) s d (x + 1) else x := rfl
      have hx4 := srtA_4 (aT A) (zA A) x
      by_cases c : srtA (aT A) (zA A) x = s
      · rw [if_pos (by rw [c]), h5.sh.gF, h5.sh.pF, e7, i_ofS]
        rw [er, if_pos c] at hr
        refine ih fu (x + 1) _ (by omega) (by omega) (hf5.sF (fun _ => ⟨rfl, Or.inl rfl⟩)) ?_ ?_ ?_ hr
        · rw [wF_sF, if_pos ⟨rfl, rfl⟩]
        · rw [wF_sF, if_neg (by omega)]; exact e8
        · rw [wF_sF, if_neg (by omega)]; exact e9
      · rw [if_neg (by rw [ofN_inj (by omega) (by omega)]; exact c)]
        rw [er, if_neg c] at hr
        exact hk w5 h5 hf5 (by rw [hr]; exact e7) e8 e9
  have g38 : ∀ w2, fr (tkP m) w w2 → wF w2 m 407 = Int32.ofNat f → wb_X4_next_38 k w2 m := by
    intro w2 hf2 e7
    have h2 := h.sc (tkP_P hf2)
    unfold wb_X4_next_38
    rw [h2.sh.gF, h2.sh.pF, e7]
    have hf3 : fr (tkP m) w (sF w2 m 408 (Int32.ofNat f)) := hf2.sF (fun _ => ⟨rfl, Or.inr (Or.inl rfl)⟩)
    have e37 : wF (sF w2 m 408 (Int32.ofNat f)) m 407 = Int32.ofNat f := by rw [wF_sF, if_neg (by omega)]; exact e7
    have e38 : wF (sF w2 m 408 (Int32.ofNat f)) m 408 = Int32.ofNat f := by rw [wF_sF, if_pos ⟨rfl, rfl⟩]
    generalize sF w2 m 408 (Int32.ofNat f) = w3 at *
    have h3 := h.sc (tkP_P hf3)
    rw [h3.sh.gF, e37]
    refine ⟨by rw [h3.sh.ob]; trivial, ?_⟩
    rw [m_sortAt h3 hT (by omega), hsv, h3.sh.pF]
    have hf4 : fr (tkP m) w (sF w3 m 409 (Int32.ofNat s)) := hf3.sF (fun _ => ⟨rfl, Or.inr (Or.inr rfl)⟩)
    have e47 : wF (sF w3 m 409 (Int32.ofNat s)) m 407 = Int32.ofNat f := by rw [wF_sF, if_neg (by omega)]; exact e37
    have e48 : wF (sF w3 m 409 (Int32.ofNat s)) m 408 = Int32.ofNat f := by rw [wF_sF, if_neg (by omega)]; exact e38
    have e49 : wF (sF w3 m 409 (Int32.ofNat s)) m 409 = Int32.ofNat s := by rw [wF_sF, if_pos ⟨rfl, rfl⟩]
    generalize sF w3 m 409 (Int32.ofNat s) = w4 at *
    have h4 := h.sc (tkP_P hf4)
    rw [h4.sh.gF, e49]
    by_cases c0 : s = 0
    · rw [if_pos (by rw [c0]; decide)]
      rw [if_pos c0] at hk
      exact hk w4 h4 hf4 e47 e48 e49
    · rw [if_neg (by rw [i_le, i_ti (by omega), i_0]; omega), h4.sh.gF, h4.sh.pF, e47, i_ofS]
      have hfz : f < zA A := srtA_lt (by rw [hsv]; exact c0)
      have hf5 : fr (tkP m) w (sF w4 m 407 (Int32.ofNat (f + 1))) := hf4.sF (fun _ => ⟨rfl, Or.inl rfl⟩)
      have e57 : wF (sF w4 m 407 (Int32.ofNat (f + 1))) m 407 = Int32.ofNat (f + 1) := by rw [wF_sF, if_pos ⟨rfl, rfl⟩]
      have e58 : wF (sF w4 m 407 (Int32.ofNat (f + 1))) m 408 = Int32.ofNat f := by rw [wF_sF, if_neg (by omega)]; exact e48
      have e59 : wF (sF w4 m 407 (Int32.ofNat (f + 1))) m 409 = Int32.ofNat s := by rw [wF_sF, if_neg (by omega)]; exact e49
      generalize sF w4 m 407 (Int32.ofNat (f + 1)) = w5 at *
      by_cases c3 : s < 3
      · exact g75 (by omega) (zA A - (f + 1)) FU (f + 1) w5 (by omega) (by unfold FU; omega) hf5 e57 e58 e59 rfl
      · have h5 := h.sc (tkP_P hf5)
        rw [if_neg c0, if_neg c3] at hk
        show wl_X4_next_75 k (999 + 1) w5 m
        rw [wl_X4_next_75_s]
        unfold wb_X4_next_75
        rw [h5.sh.gF, e59, if_pos (by rw [le_of (by omega)]; show (3 : Int) ≤ s; omega)]
        exact hk w5 h5 hf5 e57 e58 e59
  have key : ∀ d fu j w2, j + d = zA A → d < fu → fr (tkP m) w w2 → wF w2 m 407 = Int32.ofNat j → f = skR (aT A) d j → wl_X4_next_0 k fu w2 m := by
    intro d
    induction d with
    | zero =>
      intro fu j w2 hj hfu hf2 e7 hsk
      obtain ⟨fu, rfl⟩ : ∃ g, fu = g + 1 := ⟨fu - 1, by omega⟩
      have h2 := h.sc (tkP_P hf2)
      rw [wl_X4_next_0_s]
      unfold wb_X4_next_0
      rw [h2.sh.gF, h2.sh.gF, e7, h2.Z, if_pos (by rw [le_of (by omega), z2]; omega)]
      exact g38 w2 hf2 (by rw [hsk]; exact e7)
    | succ d ih =>
      intro fu j w2 hj hfu hf2 e7 hsk
      obtain ⟨fu, rfl⟩ : ∃ g, fu = g + 1 := ⟨fu - 1, by omega⟩
      have h2 := h.sc (tkP_P hf2)
      have hv : vp_in (Int32.ofNat j) 250 := vp_iff.2 (by rw [i_ti (by omega)]; omega)
      have es : skR (aT A) (d + 1) j = if aT A j = 32 then skR (aT A) d (j + 1) else j := rfl
      rw [wl_X4_next_0_s]
      unfold wb_X4_next_0
      rw [h2.sh.gF, h2.sh.gF, e7, h2.Z, if_neg (by rw [le_of (by omega), z2]; omega), h2.sh.G405, h2.sh.gF, e7, h2.sh.r5, h2.T, i_tt (by omega)]
      refine ⟨hv, ?_⟩
      by_cases c : aT A j = 32
      · rw [if_pos c, h2.sh.gF, h2.sh.pF, e7, i_ofS]
        rw [es, if_pos c] at hsk
        exact ih fu (j + 1) _ (by omega) (by omega) (hf2.sF (fun _ => ⟨rfl, Or.inl rfl⟩)) (by rw [wF_sF, if_pos ⟨rfl, rfl⟩]) hsk
      · rw [if_neg c]
        rw [es, if_neg c] at hsk
        exact g38 w2 hf2 (by rw [hsk]; exact e7)
  exact key (zA A - i) FU i w (by omega) (by unfold FU; omega) (fr.refl _ _) hat hf.symm
theorem whJ_c (T : Nw) (z i : Nat) : ∀ k, whJ T z i k = -1 ∨ ∃ j, j < k ∧ whJ T z i k = Int32.ofNat j
  | 0 => Or.inl rfl
  | k + 1 => by
    have e : whJ T z i (k + 1) = if tkS T z i = 1 ∧ tkE T z i - tkF T z i ≤ 6 ∧ wdP T (tkF T z i) (tkE T z i) k then Int32.ofNat k else whJ T z i k := rfl
    rw [e]
    split
    · exact Or.inr ⟨k, by omega, rfl⟩
    · rcases whJ_c T z i k with h | ⟨j, h1, h2⟩
      · exact Or.inl h
      · exact Or.inr ⟨j, by omega, h2⟩
theorem m_word (h : MM w m A) (hT : okT A) {i : Nat} (hi : i ≤ zA A) (e7 : wF w m 407 = Int32.ofNat (tkE (aT A) (zA A) i)) (e8 : wF w m 408 = Int32.ofNat (tkF (aT A) (zA A) i)) (e9 : wF w m 409 = Int32.ofNat (tkS (aT A) (zA A) i)) {K : Int32 → Wd → Prop} (hk : K (wch (aT A) (zA A) i) w) : wp_X4_word w m K := by
  obtain ⟨z1, z2⟩ := hT.z
  have hF := tkF_b (T := aT A) hi
  have hE := tkE_b (T := aT A) hi
  have hs4 : tkS (aT A) (zA A) i ≤ 4 := srtA_4 _ _ _
  unfold wp_X4_word
  refine loopN (n := 8) (I := fun _ w2 => w2 = w) (L := fun fu j w2 => wl_X4_word_4 K fu w2 m (whJ (aT A) (zA A) i j) (Int32.ofNat j)) ?_ ?_ 8 FU 0 w (by omega) (by unfold FU; omega) rfl
  · rintro fu j w2 hj rfl ih
    have ih' := ih _ rfl
    have e : whJ (aT A) (zA A) i (j + 1) = if tkS (aT A) (zA A) i = 1 ∧ tkE (aT A) (zA A) i - tkF (aT A) (zA A) i ≤ 6 ∧ wdP (aT A) (tkF (aT A) (zA A) i) (tkE (aT A) (zA A) i) j then Int32.ofNat j else whJ (aT A) (zA A) i j := rfl
    rw [e] at ih'
    have g0 : ¬ (tkS (aT A) (zA A) i = 1 ∧ tkE (aT A) (zA A) i - tkF (aT A) (zA A) i ≤ 6 ∧ wdP (aT A) (tkF (aT A) (zA A) i) (tkE (aT A) (zA A) i) j) → ∀ fl x, wl_X4_word_41 K (wl_X4_word_4 K fu) (fl + 1) w2 m (whJ (aT A) (zA A) i j) (Int32.ofNat j) 0 x := by
      intro hn fl x
      rw [if_neg hn] at ih'
      rw [wl_X4_word_41_s]
      unfold wb_X4_word_41 wb_X4_word_109
      rw [if_pos rfl, i_ofS]
      split
      · exact ih'
      · exact ih'
    have g1 : tkS (aT A) (zA A) i = 1 ∧ tkE (aT A) (zA A) i - tkF (aT A) (zA A) i ≤ 6 → ∀ d fl x, x + d = 6 → d < fl → (∀ y, y < x → (if tkF (aT A) (zA A) i + y < tkE (aT A) (zA A) i then aT A (tkF (aT A) (zA A) i + y) else 0) = wrd (6 * j + y)) → wl_X4_word_41 K (wl_X4_word_4 K fu) fl w2 m (whJ (aT A) (zA A) i j) (Int32.ofNat j) 1 (Int32.ofNat x) := by
      intro hy d
      induction d with
      | zero =>
        intro fl x hx hfl hm
        obtain ⟨fl, rfl⟩ : ∃ g, fl = g + 1 := ⟨fl - 1, by omega⟩
        obtain rfl : x = 6 := by omega
        rw [if_pos ⟨hy.1, hy.2, hm⟩] at ih'
        rw [wl_X4_word_41_s]
        unfold wb_X4_word_41 wb_X4_word_109
        rw [if_pos (by decide), if_neg (by decide), i_ofS]
        exact ih'
      | succ d ihd =>
        intro fl x hx hfl hm
        obtain ⟨fl, rfl⟩ : ∃ g, fl = g + 1 := ⟨fl - 1, by omega⟩
        have e6 : (6 * Int32.ofNat j + Int32.ofNat x).toInt = ((6 * j + x : Nat) : Int) := by
          rw [i_addv (i_mulv (show (6 : Int32).toInt = 6 from rfl) (i_ti (n := j) (by omega)) rfl (by omega)) (i_ti (by omega)) (by omega) (by omega)]
          omega
        have efx : (Int32.ofNat (tkF (aT A) (zA A) i) + Int32.ofNat x).toInt = ((tkF (aT A) (zA A) i + x : Nat) : Int) := by
          rw [i_addv (i_ti (by omega)) (i_ti (by omega)) (by omega) (by omega)]
          omega
        have hv48 : vp_in (6 * Int32.ofNat j + Int32.ofNat x) 48 := vp_iff.2 (by rw [e6]; omega)
        have g82 : ∀ s0 : Int32, s0 = (if tkF (aT A) (zA A) i + x < tkE (aT A) (zA A) i then aT A (tkF (aT A) (zA A) i + x) else 0) → wb_X4_word_82 K (wl_X4_word_4 K fu) (wl_X4_word_41 K (wl_X4_word_4 K fu) fl) w2 m (whJ (aT A) (zA A) i j) (Int32.ofNat j) (Int32.ofNat x) s0 := by
          intro s0 hs0
          unfold wb_X4_word_82
          rw [h.sh.G410, h.sh.r6, e6, Int.toNat_natCast, h.sh.wr _ (by omega)]
          refine ⟨hv48, ?_⟩
          by_cases c : s0 = wrd (6 * j + x)
          · rw [if_pos c, i_ofS]
            refine ihd fl (x + 1) (by omega) (by omega) (fun y hy' => ?_)
            by_cases ey : y = x
            · rw [ey, ← hs0]; exact c
            · exact hm y (by omega)
          · rw [if_neg c]
            obtain ⟨fl, rfl⟩ : ∃ g, fl = g + 1 := ⟨fl - 1, by omega⟩
            exact g0 (fun q => c (by rw [hs0]; exact q.2.2 x (by omega))) fl _
        rw [wl_X4_word_41_s]
        unfold wb_X4_word_41
        rw [if_neg (by rw [le_of (by omega)]; show ¬ (6 : Int) ≤ x; omega), if_neg (by decide), h.sh.gF, h.sh.gF, e7, e8]
        by_cases c : tkF (aT A) (zA A) i + x < tkE (aT A) (zA A) i
        · have hv : vp_in (Int32.ofNat (tkF (aT A) (zA A) i) + Int32.ofNat x) 250 := vp_iff.2 (by rw [efx]; omega)
          rw [if_neg (by rw [i_le, efx, i_ti (by omega)]; omega), h.sh.G405, h.sh.gF, e8, h.sh.r5, h.T, efx, Int.toNat_natCast]
          exact ⟨hv, g82 _ (if_pos c).symm⟩
        · rw [if_pos (by rw [i_le, efx, i_ti (by omega)]; omega)]
          exact g82 0 (if_neg c).symm
    rw [wl_X4_word_4_s]
    unfold wb_X4_word_4
    rw [if_neg (by rw [le_of (by omega)]; show ¬ (8 : Int) ≤ j; omega), h.sh.gF, e9]
    by_cases s1 : tkS (aT A) (zA A) i = 1
    · have esub : (Int32.ofNat (tkE (aT A) (zA A) i) - Int32.ofNat (tkF (aT A) (zA A) i)).toInt = ((tkE (aT A) (zA A) i - tkF (aT A) (zA A) i : Nat) : Int) := by
        rw [i_sub (by rw [i_ti (by omega), i_ti (by omega)]; omega), i_ti (by omega), i_ti (by omega)]
        omega
      rw [if_pos (by rw [s1]; rfl), h.sh.gF, h.sh.gF, e7, e8]
      by_cases l6 : tkE (aT A) (zA A) i - tkF (aT A) (zA A) i ≤ 6
      · rw [if_neg (by rw [i_lt, esub]; show ¬ (6 : Int) < _; omega)]
        exact g1 ⟨s1, l6⟩ 6 FU 0 (by omega) (by unfold FU; omega) (fun y hy => absurd hy (Nat.not_lt_zero y))
      · rw [if_pos (by rw [i_lt, esub]; show (6 : Int) < _; omega)]
        exact g0 (fun q => l6 q.2.1) 999 0
    · rw [if_neg (by rw [show (1 : Int32) = Int32.ofNat 1 from rfl, ofN_inj (by omega) (by omega)]; exact s1)]
      exact g0 (fun q => s1 q.1) 999 0
  · rintro fu w2 rfl
    rw [wl_X4_word_4_s]
    unfold wb_X4_word_4
    rw [if_pos (by decide)]
    exact hk
/-- the next token as a number that may be; none -/
def nmA (T : Nw) (z : Nat) (lo hi : Int32) (i : Nat) : Int32 := if tkS T z i = 2 ∧ tkE T z i - tkF T z i ≤ 2 ∧ rngP lo hi (tkV T z i) then tkV T z i else -1
theorem m_number (h : MM w m A) (hT : okT A) {i : Nat} (hi : i ≤ zA A) (hat : wF w m 407 = Int32.ofNat i) (lo up : Int32) {k : Int32 → Wd → Prop} (hk : ∀ w', MM w' m A → fr (tkP m) w w' → wF w' m 407 = Int32.ofNat (tkE (aT A) (zA A) i) → wF w' m 408 = Int32.ofNat (tkF (aT A) (zA A) i) → k (nmA (aT A) (zA A) lo up i) w') : wp_X4_number w m lo up k := by
  obtain ⟨z1, z2⟩ := hT.z
  have hF := tkF_b (T := aT A) hi
  have hE := tkE_b (T := aT A) hi
  have hs4 : tkS (aT A) (zA A) i ≤ 4 := srtA_4 _ _ _
  unfold wp_X4_number
  refine ⟨by rw [h.sh.ob]; trivial, m_next h hT hi hat (fun w' h' hf e7 e8 e9 => ?_)⟩
  have hk' := hk w' h' hf e7 e8
  unfold nmA tkV at hk'
  rw [h'.sh.gF, e9]
  by_cases s2 : tkS (aT A) (zA A) i = 2
  · have esub : (Int32.ofNat (tkE (aT A) (zA A) i) - Int32.ofNat (tkF (aT A) (zA A) i)).toInt = ((tkE (aT A) (zA A) i - tkF (aT A) (zA A) i : Nat) : Int) := by
      rw [i_sub (by rw [i_ti (by omega), i_ti (by omega)]; omega), i_ti (by omega), i_ti (by omega)]
      omega
    rw [if_pos (by rw [s2]; rfl), h'.sh.gF, h'.sh.gF, e7, e8]
    by_cases l2 : tkE (aT A) (zA A) i - tkF (aT A) (zA A) i ≤ 2
    · rw [if_pos (by rw [i_le, esub]; show _ ≤ (2 : Int); omega), h'.sh.gF, e8]
      have key : ∀ d fu x, x + d = tkE (aT A) (zA A) i → tkF (aT A) (zA A) i ≤ x → d < fu → wl_X4_number_35 k fu w' m lo up (nmJ (aT A) (tkF (aT A) (zA A) i) (x - tkF (aT A) (zA A) i)) (Int32.ofNat x) := by
        intro d
        induction d with
        | zero =>
          intro fu x hx hfx hfu
          obtain ⟨fu, rfl⟩ : ∃ g, fu = g + 1 := ⟨fu - 1, by omega⟩
          obtain rfl : x = tkE (aT A) (zA A) i := by omega
          rw [wl_X4_number_35_s]
          unfold wb_X4_number_35
          rw [h'.sh.gF, e7, if_pos (Int32.le_refl _), m_isIn]
          simp only [lg_lit]
          by_cases c : rngP lo up (nmJ (aT A) (tkF (aT A) (zA A) i) (tkE (aT A) (zA A) i - tkF (aT A) (zA A) i))
          · rw [if_pos c, if_neg (by decide)]
            rwa [if_pos ⟨s2, l2, c⟩] at hk'
          · rw [if_neg c, if_pos trivial]
            rwa [if_neg (fun q => c q.2.2)] at hk'
        | succ d ih =>
          intro fu x hx hfx hfu
          obtain ⟨fu, rfl⟩ : ∃ g, fu = g + 1 := ⟨fu - 1, by omega⟩
          have hv : vp_in (Int32.ofNat x) 250 := vp_iff.2 (by rw [i_ti (by omega)]; omega)
          rw [wl_X4_number_35_s]
          unfold wb_X4_number_35
          rw [h'.sh.gF, e7, if_neg (by rw [i_le, i_ti (by omega), i_ti (by omega)]; omega), h'.sh.G405, h'.sh.r5, h'.T, i_tt (by omega), i_ofS]
          refine ⟨hv, ?_⟩
          have := ih fu (x + 1) (by omega) (by omega) (by omega)
          rw [show x + 1 - tkF (aT A) (zA A) i = (x - tkF (aT A) (zA A) i) + 1 by omega] at this
          have e : nmJ (aT A) (tkF (aT A) (zA A) i) ((x - tkF (aT A) (zA A) i) + 1) = 10 * nmJ (aT A) (tkF (aT A) (zA A) i) (x - tkF (aT A) (zA A) i) + aT A (tkF (aT A) (zA A) i + (x - tkF (aT A) (zA A) i)) - 48 := rfl
          rw [e, show tkF (aT A) (zA A) i + (x - tkF (aT A) (zA A) i) = x by omega] at this
          exact this
      have := key (tkE (aT A) (zA A) i - tkF (aT A) (zA A) i) FU (tkF (aT A) (zA A) i) (by omega) (Nat.le_refl _) (by unfold FU; omega)
      rwa [Nat.sub_self] at this
    · rw [if_neg (by rw [i_le, esub]; show ¬ _ ≤ (2 : Int); omega)]
      rwa [if_neg (fun q => l2 q.2.1)] at hk'
  · rw [if_neg (by rw [show (2 : Int32) = Int32.ofNat 2 from rfl, ofN_inj (by omega) (by omega)]; exact s2)]
    rwa [if_neg (fun q => s2 q.1)] at hk'
end MPA
