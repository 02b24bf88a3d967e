/-! ===== queries of the reference that change the island for a while; those step by step ===== -/
section MQ4
variable {w : Wd} {m : Nat} {A : Ab}
theorem i_of' {n : Int32} (h : 0 ≤ n.toInt) : Int32.ofNat n.toInt.toNat = n := i_of h
theorem le_of {a : Int32} {j : Nat} (hj : j < 1000000) : a ≤ Int32.ofNat j ↔ a.toInt ≤ j := by rw [i_le, i_ti (by omega)]
theorem lt_of {a : Int32} {j : Nat} (hj : j < 1000000) : a < Int32.ofNat j ↔ a.toInt < j := by rw [i_lt, i_ti (by omega)]
theorem add0 (a : Int32) : a + 0 = a := Int32.add_zero a
/-- one step by the k-th sign of a loaded telling -/
theorem m_stL (h : MM w m A) (hN : okN (aN A)) {s n : Int32} (hl : ldd w m A s n) {i p : Int32} (hi : 0 ≤ i.toInt ∧ i.toInt < 2) (hp : isP (aN A) p) {u : Wk} (hu : mw w m i.toInt.toNat u) (hok : okU (aN A) u) (hT : uT u < 1000000) {sg : Int32} (hsg : sg = 0 ∨ sg = 1 ∨ sg = 2 ∨ sg = 3) (x : Int32) {k : Wd → Prop}
    (hk : ∀ w', fr (mPw m) w w' → MM w' m A → ldd w' m A s n → mwS w w' m i.toInt.toNat → mw w' m i.toInt.toNat (stp (aN A) (aN A (5 * p.toInt.toNat)) (aN A 91) p.toInt.toNat u sg x) → k w') : wp_X4_step w m i p sg x k := by
  have hz := h.sh.z
  exact m_step h hN hi hp hu hok hT hsg x (fun w' hf hS hw _ => hk w' hf (h.sc (mPw_P hf)) (hl.sc hf hz (by unfold mPw; omega)) hS hw)
/-- a walker begins -/
theorem m_bgL (h : MM w m A) {s n : Int32} (hl : ldd w m A s n) {i : Int32} (hi : 0 ≤ i.toInt ∧ i.toInt < 2) (c f : Int32) {k : Wd → Prop} (hk : ∀ w', fr (mPw m) w w' → MM w' m A → ldd w' m A s n → mwS w w' m i.toInt.toNat → mw w' m i.toInt.toNat (beg c f) → k w') : wp_X4_start w m i c f k := by
  have hz := h.sh.z
  exact m_start h hi c f (fun w' hf hS hw => hk w' hf (h.sc (mPw_P hf)) (hl.sc hf hz (by unfold mPw; omega)) hS hw)
theorem tl_rd (h : MM w m A) {s n : Int32} (hl : ldd w m A s n) {j : Nat} (hj : j < n.toInt.toNat) (K : Int32 → Prop) : wld w (some (m + 13)) 0 (Int32.ofNat j) K = K (tlg A s j) := by
  have hv : vp_in (Int32.ofNat j) 40 := vp_iff.2 (by rw [i_ti (by have := hl.1; omega)]; have := hl.1; omega)
  have e : (Int32.ofNat j).toInt.toNat = j := by rw [i_ti (by have := hl.1; omega)]; rfl
  simp only [h.sh.r13, hv, e, hl.2.1 j hj, true_and]
/-- a walk of one by a shelf's telling -/
def wlA (A : Ab) (p : Nat) (s : Int32) : Nat → Wk := runW (aN A) (aN A (5 * p)) (aN A 91) p (tlg A s) (beg (aN A (5 * p + 2)) (aN A (5 * p + 3)))
theorem wlA_ok {N : Nw} (hA : okN (aN A)) {p : Nat} (hp : p < pe (aN A)) (s : Int32) (j : Nat) (hj : j < 1000) : okU (aN A) (wlA A p s j) ∧ uT (wlA A p s j) < 1000000 := ⟨runW_ok hA (okU_beg hA hp) j (by omega), by
  have := runW_T (N := aN A) (kd := aN A (5 * p)) (lf := aN A 91) (p := p) (T := tlg A s) (u := beg (aN A (5 * p + 2)) (aN A (5 * p + 3))) j
  have e : uT (beg (aN A (5 * p + 2)) (aN A (5 * p + 3))) = 0 := rfl
  unfold wlA
  omega⟩
def F_idle (A : Ab) (s n p : Int32) : Int32 × Ab := qF A (isP (aN A) p) s n (foldP (fun j a => a + (if uC (wlA A p.toInt.toNat s (j + 1)) = uC (wlA A p.toInt.toNat s j) then 1 else 0)) 0 n.toInt.toNat)
theorem m_idle (h : MM w m A) (hN : okN (aN A)) (hA : okS A) (s n p : Int32) {k : Int32 → Wd → Prop} (hk : mR w m (F_idle A s n p).2 (k (F_idle A s n p).1)) : wp_X4_idle w m s n p k := by
  unfold wp_X4_idle
  refine ⟨by rw [h.sh.ob]; trivial, ?_⟩
  rw [m_isPerson h hN]
  by_cases hp : isP (aN A) p
  · rw [if_pos hp]
    have hp8 := isP_8 hN hp
    refine ⟨by rw [h.sh.ob]; trivial, m_q h hA (one_iff hp) hk (fun _ w1 h1 hf1 hl1 hk1 => ?_)⟩
    have hn := hl1.1
    simp only [h1.sh.ob, m_cell h1 hp8, m_faces h1 hp8, true_and]
    refine m_bgL h1 hl1 (by decide) _ _ (fun w2 hf2 h2 hl2 _ hw2 => ?_)
    refine loopN (n := n.toInt.toNat) (I := fun j w3 => MM w3 m A ∧ fr (mPw m) w1 w3 ∧ ldd w3 m A s n ∧ mw w3 m 0 (wlA A p.toInt.toNat s j)) (L := fun fu j w3 => wl_X4_idle_46 k fu w3 m n p (foldP (fun j a => a + (if uC (wlA A p.toInt.toNat s (j + 1)) = uC (wlA A p.toInt.toNat s j) then 1 else 0)) 0 j) (Int32.ofNat j)) ?_ ?_ n.toInt.toNat FU 0 w2 (by omega) (by unfold FU; omega) ⟨h2, hf2, hl2, hw2⟩
    · intro fu j w3 hj ⟨h3, hf3, hl3, hw3⟩ ih
      rw [wl_X4_idle_46_s]
      unfold wb_X4_idle_46
      rw [if_neg (by rw [le_of (by omega)]; omega)]
      have hok := wlA_ok (N := aN A) hN (isP_nat hp) s j (by omega)
      simp only [h3.sh.ob, h3.sh.G411, h3.sh.r7, h3.sh.G418, tl_rd h3 hl3 hj, vp_0 (show 0 < 2 by decide), hw3.1, ie_m6_m5, ie_m6_m4, ie_m6_m3, ie_m6_m2, ie_m6_m1, ie_m6_0, ie_m6_1, ie_m6_2, ie_m6_3, ie_m6_4, ie_m6_5, ie_m6_6, ie_m5_m6, ie_m5_m4, ie_m5_m3, ie_m5_m2, ie_m5_m1, ie_m5_0, ie_m5_1, ie_m5_2, ie_m5_3, ie_m5_4, ie_m5_5, ie_m5_6, ie_m4_m6, ie_m4_m5, ie_m4_m3, ie_m4_m2, ie_m4_m1, ie_m4_0, ie_m4_1, ie_m4_2, ie_m4_3, ie_m4_4, ie_m4_5, ie_m4_6, ie_m3_m6, ie_m3_m5, ie_m3_m4, ie_m3_m2, ie_m3_m1, ie_m3_0, ie_m3_1, ie_m3_2, ie_m3_3, ie_m3_4, ie_m3_5, ie_m3_6, ie_m2_m6, ie_m2_m5, ie_m2_m4, ie_m2_m3, ie_m2_m1, ie_m2_0, ie_m2_1, ie_m2_2, ie_m2_3, ie_m2_4, ie_m2_5, ie_m2_6, ie_m1_m6, ie_m1_m5, ie_m1_m4, ie_m1_m3, ie_m1_m2, ie_m1_0, ie_m1_1, ie_m1_2, ie_m1_3, ie_m1_4, ie_m1_5, ie_m1_6, ie_0_m6, ie_0_m5, ie_0_m4, ie_0_m3, ie_0_m2, ie_0_m1, ie_0_1, ie_0_2, ie_0_3, ie_0_4, ie_0_5, ie_0_6, ie_1_m6, ie_1_m5, ie_1_m4, ie_1_m3, ie_1_m2, ie_1_m1, ie_1_0, ie_1_2, ie_1_3, ie_1_4, ie_1_5, ie_1_6, ie_2_m6, ie_2_m5, ie_2_m4, ie_2_m3, ie_2_m2, ie_2_m1, ie_2_0, ie_2_1, ie_2_3, ie_2_4, ie_2_5, ie_2_6, ie_3_m6, ie_3_m5, ie_3_m4, ie_3_m3, ie_3_m2, ie_3_m1, ie_3_0, ie_3_1, ie_3_2, ie_3_4, ie_3_5, ie_3_6, ie_4_m6, ie_4_m5, ie_4_m4, ie_4_m3, ie_4_m2, ie_4_m1, ie_4_0, ie_4_1, ie_4_2, ie_4_3, ie_4_5, ie_4_6, ie_5_m6, ie_5_m5, ie_5_m4, ie_5_m3, ie_5_m2, ie_5_m1, ie_5_0, ie_5_1, ie_5_2, ie_5_3, ie_5_4, ie_5_6, ie_6_m6, ie_6_m5, ie_6_m4, ie_6_m3, ie_6_m2, ie_6_m1, ie_6_0, ie_6_1, ie_6_2, ie_6_3, ie_6_4, ie_6_5, Int32.reduceToInt, Int64.reduceToInt, Int.reduceToNat, Int32.reduceAdd, Int32.reduceSub, Int32.reduceMul, Int32.reduceDiv, Int32.reduceLT, Int32.reduceLE, Int.reduceLE, Int.reduceLT, Int.reduceNeg, Int.reduceAdd, Int.reduceSub, Int.reduceMul, Int.reduceEq, Nat.reduceAdd, Nat.reduceMul, Nat.reduceLT, Nat.reduceEqDiff, true_and, and_true, and_self, false_and, and_false, if_true, if_false, ite_true, ite_false, ↓reduceIte, not_true_eq_false, not_false_eq_true, true_or, or_true, or_false, false_or, Int.cast_ofNat_Int, Int.reduceNatCast]
      refine m_stL h3 hN hl3 (i := 0) (by decide) hp hw3 hok.1 hok.2 (hl3.2.2 j hj) _ (fun w4 hf4 h4 hl4 _ hw4 => ?_)
      have hw4' : mw w4 m 0 (wlA A p.toInt.toNat s (j + 1)) := hw4
      simp only [h4.sh.G411, h4.sh.r7, vp_0 (show 0 < 2 by decide), hw4'.1, ie_m6_m5, ie_m6_m4, ie_m6_m3, ie_m6_m2, ie_m6_m1, ie_m6_0, ie_m6_1, ie_m6_2, ie_m6_3, ie_m6_4, ie_m6_5, ie_m6_6, ie_m5_m6, ie_m5_m4, ie_m5_m3, ie_m5_m2, ie_m5_m1, ie_m5_0, ie_m5_1, ie_m5_2, ie_m5_3, ie_m5_4, ie_m5_5, ie_m5_6, ie_m4_m6, ie_m4_m5, ie_m4_m3, ie_m4_m2, ie_m4_m1, ie_m4_0, ie_m4_1, ie_m4_2, ie_m4_3, ie_m4_4, ie_m4_5, ie_m4_6, ie_m3_m6, ie_m3_m5, ie_m3_m4, ie_m3_m2, ie_m3_m1, ie_m3_0, ie_m3_1, ie_m3_2, ie_m3_3, ie_m3_4, ie_m3_5, ie_m3_6, ie_m2_m6, ie_m2_m5, ie_m2_m4, ie_m2_m3, ie_m2_m1, ie_m2_0, ie_m2_1, ie_m2_2, ie_m2_3, ie_m2_4, ie_m2_5, ie_m2_6, ie_m1_m6, ie_m1_m5, ie_m1_m4, ie_m1_m3, ie_m1_m2, ie_m1_0, ie_m1_1, ie_m1_2, ie_m1_3, ie_m1_4, ie_m1_5, ie_m1_6, ie_0_m6, ie_0_m5, ie_0_m4, ie_0_m3, ie_0_m2, ie_0_m1, ie_0_1, ie_0_2, ie_0_3, ie_0_4, ie_0_5, ie_0_6, ie_1_m6, ie_1_m5, ie_1_m4, ie_1_m3, ie_1_m2, ie_1_m1, ie_1_0, ie_1_2, ie_1_3, ie_1_4, ie_1_5, ie_1_6, ie_2_m6, ie_2_m5, ie_2_m4, ie_2_m3, ie_2_m2, ie_2_m1, ie_2_0, ie_2_1, ie_2_3, ie_2_4, ie_2_5, ie_2_6, ie_3_m6, ie_3_m5, ie_3_m4, ie_3_m3, ie_3_m2, ie_3_m1, ie_3_0, ie_3_1, ie_3_2, ie_3_4, ie_3_5, ie_3_6, ie_4_m6, ie_4_m5, ie_4_m4, ie_4_m3, ie_4_m2, ie_4_m1, ie_4_0, ie_4_1, ie_4_2, ie_4_3, ie_4_5, ie_4_6, ie_5_m6, ie_5_m5, ie_5_m4, ie_5_m3, ie_5_m2, ie_5_m1, ie_5_0, ie_5_1, ie_5_2, ie_5_3, ie_5_4, ie_5_6, ie_6_m6, ie_6_m5, ie_6_m4, ie_6_m3, ie_6_m2, ie_6_m1, ie_6_0, ie_6_1, ie_6_2, ie_6_3, ie_6_4, ie_6_5, Int32.reduceToInt, Int64.reduceToInt, Int.reduceToNat, Int32.reduceAdd, Int32.reduceSub, Int32.reduceMul, Int32.reduceDiv, Int32.reduceLT, Int32.reduceLE, Int.reduceLE, Int.reduceLT, Int.reduceNeg, Int.reduceAdd, Int.reduceSub, Int.reduceMul, Int.reduceEq, Nat.reduceAdd, Nat.reduceMul, Nat.reduceLT, Nat.reduceEqDiff, true_and, and_true, and_self, false_and, and_false, if_true, if_false, ite_true, ite_false, ↓reduceIte, not_true_eq_false, not_false_eq_true, true_or, or_true, or_false, false_or, Int.cast_ofNat_Int, Int.reduceNatCast, i_ofS]
      have := ih w4 ⟨h4, hf3.trans hf4, hl4, hw4'⟩
      simp only [foldP] at this
      show if _ then _ else _
      by_cases e : uC (wlA A p.toInt.toNat s (j + 1)) = uC (wlA A p.toInt.toNat s j)
      · rw [if_pos e] at this ⊢
        exact this
      · rw [if_neg e] at this ⊢
        exact this
    · intro fu w3 ⟨h3, hf3, hl3, hw3⟩
      rw [wl_X4_idle_46_s]
      unfold wb_X4_idle_46
      rw [if_pos (by rw [le_of (by omega)]; omega)]
      exact hk1 w3 h3 (mPw_Q hf3)
  · rw [if_neg hp]
    exact ⟨by rw [h.sh.ob]; trivial, m_q h hA (zero_iff hp) hk (fun hp' => absurd hp' hp)⟩
/-- the first j behind which P; none -/
def srch (P : Nat → Prop) [DecidablePred P] (v : Nat → Int32) : Nat → Nat → Int32
  | 0, _ => -1
  | d + 1, j => if P j then v j else srch P v d (j + 1)
/-- two walkers by a telling, from where the first one is -/
def wl2 (A : Ab) (p q : Nat) (s : Int32) : Nat → Wk := runW (aN A) (aN A (5 * q)) (aN A 91) q (tlg A s) (beg (aN A (5 * p + 2)) (aN A (5 * p + 3)))
abbrev difP (A : Ab) (p q : Nat) (s : Int32) (j : Nat) : Prop := ¬ (uC (wl2 A p p s (j + 1)) = uC (wl2 A p q s (j + 1)) ∧ uF (wl2 A p p s (j + 1)) = uF (wl2 A p q s (j + 1)))
theorem wl2_ok (hA : okN (aN A)) {p q : Nat} (hp : p < pe (aN A)) (s : Int32) (j : Nat) (hj : j < 1000) : okU (aN A) (wl2 A p q s j) ∧ uT (wl2 A p q s j) < 1000000 := ⟨runW_ok hA (okU_beg hA hp) j (by omega), by
  have := runW_T (N := aN A) (kd := aN A (5 * q)) (lf := aN A 91) (p := q) (T := tlg A s) (u := beg (aN A (5 * p + 2)) (aN A (5 * p + 3))) j
  have e : uT (beg (aN A (5 * p + 2)) (aN A (5 * p + 3))) = 0 := rfl
  unfold wl2
  omega⟩
def F_differ (A : Ab) (s n p q : Int32) : Int32 × Ab := qF A (isP (aN A) p ∧ isP (aN A) q ∧ ¬ p = q) s n (srch (difP A p.toInt.toNat q.toInt.toNat s) (fun j => Int32.ofNat (j + 1)) n.toInt.toNat 0)
theorem m_differ (h : MM w m A) (hN : okN (aN A)) (hA : okS A) (s n p q : Int32) {k : Int32 → Wd → Prop} (hk : mR w m (F_differ A s n p q).2 (k (F_differ A s n p q).1)) : wp_X4_differ w m s n p q k := by
  have h29 : ∀ wl : Int32, (¬ wl = 0 ↔ isP (aN A) p ∧ isP (aN A) q ∧ ¬ p = q) → wb_X4_differ_29 k w m s n p q (some m) wl := by
    intro wl hw
    unfold wb_X4_differ_29
    refine ⟨by rw [h.sh.ob]; trivial, m_q h hA hw hk (fun ⟨hp, hq, hne⟩ w1 h1 hf1 hl1 hk1 => ?_)⟩
    have hp8 := isP_8 hN hp
    have hn := hl1.1
    simp only [h1.sh.ob, m_cell h1 hp8, m_faces h1 hp8, true_and]
    refine m_bgL h1 hl1 (by decide) _ _ (fun w2 hf2 h2 hl2 _ hw2 => ?_)
    simp only [h2.sh.ob, m_cell h2 hp8, m_faces h2 hp8, true_and]
    refine m_bgL h2 hl2 (by decide) _ _ (fun w3 hf3 h3 hl3 hS3 hw3 => ?_)
    have hw30 := hw2.keep hS3 (by decide)
    have key : ∀ d fu j w4, j + d = n.toInt.toNat → d < fu → (MM w4 m A ∧ fr (mPw m) w1 w4 ∧ ldd w4 m A s n ∧ mw w4 m 0 (wl2 A p.toInt.toNat p.toInt.toNat s j) ∧ mw w4 m 1 (wl2 A p.toInt.toNat q.toInt.toNat s j)) → mR w1 m A (k (srch (difP A p.toInt.toNat q.toInt.toNat s) (fun j => Int32.ofNat (j + 1)) d j)) → wl_X4_differ_81 k fu w4 m n p q (Int32.ofNat j) := by
      intro d
      induction d with
      | zero =>
        intro fu j w4 hj hfu ⟨h4, hf4, hl4, hw4, hv4⟩ he
        obtain ⟨fu, rfl⟩ : ∃ g, fu = g + 1 := ⟨fu - 1, by omega⟩
        rw [wl_X4_differ_81_s]
        unfold wb_X4_differ_81
        rw [if_pos (by rw [le_of (by omega)]; omega)]
        exact he w4 h4 (mPw_Q hf4)
      | succ d ih =>
        intro fu j w4 hj hfu ⟨h4, hf4, hl4, hw4, hv4⟩ he
        obtain ⟨fu, rfl⟩ : ∃ g, fu = g + 1 := ⟨fu - 1, by omega⟩
        rw [wl_X4_differ_81_s]
        unfold wb_X4_differ_81
        rw [if_neg (by rw [le_of (by omega)]; omega)]
        have hj' : j < n.toInt.toNat := by omega
        have o1 := wl2_ok hN (q := p.toInt.toNat) (isP_nat hp) s j (by omega)
        have o2 := wl2_ok hN (q := q.toInt.toNat) (isP_nat hp) s j (by omega)
        simp only [h4.sh.ob, h4.sh.G418, tl_rd h4 hl4 hj', true_and]
        refine m_stL h4 hN hl4 (i := 0) (by decide) hp hw4 o1.1 o1.2 (hl4.2.2 j hj') _ (fun w5 hf5 h5 hl5 hS5 hw5 => ?_)
        have hv5 := hv4.keep hS5 (by decide)
        simp only [h5.sh.ob, h5.sh.G418, tl_rd h5 hl5 hj', true_and]
        refine m_stL h5 hN hl5 (i := 1) (by decide) hq hv5 o2.1 o2.2 (hl5.2.2 j hj') _ (fun w6 hf6 h6 hl6 hS6 hv6 => ?_)
        have hw6 := hw5.keep hS6 (by decide)
        have hw6' : mw w6 m 0 (wl2 A p.toInt.toNat p.toInt.toNat s (j + 1)) := hw6
        have hv6' : mw w6 m 1 (wl2 A p.toInt.toNat q.toInt.toNat s (j + 1)) := hv6
        have v1 : vp_in 1 2 := vp_iff.2 (by decide)
        simp only [h6.sh.G411, h6.sh.r7, h6.sh.G412, h6.sh.r8, vp_0 (show 0 < 2 by decide), v1, hw6'.1, hw6'.2.1, hv6'.1, hv6'.2.1, ie_m6_m5, ie_m6_m4, ie_m6_m3, ie_m6_m2, ie_m6_m1, ie_m6_0, ie_m6_1, ie_m6_2, ie_m6_3, ie_m6_4, ie_m6_5, ie_m6_6, ie_m5_m6, ie_m5_m4, ie_m5_m3, ie_m5_m2, ie_m5_m1, ie_m5_0, ie_m5_1, ie_m5_2, ie_m5_3, ie_m5_4, ie_m5_5, ie_m5_6, ie_m4_m6, ie_m4_m5, ie_m4_m3, ie_m4_m2, ie_m4_m1, ie_m4_0, ie_m4_1, ie_m4_2, ie_m4_3, ie_m4_4, ie_m4_5, ie_m4_6, ie_m3_m6, ie_m3_m5, ie_m3_m4, ie_m3_m2, ie_m3_m1, ie_m3_0, ie_m3_1, ie_m3_2, ie_m3_3, ie_m3_4, ie_m3_5, ie_m3_6, ie_m2_m6, ie_m2_m5, ie_m2_m4, ie_m2_m3, ie_m2_m1, ie_m2_0, ie_m2_1, ie_m2_2, ie_m2_3, ie_m2_4, ie_m2_5, ie_m2_6, ie_m1_m6, ie_m1_m5, ie_m1_m4, ie_m1_m3, ie_m1_m2, ie_m1_0, ie_m1_1, ie_m1_2, ie_m1_3, ie_m1_4, ie_m1_5, ie_m1_6, ie_0_m6, ie_0_m5, ie_0_m4, ie_0_m3, ie_0_m2, ie_0_m1, ie_0_1, ie_0_2, ie_0_3, ie_0_4, ie_0_5, ie_0_6, ie_1_m6, ie_1_m5, ie_1_m4, ie_1_m3, ie_1_m2, ie_1_m1, ie_1_0, ie_1_2, ie_1_3, ie_1_4, ie_1_5, ie_1_6, ie_2_m6, ie_2_m5, ie_2_m4, ie_2_m3, ie_2_m2, ie_2_m1, ie_2_0, ie_2_1, ie_2_3, ie_2_4, ie_2_5, ie_2_6, ie_3_m6, ie_3_m5, ie_3_m4, ie_3_m3, ie_3_m2, ie_3_m1, ie_3_0, ie_3_1, ie_3_2, ie_3_4, ie_3_5, ie_3_6, ie_4_m6, ie_4_m5, ie_4_m4, ie_4_m3, ie_4_m2, ie_4_m1, ie_4_0, ie_4_1, ie_4_2, ie_4_3, ie_4_5, ie_4_6, ie_5_m6, ie_5_m5, ie_5_m4, ie_5_m3, ie_5_m2, ie_5_m1, ie_5_0, ie_5_1, ie_5_2, ie_5_3, ie_5_4, ie_5_6, ie_6_m6, ie_6_m5, ie_6_m4, ie_6_m3, ie_6_m2, ie_6_m1, ie_6_0, ie_6_1, ie_6_2, ie_6_3, ie_6_4, ie_6_5, Int32.reduceToInt, Int64.reduceToInt, Int.reduceToNat, Int32.reduceAdd, Int32.reduceSub, Int32.reduceMul, Int32.reduceDiv, Int32.reduceLT, Int32.reduceLE, Int.reduceLE, Int.reduceLT, Int.reduceNeg, Int.reduceAdd, Int.reduceSub, Int.reduceMul, Int.reduceEq, Nat.reduceAdd, Nat.reduceMul, Nat.reduceLT, Nat.reduceEqDiff, true_and, and_true, and_self, false_and, and_false, if_true, if_false, ite_true, ite_false, ↓reduceIte, not_true_eq_false, not_false_eq_true, true_or, or_true, or_false, false_or, Int.cast_ofNat_Int, Int.reduceNatCast, i_ofS]
        rw [show srch (difP A p.toInt.toNat q.toInt.toNat s) (fun j => Int32.ofNat (j + 1)) (d + 1) j = if difP A p.toInt.toNat q.toInt.toNat s j then Int32.ofNat (j + 1) else srch (difP A p.toInt.toNat q.toInt.toNat s) (fun j => Int32.ofNat (j + 1)) d (j + 1) from rfl] at he
        by_cases e : uC (wl2 A p.toInt.toNat p.toInt.toNat s (j + 1)) = uC (wl2 A p.toInt.toNat q.toInt.toNat s (j + 1))
        · rw [if_pos e]
          by_cases e2 : uF (wl2 A p.toInt.toNat p.toInt.toNat s (j + 1)) = uF (wl2 A p.toInt.toNat q.toInt.toNat s (j + 1))
          · rw [if_pos e2]
            rw [if_neg (fun hd => hd ⟨e, e2⟩)] at he
            exact ih fu (j + 1) w6 (by omega) (by omega) ⟨h6, (hf4.trans hf5).trans hf6, hl6, hw6', hv6'⟩ he
          · rw [if_neg e2]
            rw [if_pos (fun hd => e2 hd.2)] at he
            exact he w6 h6 (mPw_Q ((hf4.trans hf5).trans hf6))
        · rw [if_neg e]
          rw [if_pos (fun hd => e hd.1)] at he
          exact he w6 h6 (mPw_Q ((hf4.trans hf5).trans hf6))
    exact key n.toInt.toNat FU 0 w3 (by omega) (by unfold FU; omega) ⟨h3, hf2.trans hf3, hl3, hw30, hw3⟩ hk1
  unfold wp_X4_differ wb_X4_differ_28
  refine ⟨by rw [h.sh.ob]; trivial, ?_⟩
  rw [m_isPerson h hN]
  by_cases hp : isP (aN A) p
  · rw [if_pos hp, if_neg (by decide)]
    refine ⟨by rw [h.sh.ob]; trivial, ?_⟩
    rw [m_isPerson h hN]
    by_cases hq : isP (aN A) q
    · rw [if_pos hq, if_neg (by decide)]
      by_cases e : p = q
      · rw [if_pos e]
        exact h29 0 (zero_iff (fun hc => hc.2.2 e))
      · rw [if_neg e]
        exact h29 1 (one_iff ⟨hp, hq, e⟩)
    · rw [if_neg hq, if_pos rfl]
      exact h29 0 (zero_iff (fun hc => hq hc.2.1))
  · rw [if_neg hp, if_pos rfl]
    exact h29 0 (zero_iff (fun hc => hp hc.1))
end MQ4
