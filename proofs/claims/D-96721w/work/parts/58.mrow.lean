/-! ===== rows on shelves, of the reference ===== -/
section MROW
variable {w : Wd} {m : Nat} {A : Ab}
theorem i_40v {s j : Int32} {S J : Nat} (hs : s.toInt = S) (hS : S ≤ 7) (hj : j.toInt = J) (hJ : J < 40) : (40 * s + j).toInt.toNat = 40 * S + J ∧ vp_in (40 * s + j) 320 := by
  have e := i_40 hs hS hj (by omega)
  exact ⟨by rw [e]; rfl, vp_iff.2 (by rw [e]; omega)⟩
def F_row (A : Ab) (s so n : Int32) : Int32 × Ab := if isS s ∧ (0 ≤ so.toInt ∧ so.toInt ≤ 4) ∧ 0 ≤ n.toInt ∧ n.toInt ≤ 40 then (1, zE (zS (zH A (up1 (aH A) s.toInt.toNat so)) (up1 (aS A) s.toInt.toNat n)) (fun k => if 40 * s.toInt.toNat ≤ k ∧ k < 40 * s.toInt.toNat + 40 then 0 else aE A k)) else rf A (-2)
theorem frL {w0 : Wd} {a k : Nat} {v : Int64} (h : fr (mQ m) w0 w) (ha : m ≤ a ∧ a < m + 21) : fr (mQ m) w0 (sL w a k v) := h.sL (fun _ => ha)
theorem m_row (h : MM w m A) (s so n : Int32) {k : Int32 → Wd → Prop} (hk : mR w m (F_row A s so n).2 (k (F_row A s so n).1)) : wp_X4_row w m s so n k := by
  unfold wp_X4_row
  unfold F_row at hk
  rw [m_isShelf]
  by_cases c1 : isS s
  · rw [if_pos c1, if_neg (by decide)]
    simp only [m_isIn, lg_lit, ie_m6_m5, ie_m6_m4, ie_m6_m3, ie_m6_m2, ie_m6_m1, ie_m6_0, ie_m6_1, ie_m6_2, ie_m6_3, ie_m6_4, ie_m6_5, ie_m6_6, ie_m5_m6, ie_m5_m4, ie_m5_m3, ie_m5_m2, ie_m5_m1, ie_m5_0, ie_m5_1, ie_m5_2, ie_m5_3, ie_m5_4, ie_m5_5, ie_m5_6, ie_m4_m6, ie_m4_m5, ie_m4_m3, ie_m4_m2, ie_m4_m1, ie_m4_0, ie_m4_1, ie_m4_2, ie_m4_3, ie_m4_4, ie_m4_5, ie_m4_6, ie_m3_m6, ie_m3_m5, ie_m3_m4, ie_m3_m2, ie_m3_m1, ie_m3_0, ie_m3_1, ie_m3_2, ie_m3_3, ie_m3_4, ie_m3_5, ie_m3_6, ie_m2_m6, ie_m2_m5, ie_m2_m4, ie_m2_m3, ie_m2_m1, ie_m2_0, ie_m2_1, ie_m2_2, ie_m2_3, ie_m2_4, ie_m2_5, ie_m2_6, ie_m1_m6, ie_m1_m5, ie_m1_m4, ie_m1_m3, ie_m1_m2, ie_m1_0, ie_m1_1, ie_m1_2, ie_m1_3, ie_m1_4, ie_m1_5, ie_m1_6, ie_0_m6, ie_0_m5, ie_0_m4, ie_0_m3, ie_0_m2, ie_0_m1, ie_0_1, ie_0_2, ie_0_3, ie_0_4, ie_0_5, ie_0_6, ie_1_m6, ie_1_m5, ie_1_m4, ie_1_m3, ie_1_m2, ie_1_m1, ie_1_0, ie_1_2, ie_1_3, ie_1_4, ie_1_5, ie_1_6, ie_2_m6, ie_2_m5, ie_2_m4, ie_2_m3, ie_2_m2, ie_2_m1, ie_2_0, ie_2_1, ie_2_3, ie_2_4, ie_2_5, ie_2_6, ie_3_m6, ie_3_m5, ie_3_m4, ie_3_m3, ie_3_m2, ie_3_m1, ie_3_0, ie_3_1, ie_3_2, ie_3_4, ie_3_5, ie_3_6, ie_4_m6, ie_4_m5, ie_4_m4, ie_4_m3, ie_4_m2, ie_4_m1, ie_4_0, ie_4_1, ie_4_2, ie_4_3, ie_4_5, ie_4_6, ie_5_m6, ie_5_m5, ie_5_m4, ie_5_m3, ie_5_m2, ie_5_m1, ie_5_0, ie_5_1, ie_5_2, ie_5_3, ie_5_4, ie_5_6, ie_6_m6, ie_6_m5, ie_6_m4, ie_6_m3, ie_6_m2, ie_6_m1, ie_6_0, ie_6_1, ie_6_2, ie_6_3, ie_6_4, ie_6_5, Int32.reduceToInt, Int64.reduceToInt, Int.reduceToNat, Int32.reduceAdd, Int32.reduceSub, Int32.reduceMul, Int32.reduceDiv, Int32.reduceLT, Int32.reduceLE, Int.reduceLE, Int.reduceLT, Int.reduceNeg, Int.reduceAdd, Int.reduceSub, Int.reduceMul, Int.reduceEq, Nat.reduceAdd, Nat.reduceMul, Nat.reduceLT, Nat.reduceEqDiff, true_and, and_true, and_self, false_and, and_false, if_true, if_false, ite_true, ite_false, ↓reduceIte, not_true_eq_false, not_false_eq_true, true_or, or_true, or_false, false_or, Int.cast_ofNat_Int, Int.reduceNatCast]
    by_cases c2 : 0 ≤ so.toInt ∧ so.toInt ≤ 4
    · rw [if_pos c2]
      by_cases c3 : 0 ≤ n.toInt ∧ n.toInt ≤ 40
      · rw [if_pos c3]
        rw [if_pos ⟨c1, c2, c3⟩] at hk
        have hv : vp_in s 8 := vp_iff.2 (by omega)
        simp only [h.sh.G419, h.sh.w14, hv, true_and]
        have h1 := h.wH s.toInt.toNat so
        simp only [h1.sh.G420, h1.sh.w15, hv, true_and]
        have h2 := h1.wS s.toInt.toNat n
        generalize hw2 : sI (sI w (m + 14) s.toInt.toNat so) (m + 15) s.toInt.toNat n = w2 at h2 ⊢
        have hf2 : fr (mQ m) w w2 := hw2 ▸ frR (frR (fr.refl _ _) (by omega)) (by omega)
        simp only [aS_zH] at h2
        refine loopN (n := 40) (I := fun j w3 => MM w3 m (zE (zS (zH A (up1 (aH A) s.toInt.toNat so)) (up1 (aS A) s.toInt.toNat n)) (fun k => if 40 * s.toInt.toNat ≤ k ∧ k < 40 * s.toInt.toNat + j then 0 else aE A k)) ∧ fr (mQ m) w w3) (L := fun fu j w3 => wl_X4_row_55 k fu w3 m s (Int32.ofNat j)) ?_ ?_ 40 FU 0 w2 (by omega) (by unfold FU; omega) ⟨?_, hf2⟩
        · intro fu j w3 hj ⟨h3, hf3⟩ ih
          have e40 := i_40v (show s.toInt = ((s.toInt.toNat : Nat) : Int) by omega) (by omega) (i_ti (show j < 2147483648 by omega)) hj
          rw [wl_X4_row_55_s]
          unfold wb_X4_row_55
          rw [if_neg (by rw [i_le, i_ti (by omega)]; show ¬ (40 : Int) ≤ j; omega)]
          simp only [h3.sh.G421, h3.sh.w16, e40.2, e40.1, i_ofS, true_and]
          have h4 := h3.wE (40 * s.toInt.toNat + j) 0
          refine ih _ ⟨?_, frL hf3 (by omega)⟩
          have ee : up1 (fun k => if 40 * s.toInt.toNat ≤ k ∧ k < 40 * s.toInt.toNat + j then (0 : Int64) else aE A k) (40 * s.toInt.toNat + j) 0 = fun k => if 40 * s.toInt.toNat ≤ k ∧ k < 40 * s.toInt.toNat + (j + 1) then 0 else aE A k := funext fun k => by
            rw [up1_at]
            by_cases q : k = 40 * s.toInt.toNat + j
            · rw [if_pos q, if_pos (by omega)]
            · rw [if_neg q]
              by_cases q2 : 40 * s.toInt.toNat ≤ k ∧ k < 40 * s.toInt.toNat + j
              · rw [if_pos q2, if_pos (by omega)]
              · rw [if_neg q2, if_neg (by omega)]
          simp only [aE_zE, zE_zE] at h4
          rw [ee] at h4
          exact h4
        · intro fu w3 ⟨h3, hf3⟩
          rw [wl_X4_row_55_s]
          unfold wb_X4_row_55
          rw [if_pos (by decide)]
          exact hk w3 h3 hf3
        · have e0 : (fun k => if 40 * s.toInt.toNat ≤ k ∧ k < 40 * s.toInt.toNat + 0 then (0 : Int64) else aE A k) = aE A := funext fun k => if_neg (by omega)
          rw [e0]
          exact h2
      · rw [if_neg c3]
        rw [if_neg (fun q => c3 q.2.2)] at hk
        exact ⟨by rw [h.sh.ob]; trivial, m_refuse h (by decide) hk⟩
    · rw [if_neg c2]
      rw [if_neg (fun q => c2 q.2.1)] at hk
      exact ⟨by rw [h.sh.ob]; trivial, m_refuse h (by decide) hk⟩
  · rw [if_neg c1, if_pos rfl]
    rw [if_neg (fun q => c1 q.1)] at hk
    exact ⟨by rw [h.sh.ob]; trivial, m_refuse h (by decide) hk⟩
/-- what a row keeps of a long -/
def nar64 (h : Int32) (v : Int64) : Int64 := if h = 0 then v.toInt32.toInt8.toInt32.toInt64 else if h = 1 then v.toInt32.toInt16.toInt32.toInt64 else if h = 2 then v.toInt32.toInt64 else if h = 3 then v else if v = 0 then 0 else 1
def F_set (A : Ab) (s i : Int32) (v : Int64) : Int32 × Ab := if isS s then (if 0 ≤ (rowC A s.toInt.toNat).toInt then (if 0 ≤ i.toInt ∧ i.toInt < (aS A s.toInt.toNat).toInt then (1, zE A (up1 (aE A) (40 * s.toInt.toNat + i.toInt.toNat) (nar64 (aH A s.toInt.toNat) v))) else rf A (-2)) else rf A (rowC A s.toInt.toNat)) else rf A (-2)
theorem lg_eq (x y : Int64) : lg_cmp x y = 0 ↔ x = y := by
  unfold lg_cmp
  by_cases h : x > y
  · rw [if_pos h]
    have h1 : y.toInt < x.toInt := l_lt.1 h
    exact ⟨fun h' => absurd h' (by decide), fun h' => by rw [h'] at h1; omega⟩
  · rw [if_neg h]
    by_cases h2 : x = y
    · rw [if_pos h2]; exact ⟨fun _ => h2, fun _ => rfl⟩
    · rw [if_neg h2]; exact ⟨fun h' => absurd h' (by decide), fun h' => absurd h' h2⟩
theorem m_set (h : MM w m A) (hA : okS A) (s i : Int32) (v : Int64) {k : Int32 → Wd → Prop} (hk : mR w m (F_set A s i v).2 (k (F_set A s i v).1)) : wp_X4_set w m s i v k := by
  unfold wp_X4_set
  unfold F_set at hk
  rw [m_isShelf]
  by_cases c1 : isS s
  · rw [if_pos c1, if_neg (by decide)]
    rw [if_pos c1] at hk
    have hv : vp_in s 8 := vp_iff.2 (by omega)
    have hS := (hA s.toInt.toNat (by omega)).1
    refine ⟨by rw [h.sh.ob]; trivial, ?_⟩
    rw [m_rowIn h c1]
    show if (0 : Int32) ≤ rowC A s.toInt.toNat then _ else _
    by_cases c2 : 0 ≤ (rowC A s.toInt.toNat).toInt
    · rw [if_pos (by rw [i_le, i_0]; exact c2)]
      rw [if_pos c2] at hk
      have e1 : (aS A s.toInt.toNat - 1).toInt = (aS A s.toInt.toNat).toInt - 1 := i_dec (by omega)
      simp only [h.sh.G420, h.sh.r15, h.S, hv, m_isIn, lg_lit, e1, ie_m6_m5, ie_m6_m4, ie_m6_m3, ie_m6_m2, ie_m6_m1, ie_m6_0, ie_m6_1, ie_m6_2, ie_m6_3, ie_m6_4, ie_m6_5, ie_m6_6, ie_m5_m6, ie_m5_m4, ie_m5_m3, ie_m5_m2, ie_m5_m1, ie_m5_0, ie_m5_1, ie_m5_2, ie_m5_3, ie_m5_4, ie_m5_5, ie_m5_6, ie_m4_m6, ie_m4_m5, ie_m4_m3, ie_m4_m2, ie_m4_m1, ie_m4_0, ie_m4_1, ie_m4_2, ie_m4_3, ie_m4_4, ie_m4_5, ie_m4_6, ie_m3_m6, ie_m3_m5, ie_m3_m4, ie_m3_m2, ie_m3_m1, ie_m3_0, ie_m3_1, ie_m3_2, ie_m3_3, ie_m3_4, ie_m3_5, ie_m3_6, ie_m2_m6, ie_m2_m5, ie_m2_m4, ie_m2_m3, ie_m2_m1, ie_m2_0, ie_m2_1, ie_m2_2, ie_m2_3, ie_m2_4, ie_m2_5, ie_m2_6, ie_m1_m6, ie_m1_m5, ie_m1_m4, ie_m1_m3, ie_m1_m2, ie_m1_0, ie_m1_1, ie_m1_2, ie_m1_3, ie_m1_4, ie_m1_5, ie_m1_6, ie_0_m6, ie_0_m5, ie_0_m4, ie_0_m3, ie_0_m2, ie_0_m1, ie_0_1, ie_0_2, ie_0_3, ie_0_4, ie_0_5, ie_0_6, ie_1_m6, ie_1_m5, ie_1_m4, ie_1_m3, ie_1_m2, ie_1_m1, ie_1_0, ie_1_2, ie_1_3, ie_1_4, ie_1_5, ie_1_6, ie_2_m6, ie_2_m5, ie_2_m4, ie_2_m3, ie_2_m2, ie_2_m1, ie_2_0, ie_2_1, ie_2_3, ie_2_4, ie_2_5, ie_2_6, ie_3_m6, ie_3_m5, ie_3_m4, ie_3_m3, ie_3_m2, ie_3_m1, ie_3_0, ie_3_1, ie_3_2, ie_3_4, ie_3_5, ie_3_6, ie_4_m6, ie_4_m5, ie_4_m4, ie_4_m3, ie_4_m2, ie_4_m1, ie_4_0, ie_4_1, ie_4_2, ie_4_3, ie_4_5, ie_4_6, ie_5_m6, ie_5_m5, ie_5_m4, ie_5_m3, ie_5_m2, ie_5_m1, ie_5_0, ie_5_1, ie_5_2, ie_5_3, ie_5_4, ie_5_6, ie_6_m6, ie_6_m5, ie_6_m4, ie_6_m3, ie_6_m2, ie_6_m1, ie_6_0, ie_6_1, ie_6_2, ie_6_3, ie_6_4, ie_6_5, Int32.reduceToInt, Int64.reduceToInt, Int.reduceToNat, Int32.reduceAdd, Int32.reduceSub, Int32.reduceMul, Int32.reduceDiv, Int32.reduceLT, Int32.reduceLE, Int.reduceLE, Int.reduceLT, Int.reduceNeg, Int.reduceAdd, Int.reduceSub, Int.reduceMul, Int.reduceEq, Nat.reduceAdd, Nat.reduceMul, Nat.reduceLT, Nat.reduceEqDiff, true_and, and_true, and_self, false_and, and_false, if_true, if_false, ite_true, ite_false, ↓reduceIte, not_true_eq_false, not_false_eq_true, true_or, or_true, or_false, false_or, Int.cast_ofNat_Int, Int.reduceNatCast]
      by_cases c3 : 0 ≤ i.toInt ∧ i.toInt < (aS A s.toInt.toNat).toInt
      · rw [if_pos (show 0 ≤ i.toInt ∧ i.toInt ≤ (aS A s.toInt.toNat).toInt - 1 by omega)]
        rw [if_pos c3] at hk
        have e40 := i_40v (show s.toInt = ((s.toInt.toNat : Nat) : Int) by omega) (by omega) (show i.toInt = ((i.toInt.toNat : Nat) : Int) by omega) (by omega)
        simp only [h.sh.G419, h.sh.r14, h.H, hv, h.sh.G421, h.sh.w16, e40.2, e40.1, true_and, lg_eq]
        have key : ∀ x, x = nar64 (aH A s.toInt.toNat) v → k 1 (sL w (m + 16) (40 * s.toInt.toNat + i.toInt.toNat) x) := by
          rintro x rfl
          exact hk _ (h.wE _ _) (frL (fr.refl _ _) (by omega))
        unfold nar64 at key
        by_cases d0 : aH A s.toInt.toNat = 0
        · rw [if_pos d0]; exact key _ (by rw [if_pos d0])
        · rw [if_neg d0]
          simp only [if_neg d0] at key
          by_cases d1 : aH A s.toInt.toNat = 1
          · rw [if_pos d1]; exact key _ (by rw [if_pos d1])
          · rw [if_neg d1]
            simp only [if_neg d1] at key
            by_cases d2 : aH A s.toInt.toNat = 2
            · rw [if_pos d2]; exact key _ (by rw [if_pos d2])
            · rw [if_neg d2]
              simp only [if_neg d2] at key
              by_cases d3 : aH A s.toInt.toNat = 3
              · rw [if_pos d3]; exact key _ (by rw [if_pos d3])
              · rw [if_neg d3]
                simp only [if_neg d3] at key
                by_cases d4 : v = 0
                · rw [if_pos d4]; exact key _ (by rw [if_pos d4])
                · rw [if_neg d4]; exact key _ (by rw [if_neg d4])
      · rw [if_neg (show ¬ (0 ≤ i.toInt ∧ i.toInt ≤ (aS A s.toInt.toNat).toInt - 1) by omega)]
        rw [if_neg c3] at hk
        exact ⟨by rw [h.sh.ob]; trivial, m_refuse h (by decide) hk⟩
    · rw [if_neg (by rw [i_le, i_0]; exact c2)]
      rw [if_neg c2] at hk
      refine ⟨by rw [h.sh.ob]; trivial, ?_⟩
      rw [m_rowIn h c1]
      refine ⟨by rw [h.sh.ob]; trivial, m_refuse (c := rowC A s.toInt.toNat) h ?_ hk⟩
      rcases rowC_c A s.toInt.toNat with e | e | e
      · rw [e]; decide
      · rw [e]; decide
      · exact absurd (by rw [e]; decide) c2
  · rw [if_neg c1, if_pos rfl]
    rw [if_neg c1] at hk
    exact ⟨by rw [h.sh.ob]; trivial, m_refuse h (by decide) hk⟩
def F_element (A : Ab) (s i : Int32) : Int64 := if isS s ∧ (0 ≤ (aH A s.toInt.toNat).toInt ∧ (aH A s.toInt.toNat).toInt ≤ 4) ∧ 0 ≤ i.toInt ∧ i.toInt < (aS A s.toInt.toNat).toInt then aE A (40 * s.toInt.toNat + i.toInt.toNat) else 0
theorem m_element (h : MM w m A) (hA : okS A) (s i : Int32) {k : Int64 → Wd → Prop} (hk : k (F_element A s i) w) : wp_X4_element w m s i k := by
  unfold wp_X4_element
  unfold F_element at hk
  rw [m_isShelf]
  by_cases c1 : isS s
  · rw [if_pos c1, if_neg (by decide)]
    have hv : vp_in s 8 := vp_iff.2 (by omega)
    have hS := (hA s.toInt.toNat (by omega)).1
    have e1 : (aS A s.toInt.toNat - 1).toInt = (aS A s.toInt.toNat).toInt - 1 := i_dec (by omega)
    simp only [h.sh.G419, h.sh.r14, h.H, hv, m_isIn, lg_lit, e1, ie_m6_m5, ie_m6_m4, ie_m6_m3, ie_m6_m2, ie_m6_m1, ie_m6_0, ie_m6_1, ie_m6_2, ie_m6_3, ie_m6_4, ie_m6_5, ie_m6_6, ie_m5_m6, ie_m5_m4, ie_m5_m3, ie_m5_m2, ie_m5_m1, ie_m5_0, ie_m5_1, ie_m5_2, ie_m5_3, ie_m5_4, ie_m5_5, ie_m5_6, ie_m4_m6, ie_m4_m5, ie_m4_m3, ie_m4_m2, ie_m4_m1, ie_m4_0, ie_m4_1, ie_m4_2, ie_m4_3, ie_m4_4, ie_m4_5, ie_m4_6, ie_m3_m6, ie_m3_m5, ie_m3_m4, ie_m3_m2, ie_m3_m1, ie_m3_0, ie_m3_1, ie_m3_2, ie_m3_3, ie_m3_4, ie_m3_5, ie_m3_6, ie_m2_m6, ie_m2_m5, ie_m2_m4, ie_m2_m3, ie_m2_m1, ie_m2_0, ie_m2_1, ie_m2_2, ie_m2_3, ie_m2_4, ie_m2_5, ie_m2_6, ie_m1_m6, ie_m1_m5, ie_m1_m4, ie_m1_m3, ie_m1_m2, ie_m1_0, ie_m1_1, ie_m1_2, ie_m1_3, ie_m1_4, ie_m1_5, ie_m1_6, ie_0_m6, ie_0_m5, ie_0_m4, ie_0_m3, ie_0_m2, ie_0_m1, ie_0_1, ie_0_2, ie_0_3, ie_0_4, ie_0_5, ie_0_6, ie_1_m6, ie_1_m5, ie_1_m4, ie_1_m3, ie_1_m2, ie_1_m1, ie_1_0, ie_1_2, ie_1_3, ie_1_4, ie_1_5, ie_1_6, ie_2_m6, ie_2_m5, ie_2_m4, ie_2_m3, ie_2_m2, ie_2_m1, ie_2_0, ie_2_1, ie_2_3, ie_2_4, ie_2_5, ie_2_6, ie_3_m6, ie_3_m5, ie_3_m4, ie_3_m3, ie_3_m2, ie_3_m1, ie_3_0, ie_3_1, ie_3_2, ie_3_4, ie_3_5, ie_3_6, ie_4_m6, ie_4_m5, ie_4_m4, ie_4_m3, ie_4_m2, ie_4_m1, ie_4_0, ie_4_1, ie_4_2, ie_4_3, ie_4_5, ie_4_6, ie_5_m6, ie_5_m5, ie_5_m4, ie_5_m3, ie_5_m2, ie_5_m1, ie_5_0, ie_5_1, ie_5_2, ie_5_3, ie_5_4, ie_5_6, ie_6_m6, ie_6_m5, ie_6_m4, ie_6_m3, ie_6_m2, ie_6_m1, ie_6_0, ie_6_1, ie_6_2, ie_6_3, ie_6_4, ie_6_5, Int32.reduceToInt, Int64.reduceToInt, Int.reduceToNat, Int32.reduceAdd, Int32.reduceSub, Int32.reduceMul, Int32.reduceDiv, Int32.reduceLT, Int32.reduceLE, Int.reduceLE, Int.reduceLT, Int.reduceNeg, Int.reduceAdd, Int.reduceSub, Int.reduceMul, Int.reduceEq, Nat.reduceAdd, Nat.reduceMul, Nat.reduceLT, Nat.reduceEqDiff, true_and, and_true, and_self, false_and, and_false, if_true, if_false, ite_true, ite_false, ↓reduceIte, not_true_eq_false, not_false_eq_true, true_or, or_true, or_false, false_or, Int.cast_ofNat_Int, Int.reduceNatCast]
    by_cases c2 : 0 ≤ (aH A s.toInt.toNat).toInt ∧ (aH A s.toInt.toNat).toInt ≤ 4
    · rw [if_pos c2]
      simp only [h.sh.G420, h.sh.r15, h.S, hv, e1, true_and]
      by_cases c3 : 0 ≤ i.toInt ∧ i.toInt < (aS A s.toInt.toNat).toInt
      · rw [if_pos (show 0 ≤ i.toInt ∧ i.toInt ≤ (aS A s.toInt.toNat).toInt - 1 by omega)]
        rw [if_pos ⟨c1, c2, c3⟩] at hk
        have e40 := i_40v (show s.toInt = ((s.toInt.toNat : Nat) : Int) by omega) (by omega) (show i.toInt = ((i.toInt.toNat : Nat) : Int) by omega) (by omega)
        simp only [h.sh.G421, h.sh.r16, h.E, e40.2, e40.1, true_and]
        exact hk
      · rw [if_neg (show ¬ (0 ≤ i.toInt ∧ i.toInt ≤ (aS A s.toInt.toNat).toInt - 1) by omega)]
        rwa [if_neg (fun q => c3 q.2.2)] at hk
    · rw [if_neg c2]
      rwa [if_neg (fun q => c2 q.2.1)] at hk
  · rw [if_neg c1, if_pos rfl]
    rwa [if_neg (fun q => c1 q.1)] at hk
def F_holds (A : Ab) (s : Int32) : Int32 := if isS s then aH A s.toInt.toNat else -1
theorem m_holds (h : MM w m A) (s : Int32) {k : Int32 → Wd → Prop} (hk : k (F_holds A s) w) : wp_X4_holds w m s k := by
  unfold wp_X4_holds
  unfold F_holds at hk
  rw [m_isShelf]
  by_cases c1 : isS s
  · rw [if_pos c1, if_neg (by decide)]
    have hv : vp_in s 8 := vp_iff.2 (by omega)
    simp only [h.sh.G419, h.sh.r14, h.H, hv, true_and]
    rwa [if_pos c1] at hk
  · rw [if_neg c1, if_pos rfl]
    rwa [if_neg c1] at hk
def F_show (A : Ab) (s p : Int32) : Int32 × Ab := if isS s ∧ (p = -1 ∨ isP (aN A) p) then (1, zH A (up1 (aH A) s.toInt.toNat (if p = -1 then -1 else 10 + p))) else rf A (-2)
theorem m_show (h : MM w m A) (hN : okN (aN A)) (s p : Int32) {k : Int32 → Wd → Prop} (hk : mR w m (F_show A s p).2 (k (F_show A s p).1)) : wp_X4_show w m s p k := by
  unfold wp_X4_show
  unfold F_show at hk
  rw [m_isShelf]
  by_cases c1 : isS s
  · rw [if_pos c1, if_neg (by decide)]
    have hv : vp_in s 8 := vp_iff.2 (by omega)
    by_cases c2 : p = -1
    · rw [if_pos c2]
      unfold wb_X4_show_27
      rw [if_pos ⟨c1, Or.inl c2⟩, if_pos c2] at hk
      simp only [h.sh.G419, h.sh.w14, hv, true_and, if_pos c2]
      exact hk _ (h.wH _ _) (frR (fr.refl _ _) (by omega))
    · rw [if_neg c2]
      refine ⟨by rw [h.sh.ob]; trivial, ?_⟩
      rw [m_isPerson h hN]
      by_cases c3 : isP (aN A) p
      · rw [if_pos c3, if_neg (by decide)]
        unfold wb_X4_show_27
        rw [if_pos ⟨c1, Or.inr c3⟩, if_neg c2] at hk
        simp only [h.sh.G419, h.sh.w14, hv, true_and, if_neg c2]
        exact hk _ (h.wH _ _) (frR (fr.refl _ _) (by omega))
      · rw [if_neg c3, if_pos rfl]
        rw [if_neg (fun q => q.2.elim c2 c3)] at hk
        exact ⟨by rw [h.sh.ob]; trivial, m_refuse h (by decide) hk⟩
  · rw [if_neg c1, if_pos rfl]
    rw [if_neg (fun q => c1 q.1)] at hk
    exact ⟨by rw [h.sh.ob]; trivial, m_refuse h (by decide) hk⟩
/-- kinds above -/
abbrev subK (a b : Int32) : Prop := a = b ∨ b = 0 ∨ (a = 3 ∧ b = 1) ∨ (a = 4 ∧ b = 2)
def F_says (A : Ab) (s kd : Int32) : Int32 × Ab := if isS s ∧ 0 ≤ kd.toInt ∧ kd.toInt ≤ 5 then (if aH A s.toInt.toNat = -1 then rf A (-4) else if 10 ≤ (aH A s.toInt.toNat).toInt ∧ subK (aN A (5 * ((aH A s.toInt.toNat).toInt.toNat - 10))) kd then (if kd = 0 then aN A (5 * ((aH A s.toInt.toNat).toInt.toNat - 10) + 1) else uF (stp (aN A) (aN A (5 * ((aH A s.toInt.toNat).toInt.toNat - 10))) (aN A 91) ((aH A s.toInt.toNat).toInt.toNat - 10) (beg (aN A (5 * ((aH A s.toInt.toNat).toInt.toNat - 10) + 2)) (aN A (5 * ((aH A s.toInt.toNat).toInt.toNat - 10) + 3))) 1 0), A) else rf A (-3)) else rf A (-2)
theorem in6 {x : Int32} (h : 0 ≤ x.toInt ∧ x.toInt ≤ 5) : x = 0 ∨ x = 1 ∨ x = 2 ∨ x = 3 ∨ x = 4 ∨ x = 5 := by
  have h1 : x.toInt = 0 ∨ x.toInt = 1 ∨ x.toInt = 2 ∨ x.toInt = 3 ∨ x.toInt = 4 ∨ x.toInt = 5 := by omega
  rcases h1 with h1 | h1 | h1 | h1 | h1 | h1
  · exact Or.inl (Int32.toInt_inj.1 h1)
  · exact Or.inr (Or.inl (Int32.toInt_inj.1 h1))
  · exact Or.inr (Or.inr (Or.inl (Int32.toInt_inj.1 h1)))
  · exact Or.inr (Or.inr (Or.inr (Or.inl (Int32.toInt_inj.1 h1))))
  · exact Or.inr (Or.inr (Or.inr (Or.inr (Or.inl (Int32.toInt_inj.1 h1)))))
  · exact Or.inr (Or.inr (Or.inr (Or.inr (Or.inr (Int32.toInt_inj.1 h1)))))
theorem m_saysL (h : MM w m A) {kd q a : Int32} (hkd : 0 ≤ kd.toInt ∧ kd.toInt ≤ 5) (ha : 0 ≤ a.toInt ∧ a.toInt ≤ 5) {k : Int32 → Wd → Prop} (h1 : subK a kd → ∀ b : Int32, ¬ b = -1 → wb_X4_says_92 k w m kd q b) (h2 : ¬ subK a kd → wb_X4_says_92 k w m kd q (-1)) : wl_X4_says_68 k FU w m kd q a := by
  have v : ∀ j : Nat, j < 6 → ∀ (b : Int32), b.toInt = j → ∀ fu, wl_X4_says_68 k (fu + 1) w m kd q b = if b = kd then wb_X4_says_92 k w m kd q b else wl_X4_says_68 k fu w m kd q (abv j) := by
    intro j hj b hb fu
    have hv : vp_in b 6 := vp_iff.2 (by omega)
    have hb1 : ¬ b = -1 := fun e => by rw [e, i_m1] at hb; omega
    have ej : b.toInt.toNat = j := by omega
    rw [wl_X4_says_68_s]
    unfold wb_X4_says_68
    rw [if_neg hb1]
    simp only [h.sh.G423, h.sh.r18, hv, ej, h.sh.ab j hj, true_and]
  have vm : ∀ fu, wl_X4_says_68 k (fu + 1) w m kd q (-1) = wb_X4_says_92 k w m kd q (-1) := fun fu => by
    rw [wl_X4_says_68_s]
    unfold wb_X4_says_68
    rw [if_pos rfl]
  have a0 : abv 0 = -1 := rfl
  have a1 : abv 1 = 0 := rfl
  have a2 : abv 2 = 0 := rfl
  have a3 : abv 3 = 1 := rfl
  have a4 : abv 4 = 2 := rfl
  have a5 : abv 5 = 0 := rfl
  have L0 : ∀ fu, ¬ kd = 0 → wl_X4_says_68 k (fu + 1 + 1) w m kd q 0 = wb_X4_says_92 k w m kd q (-1) := fun fu hn => by rw [v 0 (by decide) 0 rfl, if_neg (fun e => hn e.symm), a0, vm]
  rw [show FU = 995 + 1 + 1 + 1 + 1 + 1 from rfl]
  rcases in6 ha with rfl | rfl | rfl | rfl | rfl | rfl
  · by_cases e : (0 : Int32) = kd
    · rw [v 0 (by decide) 0 rfl, if_pos e]
      exact h1 (Or.inl e) 0 (by decide)
    · rw [L0 _ (fun q => e q.symm)]
      exact h2 (by rintro (q | q | q | q) <;> simp_all)
  · rw [v 1 (by decide) 1 rfl]
    by_cases e : (1 : Int32) = kd
    · rw [if_pos e]; exact h1 (Or.inl e) 1 (by decide)
    · rw [if_neg e, a1]
      by_cases e0 : kd = 0
      · rw [v 0 (by decide) 0 rfl, if_pos e0.symm]; exact h1 (Or.inr (Or.inl e0)) 0 (by decide)
      · rw [L0 _ e0]; exact h2 (by rintro (q | q | q | q) <;> simp_all)
  · rw [v 2 (by decide) 2 rfl]
    by_cases e : (2 : Int32) = kd
    · rw [if_pos e]; exact h1 (Or.inl e) 2 (by decide)
    · rw [if_neg e, a2]
      by_cases e0 : kd = 0
      · rw [v 0 (by decide) 0 rfl, if_pos e0.symm]; exact h1 (Or.inr (Or.inl e0)) 0 (by decide)
      · rw [L0 _ e0]; exact h2 (by rintro (q | q | q | q) <;> simp_all)
  · rw [v 3 (by decide) 3 rfl]
    by_cases e : (3 : Int32) = kd
    · rw [if_pos e]; exact h1 (Or.inl e) 3 (by decide)
    · rw [if_neg e, a3, v 1 (by decide) 1 rfl]
      by_cases e1 : (1 : Int32) = kd
      · rw [if_pos e1]; exact h1 (Or.inr (Or.inr (Or.inl ⟨rfl, e1.symm⟩))) 1 (by decide)
      · rw [if_neg e1, a1]
        by_cases e0 : kd = 0
        · rw [v 0 (by decide) 0 rfl, if_pos e0.symm]; exact h1 (Or.inr (Or.inl e0)) 0 (by decide)
        · rw [L0 _ e0]; exact h2 (by rintro (q | q | q | q) <;> simp_all)
  · rw [v 4 (by decide) 4 rfl]
    by_cases e : (4 : Int32) = kd
    · rw [if_pos e]; exact h1 (Or.inl e) 4 (by decide)
    · rw [if_neg e, a4, v 2 (by decide) 2 rfl]
      by_cases e1 : (2 : Int32) = kd
      · rw [if_pos e1]; exact h1 (Or.inr (Or.inr (Or.inr ⟨rfl, e1.symm⟩))) 2 (by decide)
      · rw [if_neg e1, a2]
        by_cases e0 : kd = 0
        · rw [v 0 (by decide) 0 rfl, if_pos e0.symm]; exact h1 (Or.inr (Or.inl e0)) 0 (by decide)
        · rw [L0 _ e0]; exact h2 (by rintro (q | q | q | q) <;> simp_all)
  · rw [v 5 (by decide) 5 rfl]
    by_cases e : (5 : Int32) = kd
    · rw [if_pos e]; exact h1 (Or.inl e) 5 (by decide)
    · rw [if_neg e, a5]
      by_cases e0 : kd = 0
      · rw [v 0 (by decide) 0 rfl, if_pos e0.symm]; exact h1 (Or.inr (Or.inl e0)) 0 (by decide)
      · rw [L0 _ e0]; exact h2 (by rintro (q | q | q | q) <;> simp_all)
theorem m_says (h : MM w m A) (hN : okN (aN A)) (hA : okS A) (s kd : Int32) {k : Int32 → Wd → Prop} (hk : mR w m (F_says A s kd).2 (k (F_says A s kd).1)) : wp_X4_says w m s kd k := by
  unfold wp_X4_says
  unfold F_says at hk
  rw [m_isShelf]
  by_cases c1 : isS s
  · rw [if_pos c1, if_neg (by decide)]
    simp only [m_isIn, lg_lit, ie_m6_m5, ie_m6_m4, ie_m6_m3, ie_m6_m2, ie_m6_m1, ie_m6_0, ie_m6_1, ie_m6_2, ie_m6_3, ie_m6_4, ie_m6_5, ie_m6_6, ie_m5_m6, ie_m5_m4, ie_m5_m3, ie_m5_m2, ie_m5_m1, ie_m5_0, ie_m5_1, ie_m5_2, ie_m5_3, ie_m5_4, ie_m5_5, ie_m5_6, ie_m4_m6, ie_m4_m5, ie_m4_m3, ie_m4_m2, ie_m4_m1, ie_m4_0, ie_m4_1, ie_m4_2, ie_m4_3, ie_m4_4, ie_m4_5, ie_m4_6, ie_m3_m6, ie_m3_m5, ie_m3_m4, ie_m3_m2, ie_m3_m1, ie_m3_0, ie_m3_1, ie_m3_2, ie_m3_3, ie_m3_4, ie_m3_5, ie_m3_6, ie_m2_m6, ie_m2_m5, ie_m2_m4, ie_m2_m3, ie_m2_m1, ie_m2_0, ie_m2_1, ie_m2_2, ie_m2_3, ie_m2_4, ie_m2_5, ie_m2_6, ie_m1_m6, ie_m1_m5, ie_m1_m4, ie_m1_m3, ie_m1_m2, ie_m1_0, ie_m1_1, ie_m1_2, ie_m1_3, ie_m1_4, ie_m1_5, ie_m1_6, ie_0_m6, ie_0_m5, ie_0_m4, ie_0_m3, ie_0_m2, ie_0_m1, ie_0_1, ie_0_2, ie_0_3, ie_0_4, ie_0_5, ie_0_6, ie_1_m6, ie_1_m5, ie_1_m4, ie_1_m3, ie_1_m2, ie_1_m1, ie_1_0, ie_1_2, ie_1_3, ie_1_4, ie_1_5, ie_1_6, ie_2_m6, ie_2_m5, ie_2_m4, ie_2_m3, ie_2_m2, ie_2_m1, ie_2_0, ie_2_1, ie_2_3, ie_2_4, ie_2_5, ie_2_6, ie_3_m6, ie_3_m5, ie_3_m4, ie_3_m3, ie_3_m2, ie_3_m1, ie_3_0, ie_3_1, ie_3_2, ie_3_4, ie_3_5, ie_3_6, ie_4_m6, ie_4_m5, ie_4_m4, ie_4_m3, ie_4_m2, ie_4_m1, ie_4_0, ie_4_1, ie_4_2, ie_4_3, ie_4_5, ie_4_6, ie_5_m6, ie_5_m5, ie_5_m4, ie_5_m3, ie_5_m2, ie_5_m1, ie_5_0, ie_5_1, ie_5_2, ie_5_3, ie_5_4, ie_5_6, ie_6_m6, ie_6_m5, ie_6_m4, ie_6_m3, ie_6_m2, ie_6_m1, ie_6_0, ie_6_1, ie_6_2, ie_6_3, ie_6_4, ie_6_5, Int32.reduceToInt, Int64.reduceToInt, Int.reduceToNat, Int32.reduceAdd, Int32.reduceSub, Int32.reduceMul, Int32.reduceDiv, Int32.reduceLT, Int32.reduceLE, Int.reduceLE, Int.reduceLT, Int.reduceNeg, Int.reduceAdd, Int.reduceSub, Int.reduceMul, Int.reduceEq, Nat.reduceAdd, Nat.reduceMul, Nat.reduceLT, Nat.reduceEqDiff, true_and, and_true, and_self, false_and, and_false, if_true, if_false, ite_true, ite_false, ↓reduceIte, not_true_eq_false, not_false_eq_true, true_or, or_true, or_false, false_or, Int.cast_ofNat_Int, Int.reduceNatCast]
    by_cases c2 : 0 ≤ kd.toInt ∧ kd.toInt ≤ 5
    · rw [if_pos c2]
      rw [if_pos ⟨c1, c2⟩] at hk
      have hv : vp_in s 8 := vp_iff.2 (by omega)
      have hH := (hA s.toInt.toNat (by omega)).2
      have h1N := hN.1
      simp only [h.sh.G419, h.sh.r14, h.H, hv, true_and]
      generalize aH A s.toInt.toNat = H at *
      by_cases c3 : H = -1
      · rw [if_pos c3] at hk ⊢
        exact ⟨by rw [h.sh.ob]; trivial, m_refuse h (by decide) hk⟩
      · rw [if_neg c3] at hk ⊢
        have hHb : -1 ≤ H.toInt := by
          rcases hH with e | e | e
          · rw [e]; decide
          · omega
          · omega
        have hHc := i_hi H
        have e10 : (H - 10).toInt = H.toInt - 10 := by
          have e : (10 : Int32).toInt = 10 := rfl
          rw [i_sub (by rw [e]; omega), e]
        have g3 : ¬ (10 ≤ H.toInt ∧ subK (aN A (5 * (H.toInt.toNat - 10))) kd) → ∀ q, wb_X4_says_92 k w m kd q (-1) := by
          intro hn q
          rw [if_neg hn] at hk
          unfold wb_X4_says_92
          rw [if_pos rfl]
          exact ⟨by rw [h.sh.ob]; trivial, m_refuse h (by decide) hk⟩
        by_cases c4 : 10 ≤ H.toInt
        · rw [if_pos (by rw [i_le, i_0]; omega)]
          have hp8 : 0 ≤ (H - 10).toInt ∧ (H - 10).toInt < 8 := by
            rcases hH with e | e | e
            · exact absurd e c3
            · omega
            · omega
          have hpP : isP (aN A) (H - 10) := by
            unfold isP
            rcases hH with e | e | e
            · exact absurd e c3
            · omega
            · omega
          have eN : (H - 10).toInt.toNat = H.toInt.toNat - 10 := by omega
          have hq := hN.2.2.2.2 _ (isP_nat hpP)
          rw [eN] at hq
          refine ⟨by rw [h.sh.ob]; trivial, ?_⟩
          rw [m_kind h hp8, eN]
          refine m_saysL h c2 (by have := hq.1; omega) (fun hs b hb => ?_) (fun hs => g3 (fun q => hs q.2) _)
          rw [if_pos ⟨c4, hs⟩] at hk
          unfold wb_X4_says_92
          rw [if_neg hb]
          by_cases e0 : kd = 0
          · rw [if_pos e0] at hk ⊢
            refine ⟨by rw [h.sh.ob]; trivial, ?_⟩
            rw [m_a h hp8, eN]
            exact hk.self h
          · rw [if_neg e0] at hk ⊢
            simp only [h.sh.ob, m_cell h hp8, m_faces h hp8, eN, true_and]
            refine m_start h (by decide) _ _ (fun w2 hf2 _ hw2 => ?_)
            have h2 := h.sc (mPw_P hf2)
            refine ⟨by rw [h2.sh.ob]; trivial, m_step h2 hN (i := 0) (by decide) hpP hw2 (okU_beg hN (by rw [← eN]; exact isP_nat hpP)) (show 0 < 1000000 by decide) (Or.inr (Or.inl rfl)) _ (fun w3 hf3 _ hw3 _ => ?_)⟩
            have h3 := h2.sc (mPw_P hf3)
            rw [eN] at hw3
            have b3 : wI w3 (m + 8) 0 = _ := hw3.2.1
            simp only [h3.sh.G412, h3.sh.r8, vp_0 (show 0 < 2 by decide), b3, ie_m6_m5, ie_m6_m4, ie_m6_m3, ie_m6_m2, ie_m6_m1, ie_m6_0, ie_m6_1, ie_m6_2, ie_m6_3, ie_m6_4, ie_m6_5, ie_m6_6, ie_m5_m6, ie_m5_m4, ie_m5_m3, ie_m5_m2, ie_m5_m1, ie_m5_0, ie_m5_1, ie_m5_2, ie_m5_3, ie_m5_4, ie_m5_5, ie_m5_6, ie_m4_m6, ie_m4_m5, ie_m4_m3, ie_m4_m2, ie_m4_m1, ie_m4_0, ie_m4_1, ie_m4_2, ie_m4_3, ie_m4_4, ie_m4_5, ie_m4_6, ie_m3_m6, ie_m3_m5, ie_m3_m4, ie_m3_m2, ie_m3_m1, ie_m3_0, ie_m3_1, ie_m3_2, ie_m3_3, ie_m3_4, ie_m3_5, ie_m3_6, ie_m2_m6, ie_m2_m5, ie_m2_m4, ie_m2_m3, ie_m2_m1, ie_m2_0, ie_m2_1, ie_m2_2, ie_m2_3, ie_m2_4, ie_m2_5, ie_m2_6, ie_m1_m6, ie_m1_m5, ie_m1_m4, ie_m1_m3, ie_m1_m2, ie_m1_0, ie_m1_1, ie_m1_2, ie_m1_3, ie_m1_4, ie_m1_5, ie_m1_6, ie_0_m6, ie_0_m5, ie_0_m4, ie_0_m3, ie_0_m2, ie_0_m1, ie_0_1, ie_0_2, ie_0_3, ie_0_4, ie_0_5, ie_0_6, ie_1_m6, ie_1_m5, ie_1_m4, ie_1_m3, ie_1_m2, ie_1_m1, ie_1_0, ie_1_2, ie_1_3, ie_1_4, ie_1_5, ie_1_6, ie_2_m6, ie_2_m5, ie_2_m4, ie_2_m3, ie_2_m2, ie_2_m1, ie_2_0, ie_2_1, ie_2_3, ie_2_4, ie_2_5, ie_2_6, ie_3_m6, ie_3_m5, ie_3_m4, ie_3_m3, ie_3_m2, ie_3_m1, ie_3_0, ie_3_1, ie_3_2, ie_3_4, ie_3_5, ie_3_6, ie_4_m6, ie_4_m5, ie_4_m4, ie_4_m3, ie_4_m2, ie_4_m1, ie_4_0, ie_4_1, ie_4_2, ie_4_3, ie_4_5, ie_4_6, ie_5_m6, ie_5_m5, ie_5_m4, ie_5_m3, ie_5_m2, ie_5_m1, ie_5_0, ie_5_1, ie_5_2, ie_5_3, ie_5_4, ie_5_6, ie_6_m6, ie_6_m5, ie_6_m4, ie_6_m3, ie_6_m2, ie_6_m1, ie_6_0, ie_6_1, ie_6_2, ie_6_3, ie_6_4, ie_6_5, Int32.reduceToInt, Int64.reduceToInt, Int.reduceToNat, Int32.reduceAdd, Int32.reduceSub, Int32.reduceMul, Int32.reduceDiv, Int32.reduceLT, Int32.reduceLE, Int.reduceLE, Int.reduceLT, Int.reduceNeg, Int.reduceAdd, Int.reduceSub, Int.reduceMul, Int.reduceEq, Nat.reduceAdd, Nat.reduceMul, Nat.reduceLT, Nat.reduceEqDiff, true_and, and_true, and_self, false_and, and_false, if_true, if_false, ite_true, ite_false, ↓reduceIte, not_true_eq_false, not_false_eq_true, true_or, or_true, or_false, false_or, Int.cast_ofNat_Int, Int.reduceNatCast]
            exact hk w3 h3 (mPw_Q (hf2.trans hf3))
        · rw [if_neg (by rw [i_le, i_0]; omega)]
          rw [show FU = 999 + 1 from rfl, wl_X4_says_68_s]
          unfold wb_X4_says_68
          rw [if_pos rfl]
          exact g3 (fun q => c4 q.1) _
    · rw [if_neg c2]
      rw [if_neg (fun q => c2 q.2)] at hk
      exact ⟨by rw [h.sh.ob]; trivial, m_refuse h (by decide) hk⟩
  · rw [if_neg c1, if_pos rfl]
    rw [if_neg (fun q => c1 q.1)] at hk
    exact ⟨by rw [h.sh.ob]; trivial, m_refuse h (by decide) hk⟩
end MROW
