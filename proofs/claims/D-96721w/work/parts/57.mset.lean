/-! ===== the island as it is told, of the reference ===== -/
section MSET
variable {w : Wd} {m : Nat} {A : Ab}
/-- whether somebody is in a cell -/
abbrev smb (N : Nw) (c : Int32) : Prop := ¬ ∀ p : Nat, p < pe N → ¬ N (5 * p + 2) = c
theorem m_isSomebody (h : MM w m A) (hP : okP (aN A)) (c : Int32) {k : Int32 → Wd → Prop} (hk : k (if smb (aN A) c then 1 else 0) w) : wp_X4_isSomebody w m c k := by
  have h8 := hP.2
  unfold wp_X4_isSomebody
  refine loopN (n := pe (aN A)) (I := fun j w2 => w2 = w) (L := fun fu j w2 => wl_X4_isSomebody_4 k fu w2 m c (if ¬ ∀ p : Nat, p < j → ¬ aN A (5 * p + 2) = c then 1 else 0) (Int32.ofNat j)) ?_ ?_ (pe (aN A)) FU 0 w (by omega) (by unfold FU; omega) rfl
  · rintro fu j w2 hj rfl ih
    have hj8 : 0 ≤ (Int32.ofNat j).toInt ∧ (Int32.ofNat j).toInt < 8 := by rw [i_ti (by omega)]; omega
    rw [wl_X4_isSomebody_4_s]
    unfold wb_X4_isSomebody_4
    refine ⟨by rw [h.sh.ob]; trivial, ?_⟩
    rw [m_many h, if_neg (by rw [hP.le (by omega)]; omega)]
    have ih' := ih _ rfl
    rw [i_ofS]
    by_cases e : ∀ p : Nat, p < j → ¬ aN A (5 * p + 2) = c
    · have e0 : (if ¬ ∀ p : Nat, p < j → ¬ aN A (5 * p + 2) = c then (1 : Int32) else 0) = 0 := if_neg (fun q => q e)
      rw [e0, if_pos rfl]
      refine ⟨by rw [h.sh.ob]; trivial, ?_⟩
      rw [m_cell h hj8, i_tt (by omega)]
      by_cases e2 : aN A (5 * j + 2) = c
      · rw [if_pos e2]
        rwa [if_pos (fun q => q j (by omega) e2)] at ih'
      · rw [if_neg e2]
        rwa [if_neg (fun q => q (fun p hp => by
          by_cases hpj : p = j
          · rw [hpj]; exact e2
          · exact e p (by omega)))] at ih'
    · have e0 : (if ¬ ∀ p : Nat, p < j → ¬ aN A (5 * p + 2) = c then (1 : Int32) else 0) = 1 := if_pos e
      rw [e0, if_neg (by decide)]
      rwa [if_pos (fun q => e (fun p hp => q p (by omega)))] at ih'
  · rintro fu w2 rfl
    rw [wl_X4_isSomebody_4_s]
    unfold wb_X4_isSomebody_4
    refine ⟨by rw [h.sh.ob]; trivial, ?_⟩
    rw [m_many h, if_pos (by rw [hP.le (by omega)]; omega)]
    refine ⟨?_, hk⟩
    by_cases e : smb (aN A) c
    · rw [if_pos e]; exact of_eq_true nar_1
    · rw [if_neg e]; exact of_eq_true nar_0
theorem frR {w0 : Wd} {a k : Nat} {v : Int32} (h : fr (mQ m) w0 w) (ha : m ≤ a ∧ a < m + 21) : fr (mQ m) w0 (sI w a k v) := h.sI (fun _ => ha)
theorem frF {w0 : Wd} {k : Nat} {v : Int32} (h : fr (mQ m) w0 w) : fr (mQ m) w0 (sF w m k v) := h.sF (fun _ => by unfold mQ; omega)
theorem v90 : vp_in 90 97 := vp_iff.2 (by decide)
theorem v91 : vp_in 91 97 := vp_iff.2 (by decide)
def F_side (A : Ab) (n : Int32) : Int32 × Ab := if (aN A 90).toInt ≤ n.toInt ∧ n.toInt ≤ 7 then (aN A 90, zN A (up1 (aN A) 90 n)) else rf A (-2)
theorem m_side (h : MM w m A) (n : Int32) {k : Int32 → Wd → Prop} (hk : mR w m (F_side A n).2 (k (F_side A n).1)) : wp_X4_side w m n k := by
  unfold wp_X4_side
  unfold F_side at hk
  simp only [h.sh.G401, h.sh.r2, h.sh.w2, h.N, v90, m_isIn, lg_lit, ie_m6_m5, ie_m6_m4, ie_m6_m3, ie_m6_m2, ie_m6_m1, ie_m6_0, ie_m6_1, ie_m6_2, ie_m6_3, ie_m6_4, ie_m6_5, ie_m6_6, ie_m5_m6, ie_m5_m4, ie_m5_m3, ie_m5_m2, ie_m5_m1, ie_m5_0, ie_m5_1, ie_m5_2, ie_m5_3, ie_m5_4, ie_m5_5, ie_m5_6, ie_m4_m6, ie_m4_m5, ie_m4_m3, ie_m4_m2, ie_m4_m1, ie_m4_0, ie_m4_1, ie_m4_2, ie_m4_3, ie_m4_4, ie_m4_5, ie_m4_6, ie_m3_m6, ie_m3_m5, ie_m3_m4, ie_m3_m2, ie_m3_m1, ie_m3_0, ie_m3_1, ie_m3_2, ie_m3_3, ie_m3_4, ie_m3_5, ie_m3_6, ie_m2_m6, ie_m2_m5, ie_m2_m4, ie_m2_m3, ie_m2_m1, ie_m2_0, ie_m2_1, ie_m2_2, ie_m2_3, ie_m2_4, ie_m2_5, ie_m2_6, ie_m1_m6, ie_m1_m5, ie_m1_m4, ie_m1_m3, ie_m1_m2, ie_m1_0, ie_m1_1, ie_m1_2, ie_m1_3, ie_m1_4, ie_m1_5, ie_m1_6, ie_0_m6, ie_0_m5, ie_0_m4, ie_0_m3, ie_0_m2, ie_0_m1, ie_0_1, ie_0_2, ie_0_3, ie_0_4, ie_0_5, ie_0_6, ie_1_m6, ie_1_m5, ie_1_m4, ie_1_m3, ie_1_m2, ie_1_m1, ie_1_0, ie_1_2, ie_1_3, ie_1_4, ie_1_5, ie_1_6, ie_2_m6, ie_2_m5, ie_2_m4, ie_2_m3, ie_2_m2, ie_2_m1, ie_2_0, ie_2_1, ie_2_3, ie_2_4, ie_2_5, ie_2_6, ie_3_m6, ie_3_m5, ie_3_m4, ie_3_m3, ie_3_m2, ie_3_m1, ie_3_0, ie_3_1, ie_3_2, ie_3_4, ie_3_5, ie_3_6, ie_4_m6, ie_4_m5, ie_4_m4, ie_4_m3, ie_4_m2, ie_4_m1, ie_4_0, ie_4_1, ie_4_2, ie_4_3, ie_4_5, ie_4_6, ie_5_m6, ie_5_m5, ie_5_m4, ie_5_m3, ie_5_m2, ie_5_m1, ie_5_0, ie_5_1, ie_5_2, ie_5_3, ie_5_4, ie_5_6, ie_6_m6, ie_6_m5, ie_6_m4, ie_6_m3, ie_6_m2, ie_6_m1, ie_6_0, ie_6_1, ie_6_2, ie_6_3, ie_6_4, ie_6_5, Int32.reduceToInt, Int64.reduceToInt, Int.reduceToNat, Int32.reduceAdd, Int32.reduceSub, Int32.reduceMul, Int32.reduceDiv, Int32.reduceLT, Int32.reduceLE, Int.reduceLE, Int.reduceLT, Int.reduceNeg, Int.reduceAdd, Int.reduceSub, Int.reduceMul, Int.reduceEq, Nat.reduceAdd, Nat.reduceMul, Nat.reduceLT, Nat.reduceEqDiff, true_and, and_true, and_self, false_and, and_false, if_true, if_false, ite_true, ite_false, ↓reduceIte, not_true_eq_false, not_false_eq_true, true_or, or_true, or_false, false_or, Int.cast_ofNat_Int, Int.reduceNatCast]
  by_cases c : (aN A 90).toInt ≤ n.toInt ∧ n.toInt ≤ 7
  · rw [if_pos c] at hk ⊢
    exact hk _ (h.wN 90 n) (frN (fr.refl _ _))
  · rw [if_neg c] at hk ⊢
    exact ⟨by rw [h.sh.ob]; trivial, m_refuse h (by decide) hk⟩
theorem m_patw (h : MM w m A) (hN : okN (aN A)) {c : Int32} (hc : isC (aN A 90) c) (v : Int32) (K : Wd → Prop) : wst w (some (m + 2)) 0 ((40 + (7 * (c / 10))) + (c - c / 10 * 10)) v K = K (sI w (m + 2) (pat c) v) := by
  have e1 := i_pat hN.side hc
  have e2 := pat_b hN.side hc
  rw [h.sh.w2, vp_iff, e1]
  exact propext ⟨fun h => h.2, fun h => ⟨by omega, h⟩⟩
theorem m_patr (h : MM w m A) (hN : okN (aN A)) {c : Int32} (hc : isC (aN A 90) c) (K : Int32 → Prop) : wld w (some (m + 2)) 0 ((40 + (7 * (c / 10))) + (c - c / 10 * 10)) K = K (pnd (aN A) c) := by
  have e1 := i_pat hN.side hc
  have e2 := pat_b hN.side hc
  rw [h.sh.r2, vp_iff, e1, h.N]
  exact propext ⟨fun h => h.2, fun h => ⟨by omega, h⟩⟩
def F_pond (A : Ab) (c is : Int32) : Int32 × Ab := if isC (aN A 90) c then (if ¬ is = 0 ∧ smb (aN A) c then rf A (-5) else (pnd (aN A) c, zN A (up1 (aN A) (pat c) (if is = 0 then 0 else 1)))) else rf A (-2)
theorem m_pond (h : MM w m A) (hN : okN (aN A)) (c is : Int32) {k : Int32 → Wd → Prop} (hk : mR w m (F_pond A c is).2 (k (F_pond A c is).1)) : wp_X4_pond w m c is k := by
  unfold wp_X4_pond
  unfold F_pond at hk
  refine ⟨by rw [h.sh.ob]; trivial, ?_⟩
  rw [m_isCell h]
  by_cases hc : isC (aN A 90) c
  · rw [if_pos hc, if_neg (by decide)]
    rw [if_pos hc] at hk
    have g34 : (¬ is = 0 ∧ smb (aN A) c → False) → wb_X4_pond_34 k w m c is := by
      intro hn
      rw [if_neg hn] at hk
      unfold wb_X4_pond_34 wp_X4_pondAt
      simp only [h.sh.G401, m_patr h hN hc, m_patw h hN hc]
      by_cases e : is = 0
      · rw [if_pos e] at hk ⊢
        exact hk _ (h.wN _ _) (frN (fr.refl _ _))
      · rw [if_neg e] at hk ⊢
        exact hk _ (h.wN _ _) (frN (fr.refl _ _))
    by_cases e : is = 0
    · rw [if_pos e]
      exact g34 (fun q => q.1 e)
    · rw [if_neg e]
      refine ⟨by rw [h.sh.ob]; trivial, m_isSomebody h hN.P c ?_⟩
      by_cases e2 : smb (aN A) c
      · rw [if_pos e2, if_neg (by decide)]
        rw [if_pos ⟨e, e2⟩] at hk
        exact ⟨by rw [h.sh.ob]; trivial, m_refuse h (by decide) hk⟩
      · rw [if_neg e2, if_pos rfl]
        exact g34 (fun q => e2 q.2)
  · rw [if_neg hc, if_pos rfl]
    rw [if_neg hc] at hk
    exact ⟨by rw [h.sh.ob]; trivial, m_refuse h (by decide) hk⟩
def addN (N : Nw) (kd a c f : Int32) : Nw := up1 (up1 (up1 (up1 (up1 (up1 N (5 * pe N) kd) (5 * pe N + 1) a) (5 * pe N + 2) c) (5 * pe N + 3) f) (5 * pe N + 4) 0) 89 (N 89 + 1)
theorem m_wr (h : MM w m A) {p d : Int32} {P D : Nat} (hp : p.toInt = P) (hP : P < 8) (hd : d.toInt = D) (hD : D < 5) (v : Int32) (K : Wd → Prop) : wst w (some (m + 2)) 0 (5 * p + d) v K = K (sI w (m + 2) (5 * P + D) v) := by
  have e1 : (5 * p + d).toInt = ((5 * P + D : Nat) : Int) := by rw [i_5 (by omega) (by omega), hp, hd]; omega
  rw [h.sh.w2, vp_iff, e1]
  exact propext ⟨fun h => h.2, fun h => ⟨by omega, h⟩⟩
theorem m_wr0 (h : MM w m A) {p : Int32} {P : Nat} (hp : p.toInt = P) (hP : P < 8) (v : Int32) (K : Wd → Prop) : wst w (some (m + 2)) 0 (5 * p) v K = K (sI w (m + 2) (5 * P) v) := by
  have e1 : (5 * p).toInt = ((5 * P : Nat) : Int) := by rw [i_5z (by omega), hp]; omega
  rw [h.sh.w2, vp_iff, e1]
  exact propext ⟨fun h => h.2, fun h => ⟨by omega, h⟩⟩
theorem m_add (h : MM w m A) (hP : okP (aN A)) (h8 : pe (aN A) < 8) (kd a c f : Int32) {k : Int32 → Wd → Prop} (hk : mR w m (zN A (addN (aN A) kd a c f)) (k (aN A 89))) : wp_X4_add w m kd a c f k := by
  have v89 : vp_in 89 97 := vp_iff.2 (by decide)
  have e89 : (aN A 89).toInt = pe (aN A) := hP.1
  unfold wp_X4_add
  simp only [h.sh.G401, h.sh.r2, h.N, v89, m_wr0 h e89 h8, ie_m6_m5, ie_m6_m4, ie_m6_m3, ie_m6_m2, ie_m6_m1, ie_m6_0, ie_m6_1, ie_m6_2, ie_m6_3, ie_m6_4, ie_m6_5, ie_m6_6, ie_m5_m6, ie_m5_m4, ie_m5_m3, ie_m5_m2, ie_m5_m1, ie_m5_0, ie_m5_1, ie_m5_2, ie_m5_3, ie_m5_4, ie_m5_5, ie_m5_6, ie_m4_m6, ie_m4_m5, ie_m4_m3, ie_m4_m2, ie_m4_m1, ie_m4_0, ie_m4_1, ie_m4_2, ie_m4_3, ie_m4_4, ie_m4_5, ie_m4_6, ie_m3_m6, ie_m3_m5, ie_m3_m4, ie_m3_m2, ie_m3_m1, ie_m3_0, ie_m3_1, ie_m3_2, ie_m3_3, ie_m3_4, ie_m3_5, ie_m3_6, ie_m2_m6, ie_m2_m5, ie_m2_m4, ie_m2_m3, ie_m2_m1, ie_m2_0, ie_m2_1, ie_m2_2, ie_m2_3, ie_m2_4, ie_m2_5, ie_m2_6, ie_m1_m6, ie_m1_m5, ie_m1_m4, ie_m1_m3, ie_m1_m2, ie_m1_0, ie_m1_1, ie_m1_2, ie_m1_3, ie_m1_4, ie_m1_5, ie_m1_6, ie_0_m6, ie_0_m5, ie_0_m4, ie_0_m3, ie_0_m2, ie_0_m1, ie_0_1, ie_0_2, ie_0_3, ie_0_4, ie_0_5, ie_0_6, ie_1_m6, ie_1_m5, ie_1_m4, ie_1_m3, ie_1_m2, ie_1_m1, ie_1_0, ie_1_2, ie_1_3, ie_1_4, ie_1_5, ie_1_6, ie_2_m6, ie_2_m5, ie_2_m4, ie_2_m3, ie_2_m2, ie_2_m1, ie_2_0, ie_2_1, ie_2_3, ie_2_4, ie_2_5, ie_2_6, ie_3_m6, ie_3_m5, ie_3_m4, ie_3_m3, ie_3_m2, ie_3_m1, ie_3_0, ie_3_1, ie_3_2, ie_3_4, ie_3_5, ie_3_6, ie_4_m6, ie_4_m5, ie_4_m4, ie_4_m3, ie_4_m2, ie_4_m1, ie_4_0, ie_4_1, ie_4_2, ie_4_3, ie_4_5, ie_4_6, ie_5_m6, ie_5_m5, ie_5_m4, ie_5_m3, ie_5_m2, ie_5_m1, ie_5_0, ie_5_1, ie_5_2, ie_5_3, ie_5_4, ie_5_6, ie_6_m6, ie_6_m5, ie_6_m4, ie_6_m3, ie_6_m2, ie_6_m1, ie_6_0, ie_6_1, ie_6_2, ie_6_3, ie_6_4, ie_6_5, Int32.reduceToInt, Int64.reduceToInt, Int.reduceToNat, Int32.reduceAdd, Int32.reduceSub, Int32.reduceMul, Int32.reduceDiv, Int32.reduceLT, Int32.reduceLE, Int.reduceLE, Int.reduceLT, Int.reduceNeg, Int.reduceAdd, Int.reduceSub, Int.reduceMul, Int.reduceEq, Nat.reduceAdd, Nat.reduceMul, Nat.reduceLT, Nat.reduceEqDiff, true_and, and_true, and_self, false_and, and_false, if_true, if_false, ite_true, ite_false, ↓reduceIte, not_true_eq_false, not_false_eq_true, true_or, or_true, or_false, false_or, Int.cast_ofNat_Int, Int.reduceNatCast]
  have h1 := h.wN (5 * pe (aN A)) kd
  simp only [h1.sh.G401, m_wr h1 e89 h8 (show (1 : Int32).toInt = ((1 : Nat) : Int) from rfl) (by decide)]
  have h2 := h1.wN (5 * pe (aN A) + 1) a
  simp only [h2.sh.G401, m_wr h2 e89 h8 (show (2 : Int32).toInt = ((2 : Nat) : Int) from rfl) (by decide)]
  have h3 := h2.wN (5 * pe (aN A) + 2) c
  simp only [h3.sh.G401, m_wr h3 e89 h8 (show (3 : Int32).toInt = ((3 : Nat) : Int) from rfl) (by decide)]
  have h4 := h3.wN (5 * pe (aN A) + 3) f
  simp only [h4.sh.G401, m_wr h4 e89 h8 (show (4 : Int32).toInt = ((4 : Nat) : Int) from rfl) (by decide)]
  have h5 := h4.wN (5 * pe (aN A) + 4) 0
  have e : wI (sI (sI (sI (sI (sI w (m + 2) (5 * pe (aN A)) kd) (m + 2) (5 * pe (aN A) + 1) a) (m + 2) (5 * pe (aN A) + 2) c) (m + 2) (5 * pe (aN A) + 3) f) (m + 2) (5 * pe (aN A) + 4) 0) (m + 2) 89 = aN A 89 := by
    rw [h5.N]
    simp only [aN_zN, up1_at]
    rw [if_neg (by omega), if_neg (by omega), if_neg (by omega), if_neg (by omega), if_neg (by omega)]
  simp only [h5.sh.G401, h5.sh.r2, h5.sh.w2, v89, e, ie_m6_m5, ie_m6_m4, ie_m6_m3, ie_m6_m2, ie_m6_m1, ie_m6_0, ie_m6_1, ie_m6_2, ie_m6_3, ie_m6_4, ie_m6_5, ie_m6_6, ie_m5_m6, ie_m5_m4, ie_m5_m3, ie_m5_m2, ie_m5_m1, ie_m5_0, ie_m5_1, ie_m5_2, ie_m5_3, ie_m5_4, ie_m5_5, ie_m5_6, ie_m4_m6, ie_m4_m5, ie_m4_m3, ie_m4_m2, ie_m4_m1, ie_m4_0, ie_m4_1, ie_m4_2, ie_m4_3, ie_m4_4, ie_m4_5, ie_m4_6, ie_m3_m6, ie_m3_m5, ie_m3_m4, ie_m3_m2, ie_m3_m1, ie_m3_0, ie_m3_1, ie_m3_2, ie_m3_3, ie_m3_4, ie_m3_5, ie_m3_6, ie_m2_m6, ie_m2_m5, ie_m2_m4, ie_m2_m3, ie_m2_m1, ie_m2_0, ie_m2_1, ie_m2_2, ie_m2_3, ie_m2_4, ie_m2_5, ie_m2_6, ie_m1_m6, ie_m1_m5, ie_m1_m4, ie_m1_m3, ie_m1_m2, ie_m1_0, ie_m1_1, ie_m1_2, ie_m1_3, ie_m1_4, ie_m1_5, ie_m1_6, ie_0_m6, ie_0_m5, ie_0_m4, ie_0_m3, ie_0_m2, ie_0_m1, ie_0_1, ie_0_2, ie_0_3, ie_0_4, ie_0_5, ie_0_6, ie_1_m6, ie_1_m5, ie_1_m4, ie_1_m3, ie_1_m2, ie_1_m1, ie_1_0, ie_1_2, ie_1_3, ie_1_4, ie_1_5, ie_1_6, ie_2_m6, ie_2_m5, ie_2_m4, ie_2_m3, ie_2_m2, ie_2_m1, ie_2_0, ie_2_1, ie_2_3, ie_2_4, ie_2_5, ie_2_6, ie_3_m6, ie_3_m5, ie_3_m4, ie_3_m3, ie_3_m2, ie_3_m1, ie_3_0, ie_3_1, ie_3_2, ie_3_4, ie_3_5, ie_3_6, ie_4_m6, ie_4_m5, ie_4_m4, ie_4_m3, ie_4_m2, ie_4_m1, ie_4_0, ie_4_1, ie_4_2, ie_4_3, ie_4_5, ie_4_6, ie_5_m6, ie_5_m5, ie_5_m4, ie_5_m3, ie_5_m2, ie_5_m1, ie_5_0, ie_5_1, ie_5_2, ie_5_3, ie_5_4, ie_5_6, ie_6_m6, ie_6_m5, ie_6_m4, ie_6_m3, ie_6_m2, ie_6_m1, ie_6_0, ie_6_1, ie_6_2, ie_6_3, ie_6_4, ie_6_5, Int32.reduceToInt, Int64.reduceToInt, Int.reduceToNat, Int32.reduceAdd, Int32.reduceSub, Int32.reduceMul, Int32.reduceDiv, Int32.reduceLT, Int32.reduceLE, Int.reduceLE, Int.reduceLT, Int.reduceNeg, Int.reduceAdd, Int.reduceSub, Int.reduceMul, Int.reduceEq, Nat.reduceAdd, Nat.reduceMul, Nat.reduceLT, Nat.reduceEqDiff, true_and, and_true, and_self, false_and, and_false, if_true, if_false, ite_true, ite_false, ↓reduceIte, not_true_eq_false, not_false_eq_true, true_or, or_true, or_false, false_or, Int.cast_ofNat_Int, Int.reduceNatCast]
  have h6 := h5.wN 89 (aN A 89 + 1)
  simp only [aN_zN, zN_zN] at h6
  exact hk _ h6 (frN (frN (frN (frN (frN (frN (fr.refl _ _)))))))
def F_person (A : Ab) (kd a c f : Int32) : Int32 × Ab := if (0 ≤ kd.toInt ∧ kd.toInt ≤ 5) ∧ (0 ≤ a.toInt ∧ a.toInt ≤ 9) ∧ isC (aN A 90) c ∧ okF f then (if pnd (aN A) c = 1 then rf A (-5) else if pe (aN A) = 8 then rf A (-6) else (aN A 89, zN A (addN (aN A) kd a c f))) else rf A (-2)
theorem m_person (h : MM w m A) (hN : okN (aN A)) (kd a c f : Int32) {k : Int32 → Wd → Prop} (hk : mR w m (F_person A kd a c f).2 (k (F_person A kd a c f).1)) : wp_X4_person w m kd a c f k := by
  unfold wp_X4_person
  unfold F_person at hk
  simp only [m_isIn, lg_lit, ie_m6_m5, ie_m6_m4, ie_m6_m3, ie_m6_m2, ie_m6_m1, ie_m6_0, ie_m6_1, ie_m6_2, ie_m6_3, ie_m6_4, ie_m6_5, ie_m6_6, ie_m5_m6, ie_m5_m4, ie_m5_m3, ie_m5_m2, ie_m5_m1, ie_m5_0, ie_m5_1, ie_m5_2, ie_m5_3, ie_m5_4, ie_m5_5, ie_m5_6, ie_m4_m6, ie_m4_m5, ie_m4_m3, ie_m4_m2, ie_m4_m1, ie_m4_0, ie_m4_1, ie_m4_2, ie_m4_3, ie_m4_4, ie_m4_5, ie_m4_6, ie_m3_m6, ie_m3_m5, ie_m3_m4, ie_m3_m2, ie_m3_m1, ie_m3_0, ie_m3_1, ie_m3_2, ie_m3_3, ie_m3_4, ie_m3_5, ie_m3_6, ie_m2_m6, ie_m2_m5, ie_m2_m4, ie_m2_m3, ie_m2_m1, ie_m2_0, ie_m2_1, ie_m2_2, ie_m2_3, ie_m2_4, ie_m2_5, ie_m2_6, ie_m1_m6, ie_m1_m5, ie_m1_m4, ie_m1_m3, ie_m1_m2, ie_m1_0, ie_m1_1, ie_m1_2, ie_m1_3, ie_m1_4, ie_m1_5, ie_m1_6, ie_0_m6, ie_0_m5, ie_0_m4, ie_0_m3, ie_0_m2, ie_0_m1, ie_0_1, ie_0_2, ie_0_3, ie_0_4, ie_0_5, ie_0_6, ie_1_m6, ie_1_m5, ie_1_m4, ie_1_m3, ie_1_m2, ie_1_m1, ie_1_0, ie_1_2, ie_1_3, ie_1_4, ie_1_5, ie_1_6, ie_2_m6, ie_2_m5, ie_2_m4, ie_2_m3, ie_2_m2, ie_2_m1, ie_2_0, ie_2_1, ie_2_3, ie_2_4, ie_2_5, ie_2_6, ie_3_m6, ie_3_m5, ie_3_m4, ie_3_m3, ie_3_m2, ie_3_m1, ie_3_0, ie_3_1, ie_3_2, ie_3_4, ie_3_5, ie_3_6, ie_4_m6, ie_4_m5, ie_4_m4, ie_4_m3, ie_4_m2, ie_4_m1, ie_4_0, ie_4_1, ie_4_2, ie_4_3, ie_4_5, ie_4_6, ie_5_m6, ie_5_m5, ie_5_m4, ie_5_m3, ie_5_m2, ie_5_m1, ie_5_0, ie_5_1, ie_5_2, ie_5_3, ie_5_4, ie_5_6, ie_6_m6, ie_6_m5, ie_6_m4, ie_6_m3, ie_6_m2, ie_6_m1, ie_6_0, ie_6_1, ie_6_2, ie_6_3, ie_6_4, ie_6_5, Int32.reduceToInt, Int64.reduceToInt, Int.reduceToNat, Int32.reduceAdd, Int32.reduceSub, Int32.reduceMul, Int32.reduceDiv, Int32.reduceLT, Int32.reduceLE, Int.reduceLE, Int.reduceLT, Int.reduceNeg, Int.reduceAdd, Int.reduceSub, Int.reduceMul, Int.reduceEq, Nat.reduceAdd, Nat.reduceMul, Nat.reduceLT, Nat.reduceEqDiff, true_and, and_true, and_self, false_and, and_false, if_true, if_false, ite_true, ite_false, ↓reduceIte, not_true_eq_false, not_false_eq_true, true_or, or_true, or_false, false_or, Int.cast_ofNat_Int, Int.reduceNatCast]
  by_cases c1 : 0 ≤ kd.toInt ∧ kd.toInt ≤ 5
  · rw [if_pos c1]
    by_cases c2 : 0 ≤ a.toInt ∧ a.toInt ≤ 9
    · rw [if_pos c2]
      refine ⟨by rw [h.sh.ob]; trivial, ?_⟩
      rw [m_isCell h]
      by_cases c3 : isC (aN A 90) c
      · rw [if_pos c3, if_neg (by decide)]
        by_cases c4 : okF f
        · rw [if_pos (by unfold okF at c4; omega)]
          rw [if_pos ⟨c1, c2, c3, c4⟩] at hk
          refine ⟨by rw [h.sh.ob]; trivial, ?_⟩
          rw [m_hasPond h hN c3]
          by_cases c5 : pnd (aN A) c = 1
          · rw [if_pos c5, if_neg (by decide)]
            rw [if_pos c5] at hk
            exact ⟨by rw [h.sh.ob]; trivial, m_refuse h (by decide) hk⟩
          · rw [if_neg c5, if_pos rfl]
            rw [if_neg c5] at hk
            refine ⟨by rw [h.sh.ob]; trivial, ?_⟩
            rw [m_many h]
            have e8 : aN A 89 = 8 ↔ pe (aN A) = 8 := by rw [i_eq, hN.peI]; show (pe (aN A) : Int) = 8 ↔ _; omega
            by_cases c6 : pe (aN A) = 8
            · rw [if_pos (e8.2 c6)]
              rw [if_pos c6] at hk
              exact ⟨by rw [h.sh.ob]; trivial, m_refuse h (by decide) hk⟩
            · rw [if_neg (fun q => c6 (e8.1 q))]
              rw [if_neg c6] at hk
              have := hN.pe8
              exact ⟨by rw [h.sh.ob]; trivial, m_add h hN.P (by omega) kd a c f hk⟩
        · rw [if_neg (by unfold okF at c4; omega)]
          rw [if_neg (fun q => c4 q.2.2.2)] at hk
          exact ⟨by rw [h.sh.ob]; trivial, m_refuse h (by decide) hk⟩
      · rw [if_neg c3, if_pos rfl]
        rw [if_neg (fun q => c3 q.2.2.1)] at hk
        exact ⟨by rw [h.sh.ob]; trivial, m_refuse h (by decide) hk⟩
    · rw [if_neg c2]
      rw [if_neg (fun q => c2 q.2.1)] at hk
      exact ⟨by rw [h.sh.ob]; trivial, m_refuse h (by decide) hk⟩
  · rw [if_neg c1]
    rw [if_neg (fun q => c1 q.1)] at hk
    exact ⟨by rw [h.sh.ob]; trivial, m_refuse h (by decide) hk⟩
def F_tell (A : Ab) (t v : Int32) : Int32 × Ab := if (0 ≤ t.toInt ∧ t.toInt ≤ 2) ∧ 0 ≤ v.toInt ∧ v.toInt ≤ (if t = 2 then 12 else 1) then (aN A (91 + t.toInt.toNat), zN A (up1 (aN A) (91 + t.toInt.toNat) v)) else rf A (-2)
theorem m_tell (h : MM w m A) (t v : Int32) {k : Int32 → Wd → Prop} (hk : mR w m (F_tell A t v).2 (k (F_tell A t v).1)) : wp_X4_tell w m t v k := by
  unfold wp_X4_tell
  unfold F_tell at hk
  simp only [m_isIn, lg_lit, ie_m6_m5, ie_m6_m4, ie_m6_m3, ie_m6_m2, ie_m6_m1, ie_m6_0, ie_m6_1, ie_m6_2, ie_m6_3, ie_m6_4, ie_m6_5, ie_m6_6, ie_m5_m6, ie_m5_m4, ie_m5_m3, ie_m5_m2, ie_m5_m1, ie_m5_0, ie_m5_1, ie_m5_2, ie_m5_3, ie_m5_4, ie_m5_5, ie_m5_6, ie_m4_m6, ie_m4_m5, ie_m4_m3, ie_m4_m2, ie_m4_m1, ie_m4_0, ie_m4_1, ie_m4_2, ie_m4_3, ie_m4_4, ie_m4_5, ie_m4_6, ie_m3_m6, ie_m3_m5, ie_m3_m4, ie_m3_m2, ie_m3_m1, ie_m3_0, ie_m3_1, ie_m3_2, ie_m3_3, ie_m3_4, ie_m3_5, ie_m3_6, ie_m2_m6, ie_m2_m5, ie_m2_m4, ie_m2_m3, ie_m2_m1, ie_m2_0, ie_m2_1, ie_m2_2, ie_m2_3, ie_m2_4, ie_m2_5, ie_m2_6, ie_m1_m6, ie_m1_m5, ie_m1_m4, ie_m1_m3, ie_m1_m2, ie_m1_0, ie_m1_1, ie_m1_2, ie_m1_3, ie_m1_4, ie_m1_5, ie_m1_6, ie_0_m6, ie_0_m5, ie_0_m4, ie_0_m3, ie_0_m2, ie_0_m1, ie_0_1, ie_0_2, ie_0_3, ie_0_4, ie_0_5, ie_0_6, ie_1_m6, ie_1_m5, ie_1_m4, ie_1_m3, ie_1_m2, ie_1_m1, ie_1_0, ie_1_2, ie_1_3, ie_1_4, ie_1_5, ie_1_6, ie_2_m6, ie_2_m5, ie_2_m4, ie_2_m3, ie_2_m2, ie_2_m1, ie_2_0, ie_2_1, ie_2_3, ie_2_4, ie_2_5, ie_2_6, ie_3_m6, ie_3_m5, ie_3_m4, ie_3_m3, ie_3_m2, ie_3_m1, ie_3_0, ie_3_1, ie_3_2, ie_3_4, ie_3_5, ie_3_6, ie_4_m6, ie_4_m5, ie_4_m4, ie_4_m3, ie_4_m2, ie_4_m1, ie_4_0, ie_4_1, ie_4_2, ie_4_3, ie_4_5, ie_4_6, ie_5_m6, ie_5_m5, ie_5_m4, ie_5_m3, ie_5_m2, ie_5_m1, ie_5_0, ie_5_1, ie_5_2, ie_5_3, ie_5_4, ie_5_6, ie_6_m6, ie_6_m5, ie_6_m4, ie_6_m3, ie_6_m2, ie_6_m1, ie_6_0, ie_6_1, ie_6_2, ie_6_3, ie_6_4, ie_6_5, Int32.reduceToInt, Int64.reduceToInt, Int.reduceToNat, Int32.reduceAdd, Int32.reduceSub, Int32.reduceMul, Int32.reduceDiv, Int32.reduceLT, Int32.reduceLE, Int.reduceLE, Int.reduceLT, Int.reduceNeg, Int.reduceAdd, Int.reduceSub, Int.reduceMul, Int.reduceEq, Nat.reduceAdd, Nat.reduceMul, Nat.reduceLT, Nat.reduceEqDiff, true_and, and_true, and_self, false_and, and_false, if_true, if_false, ite_true, ite_false, ↓reduceIte, not_true_eq_false, not_false_eq_true, true_or, or_true, or_false, false_or, Int.cast_ofNat_Int, Int.reduceNatCast]
  by_cases c1 : 0 ≤ t.toInt ∧ t.toInt ≤ 2
  · rw [if_pos c1]
    have e1 : (91 + t).toInt = 91 + t.toInt := i_addv rfl rfl (by decide) (by omega)
    have e2 : (91 + t).toInt.toNat = 91 + t.toInt.toNat := by omega
    have hv : vp_in (91 + t) 97 := vp_iff.2 (by omega)
    have g27 : ∀ (lo hi : Int64) (b : Int), lo.toInt = 0 → hi.toInt = b → (if t = 2 then (12 : Int) else 1) = b → wb_X4_tell_27 k w m t v (v.toInt64) lo hi := by
      intro lo hi b hlo hhi hb
      rw [hb] at hk
      unfold wb_X4_tell_27
      rw [m_isIn, lg_lit, hlo, hhi]
      by_cases c2 : 0 ≤ v.toInt ∧ v.toInt ≤ b
      · rw [if_pos c2, if_neg (by decide)]
        rw [if_pos ⟨c1, c2⟩] at hk
        simp only [h.sh.G401, h.sh.r2, h.sh.w2, h.N, hv, e2, true_and]
        exact hk _ (h.wN _ _) (frN (fr.refl _ _))
      · rw [if_neg c2, if_pos rfl]
        rw [if_neg (fun q => c2 q.2)] at hk
        exact ⟨by rw [h.sh.ob]; trivial, m_refuse h (by decide) hk⟩
    by_cases e : t = 2
    · rw [if_pos e]
      exact g27 0 12 12 rfl rfl (if_pos e)
    · rw [if_neg e]
      exact g27 0 1 1 rfl rfl (if_neg e)
  · rw [if_neg c1]
    rw [if_neg (fun q => c1 q.1)] at hk
    exact ⟨by rw [h.sh.ob]; trivial, m_refuse h (by decide) hk⟩
def F_isFor (A : Ab) (p v : Int32) : Int32 × Ab := if isP (aN A) p ∧ 0 ≤ v.toInt ∧ v.toInt ≤ 1 then (aN A (5 * p.toInt.toNat + 4), zN A (up1 (aN A) (5 * p.toInt.toNat + 4) v)) else rf A (-2)
theorem m_isFor (h : MM w m A) (hN : okN (aN A)) (p v : Int32) {k : Int32 → Wd → Prop} (hk : mR w m (F_isFor A p v).2 (k (F_isFor A p v).1)) : wp_X4_isFor w m p v k := by
  unfold wp_X4_isFor
  unfold F_isFor at hk
  refine ⟨by rw [h.sh.ob]; trivial, ?_⟩
  rw [m_isPerson h hN]
  by_cases c1 : isP (aN A) p
  · rw [if_pos c1, if_neg (by decide)]
    have hp8 := isP_8 hN c1
    simp only [m_isIn, lg_lit, ie_m6_m5, ie_m6_m4, ie_m6_m3, ie_m6_m2, ie_m6_m1, ie_m6_0, ie_m6_1, ie_m6_2, ie_m6_3, ie_m6_4, ie_m6_5, ie_m6_6, ie_m5_m6, ie_m5_m4, ie_m5_m3, ie_m5_m2, ie_m5_m1, ie_m5_0, ie_m5_1, ie_m5_2, ie_m5_3, ie_m5_4, ie_m5_5, ie_m5_6, ie_m4_m6, ie_m4_m5, ie_m4_m3, ie_m4_m2, ie_m4_m1, ie_m4_0, ie_m4_1, ie_m4_2, ie_m4_3, ie_m4_4, ie_m4_5, ie_m4_6, ie_m3_m6, ie_m3_m5, ie_m3_m4, ie_m3_m2, ie_m3_m1, ie_m3_0, ie_m3_1, ie_m3_2, ie_m3_3, ie_m3_4, ie_m3_5, ie_m3_6, ie_m2_m6, ie_m2_m5, ie_m2_m4, ie_m2_m3, ie_m2_m1, ie_m2_0, ie_m2_1, ie_m2_2, ie_m2_3, ie_m2_4, ie_m2_5, ie_m2_6, ie_m1_m6, ie_m1_m5, ie_m1_m4, ie_m1_m3, ie_m1_m2, ie_m1_0, ie_m1_1, ie_m1_2, ie_m1_3, ie_m1_4, ie_m1_5, ie_m1_6, ie_0_m6, ie_0_m5, ie_0_m4, ie_0_m3, ie_0_m2, ie_0_m1, ie_0_1, ie_0_2, ie_0_3, ie_0_4, ie_0_5, ie_0_6, ie_1_m6, ie_1_m5, ie_1_m4, ie_1_m3, ie_1_m2, ie_1_m1, ie_1_0, ie_1_2, ie_1_3, ie_1_4, ie_1_5, ie_1_6, ie_2_m6, ie_2_m5, ie_2_m4, ie_2_m3, ie_2_m2, ie_2_m1, ie_2_0, ie_2_1, ie_2_3, ie_2_4, ie_2_5, ie_2_6, ie_3_m6, ie_3_m5, ie_3_m4, ie_3_m3, ie_3_m2, ie_3_m1, ie_3_0, ie_3_1, ie_3_2, ie_3_4, ie_3_5, ie_3_6, ie_4_m6, ie_4_m5, ie_4_m4, ie_4_m3, ie_4_m2, ie_4_m1, ie_4_0, ie_4_1, ie_4_2, ie_4_3, ie_4_5, ie_4_6, ie_5_m6, ie_5_m5, ie_5_m4, ie_5_m3, ie_5_m2, ie_5_m1, ie_5_0, ie_5_1, ie_5_2, ie_5_3, ie_5_4, ie_5_6, ie_6_m6, ie_6_m5, ie_6_m4, ie_6_m3, ie_6_m2, ie_6_m1, ie_6_0, ie_6_1, ie_6_2, ie_6_3, ie_6_4, ie_6_5, Int32.reduceToInt, Int64.reduceToInt, Int.reduceToNat, Int32.reduceAdd, Int32.reduceSub, Int32.reduceMul, Int32.reduceDiv, Int32.reduceLT, Int32.reduceLE, Int.reduceLE, Int.reduceLT, Int.reduceNeg, Int.reduceAdd, Int.reduceSub, Int.reduceMul, Int.reduceEq, Nat.reduceAdd, Nat.reduceMul, Nat.reduceLT, Nat.reduceEqDiff, true_and, and_true, and_self, false_and, and_false, if_true, if_false, ite_true, ite_false, ↓reduceIte, not_true_eq_false, not_false_eq_true, true_or, or_true, or_false, false_or, Int.cast_ofNat_Int, Int.reduceNatCast]
    by_cases c2 : 0 ≤ v.toInt ∧ v.toInt ≤ 1
    · rw [if_pos c2]
      rw [if_pos ⟨c1, c2⟩] at hk
      refine ⟨by rw [h.sh.ob]; trivial, ?_⟩
      rw [m_for h hp8]
      simp only [h.sh.G401, m_wr h (show p.toInt = ((p.toInt.toNat : Nat) : Int) by omega) (by omega) (show (4 : Int32).toInt = ((4 : Nat) : Int) from rfl) (by decide)]
      exact hk _ (h.wN _ _) (frN (fr.refl _ _))
    · rw [if_neg c2]
      rw [if_neg (fun q => c2 q.2)] at hk
      exact ⟨by rw [h.sh.ob]; trivial, m_refuse h (by decide) hk⟩
  · rw [if_neg c1, if_pos rfl]
    rw [if_neg (fun q => c1 q.1)] at hk
    exact ⟨by rw [h.sh.ob]; trivial, m_refuse h (by decide) hk⟩
def F_put (A : Ab) (p c f : Int32) : Int32 × Ab := if isP (aN A) p ∧ isC (aN A 90) c ∧ okF f then (if pnd (aN A) c = 1 then rf A (-5) else (aN A (5 * p.toInt.toNat + 2), zN A (up1 (up1 (aN A) (5 * p.toInt.toNat + 2) c) (5 * p.toInt.toNat + 3) f))) else rf A (-2)
theorem m_put (h : MM w m A) (hN : okN (aN A)) (p c f : Int32) {k : Int32 → Wd → Prop} (hk : mR w m (F_put A p c f).2 (k (F_put A p c f).1)) : wp_X4_put w m p c f k := by
  unfold wp_X4_put
  unfold F_put at hk
  refine ⟨by rw [h.sh.ob]; trivial, ?_⟩
  rw [m_isPerson h hN]
  by_cases c1 : isP (aN A) p
  · rw [if_pos c1, if_neg (by decide)]
    have hp8 := isP_8 hN c1
    refine ⟨by rw [h.sh.ob]; trivial, ?_⟩
    rw [m_isCell h]
    by_cases c3 : isC (aN A 90) c
    · rw [if_pos c3, if_neg (by decide)]
      simp only [m_isIn, lg_lit, ie_m6_m5, ie_m6_m4, ie_m6_m3, ie_m6_m2, ie_m6_m1, ie_m6_0, ie_m6_1, ie_m6_2, ie_m6_3, ie_m6_4, ie_m6_5, ie_m6_6, ie_m5_m6, ie_m5_m4, ie_m5_m3, ie_m5_m2, ie_m5_m1, ie_m5_0, ie_m5_1, ie_m5_2, ie_m5_3, ie_m5_4, ie_m5_5, ie_m5_6, ie_m4_m6, ie_m4_m5, ie_m4_m3, ie_m4_m2, ie_m4_m1, ie_m4_0, ie_m4_1, ie_m4_2, ie_m4_3, ie_m4_4, ie_m4_5, ie_m4_6, ie_m3_m6, ie_m3_m5, ie_m3_m4, ie_m3_m2, ie_m3_m1, ie_m3_0, ie_m3_1, ie_m3_2, ie_m3_3, ie_m3_4, ie_m3_5, ie_m3_6, ie_m2_m6, ie_m2_m5, ie_m2_m4, ie_m2_m3, ie_m2_m1, ie_m2_0, ie_m2_1, ie_m2_2, ie_m2_3, ie_m2_4, ie_m2_5, ie_m2_6, ie_m1_m6, ie_m1_m5, ie_m1_m4, ie_m1_m3, ie_m1_m2, ie_m1_0, ie_m1_1, ie_m1_2, ie_m1_3, ie_m1_4, ie_m1_5, ie_m1_6, ie_0_m6, ie_0_m5, ie_0_m4, ie_0_m3, ie_0_m2, ie_0_m1, ie_0_1, ie_0_2, ie_0_3, ie_0_4, ie_0_5, ie_0_6, ie_1_m6, ie_1_m5, ie_1_m4, ie_1_m3, ie_1_m2, ie_1_m1, ie_1_0, ie_1_2, ie_1_3, ie_1_4, ie_1_5, ie_1_6, ie_2_m6, ie_2_m5, ie_2_m4, ie_2_m3, ie_2_m2, ie_2_m1, ie_2_0, ie_2_1, ie_2_3, ie_2_4, ie_2_5, ie_2_6, ie_3_m6, ie_3_m5, ie_3_m4, ie_3_m3, ie_3_m2, ie_3_m1, ie_3_0, ie_3_1, ie_3_2, ie_3_4, ie_3_5, ie_3_6, ie_4_m6, ie_4_m5, ie_4_m4, ie_4_m3, ie_4_m2, ie_4_m1, ie_4_0, ie_4_1, ie_4_2, ie_4_3, ie_4_5, ie_4_6, ie_5_m6, ie_5_m5, ie_5_m4, ie_5_m3, ie_5_m2, ie_5_m1, ie_5_0, ie_5_1, ie_5_2, ie_5_3, ie_5_4, ie_5_6, ie_6_m6, ie_6_m5, ie_6_m4, ie_6_m3, ie_6_m2, ie_6_m1, ie_6_0, ie_6_1, ie_6_2, ie_6_3, ie_6_4, ie_6_5, Int32.reduceToInt, Int64.reduceToInt, Int.reduceToNat, Int32.reduceAdd, Int32.reduceSub, Int32.reduceMul, Int32.reduceDiv, Int32.reduceLT, Int32.reduceLE, Int.reduceLE, Int.reduceLT, Int.reduceNeg, Int.reduceAdd, Int.reduceSub, Int.reduceMul, Int.reduceEq, Nat.reduceAdd, Nat.reduceMul, Nat.reduceLT, Nat.reduceEqDiff, true_and, and_true, and_self, false_and, and_false, if_true, if_false, ite_true, ite_false, ↓reduceIte, not_true_eq_false, not_false_eq_true, true_or, or_true, or_false, false_or, Int.cast_ofNat_Int, Int.reduceNatCast]
      by_cases c4 : okF f
      · rw [if_pos (by unfold okF at c4; omega)]
        rw [if_pos ⟨c1, c3, c4⟩] at hk
        refine ⟨by rw [h.sh.ob]; trivial, ?_⟩
        rw [m_hasPond h hN c3]
        by_cases c5 : pnd (aN A) c = 1
        · rw [if_pos c5, if_neg (by decide)]
          rw [if_pos c5] at hk
          exact ⟨by rw [h.sh.ob]; trivial, m_refuse h (by decide) hk⟩
        · rw [if_neg c5, if_pos rfl]
          rw [if_neg c5] at hk
          refine ⟨by rw [h.sh.ob]; trivial, ?_⟩
          rw [m_cell h hp8]
          have ep : p.toInt = ((p.toInt.toNat : Nat) : Int) := by omega
          simp only [h.sh.G401, m_wr h ep (by omega) (show (2 : Int32).toInt = ((2 : Nat) : Int) from rfl) (by decide)]
          have h1 := h.wN (5 * p.toInt.toNat + 2) c
          simp only [h1.sh.G401, m_wr h1 ep (by omega) (show (3 : Int32).toInt = ((3 : Nat) : Int) from rfl) (by decide)]
          exact hk _ (h1.wN _ _) (frN (frN (fr.refl _ _)))
      · rw [if_neg (by unfold okF at c4; omega)]
        rw [if_neg (fun q => c4 q.2.2)] at hk
        exact ⟨by rw [h.sh.ob]; trivial, m_refuse h (by decide) hk⟩
    · rw [if_neg c3, if_pos rfl]
      rw [if_neg (fun q => c3 q.2.1)] at hk
      exact ⟨by rw [h.sh.ob]; trivial, m_refuse h (by decide) hk⟩
  · rw [if_neg c1, if_pos rfl]
    rw [if_neg (fun q => c1 q.1)] at hk
    exact ⟨by rw [h.sh.ob]; trivial, m_refuse h (by decide) hk⟩
def F_isPond (A : Ab) (c : Int32) : Int32 × Ab := if isC (aN A 90) c then (pnd (aN A) c, A) else rf A (-2)
theorem m_isPond (h : MM w m A) (hN : okN (aN A)) (c : Int32) {k : Int32 → Wd → Prop} (hk : mR w m (F_isPond A c).2 (k (F_isPond A c).1)) : wp_X4_isPond w m c k := by
  unfold wp_X4_isPond wp_X4_pondAt
  unfold F_isPond at hk
  refine ⟨by rw [h.sh.ob]; trivial, ?_⟩
  rw [m_isCell h]
  by_cases hc : isC (aN A 90) c
  · rw [if_pos hc, if_neg (by decide)]
    rw [if_pos hc] at hk
    simp only [h.sh.G401, m_patr h hN hc]
    exact hk.self h
  · rw [if_neg hc, if_pos rfl]
    rw [if_neg hc] at hk
    exact ⟨by rw [h.sh.ob]; trivial, m_refuse h (by decide) hk⟩
/-- the tape -/
def okT (A : Ab) : Prop := (0 ≤ (aZ A).toInt ∧ (aZ A).toInt ≤ 250) ∧ ∀ k : Nat, k < 250 → 0 ≤ (aT A k).toInt ∧ (aT A k).toInt ≤ 255
def F_feed (A : Ab) (l : Int32) : Int32 × Ab := if 0 ≤ l.toInt ∧ l.toInt ≤ 255 then (if (aZ A).toInt = 250 then rf A (-6) else (aZ A + 1, zZ (zT A (up1 (aT A) (aZ A).toInt.toNat l)) (aZ A + 1))) else rf A (-2)
theorem m_feed (h : MM w m A) (hT : okT A) (l : Int32) {k : Int32 → Wd → Prop} (hk : mR w m (F_feed A l).2 (k (F_feed A l).1)) : wp_X4_feed w m l k := by
  unfold wp_X4_feed
  unfold F_feed at hk
  have hz := hT.1
  simp only [m_isIn, lg_lit, ie_m6_m5, ie_m6_m4, ie_m6_m3, ie_m6_m2, ie_m6_m1, ie_m6_0, ie_m6_1, ie_m6_2, ie_m6_3, ie_m6_4, ie_m6_5, ie_m6_6, ie_m5_m6, ie_m5_m4, ie_m5_m3, ie_m5_m2, ie_m5_m1, ie_m5_0, ie_m5_1, ie_m5_2, ie_m5_3, ie_m5_4, ie_m5_5, ie_m5_6, ie_m4_m6, ie_m4_m5, ie_m4_m3, ie_m4_m2, ie_m4_m1, ie_m4_0, ie_m4_1, ie_m4_2, ie_m4_3, ie_m4_4, ie_m4_5, ie_m4_6, ie_m3_m6, ie_m3_m5, ie_m3_m4, ie_m3_m2, ie_m3_m1, ie_m3_0, ie_m3_1, ie_m3_2, ie_m3_3, ie_m3_4, ie_m3_5, ie_m3_6, ie_m2_m6, ie_m2_m5, ie_m2_m4, ie_m2_m3, ie_m2_m1, ie_m2_0, ie_m2_1, ie_m2_2, ie_m2_3, ie_m2_4, ie_m2_5, ie_m2_6, ie_m1_m6, ie_m1_m5, ie_m1_m4, ie_m1_m3, ie_m1_m2, ie_m1_0, ie_m1_1, ie_m1_2, ie_m1_3, ie_m1_4, ie_m1_5, ie_m1_6, ie_0_m6, ie_0_m5, ie_0_m4, ie_0_m3, ie_0_m2, ie_0_m1, ie_0_1, ie_0_2, ie_0_3, ie_0_4, ie_0_5, ie_0_6, ie_1_m6, ie_1_m5, ie_1_m4, ie_1_m3, ie_1_m2, ie_1_m1, ie_1_0, ie_1_2, ie_1_3, ie_1_4, ie_1_5, ie_1_6, ie_2_m6, ie_2_m5, ie_2_m4, ie_2_m3, ie_2_m2, ie_2_m1, ie_2_0, ie_2_1, ie_2_3, ie_2_4, ie_2_5, ie_2_6, ie_3_m6, ie_3_m5, ie_3_m4, ie_3_m3, ie_3_m2, ie_3_m1, ie_3_0, ie_3_1, ie_3_2, ie_3_4, ie_3_5, ie_3_6, ie_4_m6, ie_4_m5, ie_4_m4, ie_4_m3, ie_4_m2, ie_4_m1, ie_4_0, ie_4_1, ie_4_2, ie_4_3, ie_4_5, ie_4_6, ie_5_m6, ie_5_m5, ie_5_m4, ie_5_m3, ie_5_m2, ie_5_m1, ie_5_0, ie_5_1, ie_5_2, ie_5_3, ie_5_4, ie_5_6, ie_6_m6, ie_6_m5, ie_6_m4, ie_6_m3, ie_6_m2, ie_6_m1, ie_6_0, ie_6_1, ie_6_2, ie_6_3, ie_6_4, ie_6_5, Int32.reduceToInt, Int64.reduceToInt, Int.reduceToNat, Int32.reduceAdd, Int32.reduceSub, Int32.reduceMul, Int32.reduceDiv, Int32.reduceLT, Int32.reduceLE, Int.reduceLE, Int.reduceLT, Int.reduceNeg, Int.reduceAdd, Int.reduceSub, Int.reduceMul, Int.reduceEq, Nat.reduceAdd, Nat.reduceMul, Nat.reduceLT, Nat.reduceEqDiff, true_and, and_true, and_self, false_and, and_false, if_true, if_false, ite_true, ite_false, ↓reduceIte, not_true_eq_false, not_false_eq_true, true_or, or_true, or_false, false_or, Int.cast_ofNat_Int, Int.reduceNatCast]
  by_cases c : 0 ≤ l.toInt ∧ l.toInt ≤ 255
  · rw [if_pos c] at hk ⊢
    simp only [h.sh.gF, h.Z]
    have e250 : aZ A = 250 ↔ (aZ A).toInt = 250 := by rw [i_eq]; rfl
    by_cases c2 : (aZ A).toInt = 250
    · rw [if_pos (e250.2 c2)]
      rw [if_pos c2] at hk
      exact ⟨by rw [h.sh.ob]; trivial, m_refuse h (by decide) hk⟩
    · rw [if_neg (fun q => c2 (e250.1 q))]
      rw [if_neg c2] at hk
      have hv : vp_in (aZ A) 250 := vp_iff.2 (by omega)
      simp only [h.sh.G405, h.sh.w5, hv, true_and]
      have h1 := h.wT (aZ A).toInt.toNat l
      simp only [h1.sh.gF, h1.sh.pF, h1.Z, aZ_zT]
      have h2 := h1.wZ (aZ A + 1)
      simp only [h2.sh.gF, h2.Z, aZ_zZ]
      exact hk _ h2 (frF (frR (fr.refl _ _) (by omega)))
  · rw [if_neg c] at hk ⊢
    exact ⟨by rw [h.sh.ob]; trivial, m_refuse h (by decide) hk⟩
def F_wipe (A : Ab) : Int32 × Ab := (aZ A, zZ A 0)
theorem m_wipe (h : MM w m A) {k : Int32 → Wd → Prop} (hk : mR w m (F_wipe A).2 (k (F_wipe A).1)) : wp_X4_wipe w m k := by
  unfold wp_X4_wipe
  simp only [h.sh.gF, h.sh.pF, h.Z]
  exact hk _ (h.wZ 0) (frF (fr.refl _ _))
def F_seed (A : Ab) (v : Int32) : Int32 × Ab := (aN A 96, zN A (up1 (aN A) 96 v))
theorem m_seed (h : MM w m A) (v : Int32) {k : Int32 → Wd → Prop} (hk : mR w m (F_seed A v).2 (k (F_seed A v).1)) : wp_X4_seed w m v k := by
  have v96 : vp_in 96 97 := vp_iff.2 (by decide)
  unfold wp_X4_seed
  simp only [h.sh.G401, h.sh.r2, h.sh.w2, h.N, v96, ie_m6_m5, ie_m6_m4, ie_m6_m3, ie_m6_m2, ie_m6_m1, ie_m6_0, ie_m6_1, ie_m6_2, ie_m6_3, ie_m6_4, ie_m6_5, ie_m6_6, ie_m5_m6, ie_m5_m4, ie_m5_m3, ie_m5_m2, ie_m5_m1, ie_m5_0, ie_m5_1, ie_m5_2, ie_m5_3, ie_m5_4, ie_m5_5, ie_m5_6, ie_m4_m6, ie_m4_m5, ie_m4_m3, ie_m4_m2, ie_m4_m1, ie_m4_0, ie_m4_1, ie_m4_2, ie_m4_3, ie_m4_4, ie_m4_5, ie_m4_6, ie_m3_m6, ie_m3_m5, ie_m3_m4, ie_m3_m2, ie_m3_m1, ie_m3_0, ie_m3_1, ie_m3_2, ie_m3_3, ie_m3_4, ie_m3_5, ie_m3_6, ie_m2_m6, ie_m2_m5, ie_m2_m4, ie_m2_m3, ie_m2_m1, ie_m2_0, ie_m2_1, ie_m2_2, ie_m2_3, ie_m2_4, ie_m2_5, ie_m2_6, ie_m1_m6, ie_m1_m5, ie_m1_m4, ie_m1_m3, ie_m1_m2, ie_m1_0, ie_m1_1, ie_m1_2, ie_m1_3, ie_m1_4, ie_m1_5, ie_m1_6, ie_0_m6, ie_0_m5, ie_0_m4, ie_0_m3, ie_0_m2, ie_0_m1, ie_0_1, ie_0_2, ie_0_3, ie_0_4, ie_0_5, ie_0_6, ie_1_m6, ie_1_m5, ie_1_m4, ie_1_m3, ie_1_m2, ie_1_m1, ie_1_0, ie_1_2, ie_1_3, ie_1_4, ie_1_5, ie_1_6, ie_2_m6, ie_2_m5, ie_2_m4, ie_2_m3, ie_2_m2, ie_2_m1, ie_2_0, ie_2_1, ie_2_3, ie_2_4, ie_2_5, ie_2_6, ie_3_m6, ie_3_m5, ie_3_m4, ie_3_m3, ie_3_m2, ie_3_m1, ie_3_0, ie_3_1, ie_3_2, ie_3_4, ie_3_5, ie_3_6, ie_4_m6, ie_4_m5, ie_4_m4, ie_4_m3, ie_4_m2, ie_4_m1, ie_4_0, ie_4_1, ie_4_2, ie_4_3, ie_4_5, ie_4_6, ie_5_m6, ie_5_m5, ie_5_m4, ie_5_m3, ie_5_m2, ie_5_m1, ie_5_0, ie_5_1, ie_5_2, ie_5_3, ie_5_4, ie_5_6, ie_6_m6, ie_6_m5, ie_6_m4, ie_6_m3, ie_6_m2, ie_6_m1, ie_6_0, ie_6_1, ie_6_2, ie_6_3, ie_6_4, ie_6_5, Int32.reduceToInt, Int64.reduceToInt, Int.reduceToNat, Int32.reduceAdd, Int32.reduceSub, Int32.reduceMul, Int32.reduceDiv, Int32.reduceLT, Int32.reduceLE, Int.reduceLE, Int.reduceLT, Int.reduceNeg, Int.reduceAdd, Int.reduceSub, Int.reduceMul, Int.reduceEq, Nat.reduceAdd, Nat.reduceMul, Nat.reduceLT, Nat.reduceEqDiff, true_and, and_true, and_self, false_and, and_false, if_true, if_false, ite_true, ite_false, ↓reduceIte, not_true_eq_false, not_false_eq_true, true_or, or_true, or_false, false_or, Int.cast_ofNat_Int, Int.reduceNatCast]
  exact hk _ (h.wN _ _) (frN (fr.refl _ _))
end MSET
