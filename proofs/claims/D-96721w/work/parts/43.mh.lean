/-! ===== the reference's small methods over MM ===== -/
theorem lg_lt (x y : Int64) : lg_cmp x y < 0 ↔ x.toInt < y.toInt := by
  unfold lg_cmp
  by_cases h : x > y
  · rw [if_pos h]
    have h1 : y.toInt < x.toInt := l_lt.1 h
    exact ⟨fun h' => absurd h' (by decide), fun h' => by omega⟩
  · rw [if_neg h]
    have h1 : ¬ y.toInt < x.toInt := fun h' => h (l_lt.2 h')
    by_cases h2 : x = y
    · rw [if_pos h2, h2]
      exact ⟨fun h' => absurd h' (by decide), fun h' => by omega⟩
    · rw [if_neg h2]
      have h3 : ¬ x.toInt = y.toInt := fun h' => h2 (l_eq.2 h')
      exact ⟨fun _ => by omega, fun _ => by decide⟩
theorem lg_gt (x y : Int64) : (0 : Int32) < lg_cmp x y ↔ y.toInt < x.toInt := by
  unfold lg_cmp
  by_cases h : x > y
  · rw [if_pos h]
    have h1 : y.toInt < x.toInt := l_lt.1 h
    exact ⟨fun _ => h1, fun _ => by decide⟩
  · rw [if_neg h]
    have h1 : ¬ y.toInt < x.toInt := fun h' => h (l_lt.2 h')
    by_cases h2 : x = y
    · rw [if_pos h2]
      exact ⟨fun h' => absurd h' (by decide), fun h' => absurd h' h1⟩
    · rw [if_neg h2]
      exact ⟨fun h' => absurd h' (by decide), fun h' => absurd h' h1⟩
theorem ite_or3 {a b : Prop} [Decidable a] [Decidable b] [Decidable (¬ a ∧ ¬ b)] {x y : Prop} : (if a then x else if b then x else y) = if ¬ a ∧ ¬ b then y else x := by
  by_cases ha : a <;> by_cases hb : b <;> simp [ha, hb]
theorem m_isIn (w : Wd) (x lo hi : Int64) (k : Int32 → Wd → Prop) : wp_X4_isIn w x lo hi k = if lo.toInt ≤ x.toInt ∧ x.toInt ≤ hi.toInt then k 1 w else k 0 w := by
  unfold wp_X4_isIn
  simp only [lg_lt, lg_gt]
  by_cases h1 : x.toInt < lo.toInt
  · rw [if_pos h1, if_neg (by omega)]
  · by_cases h2 : hi.toInt < x.toInt
    · rw [if_neg h1, if_pos h2, if_neg (by omega)]
    · rw [if_neg h1, if_neg h2, if_pos (by omega)]
theorem m_is0 (k : Int32 → Prop) (c : Prop) [Decidable c] : (if (if c then (1 : Int32) else 0) = 0 then k 0 else k 1) = if c then k 1 else k 0 := by by_cases h : c <;> simp [h]
theorem nar_b (c : Prop) [Decidable c] : (narrow .boolean (.int (if c then 1 else 0)) = .int (if c then 1 else 0)) = True := by by_cases h : c <;> simp only [h, if_true, if_false] <;> exact eq_true (by decide +kernel)
theorem nar_0 : (narrow .boolean (.int 0) = .int 0) = True := eq_true (by decide +kernel)
theorem nar_1 : (narrow .boolean (.int 1) = .int 1) = True := eq_true (by decide +kernel)
theorem lg_lit (n : Int32) : n.toInt64.toInt = n.toInt := Int32.toInt_toInt64 n
section MH
variable {w : Wd} {m : Nat} {A : Ab}
theorem m_isCell (h : MM w m A) (c : Int32) (k : Int32 → Wd → Prop) : wp_X4_isCell w m c k = if isC (aN A 90) c then k 1 w else k 0 w := by
  unfold wp_X4_isCell
  simp only [h.sh.G401, h.sh.r2, h.N, vp_iff, ie_m6_m5, ie_m6_m4, ie_m6_m3, ie_m6_m2, ie_m6_m1, ie_m6_0, ie_m6_1, ie_m6_2, ie_m6_3, ie_m6_4, ie_m6_5, ie_m6_6, ie_m5_m6, ie_m5_m4, ie_m5_m3, ie_m5_m2, ie_m5_m1, ie_m5_0, ie_m5_1, ie_m5_2, ie_m5_3, ie_m5_4, ie_m5_5, ie_m5_6, ie_m4_m6, ie_m4_m5, ie_m4_m3, ie_m4_m2, ie_m4_m1, ie_m4_0, ie_m4_1, ie_m4_2, ie_m4_3, ie_m4_4, ie_m4_5, ie_m4_6, ie_m3_m6, ie_m3_m5, ie_m3_m4, ie_m3_m2, ie_m3_m1, ie_m3_0, ie_m3_1, ie_m3_2, ie_m3_3, ie_m3_4, ie_m3_5, ie_m3_6, ie_m2_m6, ie_m2_m5, ie_m2_m4, ie_m2_m3, ie_m2_m1, ie_m2_0, ie_m2_1, ie_m2_2, ie_m2_3, ie_m2_4, ie_m2_5, ie_m2_6, ie_m1_m6, ie_m1_m5, ie_m1_m4, ie_m1_m3, ie_m1_m2, ie_m1_0, ie_m1_1, ie_m1_2, ie_m1_3, ie_m1_4, ie_m1_5, ie_m1_6, ie_0_m6, ie_0_m5, ie_0_m4, ie_0_m3, ie_0_m2, ie_0_m1, ie_0_1, ie_0_2, ie_0_3, ie_0_4, ie_0_5, ie_0_6, ie_1_m6, ie_1_m5, ie_1_m4, ie_1_m3, ie_1_m2, ie_1_m1, ie_1_0, ie_1_2, ie_1_3, ie_1_4, ie_1_5, ie_1_6, ie_2_m6, ie_2_m5, ie_2_m4, ie_2_m3, ie_2_m2, ie_2_m1, ie_2_0, ie_2_1, ie_2_3, ie_2_4, ie_2_5, ie_2_6, ie_3_m6, ie_3_m5, ie_3_m4, ie_3_m3, ie_3_m2, ie_3_m1, ie_3_0, ie_3_1, ie_3_2, ie_3_4, ie_3_5, ie_3_6, ie_4_m6, ie_4_m5, ie_4_m4, ie_4_m3, ie_4_m2, ie_4_m1, ie_4_0, ie_4_1, ie_4_2, ie_4_3, ie_4_5, ie_4_6, ie_5_m6, ie_5_m5, ie_5_m4, ie_5_m3, ie_5_m2, ie_5_m1, ie_5_0, ie_5_1, ie_5_2, ie_5_3, ie_5_4, ie_5_6, ie_6_m6, ie_6_m5, ie_6_m4, ie_6_m3, ie_6_m2, ie_6_m1, ie_6_0, ie_6_1, ie_6_2, ie_6_3, ie_6_4, ie_6_5, Int32.reduceToInt, Int64.reduceToInt, Int.reduceToNat, Int32.reduceAdd, Int32.reduceSub, Int32.reduceMul, Int32.reduceDiv, Int32.reduceLT, Int32.reduceLE, Int.reduceLE, Int.reduceLT, Int.reduceNeg, Int.reduceAdd, Int.reduceSub, Int.reduceMul, Int.reduceEq, Nat.reduceAdd, Nat.reduceMul, Nat.reduceLT, Nat.reduceEqDiff, true_and, and_true, and_self, false_and, and_false, if_true, if_false, ite_true, ite_false, ↓reduceIte, not_true_eq_false, not_false_eq_true, true_or, or_true, or_false, false_or, Int.cast_ofNat_Int, Int.reduceNatCast]
  by_cases h0 : c < 0
  · have h1 := i_lt.1 h0
    rw [if_pos h0, if_neg]
    intro hc
    have := hc.1
    rw [i_0] at h1
    omega
  · have h1 : 0 ≤ c.toInt := by
      have h2 : ¬ c.toInt < (0 : Int32).toInt := fun h' => h0 (i_lt.2 h')
      rw [i_0] at h2
      omega
    have e1 := i_d10 h1
    have e2 := i_m10 h1
    rw [if_neg h0]
    simp only [i_le, e1, e2]
    by_cases h2 : (aN A 90).toInt ≤ c.toInt / 10
    · rw [if_pos h2, if_neg (by omega)]
    · by_cases h3 : (aN A 90).toInt ≤ c.toInt % 10
      · rw [if_neg h2, if_pos h3, if_neg (by omega)]
      · rw [if_neg h2, if_neg h3, if_pos (by omega)]
theorem m_many (h : MM w m A) (k : Int32 → Wd → Prop) : wp_X4_many w m k = k (aN A 89) w := by
  unfold wp_X4_many
  simp only [h.sh.G401, h.sh.r2, h.N, vp_iff, ie_m6_m5, ie_m6_m4, ie_m6_m3, ie_m6_m2, ie_m6_m1, ie_m6_0, ie_m6_1, ie_m6_2, ie_m6_3, ie_m6_4, ie_m6_5, ie_m6_6, ie_m5_m6, ie_m5_m4, ie_m5_m3, ie_m5_m2, ie_m5_m1, ie_m5_0, ie_m5_1, ie_m5_2, ie_m5_3, ie_m5_4, ie_m5_5, ie_m5_6, ie_m4_m6, ie_m4_m5, ie_m4_m3, ie_m4_m2, ie_m4_m1, ie_m4_0, ie_m4_1, ie_m4_2, ie_m4_3, ie_m4_4, ie_m4_5, ie_m4_6, ie_m3_m6, ie_m3_m5, ie_m3_m4, ie_m3_m2, ie_m3_m1, ie_m3_0, ie_m3_1, ie_m3_2, ie_m3_3, ie_m3_4, ie_m3_5, ie_m3_6, ie_m2_m6, ie_m2_m5, ie_m2_m4, ie_m2_m3, ie_m2_m1, ie_m2_0, ie_m2_1, ie_m2_2, ie_m2_3, ie_m2_4, ie_m2_5, ie_m2_6, ie_m1_m6, ie_m1_m5, ie_m1_m4, ie_m1_m3, ie_m1_m2, ie_m1_0, ie_m1_1, ie_m1_2, ie_m1_3, ie_m1_4, ie_m1_5, ie_m1_6, ie_0_m6, ie_0_m5, ie_0_m4, ie_0_m3, ie_0_m2, ie_0_m1, ie_0_1, ie_0_2, ie_0_3, ie_0_4, ie_0_5, ie_0_6, ie_1_m6, ie_1_m5, ie_1_m4, ie_1_m3, ie_1_m2, ie_1_m1, ie_1_0, ie_1_2, ie_1_3, ie_1_4, ie_1_5, ie_1_6, ie_2_m6, ie_2_m5, ie_2_m4, ie_2_m3, ie_2_m2, ie_2_m1, ie_2_0, ie_2_1, ie_2_3, ie_2_4, ie_2_5, ie_2_6, ie_3_m6, ie_3_m5, ie_3_m4, ie_3_m3, ie_3_m2, ie_3_m1, ie_3_0, ie_3_1, ie_3_2, ie_3_4, ie_3_5, ie_3_6, ie_4_m6, ie_4_m5, ie_4_m4, ie_4_m3, ie_4_m2, ie_4_m1, ie_4_0, ie_4_1, ie_4_2, ie_4_3, ie_4_5, ie_4_6, ie_5_m6, ie_5_m5, ie_5_m4, ie_5_m3, ie_5_m2, ie_5_m1, ie_5_0, ie_5_1, ie_5_2, ie_5_3, ie_5_4, ie_5_6, ie_6_m6, ie_6_m5, ie_6_m4, ie_6_m3, ie_6_m2, ie_6_m1, ie_6_0, ie_6_1, ie_6_2, ie_6_3, ie_6_4, ie_6_5, Int32.reduceToInt, Int64.reduceToInt, Int.reduceToNat, Int32.reduceAdd, Int32.reduceSub, Int32.reduceMul, Int32.reduceDiv, Int32.reduceLT, Int32.reduceLE, Int.reduceLE, Int.reduceLT, Int.reduceNeg, Int.reduceAdd, Int.reduceSub, Int.reduceMul, Int.reduceEq, Nat.reduceAdd, Nat.reduceMul, Nat.reduceLT, Nat.reduceEqDiff, true_and, and_true, and_self, false_and, and_false, if_true, if_false, ite_true, ite_false, ↓reduceIte, not_true_eq_false, not_false_eq_true, true_or, or_true, or_false, false_or, Int.cast_ofNat_Int, Int.reduceNatCast]
theorem m_isPerson (h : MM w m A) (hN : okN (aN A)) (p : Int32) (k : Int32 → Wd → Prop) : wp_X4_isPerson w m p k = if isP (aN A) p then k 1 w else k 0 w := by
  unfold wp_X4_isPerson
  have h1 := hN.1
  have e1 : (aN A 89 - 1).toInt = (aN A 89).toInt - 1 := i_dec (by omega)
  simp only [h.sh.G401, h.sh.r2, h.N, vp_iff, ie_m6_m5, ie_m6_m4, ie_m6_m3, ie_m6_m2, ie_m6_m1, ie_m6_0, ie_m6_1, ie_m6_2, ie_m6_3, ie_m6_4, ie_m6_5, ie_m6_6, ie_m5_m6, ie_m5_m4, ie_m5_m3, ie_m5_m2, ie_m5_m1, ie_m5_0, ie_m5_1, ie_m5_2, ie_m5_3, ie_m5_4, ie_m5_5, ie_m5_6, ie_m4_m6, ie_m4_m5, ie_m4_m3, ie_m4_m2, ie_m4_m1, ie_m4_0, ie_m4_1, ie_m4_2, ie_m4_3, ie_m4_4, ie_m4_5, ie_m4_6, ie_m3_m6, ie_m3_m5, ie_m3_m4, ie_m3_m2, ie_m3_m1, ie_m3_0, ie_m3_1, ie_m3_2, ie_m3_3, ie_m3_4, ie_m3_5, ie_m3_6, ie_m2_m6, ie_m2_m5, ie_m2_m4, ie_m2_m3, ie_m2_m1, ie_m2_0, ie_m2_1, ie_m2_2, ie_m2_3, ie_m2_4, ie_m2_5, ie_m2_6, ie_m1_m6, ie_m1_m5, ie_m1_m4, ie_m1_m3, ie_m1_m2, ie_m1_0, ie_m1_1, ie_m1_2, ie_m1_3, ie_m1_4, ie_m1_5, ie_m1_6, ie_0_m6, ie_0_m5, ie_0_m4, ie_0_m3, ie_0_m2, ie_0_m1, ie_0_1, ie_0_2, ie_0_3, ie_0_4, ie_0_5, ie_0_6, ie_1_m6, ie_1_m5, ie_1_m4, ie_1_m3, ie_1_m2, ie_1_m1, ie_1_0, ie_1_2, ie_1_3, ie_1_4, ie_1_5, ie_1_6, ie_2_m6, ie_2_m5, ie_2_m4, ie_2_m3, ie_2_m2, ie_2_m1, ie_2_0, ie_2_1, ie_2_3, ie_2_4, ie_2_5, ie_2_6, ie_3_m6, ie_3_m5, ie_3_m4, ie_3_m3, ie_3_m2, ie_3_m1, ie_3_0, ie_3_1, ie_3_2, ie_3_4, ie_3_5, ie_3_6, ie_4_m6, ie_4_m5, ie_4_m4, ie_4_m3, ie_4_m2, ie_4_m1, ie_4_0, ie_4_1, ie_4_2, ie_4_3, ie_4_5, ie_4_6, ie_5_m6, ie_5_m5, ie_5_m4, ie_5_m3, ie_5_m2, ie_5_m1, ie_5_0, ie_5_1, ie_5_2, ie_5_3, ie_5_4, ie_5_6, ie_6_m6, ie_6_m5, ie_6_m4, ie_6_m3, ie_6_m2, ie_6_m1, ie_6_0, ie_6_1, ie_6_2, ie_6_3, ie_6_4, ie_6_5, Int32.reduceToInt, Int64.reduceToInt, Int.reduceToNat, Int32.reduceAdd, Int32.reduceSub, Int32.reduceMul, Int32.reduceDiv, Int32.reduceLT, Int32.reduceLE, Int.reduceLE, Int.reduceLT, Int.reduceNeg, Int.reduceAdd, Int.reduceSub, Int.reduceMul, Int.reduceEq, Nat.reduceAdd, Nat.reduceMul, Nat.reduceLT, Nat.reduceEqDiff, true_and, and_true, and_self, false_and, and_false, if_true, if_false, ite_true, ite_false, ↓reduceIte, not_true_eq_false, not_false_eq_true, true_or, or_true, or_false, false_or, Int.cast_ofNat_Int, Int.reduceNatCast, m_isIn, lg_lit, e1, nar_0, nar_1]
  by_cases hp : isP (aN A) p
  · rw [if_pos hp, if_pos (by unfold isP at hp; omega)]
  · rw [if_neg hp, if_neg (by unfold isP at hp; omega)]
theorem m_kind (h : MM w m A) {p : Int32} (hp : 0 ≤ p.toInt ∧ p.toInt < 8) (k : Int32 → Wd → Prop) : wp_X4_kind w m p k = k (aN A (5 * p.toInt.toNat)) w := by
  unfold wp_X4_kind
  have e1 : (5 * p).toInt = 5 * p.toInt := i_5z (by omega)
  have e2 : (5 * p.toInt).toNat = 5 * p.toInt.toNat := by omega
  simp only [h.sh.G401, h.sh.r2, h.N, vp_iff, e1, e2]
  exact propext ⟨fun h => h.2, fun h => ⟨by omega, h⟩⟩
theorem m_rd (h : MM w m A) {p d : Int32} (hp : 0 ≤ p.toInt ∧ p.toInt < 8) (hd : 0 ≤ d.toInt ∧ d.toInt < 5) (K : Int32 → Prop) : wld w (some (m + 2)) 0 (5 * p + d) K = K (aN A (5 * p.toInt.toNat + d.toInt.toNat)) := by
  have e1 : (5 * p + d).toInt = 5 * p.toInt + d.toInt := i_5 (by omega) (by omega)
  have e2 : (5 * p.toInt + d.toInt).toNat = 5 * p.toInt.toNat + d.toInt.toNat := by omega
  simp only [h.sh.r2, h.N, vp_iff, e1, e2]
  exact propext ⟨fun h => h.2, fun h => ⟨by omega, h⟩⟩
theorem m_a (h : MM w m A) {p : Int32} (hp : 0 ≤ p.toInt ∧ p.toInt < 8) (k : Int32 → Wd → Prop) : wp_X4_a w m p k = k (aN A (5 * p.toInt.toNat + 1)) w := by
  unfold wp_X4_a
  simp only [h.sh.G401]
  rw [m_rd h hp (by decide)]
  rfl
theorem m_cell (h : MM w m A) {p : Int32} (hp : 0 ≤ p.toInt ∧ p.toInt < 8) (k : Int32 → Wd → Prop) : wp_X4_cell w m p k = k (aN A (5 * p.toInt.toNat + 2)) w := by
  unfold wp_X4_cell
  simp only [h.sh.G401]
  rw [m_rd h hp (by decide)]
  rfl
theorem m_faces (h : MM w m A) {p : Int32} (hp : 0 ≤ p.toInt ∧ p.toInt < 8) (k : Int32 → Wd → Prop) : wp_X4_faces w m p k = k (aN A (5 * p.toInt.toNat + 3)) w := by
  unfold wp_X4_faces
  simp only [h.sh.G401]
  rw [m_rd h hp (by decide)]
  rfl
theorem m_for (h : MM w m A) {p : Int32} (hp : 0 ≤ p.toInt ∧ p.toInt < 8) (k : Int32 → Wd → Prop) : wp_X4_isFor_2 w m p k = k (aN A (5 * p.toInt.toNat + 4)) w := by
  unfold wp_X4_isFor_2
  simp only [h.sh.G401]
  rw [m_rd h hp (by decide)]
  rfl
theorem isP_8 {N : Nw} (hN : okN N) {p : Int32} (hp : isP N p) : 0 ≤ p.toInt ∧ p.toInt < 8 := by
  have := hN.1
  unfold isP at hp
  omega
theorem m_hasPond (h : MM w m A) (hN : okN (aN A)) {c : Int32} (hc : isC (aN A 90) c) (k : Int32 → Wd → Prop) : wp_X4_hasPond w m c k = if pnd (aN A) c = 1 then k 1 w else k 0 w := by
  unfold wp_X4_hasPond wp_X4_pondAt
  have e1 := i_pat hN.side hc
  have e2 := pat_b hN.side hc
  have e3 : (↑(pat c) : Int).toNat = pat c := rfl
  simp only [h.sh.G401, h.sh.r2, h.N, vp_iff, e1, e3]
  exact propext ⟨fun h => h.2, fun h => ⟨by omega, h⟩⟩
/-- what a method leaves of the reference -/
def mR (w : Wd) (m : Nat) (A : Ab) (K : Wd → Prop) : Prop := ∀ w', MM w' m A → fr (mQ m) w w' → K w'
theorem mR.self (h : MM w m A) {K : Wd → Prop} (hk : mR w m A K) : K w := hk w h (fr.refl _ _)
def bump (A : Ab) (c : Int32) : Ab := zR A (up1 (aR A) (-c).toInt.toNat (aR A (-c).toInt.toNat + 1))
theorem m_refuse (h : MM w m A) {c : Int32} (hc : -6 ≤ c.toInt ∧ c.toInt ≤ 0) {k : Int32 → Wd → Prop} (hk : mR w m (bump A c) (k c)) : wp_X4_refuse w m c k := by
  unfold wp_X4_refuse
  have e1 : (-c).toInt = -c.toInt := i_neg (by omega)
  have e2 : vp_in (-c) 7 := vp_iff.2 (by rw [e1]; omega)
  simp only [h.sh.G400, h.sh.r1, h.sh.w1, h.R, e2, true_and]
  exact hk _ (h.wR _ _) (by (repeat' (first | exact fr.refl _ _ | (refine fr.sF ?_ ?_) | (refine fr.sI ?_ ?_) | (refine fr.sL ?_ ?_) | (refine fr.sQ ?_ ?_) | (refine fr.sG ?_ ?_) | (refine fr.nw ?_))) <;> (intro _; unfold mQ; omega))
end MH
