/-! ===== votes, of the reference ===== -/
def okP (N : Nw) : Prop := (N 89).toInt = pe N ∧ pe N ≤ 8
theorem okN.P {N : Nw} (h : okN N) : okP N := ⟨h.peI, h.pe8⟩
theorem okP.le {N : Nw} (h : okP N) {j : Nat} (hj : j ≤ 8) : N 89 ≤ Int32.ofNat j ↔ pe N ≤ j := by
  rw [i_le, i_ti (by omega), h.1]
  omega
theorem okP.z {N : Nw} (h : okP N) : N 89 = 0 ↔ pe N = 0 := by
  rw [i_eq, h.1, i_0]
  omega
theorem i_tn8 {j : Nat} (h : j ≤ 8) : 0 ≤ (Int32.ofNat j).toInt ∧ (Int32.ofNat j).toInt ≤ 8 := by rw [i_ti (by omega)]; omega
theorem i_tt {j : Nat} (h : j < 1000000) : (Int32.ofNat j).toInt.toNat = j := by rw [i_ti (by omega)]; rfl
/-- the weight of those for one -/
def wghF (N : Nw) (v : Int32) : Int32 := foldP (fun p a => a + (if N (5 * p + 4) = v then N (5 * p + 1) else 0)) 0 (pe N)
def carF (N : Nw) : Int32 := if 0 < wghF N 1 - wghF N 0 then 1 else if wghF N 1 - wghF N 0 < 0 then 0 else N 91
section MV
variable {w : Wd} {m : Nat} {A : Ab}
theorem m_weigh (h : MM w m A) (hP : okP (aN A)) (v : Int32) {k : Int32 → Wd → Prop} (hk : k (wghF (aN A) v) w) : wp_X4_weigh w m v k := by
  have h8 := hP.2
  unfold wp_X4_weigh
  refine loopN (n := pe (aN A)) (I := fun j w2 => w2 = w) (L := fun fu j w2 => wl_X4_weigh_4 k fu w2 m v (foldP (fun p a => a + (if aN A (5 * p + 4) = v then aN A (5 * p + 1) else 0)) 0 j) (Int32.ofNat j)) ?_ ?_ (pe (aN A)) FU 0 w (by omega) (by unfold FU; omega) rfl
  · rintro fu j w2 hj rfl ih
    have hp8 : 0 ≤ (Int32.ofNat j).toInt ∧ (Int32.ofNat j).toInt < 8 := by rw [i_ti (by omega)]; omega
    rw [wl_X4_weigh_4_s]
    unfold wb_X4_weigh_4
    simp only [h.sh.ob, m_many h, ie_m6_m5, ie_m6_m4, ie_m6_m3, ie_m6_m2, ie_m6_m1, ie_m6_0, ie_m6_1, ie_m6_2, ie_m6_3, ie_m6_4, ie_m6_5, ie_m6_6, ie_m5_m6, ie_m5_m4, ie_m5_m3, ie_m5_m2, ie_m5_m1, ie_m5_0, ie_m5_1, ie_m5_2, ie_m5_3, ie_m5_4, ie_m5_5, ie_m5_6, ie_m4_m6, ie_m4_m5, ie_m4_m3, ie_m4_m2, ie_m4_m1, ie_m4_0, ie_m4_1, ie_m4_2, ie_m4_3, ie_m4_4, ie_m4_5, ie_m4_6, ie_m3_m6, ie_m3_m5, ie_m3_m4, ie_m3_m2, ie_m3_m1, ie_m3_0, ie_m3_1, ie_m3_2, ie_m3_3, ie_m3_4, ie_m3_5, ie_m3_6, ie_m2_m6, ie_m2_m5, ie_m2_m4, ie_m2_m3, ie_m2_m1, ie_m2_0, ie_m2_1, ie_m2_2, ie_m2_3, ie_m2_4, ie_m2_5, ie_m2_6, ie_m1_m6, ie_m1_m5, ie_m1_m4, ie_m1_m3, ie_m1_m2, ie_m1_0, ie_m1_1, ie_m1_2, ie_m1_3, ie_m1_4, ie_m1_5, ie_m1_6, ie_0_m6, ie_0_m5, ie_0_m4, ie_0_m3, ie_0_m2, ie_0_m1, ie_0_1, ie_0_2, ie_0_3, ie_0_4, ie_0_5, ie_0_6, ie_1_m6, ie_1_m5, ie_1_m4, ie_1_m3, ie_1_m2, ie_1_m1, ie_1_0, ie_1_2, ie_1_3, ie_1_4, ie_1_5, ie_1_6, ie_2_m6, ie_2_m5, ie_2_m4, ie_2_m3, ie_2_m2, ie_2_m1, ie_2_0, ie_2_1, ie_2_3, ie_2_4, ie_2_5, ie_2_6, ie_3_m6, ie_3_m5, ie_3_m4, ie_3_m3, ie_3_m2, ie_3_m1, ie_3_0, ie_3_1, ie_3_2, ie_3_4, ie_3_5, ie_3_6, ie_4_m6, ie_4_m5, ie_4_m4, ie_4_m3, ie_4_m2, ie_4_m1, ie_4_0, ie_4_1, ie_4_2, ie_4_3, ie_4_5, ie_4_6, ie_5_m6, ie_5_m5, ie_5_m4, ie_5_m3, ie_5_m2, ie_5_m1, ie_5_0, ie_5_1, ie_5_2, ie_5_3, ie_5_4, ie_5_6, ie_6_m6, ie_6_m5, ie_6_m4, ie_6_m3, ie_6_m2, ie_6_m1, ie_6_0, ie_6_1, ie_6_2, ie_6_3, ie_6_4, ie_6_5, Int32.reduceToInt, Int64.reduceToInt, Int.reduceToNat, Int32.reduceAdd, Int32.reduceSub, Int32.reduceMul, Int32.reduceDiv, Int32.reduceLT, Int32.reduceLE, Int.reduceLE, Int.reduceLT, Int.reduceNeg, Int.reduceAdd, Int.reduceSub, Int.reduceMul, Int.reduceEq, Nat.reduceAdd, Nat.reduceMul, Nat.reduceLT, Nat.reduceEqDiff, true_and, and_true, and_self, false_and, and_false, if_true, if_false, ite_true, ite_false, ↓reduceIte, not_true_eq_false, not_false_eq_true, true_or, or_true, or_false, false_or, Int.cast_ofNat_Int, Int.reduceNatCast]
    rw [if_neg (by rw [hP.le (by omega)]; omega)]
    simp only [m_for h hp8, m_a h hp8, i_tt (show j < 1000000 by omega), i_ofS]
    have := ih _ rfl
    simp only [foldP] at this
    by_cases e : aN A (5 * j + 4) = v
    · rw [if_pos e] at this ⊢
      exact ⟨by rw [h.sh.ob]; trivial, this⟩
    · rw [if_neg e] at this ⊢
      exact this
  · rintro fu w2 rfl
    rw [wl_X4_weigh_4_s]
    unfold wb_X4_weigh_4
    simp only [h.sh.ob, m_many h, ie_m6_m5, ie_m6_m4, ie_m6_m3, ie_m6_m2, ie_m6_m1, ie_m6_0, ie_m6_1, ie_m6_2, ie_m6_3, ie_m6_4, ie_m6_5, ie_m6_6, ie_m5_m6, ie_m5_m4, ie_m5_m3, ie_m5_m2, ie_m5_m1, ie_m5_0, ie_m5_1, ie_m5_2, ie_m5_3, ie_m5_4, ie_m5_5, ie_m5_6, ie_m4_m6, ie_m4_m5, ie_m4_m3, ie_m4_m2, ie_m4_m1, ie_m4_0, ie_m4_1, ie_m4_2, ie_m4_3, ie_m4_4, ie_m4_5, ie_m4_6, ie_m3_m6, ie_m3_m5, ie_m3_m4, ie_m3_m2, ie_m3_m1, ie_m3_0, ie_m3_1, ie_m3_2, ie_m3_3, ie_m3_4, ie_m3_5, ie_m3_6, ie_m2_m6, ie_m2_m5, ie_m2_m4, ie_m2_m3, ie_m2_m1, ie_m2_0, ie_m2_1, ie_m2_2, ie_m2_3, ie_m2_4, ie_m2_5, ie_m2_6, ie_m1_m6, ie_m1_m5, ie_m1_m4, ie_m1_m3, ie_m1_m2, ie_m1_0, ie_m1_1, ie_m1_2, ie_m1_3, ie_m1_4, ie_m1_5, ie_m1_6, ie_0_m6, ie_0_m5, ie_0_m4, ie_0_m3, ie_0_m2, ie_0_m1, ie_0_1, ie_0_2, ie_0_3, ie_0_4, ie_0_5, ie_0_6, ie_1_m6, ie_1_m5, ie_1_m4, ie_1_m3, ie_1_m2, ie_1_m1, ie_1_0, ie_1_2, ie_1_3, ie_1_4, ie_1_5, ie_1_6, ie_2_m6, ie_2_m5, ie_2_m4, ie_2_m3, ie_2_m2, ie_2_m1, ie_2_0, ie_2_1, ie_2_3, ie_2_4, ie_2_5, ie_2_6, ie_3_m6, ie_3_m5, ie_3_m4, ie_3_m3, ie_3_m2, ie_3_m1, ie_3_0, ie_3_1, ie_3_2, ie_3_4, ie_3_5, ie_3_6, ie_4_m6, ie_4_m5, ie_4_m4, ie_4_m3, ie_4_m2, ie_4_m1, ie_4_0, ie_4_1, ie_4_2, ie_4_3, ie_4_5, ie_4_6, ie_5_m6, ie_5_m5, ie_5_m4, ie_5_m3, ie_5_m2, ie_5_m1, ie_5_0, ie_5_1, ie_5_2, ie_5_3, ie_5_4, ie_5_6, ie_6_m6, ie_6_m5, ie_6_m4, ie_6_m3, ie_6_m2, ie_6_m1, ie_6_0, ie_6_1, ie_6_2, ie_6_3, ie_6_4, ie_6_5, Int32.reduceToInt, Int64.reduceToInt, Int.reduceToNat, Int32.reduceAdd, Int32.reduceSub, Int32.reduceMul, Int32.reduceDiv, Int32.reduceLT, Int32.reduceLE, Int.reduceLE, Int.reduceLT, Int.reduceNeg, Int.reduceAdd, Int.reduceSub, Int.reduceMul, Int.reduceEq, Nat.reduceAdd, Nat.reduceMul, Nat.reduceLT, Nat.reduceEqDiff, true_and, and_true, and_self, false_and, and_false, if_true, if_false, ite_true, ite_false, ↓reduceIte, not_true_eq_false, not_false_eq_true, true_or, or_true, or_false, false_or, Int.cast_ofNat_Int, Int.reduceNatCast]
    rw [if_pos (by rw [hP.le (by omega)]; omega)]
    exact hk
theorem m_carries (h : MM w m A) (hP : okP (aN A)) {k : Int32 → Wd → Prop} (hk : k (carF (aN A)) w) : wp_X4_carries w m k := by
  unfold wp_X4_carries
  refine ⟨by rw [h.sh.ob]; trivial, m_weigh h hP 1 ⟨by rw [h.sh.ob]; trivial, m_weigh h hP 0 ?_⟩⟩
  have v91 : vp_in 91 97 := vp_iff.2 (by decide)
  simp only [h.sh.G401, h.sh.r2, h.N, v91, ie_m6_m5, ie_m6_m4, ie_m6_m3, ie_m6_m2, ie_m6_m1, ie_m6_0, ie_m6_1, ie_m6_2, ie_m6_3, ie_m6_4, ie_m6_5, ie_m6_6, ie_m5_m6, ie_m5_m4, ie_m5_m3, ie_m5_m2, ie_m5_m1, ie_m5_0, ie_m5_1, ie_m5_2, ie_m5_3, ie_m5_4, ie_m5_5, ie_m5_6, ie_m4_m6, ie_m4_m5, ie_m4_m3, ie_m4_m2, ie_m4_m1, ie_m4_0, ie_m4_1, ie_m4_2, ie_m4_3, ie_m4_4, ie_m4_5, ie_m4_6, ie_m3_m6, ie_m3_m5, ie_m3_m4, ie_m3_m2, ie_m3_m1, ie_m3_0, ie_m3_1, ie_m3_2, ie_m3_3, ie_m3_4, ie_m3_5, ie_m3_6, ie_m2_m6, ie_m2_m5, ie_m2_m4, ie_m2_m3, ie_m2_m1, ie_m2_0, ie_m2_1, ie_m2_2, ie_m2_3, ie_m2_4, ie_m2_5, ie_m2_6, ie_m1_m6, ie_m1_m5, ie_m1_m4, ie_m1_m3, ie_m1_m2, ie_m1_0, ie_m1_1, ie_m1_2, ie_m1_3, ie_m1_4, ie_m1_5, ie_m1_6, ie_0_m6, ie_0_m5, ie_0_m4, ie_0_m3, ie_0_m2, ie_0_m1, ie_0_1, ie_0_2, ie_0_3, ie_0_4, ie_0_5, ie_0_6, ie_1_m6, ie_1_m5, ie_1_m4, ie_1_m3, ie_1_m2, ie_1_m1, ie_1_0, ie_1_2, ie_1_3, ie_1_4, ie_1_5, ie_1_6, ie_2_m6, ie_2_m5, ie_2_m4, ie_2_m3, ie_2_m2, ie_2_m1, ie_2_0, ie_2_1, ie_2_3, ie_2_4, ie_2_5, ie_2_6, ie_3_m6, ie_3_m5, ie_3_m4, ie_3_m3, ie_3_m2, ie_3_m1, ie_3_0, ie_3_1, ie_3_2, ie_3_4, ie_3_5, ie_3_6, ie_4_m6, ie_4_m5, ie_4_m4, ie_4_m3, ie_4_m2, ie_4_m1, ie_4_0, ie_4_1, ie_4_2, ie_4_3, ie_4_5, ie_4_6, ie_5_m6, ie_5_m5, ie_5_m4, ie_5_m3, ie_5_m2, ie_5_m1, ie_5_0, ie_5_1, ie_5_2, ie_5_3, ie_5_4, ie_5_6, ie_6_m6, ie_6_m5, ie_6_m4, ie_6_m3, ie_6_m2, ie_6_m1, ie_6_0, ie_6_1, ie_6_2, ie_6_3, ie_6_4, ie_6_5, Int32.reduceToInt, Int64.reduceToInt, Int.reduceToNat, Int32.reduceAdd, Int32.reduceSub, Int32.reduceMul, Int32.reduceDiv, Int32.reduceLT, Int32.reduceLE, Int.reduceLE, Int.reduceLT, Int.reduceNeg, Int.reduceAdd, Int.reduceSub, Int.reduceMul, Int.reduceEq, Nat.reduceAdd, Nat.reduceMul, Nat.reduceLT, Nat.reduceEqDiff, true_and, and_true, and_self, false_and, and_false, if_true, if_false, ite_true, ite_false, ↓reduceIte, not_true_eq_false, not_false_eq_true, true_or, or_true, or_false, false_or, Int.cast_ofNat_Int, Int.reduceNatCast]
  unfold carF at hk
  by_cases h1 : 0 < wghF (aN A) 1 - wghF (aN A) 0
  · rw [if_neg (by rw [i_le]; rw [i_lt] at h1; omega)]
    rwa [if_pos h1] at hk
  · rw [if_pos (by rw [i_le]; rw [i_lt] at h1; omega)]
    rw [if_neg h1] at hk
    by_cases h2 : wghF (aN A) 1 - wghF (aN A) 0 < 0
    · rw [if_neg (by rw [i_le]; rw [i_lt] at h2; omega)]
      rwa [if_pos h2] at hk
    · rw [if_pos (by rw [i_le]; rw [i_lt] at h2; omega)]
      rwa [if_neg h2] at hk
def F_bloc (A : Ab) (v : Int32) : Int32 × Ab := if 0 ≤ v.toInt ∧ v.toInt ≤ 1 then (wghF (aN A) v, A) else rf A (-2)
theorem m_bloc (h : MM w m A) (hN : okN (aN A)) (v : Int32) {k : Int32 → Wd → Prop} (hk : mR w m (F_bloc A v).2 (k (F_bloc A v).1)) : wp_X4_bloc w m v k := by
  unfold wp_X4_bloc
  unfold F_bloc at hk
  simp only [m_isIn, lg_lit, ie_m6_m5, ie_m6_m4, ie_m6_m3, ie_m6_m2, ie_m6_m1, ie_m6_0, ie_m6_1, ie_m6_2, ie_m6_3, ie_m6_4, ie_m6_5, ie_m6_6, ie_m5_m6, ie_m5_m4, ie_m5_m3, ie_m5_m2, ie_m5_m1, ie_m5_0, ie_m5_1, ie_m5_2, ie_m5_3, ie_m5_4, ie_m5_5, ie_m5_6, ie_m4_m6, ie_m4_m5, ie_m4_m3, ie_m4_m2, ie_m4_m1, ie_m4_0, ie_m4_1, ie_m4_2, ie_m4_3, ie_m4_4, ie_m4_5, ie_m4_6, ie_m3_m6, ie_m3_m5, ie_m3_m4, ie_m3_m2, ie_m3_m1, ie_m3_0, ie_m3_1, ie_m3_2, ie_m3_3, ie_m3_4, ie_m3_5, ie_m3_6, ie_m2_m6, ie_m2_m5, ie_m2_m4, ie_m2_m3, ie_m2_m1, ie_m2_0, ie_m2_1, ie_m2_2, ie_m2_3, ie_m2_4, ie_m2_5, ie_m2_6, ie_m1_m6, ie_m1_m5, ie_m1_m4, ie_m1_m3, ie_m1_m2, ie_m1_0, ie_m1_1, ie_m1_2, ie_m1_3, ie_m1_4, ie_m1_5, ie_m1_6, ie_0_m6, ie_0_m5, ie_0_m4, ie_0_m3, ie_0_m2, ie_0_m1, ie_0_1, ie_0_2, ie_0_3, ie_0_4, ie_0_5, ie_0_6, ie_1_m6, ie_1_m5, ie_1_m4, ie_1_m3, ie_1_m2, ie_1_m1, ie_1_0, ie_1_2, ie_1_3, ie_1_4, ie_1_5, ie_1_6, ie_2_m6, ie_2_m5, ie_2_m4, ie_2_m3, ie_2_m2, ie_2_m1, ie_2_0, ie_2_1, ie_2_3, ie_2_4, ie_2_5, ie_2_6, ie_3_m6, ie_3_m5, ie_3_m4, ie_3_m3, ie_3_m2, ie_3_m1, ie_3_0, ie_3_1, ie_3_2, ie_3_4, ie_3_5, ie_3_6, ie_4_m6, ie_4_m5, ie_4_m4, ie_4_m3, ie_4_m2, ie_4_m1, ie_4_0, ie_4_1, ie_4_2, ie_4_3, ie_4_5, ie_4_6, ie_5_m6, ie_5_m5, ie_5_m4, ie_5_m3, ie_5_m2, ie_5_m1, ie_5_0, ie_5_1, ie_5_2, ie_5_3, ie_5_4, ie_5_6, ie_6_m6, ie_6_m5, ie_6_m4, ie_6_m3, ie_6_m2, ie_6_m1, ie_6_0, ie_6_1, ie_6_2, ie_6_3, ie_6_4, ie_6_5, Int32.reduceToInt, Int64.reduceToInt, Int.reduceToNat, Int32.reduceAdd, Int32.reduceSub, Int32.reduceMul, Int32.reduceDiv, Int32.reduceLT, Int32.reduceLE, Int.reduceLE, Int.reduceLT, Int.reduceNeg, Int.reduceAdd, Int.reduceSub, Int.reduceMul, Int.reduceEq, Nat.reduceAdd, Nat.reduceMul, Nat.reduceLT, Nat.reduceEqDiff, true_and, and_true, and_self, false_and, and_false, if_true, if_false, ite_true, ite_false, ↓reduceIte, not_true_eq_false, not_false_eq_true, true_or, or_true, or_false, false_or, Int.cast_ofNat_Int, Int.reduceNatCast]
  by_cases hv : 0 ≤ v.toInt ∧ v.toInt ≤ 1
  · rw [if_pos hv]
    rw [if_pos hv] at hk
    exact ⟨by rw [h.sh.ob]; trivial, m_weigh h hN.P v (hk.self h)⟩
  · rw [if_neg hv]
    rw [if_neg hv] at hk
    exact ⟨by rw [h.sh.ob]; trivial, m_refuse h (by decide) hk⟩
/-- a set's bit as a number -/
def sbit (set : Int32) (p : Nat) : Int32 := (set >>> (Int32.ofNat p &&& 31)) &&& 1
theorem i_and1 (x : Int32) : x &&& 1 = 0 ∨ x &&& 1 = 1 := by
  have h : x.toBitVec &&& 1#32 = 0#32 ∨ x.toBitVec &&& 1#32 = 1#32 := by
    rw [BitVec.and_one_eq_setWidth_ofBool_getLsbD]
    cases x.toBitVec.getLsbD 0
    · exact Or.inl rfl
    · exact Or.inr rfl
  rcases h with h | h
  · exact Or.inl (Int32.toBitVec_inj.1 h)
  · exact Or.inr (Int32.toBitVec_inj.1 h)
theorem sbit_c (set : Int32) (p : Nat) : sbit set p = 0 ∨ sbit set p = 1 := i_and1 _
/-- those of a set among the first j are for the other one -/
def chJ (N : Nw) (set : Int32) (j : Nat) : Nw := fun k => if k % 5 = 4 ∧ k / 5 < j then N k ^^^ sbit set (k / 5) else N k
theorem chJ_0 (N : Nw) (set : Int32) : chJ N set 0 = N := funext fun k => if_neg (by omega)
theorem chJ_s (N : Nw) (set : Int32) (j : Nat) : chJ N set (j + 1) = up1 (chJ N set j) (5 * j + 4) (chJ N set j (5 * j + 4) ^^^ sbit set j) := funext fun k => by
  unfold up1
  by_cases e : k = 5 * j + 4
  · rw [if_pos e]
    subst e
    unfold chJ
    rw [if_pos (by omega), if_neg (by omega), show (5 * j + 4) / 5 = j by omega]
  · rw [if_neg e]
    unfold chJ
    by_cases c : k % 5 = 4 ∧ k / 5 < j
    · rw [if_pos (by omega), if_pos c]
    · rw [if_neg (by omega), if_neg c]
theorem chJ_hi (N : Nw) (set : Int32) {j k : Nat} (hj : j ≤ 8) (hk : 40 ≤ k) : chJ N set j k = N k := if_neg (by omega)
theorem chJ_pe (N : Nw) (set : Int32) {j : Nat} (hj : j ≤ 8) : pe (chJ N set j) = pe N := by unfold pe; rw [chJ_hi N set hj (by decide)]
theorem chJ_P {N : Nw} (h : okP N) (set : Int32) {j : Nat} (hj : j ≤ 8) : okP (chJ N set j) := by
  unfold okP
  rw [chJ_pe N set hj, chJ_hi N set hj (by decide)]
  exact h
theorem chJ_2 (N : Nw) (set : Int32) (j : Nat) : chJ (chJ N set j) set j = N := funext fun k => by
  unfold chJ
  by_cases c : k % 5 = 4 ∧ k / 5 < j
  · simp only [if_pos c]
    rw [Int32.xor_assoc, Int32.xor_self, Int32.xor_zero]
  · simp only [if_neg c]
theorem m_change (h : MM w m A) (hP : okP (aN A)) (set : Int32) {k : Wd → Prop} (hk : ∀ w', MM w' m (zN A (chJ (aN A) set (pe (aN A)))) → fr (mQ m) w w' → k w') : wp_X4_change w m set k := by
  have h8 := hP.2
  unfold wp_X4_change
  refine loopN (n := pe (aN A)) (I := fun j w2 => MM w2 m (zN A (chJ (aN A) set j)) ∧ fr (mQ m) w w2) (L := fun fu j w2 => wl_X4_change_2 k fu w2 m set (Int32.ofNat j)) ?_ ?_ (pe (aN A)) FU 0 w (by omega) (by unfold FU; omega) ⟨by rw [chJ_0, zN_a]; exact h, fr.refl _ _⟩
  · intro fu j w2 hj ⟨h2, hf2⟩ ih
    have hp8 : 0 ≤ (Int32.ofNat j).toInt ∧ (Int32.ofNat j).toInt < 8 := by rw [i_ti (by omega)]; omega
    have e5 : (5 * Int32.ofNat j + 4).toInt = 5 * (Int32.ofNat j).toInt + (4 : Int32).toInt := i_5 (by omega) (by decide)
    have e5' : (5 * Int32.ofNat j + 4).toInt.toNat = 5 * j + 4 := by rw [e5, i_ti (by omega)]; show (5 * (j : Int) + 4).toNat = _; omega
    have hv : vp_in (5 * Int32.ofNat j + 4) 97 := vp_iff.2 (by rw [e5, i_ti (by omega)]; show 0 ≤ 5 * (j : Int) + 4 ∧ 5 * (j : Int) + 4 < (97 : Nat); omega)
    rw [wl_X4_change_2_s]
    unfold wb_X4_change_2
    simp only [h2.sh.ob, m_many h2, aN_zN, chJ_hi (aN A) set (show j ≤ 8 by omega) (show 40 ≤ 89 by decide), ie_m6_m5, ie_m6_m4, ie_m6_m3, ie_m6_m2, ie_m6_m1, ie_m6_0, ie_m6_1, ie_m6_2, ie_m6_3, ie_m6_4, ie_m6_5, ie_m6_6, ie_m5_m6, ie_m5_m4, ie_m5_m3, ie_m5_m2, ie_m5_m1, ie_m5_0, ie_m5_1, ie_m5_2, ie_m5_3, ie_m5_4, ie_m5_5, ie_m5_6, ie_m4_m6, ie_m4_m5, ie_m4_m3, ie_m4_m2, ie_m4_m1, ie_m4_0, ie_m4_1, ie_m4_2, ie_m4_3, ie_m4_4, ie_m4_5, ie_m4_6, ie_m3_m6, ie_m3_m5, ie_m3_m4, ie_m3_m2, ie_m3_m1, ie_m3_0, ie_m3_1, ie_m3_2, ie_m3_3, ie_m3_4, ie_m3_5, ie_m3_6, ie_m2_m6, ie_m2_m5, ie_m2_m4, ie_m2_m3, ie_m2_m1, ie_m2_0, ie_m2_1, ie_m2_2, ie_m2_3, ie_m2_4, ie_m2_5, ie_m2_6, ie_m1_m6, ie_m1_m5, ie_m1_m4, ie_m1_m3, ie_m1_m2, ie_m1_0, ie_m1_1, ie_m1_2, ie_m1_3, ie_m1_4, ie_m1_5, ie_m1_6, ie_0_m6, ie_0_m5, ie_0_m4, ie_0_m3, ie_0_m2, ie_0_m1, ie_0_1, ie_0_2, ie_0_3, ie_0_4, ie_0_5, ie_0_6, ie_1_m6, ie_1_m5, ie_1_m4, ie_1_m3, ie_1_m2, ie_1_m1, ie_1_0, ie_1_2, ie_1_3, ie_1_4, ie_1_5, ie_1_6, ie_2_m6, ie_2_m5, ie_2_m4, ie_2_m3, ie_2_m2, ie_2_m1, ie_2_0, ie_2_1, ie_2_3, ie_2_4, ie_2_5, ie_2_6, ie_3_m6, ie_3_m5, ie_3_m4, ie_3_m3, ie_3_m2, ie_3_m1, ie_3_0, ie_3_1, ie_3_2, ie_3_4, ie_3_5, ie_3_6, ie_4_m6, ie_4_m5, ie_4_m4, ie_4_m3, ie_4_m2, ie_4_m1, ie_4_0, ie_4_1, ie_4_2, ie_4_3, ie_4_5, ie_4_6, ie_5_m6, ie_5_m5, ie_5_m4, ie_5_m3, ie_5_m2, ie_5_m1, ie_5_0, ie_5_1, ie_5_2, ie_5_3, ie_5_4, ie_5_6, ie_6_m6, ie_6_m5, ie_6_m4, ie_6_m3, ie_6_m2, ie_6_m1, ie_6_0, ie_6_1, ie_6_2, ie_6_3, ie_6_4, ie_6_5, Int32.reduceToInt, Int64.reduceToInt, Int.reduceToNat, Int32.reduceAdd, Int32.reduceSub, Int32.reduceMul, Int32.reduceDiv, Int32.reduceLT, Int32.reduceLE, Int.reduceLE, Int.reduceLT, Int.reduceNeg, Int.reduceAdd, Int.reduceSub, Int.reduceMul, Int.reduceEq, Nat.reduceAdd, Nat.reduceMul, Nat.reduceLT, Nat.reduceEqDiff, true_and, and_true, and_self, false_and, and_false, if_true, if_false, ite_true, ite_false, ↓reduceIte, not_true_eq_false, not_false_eq_true, true_or, or_true, or_false, false_or, Int.cast_ofNat_Int, Int.reduceNatCast]
    rw [if_neg (by rw [hP.le (by omega)]; omega)]
    simp only [h2.sh.G401, h2.sh.r2, h2.sh.w2, h2.N, aN_zN, e5', hv, i_ofS, true_and]
    refine ih _ ⟨?_, frN hf2⟩
    have := h2.wN' (5 * j + 4) (chJ (aN A) set j (5 * j + 4) ^^^ sbit set j)
    rwa [← chJ_s] at this
  · intro fu w2 ⟨h2, hf2⟩
    rw [wl_X4_change_2_s]
    unfold wb_X4_change_2
    simp only [h2.sh.ob, m_many h2, aN_zN, chJ_hi (aN A) set h8 (show 40 ≤ 89 by decide), ie_m6_m5, ie_m6_m4, ie_m6_m3, ie_m6_m2, ie_m6_m1, ie_m6_0, ie_m6_1, ie_m6_2, ie_m6_3, ie_m6_4, ie_m6_5, ie_m6_6, ie_m5_m6, ie_m5_m4, ie_m5_m3, ie_m5_m2, ie_m5_m1, ie_m5_0, ie_m5_1, ie_m5_2, ie_m5_3, ie_m5_4, ie_m5_5, ie_m5_6, ie_m4_m6, ie_m4_m5, ie_m4_m3, ie_m4_m2, ie_m4_m1, ie_m4_0, ie_m4_1, ie_m4_2, ie_m4_3, ie_m4_4, ie_m4_5, ie_m4_6, ie_m3_m6, ie_m3_m5, ie_m3_m4, ie_m3_m2, ie_m3_m1, ie_m3_0, ie_m3_1, ie_m3_2, ie_m3_3, ie_m3_4, ie_m3_5, ie_m3_6, ie_m2_m6, ie_m2_m5, ie_m2_m4, ie_m2_m3, ie_m2_m1, ie_m2_0, ie_m2_1, ie_m2_2, ie_m2_3, ie_m2_4, ie_m2_5, ie_m2_6, ie_m1_m6, ie_m1_m5, ie_m1_m4, ie_m1_m3, ie_m1_m2, ie_m1_0, ie_m1_1, ie_m1_2, ie_m1_3, ie_m1_4, ie_m1_5, ie_m1_6, ie_0_m6, ie_0_m5, ie_0_m4, ie_0_m3, ie_0_m2, ie_0_m1, ie_0_1, ie_0_2, ie_0_3, ie_0_4, ie_0_5, ie_0_6, ie_1_m6, ie_1_m5, ie_1_m4, ie_1_m3, ie_1_m2, ie_1_m1, ie_1_0, ie_1_2, ie_1_3, ie_1_4, ie_1_5, ie_1_6, ie_2_m6, ie_2_m5, ie_2_m4, ie_2_m3, ie_2_m2, ie_2_m1, ie_2_0, ie_2_1, ie_2_3, ie_2_4, ie_2_5, ie_2_6, ie_3_m6, ie_3_m5, ie_3_m4, ie_3_m3, ie_3_m2, ie_3_m1, ie_3_0, ie_3_1, ie_3_2, ie_3_4, ie_3_5, ie_3_6, ie_4_m6, ie_4_m5, ie_4_m4, ie_4_m3, ie_4_m2, ie_4_m1, ie_4_0, ie_4_1, ie_4_2, ie_4_3, ie_4_5, ie_4_6, ie_5_m6, ie_5_m5, ie_5_m4, ie_5_m3, ie_5_m2, ie_5_m1, ie_5_0, ie_5_1, ie_5_2, ie_5_3, ie_5_4, ie_5_6, ie_6_m6, ie_6_m5, ie_6_m4, ie_6_m3, ie_6_m2, ie_6_m1, ie_6_0, ie_6_1, ie_6_2, ie_6_3, ie_6_4, ie_6_5, Int32.reduceToInt, Int64.reduceToInt, Int.reduceToNat, Int32.reduceAdd, Int32.reduceSub, Int32.reduceMul, Int32.reduceDiv, Int32.reduceLT, Int32.reduceLE, Int.reduceLE, Int.reduceLT, Int.reduceNeg, Int.reduceAdd, Int.reduceSub, Int.reduceMul, Int.reduceEq, Nat.reduceAdd, Nat.reduceMul, Nat.reduceLT, Nat.reduceEqDiff, true_and, and_true, and_self, false_and, and_false, if_true, if_false, ite_true, ite_false, ↓reduceIte, not_true_eq_false, not_false_eq_true, true_or, or_true, or_false, false_or, Int.cast_ofNat_Int, Int.reduceNatCast]
    rw [if_pos (by rw [hP.le (by omega)]; omega)]
    exact hk w2 h2 hf2
/-- what would carry if those of a set were for the other one -/
def carC (N : Nw) (set : Int32) : Int32 := carF (chJ N set (pe N))
theorem m_carC (h : MM w m A) (hP : okP (aN A)) (set : Int32) {k : Int32 → Wd → Prop} {K : Int32 → Wd → Prop} (hk : ∀ w', MM w' m A → fr (mQ m) w w' → K (carC (aN A) set) w') (hK : ∀ v w', K v w' → k v w') : wp_X4_change w m set (fun w1 => wob w1 m [24] ∧ wp_X4_carries w1 m (fun v w2 => wob w2 m [24] ∧ wp_X4_change w2 m set (fun w3 => k v w3))) := by
  refine m_change h hP set (fun w1 h1 hf1 => ⟨by rw [h1.sh.ob]; trivial, m_carries h1 (chJ_P hP set hP.2) ⟨by rw [h1.sh.ob]; trivial, m_change h1 (chJ_P hP set hP.2) set (fun w3 h3 hf3 => ?_)⟩⟩)
  rw [aN_zN, chJ_pe _ _ hP.2, chJ_2, zN_zN, zN_a] at h3
  exact hK _ _ (hk w3 h3 (hf1.trans hf3))
def F_swing (A : Ab) (p : Int32) : Int32 × Ab := if isP (aN A) p then (if carF (aN A) = carC (aN A) (1 <<< (p &&& 31)) then 0 else 1, A) else rf A (-2)
theorem m_swing (h : MM w m A) (hN : okN (aN A)) (p : Int32) {k : Int32 → Wd → Prop} (hk : mR w m (F_swing A p).2 (k (F_swing A p).1)) : wp_X4_swing w m p k := by
  unfold wp_X4_swing
  unfold F_swing at hk
  refine ⟨by rw [h.sh.ob]; trivial, ?_⟩
  rw [m_isPerson h hN]
  by_cases hp : isP (aN A) p
  · rw [if_pos hp, if_neg (by decide)]
    rw [if_pos hp] at hk
    refine ⟨by rw [h.sh.ob]; trivial, m_carries h hN.P ⟨by rw [h.sh.ob]; trivial, m_carC h hN.P _ (K := fun v w' => k (if carF (aN A) = v then 0 else 1) w') hk (fun v w' hv => ?_)⟩⟩
    by_cases e : carF (aN A) = v
    · rw [if_pos e] at hv ⊢; exact hv
    · rw [if_neg e] at hv ⊢; exact hv
  · rw [if_neg hp, if_pos rfl]
    rw [if_neg hp] at hk
    exact ⟨by rw [h.sh.ob]; trivial, m_refuse h (by decide) hk⟩
/-- how many of 8 are in a set -/
def oneF (set : Int32) : Int32 := foldP (fun q a => a + sbit set q) 0 8
theorem m_ones (w : Wd) (set : Int32) {k : Int32 → Wd → Prop} (hk : k (oneF set) w) : wp_X4_ones w set k := by
  unfold wp_X4_ones
  refine loopN (n := 8) (I := fun j w2 => w2 = w) (L := fun fu j w2 => wl_X4_ones_4 k fu w2 set (foldP (fun q a => a + sbit set q) 0 j) (Int32.ofNat j)) ?_ ?_ 8 FU 0 w (by omega) (by unfold FU; omega) rfl
  · rintro fu j w2 hj rfl ih
    rw [wl_X4_ones_4_s]
    unfold wb_X4_ones_4
    rw [if_neg (by rw [i_le, i_ti (by omega)]; show ¬ (8 : Int) ≤ j; omega), i_ofS]
    exact ih _ rfl
  · rintro fu w2 rfl
    rw [wl_X4_ones_4_s]
    unfold wb_X4_ones_4
    rw [if_pos (by decide)]
    exact hk
theorem sh_int {p : Nat} (hp : p ≤ 8) : ((1 : Int32) <<< (Int32.ofNat p &&& 31)).toInt = ((2 ^ p : Nat) : Int) := (show ∀ q : Fin 9, ((1 : Int32) <<< (Int32.ofNat q.val &&& 31)).toInt = ((2 ^ q.val : Nat) : Int) by decide +kernel) ⟨p, by omega⟩
theorem sh_le {p : Nat} (hp : p ≤ 8) (j : Nat) (hj : j ≤ 256) : (1 : Int32) <<< (Int32.ofNat p &&& 31) ≤ Int32.ofNat j ↔ 2 ^ p ≤ j := by
  rw [i_le, i_ti (by omega), sh_int hp]
  omega
theorem pow8 {p : Nat} (hp : p ≤ 8) : 1 ≤ 2 ^ p ∧ 2 ^ p ≤ 256 := ⟨Nat.one_le_two_pow, Nat.le_trans (Nat.pow_le_pow_right (by decide) hp) (by decide)⟩
/-- the smallest set that turns it, among 1 .. j -/
def turJ (N : Nw) (j : Nat) : Int32 := foldP (fun c f => if ¬ carC N (Int32.ofNat (c + 1)) = carF N ∧ (f = -1 ∨ oneF (Int32.ofNat (c + 1)) < oneF f) then Int32.ofNat (c + 1) else f) (-1) j
def F_turn (A : Ab) (what : Int32) : Int32 × Ab := if 0 ≤ what.toInt ∧ what.toInt ≤ 1 then (if turJ (aN A) (2 ^ pe (aN A) - 1) = -1 then -1 else if what = 0 then oneF (turJ (aN A) (2 ^ pe (aN A) - 1)) else turJ (aN A) (2 ^ pe (aN A) - 1), A) else rf A (-2)
theorem m_turn (h : MM w m A) (hN : okN (aN A)) (what : Int32) {k : Int32 → Wd → Prop} (hk : mR w m (F_turn A what).2 (k (F_turn A what).1)) : wp_X4_turn w m what k := by
  have hP := hN.P
  have hpw := pow8 hP.2
  unfold wp_X4_turn
  unfold F_turn at hk
  simp only [m_isIn, lg_lit, ie_m6_m5, ie_m6_m4, ie_m6_m3, ie_m6_m2, ie_m6_m1, ie_m6_0, ie_m6_1, ie_m6_2, ie_m6_3, ie_m6_4, ie_m6_5, ie_m6_6, ie_m5_m6, ie_m5_m4, ie_m5_m3, ie_m5_m2, ie_m5_m1, ie_m5_0, ie_m5_1, ie_m5_2, ie_m5_3, ie_m5_4, ie_m5_5, ie_m5_6, ie_m4_m6, ie_m4_m5, ie_m4_m3, ie_m4_m2, ie_m4_m1, ie_m4_0, ie_m4_1, ie_m4_2, ie_m4_3, ie_m4_4, ie_m4_5, ie_m4_6, ie_m3_m6, ie_m3_m5, ie_m3_m4, ie_m3_m2, ie_m3_m1, ie_m3_0, ie_m3_1, ie_m3_2, ie_m3_3, ie_m3_4, ie_m3_5, ie_m3_6, ie_m2_m6, ie_m2_m5, ie_m2_m4, ie_m2_m3, ie_m2_m1, ie_m2_0, ie_m2_1, ie_m2_2, ie_m2_3, ie_m2_4, ie_m2_5, ie_m2_6, ie_m1_m6, ie_m1_m5, ie_m1_m4, ie_m1_m3, ie_m1_m2, ie_m1_0, ie_m1_1, ie_m1_2, ie_m1_3, ie_m1_4, ie_m1_5, ie_m1_6, ie_0_m6, ie_0_m5, ie_0_m4, ie_0_m3, ie_0_m2, ie_0_m1, ie_0_1, ie_0_2, ie_0_3, ie_0_4, ie_0_5, ie_0_6, ie_1_m6, ie_1_m5, ie_1_m4, ie_1_m3, ie_1_m2, ie_1_m1, ie_1_0, ie_1_2, ie_1_3, ie_1_4, ie_1_5, ie_1_6, ie_2_m6, ie_2_m5, ie_2_m4, ie_2_m3, ie_2_m2, ie_2_m1, ie_2_0, ie_2_1, ie_2_3, ie_2_4, ie_2_5, ie_2_6, ie_3_m6, ie_3_m5, ie_3_m4, ie_3_m3, ie_3_m2, ie_3_m1, ie_3_0, ie_3_1, ie_3_2, ie_3_4, ie_3_5, ie_3_6, ie_4_m6, ie_4_m5, ie_4_m4, ie_4_m3, ie_4_m2, ie_4_m1, ie_4_0, ie_4_1, ie_4_2, ie_4_3, ie_4_5, ie_4_6, ie_5_m6, ie_5_m5, ie_5_m4, ie_5_m3, ie_5_m2, ie_5_m1, ie_5_0, ie_5_1, ie_5_2, ie_5_3, ie_5_4, ie_5_6, ie_6_m6, ie_6_m5, ie_6_m4, ie_6_m3, ie_6_m2, ie_6_m1, ie_6_0, ie_6_1, ie_6_2, ie_6_3, ie_6_4, ie_6_5, Int32.reduceToInt, Int64.reduceToInt, Int.reduceToNat, Int32.reduceAdd, Int32.reduceSub, Int32.reduceMul, Int32.reduceDiv, Int32.reduceLT, Int32.reduceLE, Int.reduceLE, Int.reduceLT, Int.reduceNeg, Int.reduceAdd, Int.reduceSub, Int.reduceMul, Int.reduceEq, Nat.reduceAdd, Nat.reduceMul, Nat.reduceLT, Nat.reduceEqDiff, true_and, and_true, and_self, false_and, and_false, if_true, if_false, ite_true, ite_false, ↓reduceIte, not_true_eq_false, not_false_eq_true, true_or, or_true, or_false, false_or, Int.cast_ofNat_Int, Int.reduceNatCast]
  by_cases hv : 0 ≤ what.toInt ∧ what.toInt ≤ 1
  · rw [if_pos hv]
    rw [if_pos hv] at hk
    refine ⟨by rw [h.sh.ob]; trivial, m_carries h hP ?_⟩
    refine loopN (n := 2 ^ pe (aN A) - 1) (I := fun j w2 => MM w2 m A ∧ fr (mQ m) w w2) (L := fun fu j w2 => wl_X4_turn_27 k fu w2 m what (carF (aN A)) (turJ (aN A) j) (Int32.ofNat (j + 1))) ?_ ?_ (2 ^ pe (aN A) - 1) FU 0 w (by omega) (by unfold FU; omega) ⟨h, fr.refl _ _⟩
    · intro fu j w2 hj ⟨h2, hf2⟩ ih
      rw [wl_X4_turn_27_s]
      unfold wb_X4_turn_27
      refine ⟨by rw [h2.sh.ob]; trivial, ?_⟩
      have hpe : aN A 89 = Int32.ofNat (pe (aN A)) := by rw [i_eq, hP.1, i_ti (by have := hP.2; omega)]
      rw [m_many h2, hpe, if_neg (by rw [sh_le hP.2 _ (by omega)]; omega)]
      have et : turJ (aN A) (j + 1) = if ¬ carC (aN A) (Int32.ofNat (j + 1)) = carF (aN A) ∧ (turJ (aN A) j = -1 ∨ oneF (Int32.ofNat (j + 1)) < oneF (turJ (aN A) j)) then Int32.ofNat (j + 1) else turJ (aN A) j := rfl
      have last : ∀ w5, MM w5 m A → fr (mQ m) w2 w5 → wl_X4_turn_27 k fu w5 m what (carF (aN A)) (turJ (aN A) (j + 1)) (Int32.ofNat (j + 1 + 1)) := fun w5 h5 hf5 => ih w5 ⟨h5, hf2.trans hf5⟩
      rw [et] at last
      have g57 : ∀ (s0 : Int32) (w4 : Wd), (s0 = 0 ↔ carC (aN A) (Int32.ofNat (j + 1)) = carF (aN A)) → MM w4 m (zN A (chJ (aN A) (Int32.ofNat (j + 1)) (pe (aN A)))) → fr (mQ m) w2 w4 → wb_X4_turn_57 k (wl_X4_turn_27 k fu) w4 m what (carF (aN A)) (turJ (aN A) j) (Int32.ofNat (j + 1)) s0 := by
        intro s0 w4 hs h4 hf4
        unfold wb_X4_turn_57
        refine ⟨by rw [h4.sh.ob]; trivial, m_change h4 (chJ_P hP _ hP.2) _ (fun w5 h5 hf5 => ?_)⟩
        rw [aN_zN, chJ_pe _ _ hP.2, chJ_2, zN_zN, zN_a] at h5
        have l5 := last w5 h5 (hf4.trans hf5)
        rw [i_ofS]
        by_cases e : carC (aN A) (Int32.ofNat (j + 1)) = carF (aN A)
        · rw [if_pos (hs.2 e)]
          rwa [if_neg (fun q => q.1 e)] at l5
        · rw [if_neg (fun q => e (hs.1 q))]
          by_cases e1 : turJ (aN A) j = -1
          · rw [if_pos e1]
            rwa [if_pos ⟨e, Or.inl e1⟩] at l5
          · rw [if_neg e1]
            refine m_ones w5 _ (m_ones w5 _ ?_)
            by_cases e2 : oneF (Int32.ofNat (j + 1)) < oneF (turJ (aN A) j)
            · rw [if_neg (by rw [i_le]; rw [i_lt] at e2; omega)]
              rwa [if_pos ⟨e, Or.inr e2⟩] at l5
            · rw [if_pos (by rw [i_le]; rw [i_lt] at e2; omega)]
              rwa [if_neg (fun q => q.2.elim e1 e2)] at l5
      refine ⟨by rw [h2.sh.ob]; trivial, m_change h2 hP _ (fun w3 h3 hf3 => ⟨by rw [h3.sh.ob]; trivial, m_carries h3 (chJ_P hP _ hP.2) ?_⟩)⟩
      show if carC (aN A) (Int32.ofNat (j + 1)) = carF (aN A) then _ else _
      by_cases e : carC (aN A) (Int32.ofNat (j + 1)) = carF (aN A)
      · rw [if_pos e]
        exact g57 0 w3 ⟨fun _ => e, fun _ => rfl⟩ h3 hf3
      · rw [if_neg e]
        exact g57 1 w3 ⟨fun q => absurd q (by decide), fun q => absurd q e⟩ h3 hf3
    · intro fu w2 ⟨h2, hf2⟩
      rw [wl_X4_turn_27_s]
      unfold wb_X4_turn_27
      refine ⟨by rw [h2.sh.ob]; trivial, ?_⟩
      have hpe : aN A 89 = Int32.ofNat (pe (aN A)) := by rw [i_eq, hP.1, i_ti (by have := hP.2; omega)]
      rw [m_many h2, hpe, if_pos (by rw [sh_le hP.2 _ (by omega)]; omega)]
      have hk2 := hk w2 h2 hf2
      by_cases e : turJ (aN A) (2 ^ pe (aN A) - 1) = -1
      · rw [if_pos e] at hk2 ⊢
        exact hk2
      · rw [if_neg e] at hk2 ⊢
        by_cases e0 : what = 0
        · rw [if_pos e0] at hk2 ⊢
          exact m_ones w2 _ hk2
        · rw [if_neg e0] at hk2 ⊢
          exact hk2
  · rw [if_neg hv]
    rw [if_neg hv] at hk
    exact ⟨by rw [h.sh.ob]; trivial, m_refuse h (by decide) hk⟩
end MV
