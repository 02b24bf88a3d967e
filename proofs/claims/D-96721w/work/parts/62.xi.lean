/-! ===== the island's small methods ===== -/
/-- a row of bits out of a number below 128 -/
def rowA (a : Nat) : Int32 := Int32.ofNat (a / 2 ^ 0 % 2) + 2 * Int32.ofNat (a / 2 ^ 1 % 2) + 4 * Int32.ofNat (a / 2 ^ 2 % 2) + 8 * Int32.ofNat (a / 2 ^ 3 % 2) + 16 * Int32.ofNat (a / 2 ^ 4 % 2) + 32 * Int32.ofNat (a / 2 ^ 5 % 2) + 64 * Int32.ofNat (a / 2 ^ 6 % 2)
def bN (v : Int32) : Nat := if v = 0 then 0 else 1
theorem bN_c {v : Int32} (h : v = 0 ∨ v = 1) : v = Int32.ofNat (bN v) ∧ bN v < 2 := by
  rcases h with rfl | rfl
  · exact ⟨by decide, by decide⟩
  · exact ⟨by decide, by decide⟩
theorem row7_a {N : Nw} {r : Nat} (h : ∀ c, c < 7 → N (40 + 7 * r + c) = 0 ∨ N (40 + 7 * r + c) = 1) : ∃ a : Nat, a < 128 ∧ row7 N r = rowA a ∧ ∀ c, c < 7 → N (40 + 7 * r + c) = Int32.ofNat (a / 2 ^ c % 2) := by
  have b0 := bN_c (h 0 (by decide))
  have b1 := bN_c (h 1 (by decide))
  have b2 := bN_c (h 2 (by decide))
  have b3 := bN_c (h 3 (by decide))
  have b4 := bN_c (h 4 (by decide))
  have b5 := bN_c (h 5 (by decide))
  have b6 := bN_c (h 6 (by decide))
  have key : ∀ c, c < 7 → N (40 + 7 * r + c) = Int32.ofNat ((bN (N (40 + 7 * r + 0)) + 2 * bN (N (40 + 7 * r + 1)) + 4 * bN (N (40 + 7 * r + 2)) + 8 * bN (N (40 + 7 * r + 3)) + 16 * bN (N (40 + 7 * r + 4)) + 32 * bN (N (40 + 7 * r + 5)) + 64 * bN (N (40 + 7 * r + 6))) / 2 ^ c % 2) := by
    intro c hc
    rcases (show c = 0 ∨ c = 1 ∨ c = 2 ∨ c = 3 ∨ c = 4 ∨ c = 5 ∨ c = 6 by omega) with rfl | rfl | rfl | rfl | rfl | rfl | rfl
    · refine b0.1.trans (congrArg Int32.ofNat ?_)
      have := b0.2; have := b1.2; have := b2.2; have := b3.2; have := b4.2; have := b5.2; have := b6.2
      omega
    · refine b1.1.trans (congrArg Int32.ofNat ?_)
      have := b0.2; have := b1.2; have := b2.2; have := b3.2; have := b4.2; have := b5.2; have := b6.2
      omega
    · refine b2.1.trans (congrArg Int32.ofNat ?_)
      have := b0.2; have := b1.2; have := b2.2; have := b3.2; have := b4.2; have := b5.2; have := b6.2
      omega
    · refine b3.1.trans (congrArg Int32.ofNat ?_)
      have := b0.2; have := b1.2; have := b2.2; have := b3.2; have := b4.2; have := b5.2; have := b6.2
      omega
    · refine b4.1.trans (congrArg Int32.ofNat ?_)
      have := b0.2; have := b1.2; have := b2.2; have := b3.2; have := b4.2; have := b5.2; have := b6.2
      omega
    · refine b5.1.trans (congrArg Int32.ofNat ?_)
      have := b0.2; have := b1.2; have := b2.2; have := b3.2; have := b4.2; have := b5.2; have := b6.2
      omega
    · refine b6.1.trans (congrArg Int32.ofNat ?_)
      have := b0.2; have := b1.2; have := b2.2; have := b3.2; have := b4.2; have := b5.2; have := b6.2
      omega
  refine ⟨_, ?_, ?_, key⟩
  · have := b0.2; have := b1.2; have := b2.2; have := b3.2; have := b4.2; have := b5.2; have := b6.2
    omega
  · unfold row7 rowA
    rw [← key 0 (by decide), ← key 1 (by decide), ← key 2 (by decide), ← key 3 (by decide), ← key 4 (by decide), ← key 5 (by decide), ← key 6 (by decide)]
    rfl
theorem rowA_bit {a c : Nat} (ha : a < 128) (hc : c < 7) : ((rowA a >>> (Int32.ofNat c &&& 31)) &&& 1 = 1) ↔ Int32.ofNat (a / 2 ^ c % 2) = 1 := (show ∀ a : Fin 128, ∀ c : Fin 7, ((rowA a.val >>> (Int32.ofNat c.val &&& 31)) &&& 1 = 1) ↔ Int32.ofNat (a.val / 2 ^ c.val % 2) = 1 by decide +kernel) ⟨a, ha⟩ ⟨c, hc⟩
def setA (a c : Nat) (is : Bool) : Nat := a - a / 2 ^ c % 2 * 2 ^ c + (if is then 2 ^ c else 0)
theorem rowA_set {a c : Nat} (ha : a < 128) (hc : c < 7) : (rowA a ||| (1 <<< (Int32.ofNat c &&& 31)) = rowA (setA a c true) ∧ rowA a &&& ((1 <<< (Int32.ofNat c &&& 31)) ^^^ (-1)) = rowA (setA a c false)) ∧ setA a c true < 128 ∧ setA a c false < 128 ∧ ∀ k, k < 7 → setA a c true / 2 ^ k % 2 = (if k = c then 1 else a / 2 ^ k % 2) ∧ setA a c false / 2 ^ k % 2 = (if k = c then 0 else a / 2 ^ k % 2) :=
  (show ∀ a : Fin 128, ∀ c : Fin 7, (rowA a.val ||| (1 <<< (Int32.ofNat c.val &&& 31)) = rowA (setA a.val c.val true) ∧ rowA a.val &&& ((1 <<< (Int32.ofNat c.val &&& 31)) ^^^ (-1)) = rowA (setA a.val c.val false)) ∧ setA a.val c.val true < 128 ∧ setA a.val c.val false < 128 ∧ ∀ k, k < 7 → setA a.val c.val true / 2 ^ k % 2 = (if k = c.val then 1 else a.val / 2 ^ k % 2) ∧ setA a.val c.val false / 2 ^ k % 2 = (if k = c.val then 0 else a.val / 2 ^ k % 2) by decide +kernel) ⟨a, ha⟩ ⟨c, hc⟩
theorem pat_rc {c : Int32} (h : 0 ≤ c.toInt) : pat c = 40 + 7 * (c.toInt / 10).toNat + (c.toInt % 10).toNat := rfl
section XI
variable {w : Wd} {b i : Nat} {N : Nw}
theorem x_isPerson (h : isl w b i N) (hN : okN N) (p : Int32) (k : Int32 → Wd → Prop) : wp_X1_isPerson w i p k = if isP N p then k 1 w else k 0 w := by
  unfold wp_X1_isPerson
  have h1 := hN.1
  have e1 : (N 89 - 1).toInt = (N 89).toInt - 1 := i_dec (by omega)
  simp only [h.F107, x_isIn, e1, nar_0, nar_1, ie_m6_m5, ie_m6_m4, ie_m6_m3, ie_m6_m2, ie_m6_m1, ie_m6_0, ie_m6_1, ie_m6_2, ie_m6_3, ie_m6_4, ie_m6_5, ie_m6_6, ie_m5_m6, ie_m5_m4, ie_m5_m3, ie_m5_m2, ie_m5_m1, ie_m5_0, ie_m5_1, ie_m5_2, ie_m5_3, ie_m5_4, ie_m5_5, ie_m5_6, ie_m4_m6, ie_m4_m5, ie_m4_m3, ie_m4_m2, ie_m4_m1, ie_m4_0, ie_m4_1, ie_m4_2, ie_m4_3, ie_m4_4, ie_m4_5, ie_m4_6, ie_m3_m6, ie_m3_m5, ie_m3_m4, ie_m3_m2, ie_m3_m1, ie_m3_0, ie_m3_1, ie_m3_2, ie_m3_3, ie_m3_4, ie_m3_5, ie_m3_6, ie_m2_m6, ie_m2_m5, ie_m2_m4, ie_m2_m3, ie_m2_m1, ie_m2_0, ie_m2_1, ie_m2_2, ie_m2_3, ie_m2_4, ie_m2_5, ie_m2_6, ie_m1_m6, ie_m1_m5, ie_m1_m4, ie_m1_m3, ie_m1_m2, ie_m1_0, ie_m1_1, ie_m1_2, ie_m1_3, ie_m1_4, ie_m1_5, ie_m1_6, ie_0_m6, ie_0_m5, ie_0_m4, ie_0_m3, ie_0_m2, ie_0_m1, ie_0_1, ie_0_2, ie_0_3, ie_0_4, ie_0_5, ie_0_6, ie_1_m6, ie_1_m5, ie_1_m4, ie_1_m3, ie_1_m2, ie_1_m1, ie_1_0, ie_1_2, ie_1_3, ie_1_4, ie_1_5, ie_1_6, ie_2_m6, ie_2_m5, ie_2_m4, ie_2_m3, ie_2_m2, ie_2_m1, ie_2_0, ie_2_1, ie_2_3, ie_2_4, ie_2_5, ie_2_6, ie_3_m6, ie_3_m5, ie_3_m4, ie_3_m3, ie_3_m2, ie_3_m1, ie_3_0, ie_3_1, ie_3_2, ie_3_4, ie_3_5, ie_3_6, ie_4_m6, ie_4_m5, ie_4_m4, ie_4_m3, ie_4_m2, ie_4_m1, ie_4_0, ie_4_1, ie_4_2, ie_4_3, ie_4_5, ie_4_6, ie_5_m6, ie_5_m5, ie_5_m4, ie_5_m3, ie_5_m2, ie_5_m1, ie_5_0, ie_5_1, ie_5_2, ie_5_3, ie_5_4, ie_5_6, ie_6_m6, ie_6_m5, ie_6_m4, ie_6_m3, ie_6_m2, ie_6_m1, ie_6_0, ie_6_1, ie_6_2, ie_6_3, ie_6_4, ie_6_5, Int32.reduceToInt, Int64.reduceToInt, Int.reduceToNat, Int32.reduceAdd, Int32.reduceSub, Int32.reduceMul, Int32.reduceDiv, Int32.reduceLT, Int32.reduceLE, Int.reduceLE, Int.reduceLT, Int.reduceNeg, Int.reduceAdd, Int.reduceSub, Int.reduceMul, Int.reduceEq, Nat.reduceAdd, Nat.reduceMul, Nat.reduceLT, Nat.reduceEqDiff, true_and, and_true, and_self, false_and, and_false, if_true, if_false, ite_true, ite_false, ↓reduceIte, not_true_eq_false, not_false_eq_true, true_or, or_true, or_false, false_or, Int.cast_ofNat_Int, Int.reduceNatCast]
  by_cases hp : isP N p
  · rw [if_pos hp, if_pos (by unfold isP at hp; omega)]
  · rw [if_neg hp, if_neg (by unfold isP at hp; omega)]
theorem x_isCell (h : isl w b i N) (c : Int32) (k : Int32 → Wd → Prop) : wp_X1_isCell w i c k = if isC (N 90) c then k 1 w else k 0 w := by
  unfold wp_X1_isCell
  simp only [h.F106]
  by_cases h0 : c < 0
  · have h1 := i_lt.1 h0
    rw [if_pos h0, if_neg]
    intro hc
    have := hc.1
    rw [i_0] at h1
    omega
  · have h1 : 0 ≤ c.toInt := by
      have h2 : ¬ c.toInt < (0 : Int32).toInt := fun h' => h0 (i_lt.2 h')
      rw [i_0] at h2
      omega
    have e1 := i_d10 h1
    have e2 := i_m10 h1
    rw [if_neg h0]
    simp only [i_le, e1, e2]
    by_cases h2 : (N 90).toInt ≤ c.toInt / 10
    · rw [if_pos h2, if_neg (by omega)]
    · by_cases h3 : (N 90).toInt ≤ c.toInt % 10
      · rw [if_neg h2, if_pos h3, if_neg (by omega)]
      · rw [if_neg h2, if_neg h3, if_pos (by omega)]
theorem x_isFaced (w : Wd) (f : Int32) (k : Int32 → Wd → Prop) : wp_X0_isFaced w f k = if okF f then k 1 w else k 0 w := by
  unfold wp_X0_isFaced
  simp only [x_isIn, nar_0, nar_1, ie_m6_m5, ie_m6_m4, ie_m6_m3, ie_m6_m2, ie_m6_m1, ie_m6_0, ie_m6_1, ie_m6_2, ie_m6_3, ie_m6_4, ie_m6_5, ie_m6_6, ie_m5_m6, ie_m5_m4, ie_m5_m3, ie_m5_m2, ie_m5_m1, ie_m5_0, ie_m5_1, ie_m5_2, ie_m5_3, ie_m5_4, ie_m5_5, ie_m5_6, ie_m4_m6, ie_m4_m5, ie_m4_m3, ie_m4_m2, ie_m4_m1, ie_m4_0, ie_m4_1, ie_m4_2, ie_m4_3, ie_m4_4, ie_m4_5, ie_m4_6, ie_m3_m6, ie_m3_m5, ie_m3_m4, ie_m3_m2, ie_m3_m1, ie_m3_0, ie_m3_1, ie_m3_2, ie_m3_3, ie_m3_4, ie_m3_5, ie_m3_6, ie_m2_m6, ie_m2_m5, ie_m2_m4, ie_m2_m3, ie_m2_m1, ie_m2_0, ie_m2_1, ie_m2_2, ie_m2_3, ie_m2_4, ie_m2_5, ie_m2_6, ie_m1_m6, ie_m1_m5, ie_m1_m4, ie_m1_m3, ie_m1_m2, ie_m1_0, ie_m1_1, ie_m1_2, ie_m1_3, ie_m1_4, ie_m1_5, ie_m1_6, ie_0_m6, ie_0_m5, ie_0_m4, ie_0_m3, ie_0_m2, ie_0_m1, ie_0_1, ie_0_2, ie_0_3, ie_0_4, ie_0_5, ie_0_6, ie_1_m6, ie_1_m5, ie_1_m4, ie_1_m3, ie_1_m2, ie_1_m1, ie_1_0, ie_1_2, ie_1_3, ie_1_4, ie_1_5, ie_1_6, ie_2_m6, ie_2_m5, ie_2_m4, ie_2_m3, ie_2_m2, ie_2_m1, ie_2_0, ie_2_1, ie_2_3, ie_2_4, ie_2_5, ie_2_6, ie_3_m6, ie_3_m5, ie_3_m4, ie_3_m3, ie_3_m2, ie_3_m1, ie_3_0, ie_3_1, ie_3_2, ie_3_4, ie_3_5, ie_3_6, ie_4_m6, ie_4_m5, ie_4_m4, ie_4_m3, ie_4_m2, ie_4_m1, ie_4_0, ie_4_1, ie_4_2, ie_4_3, ie_4_5, ie_4_6, ie_5_m6, ie_5_m5, ie_5_m4, ie_5_m3, ie_5_m2, ie_5_m1, ie_5_0, ie_5_1, ie_5_2, ie_5_3, ie_5_4, ie_5_6, ie_6_m6, ie_6_m5, ie_6_m4, ie_6_m3, ie_6_m2, ie_6_m1, ie_6_0, ie_6_1, ie_6_2, ie_6_3, ie_6_4, ie_6_5, Int32.reduceToInt, Int64.reduceToInt, Int.reduceToNat, Int32.reduceAdd, Int32.reduceSub, Int32.reduceMul, Int32.reduceDiv, Int32.reduceLT, Int32.reduceLE, Int.reduceLE, Int.reduceLT, Int.reduceNeg, Int.reduceAdd, Int.reduceSub, Int.reduceMul, Int.reduceEq, Nat.reduceAdd, Nat.reduceMul, Nat.reduceLT, Nat.reduceEqDiff, true_and, and_true, and_self, false_and, and_false, if_true, if_false, ite_true, ite_false, ↓reduceIte, not_true_eq_false, not_false_eq_true, true_or, or_true, or_false, false_or, Int.cast_ofNat_Int, Int.reduceNatCast]
  by_cases h : okF f
  · rw [if_pos h, if_pos (by unfold okF at h; omega)]
  · rw [if_neg h, if_neg (by unfold okF at h; omega)]
/-- a cell's row and column -/
theorem cell_rc {sd c : Int32} (hs : sd.toInt ≤ 7) (hc : isC sd c) : (c / 10).toInt.toNat < 7 ∧ 0 ≤ (c / 10).toInt ∧ c - c / 10 * 10 = Int32.ofNat (c.toInt % 10).toNat ∧ (c.toInt % 10).toNat < 7 ∧ pat c = 40 + 7 * (c / 10).toInt.toNat + (c.toInt % 10).toNat := by
  have hc' := hc
  unfold isC at hc'
  have e1 := i_d10 hc'.1
  have e2 := i_m10 hc'.1
  refine ⟨by rw [e1]; omega, by rw [e1]; omega, Int32.toInt_inj.1 ?_, by omega, by rw [e1]; rfl⟩
  rw [e2, i_ti (by omega)]
  omega
theorem okN_bits {N : Nw} (hN : okN N) {r : Nat} (hr : r < 7) : ∀ c, c < 7 → N (40 + 7 * r + c) = 0 ∨ N (40 + 7 * r + c) = 1 := fun c hc => by
  have := hN.2.2.2.1 (7 * r + c) (by omega)
  rwa [← Nat.add_assoc] at this
theorem x_isPond (h : isl w b i N) (hN : okN N) {c : Int32} (hc : isC (N 90) c) (k : Int32 → Wd → Prop) : wp_X1_isPond w i c k = if pnd N c = 1 then k 1 w else k 0 w := by
  obtain ⟨h1, h2, h3, h4, h5⟩ := cell_rc hN.side hc
  have hv : vp_in (c / 10) 7 := vp_iff.2 (by omega)
  obtain ⟨a, ha, e1, e2⟩ := row7_a (okN_bits hN h1)
  have ep : pnd N c = Int32.ofNat (a / 2 ^ (c.toInt % 10).toNat % 2) := by unfold pnd; rw [h5]; exact e2 _ h4
  unfold wp_X1_isPond wp_X0_has
  simp only [h.G100, h.r1, hv, h.po _ h1, e1, h3, nar_0, nar_1, true_and, rowA_bit ha h4, ← ep]
theorem x_ahead (hk0 : kSh w b) (h : isl w b i N) (hN : okN N) {c f : Int32} (hc : isC (N 90) c) (hf : okF f) (k : Int32 → Wd → Prop) : wp_X1_ahead w i c f k = k (bes (N 90) c f) w := by
  obtain ⟨d, e, ⟨h1, h2⟩, -, ⟨h6, h7⟩, ⟨d0, d1, d2, d3⟩, e0, e1, e2, e3⟩ := hk0
  have hs := hN.2.1
  have hc' := hc
  unfold isC at hc'
  have x1 := i_d10 hc'.1
  have x2 := i_m10 hc'.1
  have hf' := hf
  unfold okF at hf'
  have hv : vp_in f 4 := vp_iff.2 (by omega)
  have l1 : ∀ K : Int32 → Prop, wld w (wk w 0) 0 f K = K (Int32.ofInt (dnF f)) := by
    intro K
    rw [h1]
    show (warr w d 0 f ∧ K (wI w d f.toNatClampNeg)) = _
    unfold warr
    rw [h6]
    rcases okF_c hf with rfl | rfl | rfl | rfl
    · rw [show (0 : Int32).toNatClampNeg = 0 from rfl, d0]; exact propext ⟨fun q => q.2, fun q => ⟨⟨rfl, hv⟩, q⟩⟩
    · rw [show (1 : Int32).toNatClampNeg = 1 from rfl, d1]; exact propext ⟨fun q => q.2, fun q => ⟨⟨rfl, hv⟩, q⟩⟩
    · rw [show (2 : Int32).toNatClampNeg = 2 from rfl, d2]; exact propext ⟨fun q => q.2, fun q => ⟨⟨rfl, hv⟩, q⟩⟩
    · rw [show (3 : Int32).toNatClampNeg = 3 from rfl, d3]; exact propext ⟨fun q => q.2, fun q => ⟨⟨rfl, hv⟩, q⟩⟩
  have l2 : ∀ K : Int32 → Prop, wld w (wk w 1) 0 f K = K (Int32.ofInt (acF f)) := by
    intro K
    rw [h2]
    show (warr w e 0 f ∧ K (wI w e f.toNatClampNeg)) = _
    unfold warr
    rw [h7]
    rcases okF_c hf with rfl | rfl | rfl | rfl
    · rw [show (0 : Int32).toNatClampNeg = 0 from rfl, e0]; exact propext ⟨fun q => q.2, fun q => ⟨⟨rfl, hv⟩, q⟩⟩
    · rw [show (1 : Int32).toNatClampNeg = 1 from rfl, e1]; exact propext ⟨fun q => q.2, fun q => ⟨⟨rfl, hv⟩, q⟩⟩
    · rw [show (2 : Int32).toNatClampNeg = 2 from rfl, e2]; exact propext ⟨fun q => q.2, fun q => ⟨⟨rfl, hv⟩, q⟩⟩
    · rw [show (3 : Int32).toNatClampNeg = 3 from rfl, e3]; exact propext ⟨fun q => q.2, fun q => ⟨⟨rfl, hv⟩, q⟩⟩
  have hdb := dnF_b f
  have hab := acF_b f
  have y1 : (c / 10 + Int32.ofInt (dnF f)).toInt = c.toInt / 10 + dnF f := i_addv x1 (i_ofInt (by omega)) (by omega) (by omega)
  have y2 : (c - c / 10 * 10 + Int32.ofInt (acF f)).toInt = c.toInt % 10 + acF f := i_addv x2 (i_ofInt (by omega)) (by omega) (by omega)
  have y3 : (10 * (c / 10 + Int32.ofInt (dnF f)) + (c - c / 10 * 10 + Int32.ofInt (acF f))).toInt = 10 * (c.toInt / 10 + dnF f) + (c.toInt % 10 + acF f) := i_addv (i_mulv rfl y1 rfl (by omega)) y2 (by omega) (by omega)
  have y4 : (N 90 - 1).toInt = (N 90).toInt - 1 := i_dec (by omega)
  unfold wp_X1_ahead bes
  simp only [l1, l2, h.F106, x_isIn, y1, y2, y4, ie_m6_m5, ie_m6_m4, ie_m6_m3, ie_m6_m2, ie_m6_m1, ie_m6_0, ie_m6_1, ie_m6_2, ie_m6_3, ie_m6_4, ie_m6_5, ie_m6_6, ie_m5_m6, ie_m5_m4, ie_m5_m3, ie_m5_m2, ie_m5_m1, ie_m5_0, ie_m5_1, ie_m5_2, ie_m5_3, ie_m5_4, ie_m5_5, ie_m5_6, ie_m4_m6, ie_m4_m5, ie_m4_m3, ie_m4_m2, ie_m4_m1, ie_m4_0, ie_m4_1, ie_m4_2, ie_m4_3, ie_m4_4, ie_m4_5, ie_m4_6, ie_m3_m6, ie_m3_m5, ie_m3_m4, ie_m3_m2, ie_m3_m1, ie_m3_0, ie_m3_1, ie_m3_2, ie_m3_3, ie_m3_4, ie_m3_5, ie_m3_6, ie_m2_m6, ie_m2_m5, ie_m2_m4, ie_m2_m3, ie_m2_m1, ie_m2_0, ie_m2_1, ie_m2_2, ie_m2_3, ie_m2_4, ie_m2_5, ie_m2_6, ie_m1_m6, ie_m1_m5, ie_m1_m4, ie_m1_m3, ie_m1_m2, ie_m1_0, ie_m1_1, ie_m1_2, ie_m1_3, ie_m1_4, ie_m1_5, ie_m1_6, ie_0_m6, ie_0_m5, ie_0_m4, ie_0_m3, ie_0_m2, ie_0_m1, ie_0_1, ie_0_2, ie_0_3, ie_0_4, ie_0_5, ie_0_6, ie_1_m6, ie_1_m5, ie_1_m4, ie_1_m3, ie_1_m2, ie_1_m1, ie_1_0, ie_1_2, ie_1_3, ie_1_4, ie_1_5, ie_1_6, ie_2_m6, ie_2_m5, ie_2_m4, ie_2_m3, ie_2_m2, ie_2_m1, ie_2_0, ie_2_1, ie_2_3, ie_2_4, ie_2_5, ie_2_6, ie_3_m6, ie_3_m5, ie_3_m4, ie_3_m3, ie_3_m2, ie_3_m1, ie_3_0, ie_3_1, ie_3_2, ie_3_4, ie_3_5, ie_3_6, ie_4_m6, ie_4_m5, ie_4_m4, ie_4_m3, ie_4_m2, ie_4_m1, ie_4_0, ie_4_1, ie_4_2, ie_4_3, ie_4_5, ie_4_6, ie_5_m6, ie_5_m5, ie_5_m4, ie_5_m3, ie_5_m2, ie_5_m1, ie_5_0, ie_5_1, ie_5_2, ie_5_3, ie_5_4, ie_5_6, ie_6_m6, ie_6_m5, ie_6_m4, ie_6_m3, ie_6_m2, ie_6_m1, ie_6_0, ie_6_1, ie_6_2, ie_6_3, ie_6_4, ie_6_5, Int32.reduceToInt, Int64.reduceToInt, Int.reduceToNat, Int32.reduceAdd, Int32.reduceSub, Int32.reduceMul, Int32.reduceDiv, Int32.reduceLT, Int32.reduceLE, Int.reduceLE, Int.reduceLT, Int.reduceNeg, Int.reduceAdd, Int.reduceSub, Int.reduceMul, Int.reduceEq, Nat.reduceAdd, Nat.reduceMul, Nat.reduceLT, Nat.reduceEqDiff, true_and, and_true, and_self, false_and, and_false, if_true, if_false, ite_true, ite_false, ↓reduceIte, not_true_eq_false, not_false_eq_true, true_or, or_true, or_false, false_or, Int.cast_ofNat_Int, Int.reduceNatCast]
  have y5 := Int32.toInt_inj.1 (y3.trans (i_ofInt (n := 10 * (c.toInt / 10 + dnF f) + (c.toInt % 10 + acF f)) (by omega)).symm)
  rw [y5]
  clear y1 y2 y3 y4 y5 x1 x2
  by_cases a1 : 0 ≤ c.toInt / 10 + dnF f ∧ c.toInt / 10 + dnF f ≤ (N 90).toInt - 1
  · rw [if_pos a1]
    by_cases a2 : 0 ≤ c.toInt % 10 + acF f ∧ c.toInt % 10 + acF f ≤ (N 90).toInt - 1
    · rw [if_pos a2, if_pos (by omega)]
    · rw [if_neg a2, if_neg (by omega)]
  · rw [if_neg a1, if_neg (by omega)]
theorem x_isByPond (hk0 : kSh w b) (h : isl w b i N) (hN : okN N) {c : Int32} (hc : isC (N 90) c) (k : Int32 → Wd → Prop) : wp_X1_isByPond w i c k = if shr N c then k 1 w else k 0 w := by
  have hs := hN.side
  have e4 : (4 : Int32).toInt = 4 := rfl
  have st : ∀ (n : Nat) (f : Int32) (l : Int32), (l = 0 ∨ l = 1) → okF f → wl_X1_isByPond_4 k (n + 1) w i c l f = if l = 1 ∨ shb N c f then wl_X1_isByPond_4 k n w i c 1 (f + 1) else wl_X1_isByPond_4 k n w i c 0 (f + 1) := by
    intro n f l hl hf
    have h4 : ¬ (4 : Int32) ≤ f := by rw [i_le, e4]; unfold okF at hf; omega
    have o0 : l ||| 0 = if l = 1 then 1 else 0 := by rcases hl with rfl | rfl <;> decide
    have o1 : l ||| 1 = 1 := by rcases hl with rfl | rfl <;> decide
    rw [wl_X1_isByPond_4_s]
    unfold wb_X1_isByPond_4
    simp only [h4, h.ob, x_ahead hk0 h hN hc hf, o0, o1, ie_m6_m5, ie_m6_m4, ie_m6_m3, ie_m6_m2, ie_m6_m1, ie_m6_0, ie_m6_1, ie_m6_2, ie_m6_3, ie_m6_4, ie_m6_5, ie_m6_6, ie_m5_m6, ie_m5_m4, ie_m5_m3, ie_m5_m2, ie_m5_m1, ie_m5_0, ie_m5_1, ie_m5_2, ie_m5_3, ie_m5_4, ie_m5_5, ie_m5_6, ie_m4_m6, ie_m4_m5, ie_m4_m3, ie_m4_m2, ie_m4_m1, ie_m4_0, ie_m4_1, ie_m4_2, ie_m4_3, ie_m4_4, ie_m4_5, ie_m4_6, ie_m3_m6, ie_m3_m5, ie_m3_m4, ie_m3_m2, ie_m3_m1, ie_m3_0, ie_m3_1, ie_m3_2, ie_m3_3, ie_m3_4, ie_m3_5, ie_m3_6, ie_m2_m6, ie_m2_m5, ie_m2_m4, ie_m2_m3, ie_m2_m1, ie_m2_0, ie_m2_1, ie_m2_2, ie_m2_3, ie_m2_4, ie_m2_5, ie_m2_6, ie_m1_m6, ie_m1_m5, ie_m1_m4, ie_m1_m3, ie_m1_m2, ie_m1_0, ie_m1_1, ie_m1_2, ie_m1_3, ie_m1_4, ie_m1_5, ie_m1_6, ie_0_m6, ie_0_m5, ie_0_m4, ie_0_m3, ie_0_m2, ie_0_m1, ie_0_1, ie_0_2, ie_0_3, ie_0_4, ie_0_5, ie_0_6, ie_1_m6, ie_1_m5, ie_1_m4, ie_1_m3, ie_1_m2, ie_1_m1, ie_1_0, ie_1_2, ie_1_3, ie_1_4, ie_1_5, ie_1_6, ie_2_m6, ie_2_m5, ie_2_m4, ie_2_m3, ie_2_m2, ie_2_m1, ie_2_0, ie_2_1, ie_2_3, ie_2_4, ie_2_5, ie_2_6, ie_3_m6, ie_3_m5, ie_3_m4, ie_3_m3, ie_3_m2, ie_3_m1, ie_3_0, ie_3_1, ie_3_2, ie_3_4, ie_3_5, ie_3_6, ie_4_m6, ie_4_m5, ie_4_m4, ie_4_m3, ie_4_m2, ie_4_m1, ie_4_0, ie_4_1, ie_4_2, ie_4_3, ie_4_5, ie_4_6, ie_5_m6, ie_5_m5, ie_5_m4, ie_5_m3, ie_5_m2, ie_5_m1, ie_5_0, ie_5_1, ie_5_2, ie_5_3, ie_5_4, ie_5_6, ie_6_m6, ie_6_m5, ie_6_m4, ie_6_m3, ie_6_m2, ie_6_m1, ie_6_0, ie_6_1, ie_6_2, ie_6_3, ie_6_4, ie_6_5, Int32.reduceToInt, Int64.reduceToInt, Int.reduceToNat, Int32.reduceAdd, Int32.reduceSub, Int32.reduceMul, Int32.reduceDiv, Int32.reduceLT, Int32.reduceLE, Int.reduceLE, Int.reduceLT, Int.reduceNeg, Int.reduceAdd, Int.reduceSub, Int.reduceMul, Int.reduceEq, Nat.reduceAdd, Nat.reduceMul, Nat.reduceLT, Nat.reduceEqDiff, true_and, and_true, and_self, false_and, and_false, if_true, if_false, ite_true, ite_false, ↓reduceIte, not_true_eq_false, not_false_eq_true, true_or, or_true, or_false, false_or, Int.cast_ofNat_Int, Int.reduceNatCast]
    by_cases q : bes (N 90) c f = -1
    · simp only [q, ie_m6_m5, ie_m6_m4, ie_m6_m3, ie_m6_m2, ie_m6_m1, ie_m6_0, ie_m6_1, ie_m6_2, ie_m6_3, ie_m6_4, ie_m6_5, ie_m6_6, ie_m5_m6, ie_m5_m4, ie_m5_m3, ie_m5_m2, ie_m5_m1, ie_m5_0, ie_m5_1, ie_m5_2, ie_m5_3, ie_m5_4, ie_m5_5, ie_m5_6, ie_m4_m6, ie_m4_m5, ie_m4_m3, ie_m4_m2, ie_m4_m1, ie_m4_0, ie_m4_1, ie_m4_2, ie_m4_3, ie_m4_4, ie_m4_5, ie_m4_6, ie_m3_m6, ie_m3_m5, ie_m3_m4, ie_m3_m2, ie_m3_m1, ie_m3_0, ie_m3_1, ie_m3_2, ie_m3_3, ie_m3_4, ie_m3_5, ie_m3_6, ie_m2_m6, ie_m2_m5, ie_m2_m4, ie_m2_m3, ie_m2_m1, ie_m2_0, ie_m2_1, ie_m2_2, ie_m2_3, ie_m2_4, ie_m2_5, ie_m2_6, ie_m1_m6, ie_m1_m5, ie_m1_m4, ie_m1_m3, ie_m1_m2, ie_m1_0, ie_m1_1, ie_m1_2, ie_m1_3, ie_m1_4, ie_m1_5, ie_m1_6, ie_0_m6, ie_0_m5, ie_0_m4, ie_0_m3, ie_0_m2, ie_0_m1, ie_0_1, ie_0_2, ie_0_3, ie_0_4, ie_0_5, ie_0_6, ie_1_m6, ie_1_m5, ie_1_m4, ie_1_m3, ie_1_m2, ie_1_m1, ie_1_0, ie_1_2, ie_1_3, ie_1_4, ie_1_5, ie_1_6, ie_2_m6, ie_2_m5, ie_2_m4, ie_2_m3, ie_2_m2, ie_2_m1, ie_2_0, ie_2_1, ie_2_3, ie_2_4, ie_2_5, ie_2_6, ie_3_m6, ie_3_m5, ie_3_m4, ie_3_m3, ie_3_m2, ie_3_m1, ie_3_0, ie_3_1, ie_3_2, ie_3_4, ie_3_5, ie_3_6, ie_4_m6, ie_4_m5, ie_4_m4, ie_4_m3, ie_4_m2, ie_4_m1, ie_4_0, ie_4_1, ie_4_2, ie_4_3, ie_4_5, ie_4_6, ie_5_m6, ie_5_m5, ie_5_m4, ie_5_m3, ie_5_m2, ie_5_m1, ie_5_0, ie_5_1, ie_5_2, ie_5_3, ie_5_4, ie_5_6, ie_6_m6, ie_6_m5, ie_6_m4, ie_6_m3, ie_6_m2, ie_6_m1, ie_6_0, ie_6_1, ie_6_2, ie_6_3, ie_6_4, ie_6_5, Int32.reduceToInt, Int64.reduceToInt, Int.reduceToNat, Int32.reduceAdd, Int32.reduceSub, Int32.reduceMul, Int32.reduceDiv, Int32.reduceLT, Int32.reduceLE, Int.reduceLE, Int.reduceLT, Int.reduceNeg, Int.reduceAdd, Int.reduceSub, Int.reduceMul, Int.reduceEq, Nat.reduceAdd, Nat.reduceMul, Nat.reduceLT, Nat.reduceEqDiff, true_and, and_true, and_self, false_and, and_false, if_true, if_false, ite_true, ite_false, ↓reduceIte, not_true_eq_false, not_false_eq_true, true_or, or_true, or_false, false_or, Int.cast_ofNat_Int, Int.reduceNatCast]
      by_cases ql : l = 1
      · rw [if_pos ql, if_pos (Or.inl ql)]
      · rw [if_neg ql, if_neg (fun e => e.elim ql (fun e => e.1 q))]
    · have hp := x_isPond h hN (bes_ne hs hc q)
      simp only [q, h.ob, hp, ie_m6_m5, ie_m6_m4, ie_m6_m3, ie_m6_m2, ie_m6_m1, ie_m6_0, ie_m6_1, ie_m6_2, ie_m6_3, ie_m6_4, ie_m6_5, ie_m6_6, ie_m5_m6, ie_m5_m4, ie_m5_m3, ie_m5_m2, ie_m5_m1, ie_m5_0, ie_m5_1, ie_m5_2, ie_m5_3, ie_m5_4, ie_m5_5, ie_m5_6, ie_m4_m6, ie_m4_m5, ie_m4_m3, ie_m4_m2, ie_m4_m1, ie_m4_0, ie_m4_1, ie_m4_2, ie_m4_3, ie_m4_4, ie_m4_5, ie_m4_6, ie_m3_m6, ie_m3_m5, ie_m3_m4, ie_m3_m2, ie_m3_m1, ie_m3_0, ie_m3_1, ie_m3_2, ie_m3_3, ie_m3_4, ie_m3_5, ie_m3_6, ie_m2_m6, ie_m2_m5, ie_m2_m4, ie_m2_m3, ie_m2_m1, ie_m2_0, ie_m2_1, ie_m2_2, ie_m2_3, ie_m2_4, ie_m2_5, ie_m2_6, ie_m1_m6, ie_m1_m5, ie_m1_m4, ie_m1_m3, ie_m1_m2, ie_m1_0, ie_m1_1, ie_m1_2, ie_m1_3, ie_m1_4, ie_m1_5, ie_m1_6, ie_0_m6, ie_0_m5, ie_0_m4, ie_0_m3, ie_0_m2, ie_0_m1, ie_0_1, ie_0_2, ie_0_3, ie_0_4, ie_0_5, ie_0_6, ie_1_m6, ie_1_m5, ie_1_m4, ie_1_m3, ie_1_m2, ie_1_m1, ie_1_0, ie_1_2, ie_1_3, ie_1_4, ie_1_5, ie_1_6, ie_2_m6, ie_2_m5, ie_2_m4, ie_2_m3, ie_2_m2, ie_2_m1, ie_2_0, ie_2_1, ie_2_3, ie_2_4, ie_2_5, ie_2_6, ie_3_m6, ie_3_m5, ie_3_m4, ie_3_m3, ie_3_m2, ie_3_m1, ie_3_0, ie_3_1, ie_3_2, ie_3_4, ie_3_5, ie_3_6, ie_4_m6, ie_4_m5, ie_4_m4, ie_4_m3, ie_4_m2, ie_4_m1, ie_4_0, ie_4_1, ie_4_2, ie_4_3, ie_4_5, ie_4_6, ie_5_m6, ie_5_m5, ie_5_m4, ie_5_m3, ie_5_m2, ie_5_m1, ie_5_0, ie_5_1, ie_5_2, ie_5_3, ie_5_4, ie_5_6, ie_6_m6, ie_6_m5, ie_6_m4, ie_6_m3, ie_6_m2, ie_6_m1, ie_6_0, ie_6_1, ie_6_2, ie_6_3, ie_6_4, ie_6_5, Int32.reduceToInt, Int64.reduceToInt, Int.reduceToNat, Int32.reduceAdd, Int32.reduceSub, Int32.reduceMul, Int32.reduceDiv, Int32.reduceLT, Int32.reduceLE, Int.reduceLE, Int.reduceLT, Int.reduceNeg, Int.reduceAdd, Int.reduceSub, Int.reduceMul, Int.reduceEq, Nat.reduceAdd, Nat.reduceMul, Nat.reduceLT, Nat.reduceEqDiff, true_and, and_true, and_self, false_and, and_false, if_true, if_false, ite_true, ite_false, ↓reduceIte, not_true_eq_false, not_false_eq_true, true_or, or_true, or_false, false_or, Int.cast_ofNat_Int, Int.reduceNatCast]
      by_cases p : pnd N (bes (N 90) c f) = 1
      · rw [if_pos p, if_pos (Or.inr ⟨q, p⟩)]
      · rw [if_neg p]
        by_cases ql : l = 1
        · rw [if_pos ql, if_pos (Or.inl ql)]
        · rw [if_neg ql, if_neg (fun e => e.elim ql (fun e => p e.2))]
  have fin : ∀ n l, (l = 0 ∨ l = 1) → wl_X1_isByPond_4 k (n + 1) w i c l 4 = k l w := fun n l hl => by
    rw [wl_X1_isByPond_4_s]
    unfold wb_X1_isByPond_4
    rcases hl with rfl | rfl
    · simp only [nar_0, ie_m6_m5, ie_m6_m4, ie_m6_m3, ie_m6_m2, ie_m6_m1, ie_m6_0, ie_m6_1, ie_m6_2, ie_m6_3, ie_m6_4, ie_m6_5, ie_m6_6, ie_m5_m6, ie_m5_m4, ie_m5_m3, ie_m5_m2, ie_m5_m1, ie_m5_0, ie_m5_1, ie_m5_2, ie_m5_3, ie_m5_4, ie_m5_5, ie_m5_6, ie_m4_m6, ie_m4_m5, ie_m4_m3, ie_m4_m2, ie_m4_m1, ie_m4_0, ie_m4_1, ie_m4_2, ie_m4_3, ie_m4_4, ie_m4_5, ie_m4_6, ie_m3_m6, ie_m3_m5, ie_m3_m4, ie_m3_m2, ie_m3_m1, ie_m3_0, ie_m3_1, ie_m3_2, ie_m3_3, ie_m3_4, ie_m3_5, ie_m3_6, ie_m2_m6, ie_m2_m5, ie_m2_m4, ie_m2_m3, ie_m2_m1, ie_m2_0, ie_m2_1, ie_m2_2, ie_m2_3, ie_m2_4, ie_m2_5, ie_m2_6, ie_m1_m6, ie_m1_m5, ie_m1_m4, ie_m1_m3, ie_m1_m2, ie_m1_0, ie_m1_1, ie_m1_2, ie_m1_3, ie_m1_4, ie_m1_5, ie_m1_6, ie_0_m6, ie_0_m5, ie_0_m4, ie_0_m3, ie_0_m2, ie_0_m1, ie_0_1, ie_0_2, ie_0_3, ie_0_4, ie_0_5, ie_0_6, ie_1_m6, ie_1_m5, ie_1_m4, ie_1_m3, ie_1_m2, ie_1_m1, ie_1_0, ie_1_2, ie_1_3, ie_1_4, ie_1_5, ie_1_6, ie_2_m6, ie_2_m5, ie_2_m4, ie_2_m3, ie_2_m2, ie_2_m1, ie_2_0, ie_2_1, ie_2_3, ie_2_4, ie_2_5, ie_2_6, ie_3_m6, ie_3_m5, ie_3_m4, ie_3_m3, ie_3_m2, ie_3_m1, ie_3_0, ie_3_1, ie_3_2, ie_3_4, ie_3_5, ie_3_6, ie_4_m6, ie_4_m5, ie_4_m4, ie_4_m3, ie_4_m2, ie_4_m1, ie_4_0, ie_4_1, ie_4_2, ie_4_3, ie_4_5, ie_4_6, ie_5_m6, ie_5_m5, ie_5_m4, ie_5_m3, ie_5_m2, ie_5_m1, ie_5_0, ie_5_1, ie_5_2, ie_5_3, ie_5_4, ie_5_6, ie_6_m6, ie_6_m5, ie_6_m4, ie_6_m3, ie_6_m2, ie_6_m1, ie_6_0, ie_6_1, ie_6_2, ie_6_3, ie_6_4, ie_6_5, Int32.reduceToInt, Int64.reduceToInt, Int.reduceToNat, Int32.reduceAdd, Int32.reduceSub, Int32.reduceMul, Int32.reduceDiv, Int32.reduceLT, Int32.reduceLE, Int.reduceLE, Int.reduceLT, Int.reduceNeg, Int.reduceAdd, Int.reduceSub, Int.reduceMul, Int.reduceEq, Nat.reduceAdd, Nat.reduceMul, Nat.reduceLT, Nat.reduceEqDiff, true_and, and_true, and_self, false_and, and_false, if_true, if_false, ite_true, ite_false, ↓reduceIte, not_true_eq_false, not_false_eq_true, true_or, or_true, or_false, false_or, Int.cast_ofNat_Int, Int.reduceNatCast]
    · simp only [nar_1, ie_m6_m5, ie_m6_m4, ie_m6_m3, ie_m6_m2, ie_m6_m1, ie_m6_0, ie_m6_1, ie_m6_2, ie_m6_3, ie_m6_4, ie_m6_5, ie_m6_6, ie_m5_m6, ie_m5_m4, ie_m5_m3, ie_m5_m2, ie_m5_m1, ie_m5_0, ie_m5_1, ie_m5_2, ie_m5_3, ie_m5_4, ie_m5_5, ie_m5_6, ie_m4_m6, ie_m4_m5, ie_m4_m3, ie_m4_m2, ie_m4_m1, ie_m4_0, ie_m4_1, ie_m4_2, ie_m4_3, ie_m4_4, ie_m4_5, ie_m4_6, ie_m3_m6, ie_m3_m5, ie_m3_m4, ie_m3_m2, ie_m3_m1, ie_m3_0, ie_m3_1, ie_m3_2, ie_m3_3, ie_m3_4, ie_m3_5, ie_m3_6, ie_m2_m6, ie_m2_m5, ie_m2_m4, ie_m2_m3, ie_m2_m1, ie_m2_0, ie_m2_1, ie_m2_2, ie_m2_3, ie_m2_4, ie_m2_5, ie_m2_6, ie_m1_m6, ie_m1_m5, ie_m1_m4, ie_m1_m3, ie_m1_m2, ie_m1_0, ie_m1_1, ie_m1_2, ie_m1_3, ie_m1_4, ie_m1_5, ie_m1_6, ie_0_m6, ie_0_m5, ie_0_m4, ie_0_m3, ie_0_m2, ie_0_m1, ie_0_1, ie_0_2, ie_0_3, ie_0_4, ie_0_5, ie_0_6, ie_1_m6, ie_1_m5, ie_1_m4, ie_1_m3, ie_1_m2, ie_1_m1, ie_1_0, ie_1_2, ie_1_3, ie_1_4, ie_1_5, ie_1_6, ie_2_m6, ie_2_m5, ie_2_m4, ie_2_m3, ie_2_m2, ie_2_m1, ie_2_0, ie_2_1, ie_2_3, ie_2_4, ie_2_5, ie_2_6, ie_3_m6, ie_3_m5, ie_3_m4, ie_3_m3, ie_3_m2, ie_3_m1, ie_3_0, ie_3_1, ie_3_2, ie_3_4, ie_3_5, ie_3_6, ie_4_m6, ie_4_m5, ie_4_m4, ie_4_m3, ie_4_m2, ie_4_m1, ie_4_0, ie_4_1, ie_4_2, ie_4_3, ie_4_5, ie_4_6, ie_5_m6, ie_5_m5, ie_5_m4, ie_5_m3, ie_5_m2, ie_5_m1, ie_5_0, ie_5_1, ie_5_2, ie_5_3, ie_5_4, ie_5_6, ie_6_m6, ie_6_m5, ie_6_m4, ie_6_m3, ie_6_m2, ie_6_m1, ie_6_0, ie_6_1, ie_6_2, ie_6_3, ie_6_4, ie_6_5, Int32.reduceToInt, Int64.reduceToInt, Int.reduceToNat, Int32.reduceAdd, Int32.reduceSub, Int32.reduceMul, Int32.reduceDiv, Int32.reduceLT, Int32.reduceLE, Int.reduceLE, Int.reduceLT, Int.reduceNeg, Int.reduceAdd, Int.reduceSub, Int.reduceMul, Int.reduceEq, Nat.reduceAdd, Nat.reduceMul, Nat.reduceLT, Nat.reduceEqDiff, true_and, and_true, and_self, false_and, and_false, if_true, if_false, ite_true, ite_false, ↓reduceIte, not_true_eq_false, not_false_eq_true, true_or, or_true, or_false, false_or, Int.cast_ofNat_Int, Int.reduceNatCast]
  have g0 : okF 0 := by decide
  have g1 : okF 1 := by decide
  have g2 : okF 2 := by decide
  have g3 : okF 3 := by decide
  have a0 : (0 : Int32) + 1 = 1 := rfl
  have a1 : (1 : Int32) + 1 = 2 := rfl
  have a2 : (2 : Int32) + 1 = 3 := rfl
  have a3 : (3 : Int32) + 1 = 4 := rfl
  have u1 : (1 : Int32) = 0 ∨ (1 : Int32) = 1 := Or.inr rfl
  have u0 : (0 : Int32) = 0 ∨ (0 : Int32) = 1 := Or.inl rfl
  have z1 : ∀ x : Prop, ((1 : Int32) = 1 ∨ x) = True := fun x => eq_true (Or.inl rfl)
  have z0 : ∀ x : Prop, ((0 : Int32) = 1 ∨ x) = x := fun x => propext ⟨fun e => e.elim (fun e => absurd e (by decide)) id, Or.inr⟩
  unfold wp_X1_isByPond
  rw [show FU = 995 + 1 + 1 + 1 + 1 + 1 from rfl]
  simp only [st _ 0 0 u0 g0, a0, st _ 1 1 u1 g1, st _ 1 0 u0 g1, a1, st _ 2 1 u1 g2, st _ 2 0 u0 g2, a2, st _ 3 1 u1 g3, st _ 3 0 u0 g3, a3, fin _ 1 u1, fin _ 0 u0, z1, z0, true_or, if_true]
  by_cases q0 : shb N c 0
  · rw [if_pos q0, if_pos (Or.inl (Or.inl (Or.inl q0)))]
  · rw [if_neg q0]
    by_cases q1 : shb N c 1
    · rw [if_pos q1, if_pos (Or.inl (Or.inl (Or.inr q1)))]
    · rw [if_neg q1]
      by_cases q2 : shb N c 2
      · rw [if_pos q2, if_pos (Or.inl (Or.inr q2))]
      · rw [if_neg q2]
        by_cases q3 : shb N c 3
        · rw [if_pos q3, if_pos (Or.inr q3)]
        · rw [if_neg q3, if_neg (by rintro (((q | q) | q) | q) <;> contradiction)]
end XI
