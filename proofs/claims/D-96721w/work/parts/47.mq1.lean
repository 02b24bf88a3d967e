/-! ===== queries by tellings, of the reference ===== -/
theorem loopN {n : Nat} {I : Nat → Wd → Prop} {L : Nat → Nat → Wd → Prop} (step : ∀ (fu j : Nat) (w : Wd), j < n → I j w → (∀ w', I (j + 1) w' → L fu (j + 1) w') → L (fu + 1) j w) (fin : ∀ (fu : Nat) (w : Wd), I n w → L (fu + 1) n w) : ∀ (d fu j : Nat) (w : Wd), j + d = n → d < fu → I j w → L fu j w := by
  intro d
  induction d with
  | zero =>
    intro fu j w hj hfu hI
    obtain ⟨fu, rfl⟩ : ∃ g, fu = g + 1 := ⟨fu - 1, by omega⟩
    obtain rfl : j = n := by omega
    exact fin fu w hI
  | succ d ih =>
    intro fu j w hj hfu hI
    obtain ⟨fu, rfl⟩ : ∃ g, fu = g + 1 := ⟨fu - 1, by omega⟩
    exact step fu j w (by omega) hI (fun w' hI' => ih fu (j + 1) w' (by omega) (by omega) hI')
def foldP {α : Type} (f : Nat → α → α) (a : α) : Nat → α
  | 0 => a
  | n + 1 => f n (foldP f a n)
theorem mP_Q {w w' : Wd} {m : Nat} (h : fr (mP m) w w') : fr (mQ m) w w' := h.mono (fun q k _ hp => by unfold mP at hp; unfold mQ; omega)
theorem mPw_Q {w w' : Wd} {m : Nat} (h : fr (mPw m) w w') : fr (mQ m) w w' := mP_Q (mPw_P h)
theorem mPt_Q {w w' : Wd} {m : Nat} (h : fr (mPt m) w w') : fr (mQ m) w w' := mP_Q (mPt_P h)
/-- a query by a telling -/
def qF (A : Ab) (well : Prop) [Decidable well] (s n : Int32) (val : Int32) : Int32 × Ab := if 0 ≤ (loadF A well s n).toInt then (val, A) else rf A (loadF A well s n)
/-- where one comes by a shelf's telling -/
def goA (A : Ab) (p : Nat) (s n : Int32) : Wk := runW (aN A) (aN A (5 * p)) (aN A 91) p (tlg A s) (beg (aN A (5 * p + 2)) (aN A (5 * p + 3))) n.toInt.toNat
/-- what a telling loaded means -/
def ldd (w : Wd) (m : Nat) (A : Ab) (s n : Int32) : Prop := (0 ≤ n.toInt ∧ n.toInt ≤ 40) ∧ (∀ j, j < n.toInt.toNat → wI w (m + 13) j = tlg A s j) ∧ ∀ j < n.toInt.toNat, tlg A s j = 0 ∨ tlg A s j = 1 ∨ tlg A s j = 2 ∨ tlg A s j = 3
theorem ldd.sc {w w' : Wd} {m : Nat} {A : Ab} {s n : Int32} {P : Nat → Nat → Prop} (h : ldd w m A s n) (hf : fr P w w') (hz : m + 21 ≤ wz w) (hP : ¬ P (m + 13) 9999) : ldd w' m A s n := ⟨h.1, fun j hj => by rw [hf.I (by omega) hP]; exact h.2.1 j hj, h.2.2⟩
section MQ1
variable {w : Wd} {m : Nat} {A : Ab}
theorem m_q (h : MM w m A) (hA : okS A) {well : Prop} [Decidable well] {wl s n val : Int32} (hw : ¬ wl = 0 ↔ well) {k : Int32 → Wd → Prop} (hk : mR w m (qF A well s n val).2 (k (qF A well s n val).1)) {B : Wd → Prop} (hB : well → ∀ w', MM w' m A → fr (mP m) w w' → ldd w' m A s n → mR w' m A (k val) → B w') :
    wp_X4_loadIf w m wl s n (fun v w' => if (0 : Int32) ≤ v then B w' else (wob w' m [24] ∧ wp_X4_refuse w' m v (fun v w => k v w))) := by
  refine m_loadIf h hA well wl s n hw (fun w' hf hT => ?_)
  have h1 := h.sc (mPt_P hf)
  unfold qF at hk
  by_cases hc : 0 ≤ (loadF A well s n).toInt
  · rw [if_pos hc] at hk
    rw [if_pos (by rw [i_le, i_0]; exact hc)]
    exact hB (loadF_1 hc).2.2.1 w' h1 (mPt_P hf) ⟨(loadF_1 hc).2.1, hT hc, loadF_s hc⟩ (fun w'' h2 hf2 => hk w'' h2 ((mPt_Q hf).trans hf2))
  · rw [if_neg hc] at hk
    rw [if_neg (by rw [i_le, i_0]; exact hc)]
    have hb := (loadF_c A well s n).resolve_left (by omega)
    exact ⟨by rw [h1.sh.ob]; trivial, m_refuse h1 (by omega) (fun w'' h2 hf2 => hk w'' h2 ((mPt_Q hf).trans hf2))⟩
/-- one goes a loaded telling -/
theorem m_goA (h : MM w m A) (hN : okN (aN A)) {s n : Int32} (hl : ldd w m A s n) {p : Int32} (hp : isP (aN A) p) {k : Wd → Prop} (hk : ∀ w', fr (mPw m) w w' → MM w' m A → ldd w' m A s n → mw w' m 0 (goA A p.toInt.toNat s n) → k w') : wp_X4_go w m p n k := by
  have hz := h.sh.z
  have hq := hN.2.2.2.2 p.toInt.toNat (isP_nat hp)
  rw [show n = Int32.ofNat n.toInt.toNat from (i_of hl.1.1).symm]
  refine m_go h hN hp (by have := hl.1; omega) hl.2.1 hl.2.2 rfl rfl ⟨hq.2.1, hq.2.2.1, fun _ => hq.2.2.2.2⟩ (fun w' hf hS hw _ => hk w' hf (h.sc (mPw_P hf)) (hl.sc hf hz (by unfold mPw; omega)) ?_)
  exact hw
theorem vp_0 {n : Nat} (h : 0 < n) : vp_in 0 n := vp_iff.2 ⟨by decide, by rw [i_0]; omega⟩
def F_comes (A : Ab) (s n p what : Int32) : Int32 × Ab := qF A (isP (aN A) p ∧ 0 ≤ what.toInt ∧ what.toInt ≤ 2) s n (if what = 0 then uC (goA A p.toInt.toNat s n) else if what = 1 then uF (goA A p.toInt.toNat s n) else uL (goA A p.toInt.toNat s n))
theorem m_comes (h : MM w m A) (hN : okN (aN A)) (hA : okS A) (s n p what : Int32) {k : Int32 → Wd → Prop} (hk : mR w m (F_comes A s n p what).2 (k (F_comes A s n p what).1)) : wp_X4_comes w m s n p what k := by
  have h27 : ∀ wl : Int32, (¬ wl = 0 ↔ isP (aN A) p ∧ 0 ≤ what.toInt ∧ what.toInt ≤ 2) → wb_X4_comes_27 k w m s n p what (some m) wl := by
    intro wl hw
    unfold wb_X4_comes_27
    refine ⟨by rw [h.sh.ob]; trivial, m_q h hA hw hk (fun hwell w1 h1 hf1 hl1 hk1 => ⟨by rw [h1.sh.ob]; trivial, m_goA h1 hN hl1 hwell.1 (fun w2 hf2 h2 hl2 hw2 => ?_)⟩)⟩
    obtain ⟨u1, u2, -, u4, -⟩ := hw2
    simp only [h2.sh.G411, h2.sh.r7, h2.sh.G412, h2.sh.r8, h2.sh.G416, h2.sh.r12, vp_0 (show 0 < 2 by decide), u1, u2, u4, ie_m6_m5, ie_m6_m4, ie_m6_m3, ie_m6_m2, ie_m6_m1, ie_m6_0, ie_m6_1, ie_m6_2, ie_m6_3, ie_m6_4, ie_m6_5, ie_m6_6, ie_m5_m6, ie_m5_m4, ie_m5_m3, ie_m5_m2, ie_m5_m1, ie_m5_0, ie_m5_1, ie_m5_2, ie_m5_3, ie_m5_4, ie_m5_5, ie_m5_6, ie_m4_m6, ie_m4_m5, ie_m4_m3, ie_m4_m2, ie_m4_m1, ie_m4_0, ie_m4_1, ie_m4_2, ie_m4_3, ie_m4_4, ie_m4_5, ie_m4_6, ie_m3_m6, ie_m3_m5, ie_m3_m4, ie_m3_m2, ie_m3_m1, ie_m3_0, ie_m3_1, ie_m3_2, ie_m3_3, ie_m3_4, ie_m3_5, ie_m3_6, ie_m2_m6, ie_m2_m5, ie_m2_m4, ie_m2_m3, ie_m2_m1, ie_m2_0, ie_m2_1, ie_m2_2, ie_m2_3, ie_m2_4, ie_m2_5, ie_m2_6, ie_m1_m6, ie_m1_m5, ie_m1_m4, ie_m1_m3, ie_m1_m2, ie_m1_0, ie_m1_1, ie_m1_2, ie_m1_3, ie_m1_4, ie_m1_5, ie_m1_6, ie_0_m6, ie_0_m5, ie_0_m4, ie_0_m3, ie_0_m2, ie_0_m1, ie_0_1, ie_0_2, ie_0_3, ie_0_4, ie_0_5, ie_0_6, ie_1_m6, ie_1_m5, ie_1_m4, ie_1_m3, ie_1_m2, ie_1_m1, ie_1_0, ie_1_2, ie_1_3, ie_1_4, ie_1_5, ie_1_6, ie_2_m6, ie_2_m5, ie_2_m4, ie_2_m3, ie_2_m2, ie_2_m1, ie_2_0, ie_2_1, ie_2_3, ie_2_4, ie_2_5, ie_2_6, ie_3_m6, ie_3_m5, ie_3_m4, ie_3_m3, ie_3_m2, ie_3_m1, ie_3_0, ie_3_1, ie_3_2, ie_3_4, ie_3_5, ie_3_6, ie_4_m6, ie_4_m5, ie_4_m4, ie_4_m3, ie_4_m2, ie_4_m1, ie_4_0, ie_4_1, ie_4_2, ie_4_3, ie_4_5, ie_4_6, ie_5_m6, ie_5_m5, ie_5_m4, ie_5_m3, ie_5_m2, ie_5_m1, ie_5_0, ie_5_1, ie_5_2, ie_5_3, ie_5_4, ie_5_6, ie_6_m6, ie_6_m5, ie_6_m4, ie_6_m3, ie_6_m2, ie_6_m1, ie_6_0, ie_6_1, ie_6_2, ie_6_3, ie_6_4, ie_6_5, Int32.reduceToInt, Int64.reduceToInt, Int.reduceToNat, Int32.reduceAdd, Int32.reduceSub, Int32.reduceMul, Int32.reduceDiv, Int32.reduceLT, Int32.reduceLE, Int.reduceLE, Int.reduceLT, Int.reduceNeg, Int.reduceAdd, Int.reduceSub, Int.reduceMul, Int.reduceEq, Nat.reduceAdd, Nat.reduceMul, Nat.reduceLT, Nat.reduceEqDiff, true_and, and_true, and_self, false_and, and_false, if_true, if_false, ite_true, ite_false, ↓reduceIte, not_true_eq_false, not_false_eq_true, true_or, or_true, or_false, false_or, Int.cast_ofNat_Int, Int.reduceNatCast]
    have hk2 := hk1 w2 h2 (mPw_Q hf2)
    by_cases e0 : what = 0
    · rw [if_pos e0] at hk2 ⊢; exact hk2
    · rw [if_neg e0] at hk2 ⊢
      by_cases e1 : what = 1
      · rw [if_pos e1] at hk2 ⊢; exact hk2
      · rw [if_neg e1] at hk2 ⊢; exact hk2
  unfold wp_X4_comes wb_X4_comes_26
  refine ⟨by rw [h.sh.ob]; trivial, ?_⟩
  simp only [m_isPerson h hN, m_isIn, lg_lit, ie_m6_m5, ie_m6_m4, ie_m6_m3, ie_m6_m2, ie_m6_m1, ie_m6_0, ie_m6_1, ie_m6_2, ie_m6_3, ie_m6_4, ie_m6_5, ie_m6_6, ie_m5_m6, ie_m5_m4, ie_m5_m3, ie_m5_m2, ie_m5_m1, ie_m5_0, ie_m5_1, ie_m5_2, ie_m5_3, ie_m5_4, ie_m5_5, ie_m5_6, ie_m4_m6, ie_m4_m5, ie_m4_m3, ie_m4_m2, ie_m4_m1, ie_m4_0, ie_m4_1, ie_m4_2, ie_m4_3, ie_m4_4, ie_m4_5, ie_m4_6, ie_m3_m6, ie_m3_m5, ie_m3_m4, ie_m3_m2, ie_m3_m1, ie_m3_0, ie_m3_1, ie_m3_2, ie_m3_3, ie_m3_4, ie_m3_5, ie_m3_6, ie_m2_m6, ie_m2_m5, ie_m2_m4, ie_m2_m3, ie_m2_m1, ie_m2_0, ie_m2_1, ie_m2_2, ie_m2_3, ie_m2_4, ie_m2_5, ie_m2_6, ie_m1_m6, ie_m1_m5, ie_m1_m4, ie_m1_m3, ie_m1_m2, ie_m1_0, ie_m1_1, ie_m1_2, ie_m1_3, ie_m1_4, ie_m1_5, ie_m1_6, ie_0_m6, ie_0_m5, ie_0_m4, ie_0_m3, ie_0_m2, ie_0_m1, ie_0_1, ie_0_2, ie_0_3, ie_0_4, ie_0_5, ie_0_6, ie_1_m6, ie_1_m5, ie_1_m4, ie_1_m3, ie_1_m2, ie_1_m1, ie_1_0, ie_1_2, ie_1_3, ie_1_4, ie_1_5, ie_1_6, ie_2_m6, ie_2_m5, ie_2_m4, ie_2_m3, ie_2_m2, ie_2_m1, ie_2_0, ie_2_1, ie_2_3, ie_2_4, ie_2_5, ie_2_6, ie_3_m6, ie_3_m5, ie_3_m4, ie_3_m3, ie_3_m2, ie_3_m1, ie_3_0, ie_3_1, ie_3_2, ie_3_4, ie_3_5, ie_3_6, ie_4_m6, ie_4_m5, ie_4_m4, ie_4_m3, ie_4_m2, ie_4_m1, ie_4_0, ie_4_1, ie_4_2, ie_4_3, ie_4_5, ie_4_6, ie_5_m6, ie_5_m5, ie_5_m4, ie_5_m3, ie_5_m2, ie_5_m1, ie_5_0, ie_5_1, ie_5_2, ie_5_3, ie_5_4, ie_5_6, ie_6_m6, ie_6_m5, ie_6_m4, ie_6_m3, ie_6_m2, ie_6_m1, ie_6_0, ie_6_1, ie_6_2, ie_6_3, ie_6_4, ie_6_5, Int32.reduceToInt, Int64.reduceToInt, Int.reduceToNat, Int32.reduceAdd, Int32.reduceSub, Int32.reduceMul, Int32.reduceDiv, Int32.reduceLT, Int32.reduceLE, Int.reduceLE, Int.reduceLT, Int.reduceNeg, Int.reduceAdd, Int.reduceSub, Int.reduceMul, Int.reduceEq, Nat.reduceAdd, Nat.reduceMul, Nat.reduceLT, Nat.reduceEqDiff, true_and, and_true, and_self, false_and, and_false, if_true, if_false, ite_true, ite_false, ↓reduceIte, not_true_eq_false, not_false_eq_true, true_or, or_true, or_false, false_or, Int.cast_ofNat_Int, Int.reduceNatCast]
  by_cases hp : isP (aN A) p
  · rw [if_pos hp]
    by_cases hw : 0 ≤ what.toInt ∧ what.toInt ≤ 2
    · rw [if_pos hw]
      exact h27 1 ⟨fun _ => ⟨hp, hw⟩, fun _ => by decide⟩
    · rw [if_neg hw]
      exact h27 0 ⟨fun e => absurd rfl e, fun e => absurd e.2 hw⟩
  · rw [if_neg hp]
    exact h27 0 ⟨fun e => absurd rfl e, fun e => absurd e.1 hp⟩
/-- a person by number -/
theorem isP_of {N : Nw} (hN : okN N) {j : Nat} (hj : j < pe N) : isP N (Int32.ofNat j) ∧ (Int32.ofNat j).toInt.toNat = j := by
  have h8 := hN.pe8
  have he := hN.peI
  have e : (Int32.ofNat j).toInt = j := i_ti (by omega)
  unfold isP
  rw [e]
  omega
theorem many_le {N : Nw} (hN : okN N) {j : Nat} (hj : j ≤ 8) : N 89 ≤ Int32.ofNat j ↔ pe N ≤ j := by
  have he := hN.peI
  rw [i_le, i_ti (by omega)]
  omega
def F_fell (A : Ab) (s n : Int32) : Int32 × Ab := qF A True s n (foldP (fun p a => a + (if uL (goA A p s n) = -1 then 0 else 1)) 0 (pe (aN A)))
theorem m_fell (h : MM w m A) (hN : okN (aN A)) (hA : okS A) (s n : Int32) {k : Int32 → Wd → Prop} (hk : mR w m (F_fell A s n).2 (k (F_fell A s n).1)) : wp_X4_fell w m s n k := by
  unfold wp_X4_fell
  have h8 := hN.pe8
  refine ⟨by rw [h.sh.ob]; trivial, m_q h hA ⟨fun _ => trivial, fun _ => by decide⟩ hk (fun _ w1 h1 hf1 hl1 hk1 => ?_)⟩
  refine loopN (n := pe (aN A)) (I := fun _ w2 => MM w2 m A ∧ fr (mP m) w1 w2 ∧ ldd w2 m A s n) (L := fun fu j w2 => wl_X4_fell_24 k fu w2 m n (foldP (fun p a => a + (if uL (goA A p s n) = -1 then 0 else 1)) 0 j) (Int32.ofNat j)) ?_ ?_ (pe (aN A)) FU 0 w1 (by omega) (by unfold FU; omega) ⟨h1, fr.refl _ _, hl1⟩
  · intro fu j w2 hj ⟨h2, hf2, hl2⟩ ih
    rw [wl_X4_fell_24_s]
    unfold wb_X4_fell_24
    simp only [h2.sh.ob, m_many h2, ie_m6_m5, ie_m6_m4, ie_m6_m3, ie_m6_m2, ie_m6_m1, ie_m6_0, ie_m6_1, ie_m6_2, ie_m6_3, ie_m6_4, ie_m6_5, ie_m6_6, ie_m5_m6, ie_m5_m4, ie_m5_m3, ie_m5_m2, ie_m5_m1, ie_m5_0, ie_m5_1, ie_m5_2, ie_m5_3, ie_m5_4, ie_m5_5, ie_m5_6, ie_m4_m6, ie_m4_m5, ie_m4_m3, ie_m4_m2, ie_m4_m1, ie_m4_0, ie_m4_1, ie_m4_2, ie_m4_3, ie_m4_4, ie_m4_5, ie_m4_6, ie_m3_m6, ie_m3_m5, ie_m3_m4, ie_m3_m2, ie_m3_m1, ie_m3_0, ie_m3_1, ie_m3_2, ie_m3_3, ie_m3_4, ie_m3_5, ie_m3_6, ie_m2_m6, ie_m2_m5, ie_m2_m4, ie_m2_m3, ie_m2_m1, ie_m2_0, ie_m2_1, ie_m2_2, ie_m2_3, ie_m2_4, ie_m2_5, ie_m2_6, ie_m1_m6, ie_m1_m5, ie_m1_m4, ie_m1_m3, ie_m1_m2, ie_m1_0, ie_m1_1, ie_m1_2, ie_m1_3, ie_m1_4, ie_m1_5, ie_m1_6, ie_0_m6, ie_0_m5, ie_0_m4, ie_0_m3, ie_0_m2, ie_0_m1, ie_0_1, ie_0_2, ie_0_3, ie_0_4, ie_0_5, ie_0_6, ie_1_m6, ie_1_m5, ie_1_m4, ie_1_m3, ie_1_m2, ie_1_m1, ie_1_0, ie_1_2, ie_1_3, ie_1_4, ie_1_5, ie_1_6, ie_2_m6, ie_2_m5, ie_2_m4, ie_2_m3, ie_2_m2, ie_2_m1, ie_2_0, ie_2_1, ie_2_3, ie_2_4, ie_2_5, ie_2_6, ie_3_m6, ie_3_m5, ie_3_m4, ie_3_m3, ie_3_m2, ie_3_m1, ie_3_0, ie_3_1, ie_3_2, ie_3_4, ie_3_5, ie_3_6, ie_4_m6, ie_4_m5, ie_4_m4, ie_4_m3, ie_4_m2, ie_4_m1, ie_4_0, ie_4_1, ie_4_2, ie_4_3, ie_4_5, ie_4_6, ie_5_m6, ie_5_m5, ie_5_m4, ie_5_m3, ie_5_m2, ie_5_m1, ie_5_0, ie_5_1, ie_5_2, ie_5_3, ie_5_4, ie_5_6, ie_6_m6, ie_6_m5, ie_6_m4, ie_6_m3, ie_6_m2, ie_6_m1, ie_6_0, ie_6_1, ie_6_2, ie_6_3, ie_6_4, ie_6_5, Int32.reduceToInt, Int64.reduceToInt, Int.reduceToNat, Int32.reduceAdd, Int32.reduceSub, Int32.reduceMul, Int32.reduceDiv, Int32.reduceLT, Int32.reduceLE, Int.reduceLE, Int.reduceLT, Int.reduceNeg, Int.reduceAdd, Int.reduceSub, Int.reduceMul, Int.reduceEq, Nat.reduceAdd, Nat.reduceMul, Nat.reduceLT, Nat.reduceEqDiff, true_and, and_true, and_self, false_and, and_false, if_true, if_false, ite_true, ite_false, ↓reduceIte, not_true_eq_false, not_false_eq_true, true_or, or_true, or_false, false_or, Int.cast_ofNat_Int, Int.reduceNatCast]
    rw [if_neg (by rw [many_le hN (by omega)]; omega)]
    refine m_goA h2 hN hl2 (isP_of hN hj).1 (fun w3 hf3 h3 hl3 hw3 => ?_)
    rw [(isP_of hN hj).2] at hw3
    simp only [h3.sh.G416, h3.sh.r12, vp_0 (show 0 < 2 by decide), hw3.2.2.2.1, ie_m6_m5, ie_m6_m4, ie_m6_m3, ie_m6_m2, ie_m6_m1, ie_m6_0, ie_m6_1, ie_m6_2, ie_m6_3, ie_m6_4, ie_m6_5, ie_m6_6, ie_m5_m6, ie_m5_m4, ie_m5_m3, ie_m5_m2, ie_m5_m1, ie_m5_0, ie_m5_1, ie_m5_2, ie_m5_3, ie_m5_4, ie_m5_5, ie_m5_6, ie_m4_m6, ie_m4_m5, ie_m4_m3, ie_m4_m2, ie_m4_m1, ie_m4_0, ie_m4_1, ie_m4_2, ie_m4_3, ie_m4_4, ie_m4_5, ie_m4_6, ie_m3_m6, ie_m3_m5, ie_m3_m4, ie_m3_m2, ie_m3_m1, ie_m3_0, ie_m3_1, ie_m3_2, ie_m3_3, ie_m3_4, ie_m3_5, ie_m3_6, ie_m2_m6, ie_m2_m5, ie_m2_m4, ie_m2_m3, ie_m2_m1, ie_m2_0, ie_m2_1, ie_m2_2, ie_m2_3, ie_m2_4, ie_m2_5, ie_m2_6, ie_m1_m6, ie_m1_m5, ie_m1_m4, ie_m1_m3, ie_m1_m2, ie_m1_0, ie_m1_1, ie_m1_2, ie_m1_3, ie_m1_4, ie_m1_5, ie_m1_6, ie_0_m6, ie_0_m5, ie_0_m4, ie_0_m3, ie_0_m2, ie_0_m1, ie_0_1, ie_0_2, ie_0_3, ie_0_4, ie_0_5, ie_0_6, ie_1_m6, ie_1_m5, ie_1_m4, ie_1_m3, ie_1_m2, ie_1_m1, ie_1_0, ie_1_2, ie_1_3, ie_1_4, ie_1_5, ie_1_6, ie_2_m6, ie_2_m5, ie_2_m4, ie_2_m3, ie_2_m2, ie_2_m1, ie_2_0, ie_2_1, ie_2_3, ie_2_4, ie_2_5, ie_2_6, ie_3_m6, ie_3_m5, ie_3_m4, ie_3_m3, ie_3_m2, ie_3_m1, ie_3_0, ie_3_1, ie_3_2, ie_3_4, ie_3_5, ie_3_6, ie_4_m6, ie_4_m5, ie_4_m4, ie_4_m3, ie_4_m2, ie_4_m1, ie_4_0, ie_4_1, ie_4_2, ie_4_3, ie_4_5, ie_4_6, ie_5_m6, ie_5_m5, ie_5_m4, ie_5_m3, ie_5_m2, ie_5_m1, ie_5_0, ie_5_1, ie_5_2, ie_5_3, ie_5_4, ie_5_6, ie_6_m6, ie_6_m5, ie_6_m4, ie_6_m3, ie_6_m2, ie_6_m1, ie_6_0, ie_6_1, ie_6_2, ie_6_3, ie_6_4, ie_6_5, Int32.reduceToInt, Int64.reduceToInt, Int.reduceToNat, Int32.reduceAdd, Int32.reduceSub, Int32.reduceMul, Int32.reduceDiv, Int32.reduceLT, Int32.reduceLE, Int.reduceLE, Int.reduceLT, Int.reduceNeg, Int.reduceAdd, Int.reduceSub, Int.reduceMul, Int.reduceEq, Nat.reduceAdd, Nat.reduceMul, Nat.reduceLT, Nat.reduceEqDiff, true_and, and_true, and_self, false_and, and_false, if_true, if_false, ite_true, ite_false, ↓reduceIte, not_true_eq_false, not_false_eq_true, true_or, or_true, or_false, false_or, Int.cast_ofNat_Int, Int.reduceNatCast, i_ofS]
    have := ih w3 ⟨h3, hf2.trans (mPw_P hf3), hl3⟩
    show if _ then _ else _
    by_cases e : uL (goA A j s n) = -1
    · rw [if_pos e]
      simpa only [foldP, if_pos e] using this
    · rw [if_neg e]
      simpa only [foldP, if_neg e] using this
  · intro fu w2 ⟨h2, hf2, hl2⟩
    rw [wl_X4_fell_24_s]
    unfold wb_X4_fell_24
    simp only [h2.sh.ob, m_many h2, ie_m6_m5, ie_m6_m4, ie_m6_m3, ie_m6_m2, ie_m6_m1, ie_m6_0, ie_m6_1, ie_m6_2, ie_m6_3, ie_m6_4, ie_m6_5, ie_m6_6, ie_m5_m6, ie_m5_m4, ie_m5_m3, ie_m5_m2, ie_m5_m1, ie_m5_0, ie_m5_1, ie_m5_2, ie_m5_3, ie_m5_4, ie_m5_5, ie_m5_6, ie_m4_m6, ie_m4_m5, ie_m4_m3, ie_m4_m2, ie_m4_m1, ie_m4_0, ie_m4_1, ie_m4_2, ie_m4_3, ie_m4_4, ie_m4_5, ie_m4_6, ie_m3_m6, ie_m3_m5, ie_m3_m4, ie_m3_m2, ie_m3_m1, ie_m3_0, ie_m3_1, ie_m3_2, ie_m3_3, ie_m3_4, ie_m3_5, ie_m3_6, ie_m2_m6, ie_m2_m5, ie_m2_m4, ie_m2_m3, ie_m2_m1, ie_m2_0, ie_m2_1, ie_m2_2, ie_m2_3, ie_m2_4, ie_m2_5, ie_m2_6, ie_m1_m6, ie_m1_m5, ie_m1_m4, ie_m1_m3, ie_m1_m2, ie_m1_0, ie_m1_1, ie_m1_2, ie_m1_3, ie_m1_4, ie_m1_5, ie_m1_6, ie_0_m6, ie_0_m5, ie_0_m4, ie_0_m3, ie_0_m2, ie_0_m1, ie_0_1, ie_0_2, ie_0_3, ie_0_4, ie_0_5, ie_0_6, ie_1_m6, ie_1_m5, ie_1_m4, ie_1_m3, ie_1_m2, ie_1_m1, ie_1_0, ie_1_2, ie_1_3, ie_1_4, ie_1_5, ie_1_6, ie_2_m6, ie_2_m5, ie_2_m4, ie_2_m3, ie_2_m2, ie_2_m1, ie_2_0, ie_2_1, ie_2_3, ie_2_4, ie_2_5, ie_2_6, ie_3_m6, ie_3_m5, ie_3_m4, ie_3_m3, ie_3_m2, ie_3_m1, ie_3_0, ie_3_1, ie_3_2, ie_3_4, ie_3_5, ie_3_6, ie_4_m6, ie_4_m5, ie_4_m4, ie_4_m3, ie_4_m2, ie_4_m1, ie_4_0, ie_4_1, ie_4_2, ie_4_3, ie_4_5, ie_4_6, ie_5_m6, ie_5_m5, ie_5_m4, ie_5_m3, ie_5_m2, ie_5_m1, ie_5_0, ie_5_1, ie_5_2, ie_5_3, ie_5_4, ie_5_6, ie_6_m6, ie_6_m5, ie_6_m4, ie_6_m3, ie_6_m2, ie_6_m1, ie_6_0, ie_6_1, ie_6_2, ie_6_3, ie_6_4, ie_6_5, Int32.reduceToInt, Int64.reduceToInt, Int.reduceToNat, Int32.reduceAdd, Int32.reduceSub, Int32.reduceMul, Int32.reduceDiv, Int32.reduceLT, Int32.reduceLE, Int.reduceLE, Int.reduceLT, Int.reduceNeg, Int.reduceAdd, Int.reduceSub, Int.reduceMul, Int.reduceEq, Nat.reduceAdd, Nat.reduceMul, Nat.reduceLT, Nat.reduceEqDiff, true_and, and_true, and_self, false_and, and_false, if_true, if_false, ite_true, ite_false, ↓reduceIte, not_true_eq_false, not_false_eq_true, true_or, or_true, or_false, false_or, Int.cast_ofNat_Int, Int.reduceNatCast]
    rw [if_pos (by rw [many_le hN (by omega)]; omega)]
    exact hk1 w2 h2 (mP_Q hf2)
end MQ1
