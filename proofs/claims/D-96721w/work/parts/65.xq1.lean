/-! ===== queries by tellings, of the class ===== -/
section XQ1
variable {w : Wd} {b i : Nat} {o : Option Nat} {A : Ab}
theorem at8_P {w w' : Wd} (h : fr (at1 (b + 8)) w w') : fr (xP b) w w' := h.mono (fun q k _ hp => by unfold at1 at hp; unfold xP; omega)
theorem at9_P {w w' : Wd} (h : fr (at1 (b + 9)) w w') : fr (xP b) w w' := h.mono (fun q k _ hp => by unfold at1 at hp; unfold xP; omega)
theorem XX.k (h : XX w b i o A) : kSh w b := h.sh.k
/-- signs told -/
def tld (w : Wd) (b t : Nat) (T : Nat → Int64) (n : Nat) : Prop := (lrw w t n T ∧ b + 60 ≤ t) ∧ n ≤ 40 ∧ ∀ j < n, (T j).toInt32 = 0 ∨ (T j).toInt32 = 1 ∨ (T j).toInt32 = 2 ∨ (T j).toInt32 = 3
theorem tld.sc {w' : Wd} {t n : Nat} {T : Nat → Int64} (h : tld w b t T n) (hf : fr (xP b) w w') : tld w' b t T n := ⟨⟨h.1.1.sc hf (by have := h.1.2; unfold xP; omega), h.1.2⟩, h.2⟩
theorem x_walked (h : XX w b i o A) (hN : okN (aN A)) {t n : Nat} {T : Nat → Int64} (hl : tld w b t T n) {v p : Nat} {kd av : Int32} (hp : p < pe (aN A)) (hv : vot w b v kd p av) {c : Int32} (hc : isC (aN A 90) c ∧ ¬ pnd (aN A) c = 1) (lf : Int32) {k : Option Nat → Wd → Prop}
    (hk : ∀ w', fr (at1 (b + 8)) w w' → wlk w' (b + 8) (runW (aN A) kd lf p (fun j => (T j).toInt32) (beg c (aN A (5 * p + 3))) n) (Int32.ofNat n) → k (some (b + 8)) w') : wp_X0_walked w b (some v) c (some t) lf k := by
  have h8 := hN.pe8
  have hz := h.sh.z
  have vpp : vp_in (Int32.ofNat p) 8 := vp_iff.2 (by rw [i_ti (by omega)]; omega)
  have ht := hv.2.1
  have hyes : 26 + kd.toInt.toNat ∈ [26, 27, 28, 29, 30, 31] := by
    have := hv.2.2.1
    rcases (show kd.toInt.toNat = 0 ∨ kd.toInt.toNat = 1 ∨ kd.toInt.toNat = 2 ∨ kd.toInt.toNat = 3 ∨ kd.toInt.toNat = 4 ∨ kd.toInt.toNat = 5 by omega) with e | e | e | e | e | e <;> rw [e] <;> decide
  have hq := hN.2.2.2.2 p hp
  have hu0 : okU (aN A) (beg c (aN A (5 * p + 3))) := ⟨hc.1, hq.2.2.1, fun _ => hc.2⟩
  unfold wp_X0_walked
  simp only [h.sh.G2, h.G0, h.is.G103]
  show wob w v [26, 27, 28, 29, 30, 31] ∧ _
  refine ⟨by unfold wob; rw [ht]; exact hyes, ?_⟩
  rw [hv.2.2.2.1]
  simp only [h.is.r4, vpp, i_tt (show p < 1000000 by omega), (h.is.pr p hp).2.1, true_and]
  show wob w (b + 8) [22] ∧ _
  refine ⟨by rw [h.sh.obW8]; trivial, x_begins h.sh.t8 (by omega) _ _ (fun w1 hf1 hw1 _ => ?_)⟩
  have hl1 := hl.sc (at8_P hf1)
  rw [hl1.1.1.ln]
  refine loopN (n := n) (I := fun j w2 => fr (at1 (b + 8)) w w2 ∧ wlk w2 (b + 8) (runW (aN A) kd lf p (fun j => (T j).toInt32) (beg c (aN A (5 * p + 3))) j) (Int32.ofNat j)) (L := fun fu j w2 => wl_X0_walked_32 k fu w2 b (some v) lf (some t) (Int32.ofNat n) (Int32.ofNat j)) ?_ ?_ n FU 0 w1 (by omega) (by unfold FU; have := hl.2.1; omega) ⟨hf1, hw1⟩
  · intro fu j w2 hj ⟨hf2, hw2⟩ ih
    have hn := hl.2.1
    have h2 := h.scP (at8_P hf2)
    have hl2 := hl.sc (at8_P hf2)
    have hv2 : vot w2 b v kd p av := hv.sc hf2 (fun k hp => by have := hv.1.1; unfold at1 at hp; omega)
    have oT := runW_T (N := aN A) (kd := kd) (lf := lf) (p := p) (T := fun j => (T j).toInt32) (u := beg c (aN A (5 * p + 3))) j
    have oT0 : uT (beg c (aN A (5 * p + 3))) = 0 := rfl
    rw [wl_X0_walked_32_s]
    unfold wb_X0_walked_32
    rw [if_neg (by rw [i_le, i_ti (by omega), i_ti (by omega)]; omega), hl2.1.1.rd hj (by omega)]
    simp only [h2.sh.G2, h2.G0]
    show wob w2 (b + 8) [22] ∧ _
    refine ⟨by rw [h2.sh.obW8]; trivial, x_goes h2.k h2.is hN hp (by omega) hv2 hw2 (runW_ok hN hu0 j (by omega)) (by omega) (hl.2.2 j hj) lf (fun w3 hf3 hw3 _ => ?_)⟩
    rw [i_ofS] at hw3 ⊢
    exact ih w3 ⟨hf2.trans hf3, hw3⟩
  · intro fu w2 ⟨hf2, hw2⟩
    have hn := hl.2.1
    have h2 := h.scP (at8_P hf2)
    rw [wl_X0_walked_32_s]
    unfold wb_X0_walked_32
    rw [if_pos (by rw [i_le]; omega)]
    simp only [h2.sh.G2]
    exact hk w2 hf2 hw2
theorem x_walkedBy (h : XX w b i o A) (hN : okN (aN A)) {t : Nat} {s n : Int32} (hl : tld w b t (elA A s) n.toInt.toNat) {p : Nat} (hp : p < pe (aN A)) {k : Option Nat → Wd → Prop} (hk : ∀ w', fr (at1 (b + 8)) w w' → wlk w' (b + 8) (goA A p s n) (Int32.ofNat n.toInt.toNat) → k (some (b + 8)) w') : wp_X0_walkedBy w b (Int32.ofNat p) (some t) k := by
  have h8 := hN.pe8
  have vpp : vp_in (Int32.ofNat p) 8 := vp_iff.2 (by rw [i_ti (by omega)]; omega)
  have v0 : vp_in 0 3 := vp_iff.2 (by decide)
  obtain ⟨p1, p2, p3, v, p4, p5⟩ := h.is.pr p hp
  have hq := hN.2.2.2.2 p hp
  unfold wp_X0_walkedBy
  simp only [h.G0, h.is.G101, h.is.r2, h.is.G102, h.is.r3, h.is.G105, h.is.r6, vpp, v0, i_tt (show p < 1000000 by omega), p4, p1, show (0 : Int32).toInt.toNat = 0 from rfl, h.is.o0, true_and]
  refine ⟨by rw [h.sh.ob]; trivial, x_walked h hN hl hp p5 ⟨hq.2.1, hq.2.2.2.2⟩ _ (fun w' hf hw => hk w' hf hw)⟩
/-- a query by a telling -/
theorem x_q (h : XX w b i o A) (hN : okN (aN A)) {well : Prop} [Decidable well] {wl s n val : Int32} (hw : ¬ wl = 0 ↔ well) {k : Int32 → Wd → Prop} (hk : xR w b i o (qF A well s n val).2 (k (qF A well s n val).1)) {B : Option Nat → Wd → Prop} (hB : well → (0 ≤ n.toInt ∧ n.toInt ≤ 40) → ∀ t w', XX w' b i o A → fr x0 w w' → tld w' b t (elA A s) n.toInt.toNat → xR w' b i o A (k val) → B (some t) w') :
    wp_X0_signsIn w b wl s n (fun q w' => wgF w' (some q) [25] 506 (fun v5 => wob w' b [20] ∧ wp_X0_no w' b v5 (fun v6 w7 => k v6 w7))) B := by
  have hz := h.sh.z
  unfold qF at hk
  refine x_signsIn h hN well hw (fun hc q w' hf hr => ?_) (fun hc t w' hf ht hl => ?_)
  · rw [if_neg (by omega)] at hk
    have hb := (loadF_c A well s n).resolve_left (by omega)
    exact x_hand (h.sc0 hf) hr (by omega) (fun w2 h2 hf2 => hk w2 h2 ((x0_P hf).trans hf2))
  · rw [if_pos hc] at hk
    have h1 := loadF_1 hc
    exact hB h1.2.2.1 h1.2.1 t w' (h.sc0 hf) hf ⟨⟨hl, by omega⟩, by have := h1.2.1; omega, fun j hj => loadF_s hc j hj⟩ (fun w2 h2 hf2 => hk w2 h2 ((x0_P hf).trans hf2))
/-- the loop over people: what holds of the world -/
def lpI (w1 : Wd) (b i : Nat) (o : Option Nat) (A : Ab) (t : Nat) (s n : Int32) (w2 : Wd) : Prop := XX w2 b i o A ∧ fr (xP b) w1 w2 ∧ tld w2 b t (elA A s) n.toInt.toNat
theorem lpI.step {w1 w2 w3 : Wd} {t : Nat} {s n : Int32} (h : lpI w1 b i o A t s n w2) (hf : fr (at1 (b + 8)) w2 w3) : lpI w1 b i o A t s n w3 := ⟨h.1.scP (at8_P hf), h.2.1.trans (at8_P hf), h.2.2.sc (at8_P hf)⟩
theorem x_comes (h : XX w b i o A) (hN : okN (aN A)) (s n p what : Int32) {k : Int32 → Wd → Prop} (hk : xR w b i o (F_comes A s n p what).2 (k (F_comes A s n p what).1)) : wp_X0_comes w b s n p what k := by
  have h29 : ∀ wl : Int32, (¬ wl = 0 ↔ isP (aN A) p ∧ 0 ≤ what.toInt ∧ what.toInt ≤ 2) → wb_X0_comes_29 k w b s n what (some b) p (some b) wl := by
    intro wl hw
    unfold wb_X0_comes_29
    refine ⟨by rw [h.sh.ob]; trivial, x_q h hN hw hk (fun hwell _ t w1 h1 hf1 hl1 hk1 => ⟨by rw [h1.sh.ob]; trivial, ?_⟩)⟩
    have hp8 := isP_8 hN hwell.1
    rw [show p = Int32.ofNat p.toInt.toNat from (i_of hp8.1).symm]
    refine x_walkedBy h1 hN hl1 (isP_nat hwell.1) (fun w2 hf2 hw2 => ?_)
    have hk2 := hk1 w2 (h1.scP (at8_P hf2)) (xP_Q (at8_P hf2))
    simp only [hw2.gF, hw2.2.1, hw2.2.2.1, hw2.2.2.2.2.2.2.2]
    by_cases e0 : what = 0
    · rw [if_pos e0] at hk2 ⊢; exact hk2
    · rw [if_neg e0] at hk2 ⊢
      by_cases e1 : what = 1
      · rw [if_pos e1] at hk2 ⊢; exact hk2
      · rw [if_neg e1] at hk2 ⊢; exact hk2
  unfold wp_X0_comes wb_X0_comes_28
  simp only [h.G0]
  show wob w i [21] ∧ _
  refine ⟨by rw [h.is.ob]; trivial, ?_⟩
  rw [x_isPerson h.is hN]
  by_cases hp : isP (aN A) p
  · rw [if_pos hp, if_neg (by decide)]
    simp only [x_isIn, ie_m6_m5, ie_m6_m4, ie_m6_m3, ie_m6_m2, ie_m6_m1, ie_m6_0, ie_m6_1, ie_m6_2, ie_m6_3, ie_m6_4, ie_m6_5, ie_m6_6, ie_m5_m6, ie_m5_m4, ie_m5_m3, ie_m5_m2, ie_m5_m1, ie_m5_0, ie_m5_1, ie_m5_2, ie_m5_3, ie_m5_4, ie_m5_5, ie_m5_6, ie_m4_m6, ie_m4_m5, ie_m4_m3, ie_m4_m2, ie_m4_m1, ie_m4_0, ie_m4_1, ie_m4_2, ie_m4_3, ie_m4_4, ie_m4_5, ie_m4_6, ie_m3_m6, ie_m3_m5, ie_m3_m4, ie_m3_m2, ie_m3_m1, ie_m3_0, ie_m3_1, ie_m3_2, ie_m3_3, ie_m3_4, ie_m3_5, ie_m3_6, ie_m2_m6, ie_m2_m5, ie_m2_m4, ie_m2_m3, ie_m2_m1, ie_m2_0, ie_m2_1, ie_m2_2, ie_m2_3, ie_m2_4, ie_m2_5, ie_m2_6, ie_m1_m6, ie_m1_m5, ie_m1_m4, ie_m1_m3, ie_m1_m2, ie_m1_0, ie_m1_1, ie_m1_2, ie_m1_3, ie_m1_4, ie_m1_5, ie_m1_6, ie_0_m6, ie_0_m5, ie_0_m4, ie_0_m3, ie_0_m2, ie_0_m1, ie_0_1, ie_0_2, ie_0_3, ie_0_4, ie_0_5, ie_0_6, ie_1_m6, ie_1_m5, ie_1_m4, ie_1_m3, ie_1_m2, ie_1_m1, ie_1_0, ie_1_2, ie_1_3, ie_1_4, ie_1_5, ie_1_6, ie_2_m6, ie_2_m5, ie_2_m4, ie_2_m3, ie_2_m2, ie_2_m1, ie_2_0, ie_2_1, ie_2_3, ie_2_4, ie_2_5, ie_2_6, ie_3_m6, ie_3_m5, ie_3_m4, ie_3_m3, ie_3_m2, ie_3_m1, ie_3_0, ie_3_1, ie_3_2, ie_3_4, ie_3_5, ie_3_6, ie_4_m6, ie_4_m5, ie_4_m4, ie_4_m3, ie_4_m2, ie_4_m1, ie_4_0, ie_4_1, ie_4_2, ie_4_3, ie_4_5, ie_4_6, ie_5_m6, ie_5_m5, ie_5_m4, ie_5_m3, ie_5_m2, ie_5_m1, ie_5_0, ie_5_1, ie_5_2, ie_5_3, ie_5_4, ie_5_6, ie_6_m6, ie_6_m5, ie_6_m4, ie_6_m3, ie_6_m2, ie_6_m1, ie_6_0, ie_6_1, ie_6_2, ie_6_3, ie_6_4, ie_6_5, Int32.reduceToInt, Int64.reduceToInt, Int.reduceToNat, Int32.reduceAdd, Int32.reduceSub, Int32.reduceMul, Int32.reduceDiv, Int32.reduceLT, Int32.reduceLE, Int.reduceLE, Int.reduceLT, Int.reduceNeg, Int.reduceAdd, Int.reduceSub, Int.reduceMul, Int.reduceEq, Nat.reduceAdd, Nat.reduceMul, Nat.reduceLT, Nat.reduceEqDiff, true_and, and_true, and_self, false_and, and_false, if_true, if_false, ite_true, ite_false, ↓reduceIte, not_true_eq_false, not_false_eq_true, true_or, or_true, or_false, false_or, Int.cast_ofNat_Int, Int.reduceNatCast]
    by_cases hw : 0 ≤ what.toInt ∧ what.toInt ≤ 2
    · rw [if_pos hw]
      exact h29 1 (one_iff ⟨hp, hw⟩)
    · rw [if_neg hw]
      exact h29 0 (zero_iff (fun e => hw e.2))
  · rw [if_neg hp, if_pos rfl]
    exact h29 0 (zero_iff (fun e => hp e.1))
theorem x_fell (h : XX w b i o A) (hN : okN (aN A)) (s n : Int32) {k : Int32 → Wd → Prop} (hk : xR w b i o (F_fell A s n).2 (k (F_fell A s n).1)) : wp_X0_fell w b s n k := by
  have hP := hN.P
  have h8 := hN.pe8
  unfold wp_X0_fell
  refine ⟨by rw [h.sh.ob]; trivial, x_q h hN (one_iff trivial) hk (fun _ _ t w1 h1 hf1 hl1 hk1 => ?_)⟩
  refine loopN (n := pe (aN A)) (I := fun _ w2 => lpI w1 b i o A t s n w2) (L := fun fu j w2 => wl_X0_fell_14 k fu w2 b (some t) (foldP (fun p a => a + (if uL (goA A p s n) = -1 then 0 else 1)) 0 j) (Int32.ofNat j)) ?_ ?_ (pe (aN A)) FU 0 w1 (by omega) (by unfold FU; omega) ⟨h1, fr.refl _ _, hl1⟩
  · intro fu j w2 hj h2 ih
    rw [wl_X0_fell_14_s]
    unfold wb_X0_fell_14
    simp only [h2.1.G0, h2.1.is.F107]
    rw [if_neg (by rw [hP.le (by omega)]; omega)]
    refine ⟨by rw [h2.1.sh.ob]; trivial, x_walkedBy h2.1 hN h2.2.2 hj (fun w3 hf3 hw3 => ?_)⟩
    rw [hw3.gF, hw3.2.2.2.2.2.2.2, i_ofS]
    have := ih w3 (h2.step hf3)
    simp only [foldP] at this
    by_cases e : uL (goA A j s n) = -1
    · rw [if_pos e] at this ⊢; exact this
    · rw [if_neg e] at this ⊢; exact this
  · intro fu w2 h2
    rw [wl_X0_fell_14_s]
    unfold wb_X0_fell_14
    simp only [h2.1.G0, h2.1.is.F107]
    rw [if_pos (by rw [hP.le (by omega)]; omega)]
    exact hk1 w2 h2.1 (xP_Q h2.2.1)
theorem x_who (h : XX w b i o A) (hN : okN (aN A)) (s n cell : Int32) {k : Int32 → Wd → Prop} (hk : xR w b i o (F_who A s n cell).2 (k (F_who A s n cell).1)) : wp_X0_who w b s n cell k := by
  have hP := hN.P
  have h8 := hN.pe8
  have body : ∀ wl : Int32, (¬ wl = 0 ↔ isC (aN A 90) cell) → wp_X0_signsIn w b wl s n (fun q7 w8 => wb_X0_who_71 k w8 b (some q7)) (fun v5 w6 => wl_X0_who_22 k FU w6 b cell v5 0 0) := by
    intro wl hw
    refine x_q h hN hw hk (fun _ _ t w1 h1 hf1 hl1 hk1 => ?_)
    refine loopN (n := pe (aN A)) (I := fun _ w2 => lpI w1 b i o A t s n w2) (L := fun fu j w2 => wl_X0_who_22 k fu w2 b cell (some t) (foldP (fun p a => a ||| (if uC (goA A p s n) = cell then bit1 p else 0)) 0 j) (Int32.ofNat j)) ?_ ?_ (pe (aN A)) FU 0 w1 (by omega) (by unfold FU; omega) ⟨h1, fr.refl _ _, hl1⟩
    · intro fu j w2 hj h2 ih
      rw [wl_X0_who_22_s]
      unfold wb_X0_who_22
      simp only [h2.1.G0, h2.1.is.F107]
      rw [if_neg (by rw [hP.le (by omega)]; omega)]
      refine ⟨by rw [h2.1.sh.ob]; trivial, x_walkedBy h2.1 hN h2.2.2 hj (fun w3 hf3 hw3 => ?_)⟩
      rw [hw3.gF, hw3.2.1, i_ofS]
      have := ih w3 (h2.step hf3)
      simp only [foldP] at this
      by_cases e : uC (goA A j s n) = cell
      · rw [if_pos e] at this ⊢; exact this
      · rw [if_neg e] at this ⊢; exact this
    · intro fu w2 h2
      rw [wl_X0_who_22_s]
      unfold wb_X0_who_22
      simp only [h2.1.G0, h2.1.is.F107]
      rw [if_pos (by rw [hP.le (by omega)]; omega)]
      exact hk1 w2 h2.1 (xP_Q h2.2.1)
  unfold wp_X0_who
  simp only [h.G0]
  show wob w i [21] ∧ _
  refine ⟨by rw [h.is.ob]; trivial, ?_⟩
  rw [x_isCell h.is]
  by_cases hc : isC (aN A 90) cell
  · rw [if_pos hc]
    exact ⟨by rw [h.sh.ob]; trivial, body 1 (one_iff hc)⟩
  · rw [if_neg hc]
    exact ⟨by rw [h.sh.ob]; trivial, body 0 (zero_iff hc)⟩
theorem x_firstFall (h : XX w b i o A) (hN : okN (aN A)) (s n : Int32) {k : Int32 → Wd → Prop} (hk : xR w b i o (F_firstFall A s n).2 (k (F_firstFall A s n).1)) : wp_X0_firstFall w b s n k := by
  have hP := hN.P
  have h8 := hN.pe8
  unfold wp_X0_firstFall
  refine ⟨by rw [h.sh.ob]; trivial, x_q h hN (one_iff trivial) hk (fun _ _ t w1 h1 hf1 hl1 hk1 => ?_)⟩
  refine loopN (n := pe (aN A)) (I := fun _ w2 => lpI w1 b i o A t s n w2) (L := fun fu j w2 => wl_X0_firstFall_14 k fu w2 b (some t) (fstF A s n j) (Int32.ofNat j)) ?_ ?_ (pe (aN A)) FU 0 w1 (by omega) (by unfold FU; omega) ⟨h1, fr.refl _ _, hl1⟩
  · intro fu j w2 hj h2 ih
    rw [wl_X0_firstFall_14_s]
    unfold wb_X0_firstFall_14
    simp only [h2.1.G0, h2.1.is.F107]
    rw [if_neg (by rw [hP.le (by omega)]; omega)]
    refine ⟨by rw [h2.1.sh.ob]; trivial, x_walkedBy h2.1 hN h2.2.2 hj (fun w3 hf3 hw3 => ?_)⟩
    rw [hw3.gF, hw3.2.2.2.2.2.2.2, i_ofS]
    have this := ih w3 (h2.step hf3)
    have ef : fstF A s n (j + 1) = if ¬ uL (goA A j s n) = -1 ∧ (fstF A s n j = -1 ∨ uL (goA A j s n) < fstF A s n j) then uL (goA A j s n) else fstF A s n j := rfl
    rw [ef] at this
    by_cases e : uL (goA A j s n) = -1
    · rw [if_pos e]
      rwa [if_neg (fun e' => e'.1 e)] at this
    · rw [if_neg e]
      by_cases e1 : fstF A s n j = -1
      · rw [if_pos e1]
        rwa [if_pos ⟨e, Or.inl e1⟩] at this
      · rw [if_neg e1]
        by_cases e2 : uL (goA A j s n) < fstF A s n j
        · rw [if_neg (by rw [i_le]; rw [i_lt] at e2; omega)]
          rwa [if_pos ⟨e, Or.inr e2⟩] at this
        · rw [if_pos (by rw [i_le]; rw [i_lt] at e2; omega)]
          rwa [if_neg (fun e' => e'.2.elim e1 e2)] at this
  · intro fu w2 h2
    rw [wl_X0_firstFall_14_s]
    unfold wb_X0_firstFall_14
    simp only [h2.1.G0, h2.1.is.F107]
    rw [if_pos (by rw [hP.le (by omega)]; omega)]
    exact hk1 w2 h2.1 (xP_Q h2.2.1)
end XQ1
