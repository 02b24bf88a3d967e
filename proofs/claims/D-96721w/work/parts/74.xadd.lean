/-! ===== a person added, of the class ===== -/
section XADD
variable {w : Wd} {b i : Nat} {o : Option Nat} {A : Ab} {N : Nw}
theorem addN_pe {N : Nw} (hP : okP N) (h8 : pe N < 8) (kd a c f : Int32) : pe (addN N kd a c f) = pe N + 1 := by
  have e : (N 89 + 1).toInt = (N 89).toInt + 1 := i_inc (by have := hP.1; omega)
  show (addN N kd a c f 89).toInt.toNat = _
  rw [show addN N kd a c f 89 = N 89 + 1 from up1_eq, e, hP.1]
  omega
theorem addN_ne {N : Nw} {kd a c f : Int32} {k : Nat} (h : ¬ k = 89) (h5 : k < 5 * pe N ∨ 5 * pe N + 5 ≤ k) : addN N kd a c f k = N k := by
  unfold addN
  rw [up1_ne h, up1_ne (by omega), up1_ne (by omega), up1_ne (by omega), up1_ne (by omega), up1_ne (by omega)]
theorem addN_at {N : Nw} (h8 : pe N < 8) (kd a c f : Int32) : addN N kd a c f (5 * pe N) = kd ∧ addN N kd a c f (5 * pe N + 1) = a ∧ addN N kd a c f (5 * pe N + 2) = c ∧ addN N kd a c f (5 * pe N + 3) = f ∧ addN N kd a c f (5 * pe N + 4) = 0 := by
  unfold addN
  refine ⟨?_, ?_, ?_, ?_, ?_⟩
  · rw [up1_ne (by omega), up1_ne (by omega), up1_ne (by omega), up1_ne (by omega), up1_ne (by omega), up1_eq]
  · rw [up1_ne (by omega), up1_ne (by omega), up1_ne (by omega), up1_ne (by omega), up1_eq]
  · rw [up1_ne (by omega), up1_ne (by omega), up1_ne (by omega), up1_eq]
  · rw [up1_ne (by omega), up1_ne (by omega), up1_eq]
  · rw [up1_ne (by omega), up1_eq]
/-- the world with a person more -/
def adW (w : Wd) (i P v : Nat) (c f n : Int32) : Wd := sF (sI (sI (sI (sQ w (i + 2) P (some v)) (i + 3) P c) (i + 4) P f) (i + 5) P 0) i 107 n
theorem isl.add (h : isl w b i N) (hP : okP N) (h8 : pe N < 8) {v : Nat} {kd a : Int32} (hv : vot w b v kd (pe N) a) (c f : Int32) : isl (adW w i (pe N) v c f (N 89 + 1)) b i (addN N kd a c f) ∧ fr (isP7 i) w (adW w i (pe N) v c f (N 89 + 1)) := by
  have hz := h.z
  have hf : fr (isP7 i) w (adW w i (pe N) v c f (N 89 + 1)) := by
    unfold adW
    exact (((((fr.refl _ _).sQ (fun _ => ⟨by omega, by omega⟩)).sI (fun _ => ⟨by omega, by omega⟩)).sI (fun _ => ⟨by omega, by omega⟩)).sI (fun _ => ⟨by omega, by omega⟩)).sF (fun _ => ⟨by omega, by omega⟩)
  have at5 := addN_at h8 kd a c f
  have hpe := addN_pe hP h8 kd a c f
  have I : ∀ q j, wI (adW w i (pe N) v c f (N 89 + 1)) q j = if q = i + 5 ∧ j = pe N then 0 else if q = i + 4 ∧ j = pe N then f else if q = i + 3 ∧ j = pe N then c else wI w q j := fun q j => rfl
  have Q : ∀ q j, wQ (adW w i (pe N) v c f (N 89 + 1)) q j = if q = i + 2 ∧ j = pe N then some v else wQ w q j := fun q j => rfl
  have F : ∀ k, ¬ k = 107 → wF (adW w i (pe N) v c f (N 89 + 1)) i k = wF w i k := fun k hk => if_neg (fun e => hk e.2)
  refine ⟨⟨⟨hz.1, hz.2⟩, h.t0, h.t1, h.t2, h.t3, h.t4, h.t5, h.t6, h.g100, h.g101, h.g102, h.g103, h.g104, h.g105, ?_, ?_, ?_, ?_, ?_, ?_, ?_, ?_, fun r hr => ?_, fun p hp => ?_, fun p hp hp8 => ?_⟩, hf⟩
  · rw [F _ (by decide), addN_ne (by decide) (by omega)]; exact h.f106
  · exact (if_pos ⟨rfl, rfl⟩ : (if i = i ∧ 107 = 107 then N 89 + 1 else wF w i 107) = _)
  · rw [F _ (by decide), addN_ne (by decide) (by omega)]; exact h.f108
  · rw [F _ (by decide), addN_ne (by decide) (by omega)]; exact h.f109
  · rw [F _ (by decide), addN_ne (by decide) (by omega)]; exact h.f110
  · rw [I, if_neg (by omega), if_neg (by omega), if_neg (by omega), addN_ne (by decide) (by omega)]; exact h.o0
  · rw [I, if_neg (by omega), if_neg (by omega), if_neg (by omega), addN_ne (by decide) (by omega)]; exact h.o1
  · rw [I, if_neg (by omega), if_neg (by omega), if_neg (by omega), addN_ne (by decide) (by omega)]; exact h.o2
  · rw [I, if_neg (by omega), if_neg (by omega), if_neg (by omega), row7_c (fun c' hc' => addN_ne (by omega) (by omega))]; exact h.po r hr
  · rw [hpe] at hp
    by_cases e : p = pe N
    · rw [e]
      refine ⟨?_, ?_, ?_, v, ?_, ?_⟩
      · rw [I, if_neg (by omega), if_neg (by omega), if_pos ⟨rfl, rfl⟩]; exact at5.2.2.1.symm
      · rw [I, if_neg (by omega), if_pos ⟨rfl, rfl⟩]; exact at5.2.2.2.1.symm
      · rw [I, if_pos ⟨rfl, rfl⟩]; exact at5.2.2.2.2.symm
      · rw [Q, if_pos ⟨rfl, rfl⟩]
      · rw [at5.1, at5.2.1]
        exact hv.sc hf (fun k => h.nv hv.isV)
    · obtain ⟨a1, a2, a3, v', a4, a5⟩ := h.pr p (by omega)
      refine ⟨?_, ?_, ?_, v', ?_, ?_⟩
      · rw [I, if_neg (by omega), if_neg (by omega), if_neg (by omega), addN_ne (by omega) (by omega)]; exact a1
      · rw [I, if_neg (by omega), if_neg (by omega), if_neg (by omega), addN_ne (by omega) (by omega)]; exact a2
      · rw [I, if_neg (by omega), if_neg (by omega), if_neg (by omega), addN_ne (by omega) (by omega)]; exact a3
      · rw [Q, if_neg (by omega)]; exact a4
      · rw [addN_ne (by omega) (by omega), addN_ne (by omega) (by omega)]
        exact a5.sc hf (fun k => h.nv a5.isV)
  · rw [hpe] at hp
    rw [Q, if_neg (by omega)]
    exact h.no p (by omega) hp8
theorem x_adds (h : XX w b i o A) (hN : okN (aN A)) (h8 : pe (aN A) < 8) {kd : Int32} (hkd : 0 ≤ kd.toInt ∧ kd.toInt < 6) (a c f : Int32) {k : Int32 → Wd → Prop} (hk : xR w b i o (zN A (addN (aN A) kd a c f)) (k (aN A 89))) : wp_X1_adds w i kd a c f k := by
  have hP := hN.P
  have hz := h.sh.z
  have hpe : aN A 89 = Int32.ofNat (pe (aN A)) := by rw [i_eq, hP.1, i_ti (by omega)]
  have hv8 : vp_in (Int32.ofNat (pe (aN A))) 8 := vp_iff.2 (by rw [i_ti (by omega)]; omega)
  have hq7 : (Int32.ofNat (pe (aN A))).toInt.toNat = pe (aN A) := i_tt (by omega)
  unfold wp_X1_adds
  simp only [h.is.G101, h.is.F107, hpe]
  refine x_made hz hkd _ _ (fun w1 hf1 hv1 hz1 => ?_)
  have h1 := h.sc0 hf1
  have u := h1.is.add hP h8 hv1 c f
  have U := h1.upd (N' := addN (aN A) kd a c f) u.2 u.1 (by rw [addN_pe hP h8]; omega) (fun p hp => by
    show (if i + 2 = i + 2 ∧ p = pe (aN A) then _ else _) = _
    rw [if_neg (by omega)])
  have hst : ∀ K : Wd → Prop, wstQ w1 (some (i + 2)) 6 [26, 27, 28, 29, 30, 31] (Int32.ofNat (pe (aN A))) (some (wz w)) K = K (sQ w1 (i + 2) (pe (aN A)) (some (wz w))) := by
    intro K
    show (warw w1 (i + 2) 6 (Int32.ofNat (pe (aN A))) ∧ _ ∧ K (sQ w1 (i + 2) (Int32.ofNat (pe (aN A))).toInt.toNat _)) = _
    rw [hq7]
    refine propext ⟨fun e => e.2.2, fun e => ⟨?_, fun b' hb' => ?_, e⟩⟩
    · unfold warw
      rw [h1.is.t2]
      exact ⟨rfl, hv8, rfl⟩
    · cases hb'
      exact hv1.ob
  rw [hst]
  have e107 : wF w1 i 107 = Int32.ofNat (pe (aN A)) := h1.is.f107.trans hpe
  simp only [wgF, wgG, wpF, wpG, wld, wldL, wldQ, wst, wstL, wstQ, wob, wobw, warr, warw, wnn, wln, List.mem_cons, List.not_mem_nil, i_nat, wT_sF, wF_sF, wG_sF, wI_sF, wL_sF, wQ_sF, wz_sF, wk_sF, wT_sG, wF_sG, wG_sG, wI_sG, wL_sG, wQ_sG, wz_sG, wk_sG, wT_sI, wF_sI, wG_sI, wI_sI, wL_sI, wQ_sI, wz_sI, wk_sI, wT_sL, wF_sL, wG_sL, wI_sL, wL_sL, wQ_sL, wz_sL, wk_sL, wT_sQ, wF_sQ, wG_sQ, wI_sQ, wL_sQ, wQ_sQ, wz_sQ, wk_sQ, wT_sZ, wF_sZ, wG_sZ, wI_sZ, wL_sZ, wQ_sZ, wz_sZ, wk_sZ, wT_nw, wF_nw, wG_nw, wI_nw, wL_nw, wQ_nw, wz_nw, wk_nw, wT_sIc, wF_sIc, wG_sIc, wI_sIc, wL_sIc, wQ_sIc, wz_sIc, wk_sIc, wT_sLc, wF_sLc, wG_sLc, wI_sLc, wL_sLc, wQ_sLc, wz_sLc, wk_sLc, wT_sQc, wF_sQc, wG_sQc, wI_sQc, wL_sQc, wQ_sQc, wz_sQc, wk_sQc, wT_sCp, wF_sCp, wG_sCp, wI_sCp, wL_sCp, wQ_sCp, wz_sCp, wk_sCp, h1.is.t0, h1.is.t3, h1.is.t4, h1.is.t5, h1.is.g102, h1.is.g103, h1.is.g104, e107, hv8, hq7, ie_m6_m5, ie_m6_m4, ie_m6_m3, ie_m6_m2, ie_m6_m1, ie_m6_0, ie_m6_1, ie_m6_2, ie_m6_3, ie_m6_4, ie_m6_5, ie_m6_6, ie_m5_m6, ie_m5_m4, ie_m5_m3, ie_m5_m2, ie_m5_m1, ie_m5_0, ie_m5_1, ie_m5_2, ie_m5_3, ie_m5_4, ie_m5_5, ie_m5_6, ie_m4_m6, ie_m4_m5, ie_m4_m3, ie_m4_m2, ie_m4_m1, ie_m4_0, ie_m4_1, ie_m4_2, ie_m4_3, ie_m4_4, ie_m4_5, ie_m4_6, ie_m3_m6, ie_m3_m5, ie_m3_m4, ie_m3_m2, ie_m3_m1, ie_m3_0, ie_m3_1, ie_m3_2, ie_m3_3, ie_m3_4, ie_m3_5, ie_m3_6, ie_m2_m6, ie_m2_m5, ie_m2_m4, ie_m2_m3, ie_m2_m1, ie_m2_0, ie_m2_1, ie_m2_2, ie_m2_3, ie_m2_4, ie_m2_5, ie_m2_6, ie_m1_m6, ie_m1_m5, ie_m1_m4, ie_m1_m3, ie_m1_m2, ie_m1_0, ie_m1_1, ie_m1_2, ie_m1_3, ie_m1_4, ie_m1_5, ie_m1_6, ie_0_m6, ie_0_m5, ie_0_m4, ie_0_m3, ie_0_m2, ie_0_m1, ie_0_1, ie_0_2, ie_0_3, ie_0_4, ie_0_5, ie_0_6, ie_1_m6, ie_1_m5, ie_1_m4, ie_1_m3, ie_1_m2, ie_1_m1, ie_1_0, ie_1_2, ie_1_3, ie_1_4, ie_1_5, ie_1_6, ie_2_m6, ie_2_m5, ie_2_m4, ie_2_m3, ie_2_m2, ie_2_m1, ie_2_0, ie_2_1, ie_2_3, ie_2_4, ie_2_5, ie_2_6, ie_3_m6, ie_3_m5, ie_3_m4, ie_3_m3, ie_3_m2, ie_3_m1, ie_3_0, ie_3_1, ie_3_2, ie_3_4, ie_3_5, ie_3_6, ie_4_m6, ie_4_m5, ie_4_m4, ie_4_m3, ie_4_m2, ie_4_m1, ie_4_0, ie_4_1, ie_4_2, ie_4_3, ie_4_5, ie_4_6, ie_5_m6, ie_5_m5, ie_5_m4, ie_5_m3, ie_5_m2, ie_5_m1, ie_5_0, ie_5_1, ie_5_2, ie_5_3, ie_5_4, ie_5_6, ie_6_m6, ie_6_m5, ie_6_m4, ie_6_m3, ie_6_m2, ie_6_m1, ie_6_0, ie_6_1, ie_6_2, ie_6_3, ie_6_4, ie_6_5, Int32.reduceToInt, Int64.reduceToInt, Int.reduceToNat, Int32.reduceAdd, Int32.reduceSub, Int32.reduceMul, Int32.reduceDiv, Int32.reduceLT, Int32.reduceLE, Int.reduceLE, Int.reduceLT, Int.reduceNeg, Int.reduceAdd, Int.reduceSub, Int.reduceMul, Int.reduceEq, Nat.reduceAdd, Nat.reduceMul, Nat.reduceLT, Nat.reduceEqDiff, true_and, and_true, and_self, false_and, and_false, if_true, if_false, ite_true, ite_false, ↓reduceIte, not_true_eq_false, not_false_eq_true, true_or, or_true, or_false, false_or, Int.cast_ofNat_Int, Int.reduceNatCast]
  have hk' := hk _ U.1 ((x0_P hf1).trans U.2)
  rw [Int32.add_sub_cancel, ← hpe]
  exact hk'
theorem x_person (h : XX w b i o A) (hN : okN (aN A)) (kd a c f : Int32) {k : Int32 → Wd → Prop} (hk : xR w b i o (F_person A kd a c f).2 (k (F_person A kd a c f).1)) : wp_X0_person w b kd a c f k := by
  unfold wp_X0_person
  unfold F_person at hk
  simp only [x_isIn, ie_m6_m5, ie_m6_m4, ie_m6_m3, ie_m6_m2, ie_m6_m1, ie_m6_0, ie_m6_1, ie_m6_2, ie_m6_3, ie_m6_4, ie_m6_5, ie_m6_6, ie_m5_m6, ie_m5_m4, ie_m5_m3, ie_m5_m2, ie_m5_m1, ie_m5_0, ie_m5_1, ie_m5_2, ie_m5_3, ie_m5_4, ie_m5_5, ie_m5_6, ie_m4_m6, ie_m4_m5, ie_m4_m3, ie_m4_m2, ie_m4_m1, ie_m4_0, ie_m4_1, ie_m4_2, ie_m4_3, ie_m4_4, ie_m4_5, ie_m4_6, ie_m3_m6, ie_m3_m5, ie_m3_m4, ie_m3_m2, ie_m3_m1, ie_m3_0, ie_m3_1, ie_m3_2, ie_m3_3, ie_m3_4, ie_m3_5, ie_m3_6, ie_m2_m6, ie_m2_m5, ie_m2_m4, ie_m2_m3, ie_m2_m1, ie_m2_0, ie_m2_1, ie_m2_2, ie_m2_3, ie_m2_4, ie_m2_5, ie_m2_6, ie_m1_m6, ie_m1_m5, ie_m1_m4, ie_m1_m3, ie_m1_m2, ie_m1_0, ie_m1_1, ie_m1_2, ie_m1_3, ie_m1_4, ie_m1_5, ie_m1_6, ie_0_m6, ie_0_m5, ie_0_m4, ie_0_m3, ie_0_m2, ie_0_m1, ie_0_1, ie_0_2, ie_0_3, ie_0_4, ie_0_5, ie_0_6, ie_1_m6, ie_1_m5, ie_1_m4, ie_1_m3, ie_1_m2, ie_1_m1, ie_1_0, ie_1_2, ie_1_3, ie_1_4, ie_1_5, ie_1_6, ie_2_m6, ie_2_m5, ie_2_m4, ie_2_m3, ie_2_m2, ie_2_m1, ie_2_0, ie_2_1, ie_2_3, ie_2_4, ie_2_5, ie_2_6, ie_3_m6, ie_3_m5, ie_3_m4, ie_3_m3, ie_3_m2, ie_3_m1, ie_3_0, ie_3_1, ie_3_2, ie_3_4, ie_3_5, ie_3_6, ie_4_m6, ie_4_m5, ie_4_m4, ie_4_m3, ie_4_m2, ie_4_m1, ie_4_0, ie_4_1, ie_4_2, ie_4_3, ie_4_5, ie_4_6, ie_5_m6, ie_5_m5, ie_5_m4, ie_5_m3, ie_5_m2, ie_5_m1, ie_5_0, ie_5_1, ie_5_2, ie_5_3, ie_5_4, ie_5_6, ie_6_m6, ie_6_m5, ie_6_m4, ie_6_m3, ie_6_m2, ie_6_m1, ie_6_0, ie_6_1, ie_6_2, ie_6_3, ie_6_4, ie_6_5, Int32.reduceToInt, Int64.reduceToInt, Int.reduceToNat, Int32.reduceAdd, Int32.reduceSub, Int32.reduceMul, Int32.reduceDiv, Int32.reduceLT, Int32.reduceLE, Int.reduceLE, Int.reduceLT, Int.reduceNeg, Int.reduceAdd, Int.reduceSub, Int.reduceMul, Int.reduceEq, Nat.reduceAdd, Nat.reduceMul, Nat.reduceLT, Nat.reduceEqDiff, true_and, and_true, and_self, false_and, and_false, if_true, if_false, ite_true, ite_false, ↓reduceIte, not_true_eq_false, not_false_eq_true, true_or, or_true, or_false, false_or, Int.cast_ofNat_Int, Int.reduceNatCast]
  by_cases c1 : 0 ≤ kd.toInt ∧ kd.toInt ≤ 5
  · rw [if_pos c1]
    by_cases c2 : 0 ≤ a.toInt ∧ a.toInt ≤ 9
    · rw [if_pos c2, h.G0]
      show wob w i [21] ∧ _
      refine ⟨by rw [h.is.ob]; trivial, ?_⟩
      rw [x_isCell h.is]
      by_cases c3 : isC (aN A 90) c
      · rw [if_pos c3, if_neg (by decide), x_isFaced]
        by_cases c4 : okF f
        · rw [if_pos c4, if_neg (by decide), h.G0]
          rw [if_pos ⟨c1, c2, c3, c4⟩] at hk
          show wob w i [21] ∧ _
          refine ⟨by rw [h.is.ob]; trivial, ?_⟩
          rw [x_isPond h.is hN c3]
          by_cases c5 : pnd (aN A) c = 1
          · rw [if_pos c5, if_neg (by decide)]
            rw [if_pos c5] at hk
            exact ⟨by rw [h.sh.ob]; trivial, x_no h (by decide) hk⟩
          · rw [if_neg c5, if_pos rfl, h.G0, h.is.F107]
            rw [if_neg c5] at hk
            have e8 : aN A 89 = 8 ↔ pe (aN A) = 8 := by rw [i_eq, hN.peI]; show (pe (aN A) : Int) = 8 ↔ _; omega
            by_cases c6 : pe (aN A) = 8
            · rw [if_pos (e8.2 c6)]
              rw [if_pos c6] at hk
              exact ⟨by rw [h.sh.ob]; trivial, x_no h (by decide) hk⟩
            · rw [if_neg (fun q => c6 (e8.1 q)), h.G0]
              rw [if_neg c6] at hk
              have := hN.pe8
              show wob w i [21] ∧ _
              exact ⟨by rw [h.is.ob]; trivial, x_adds h hN (by omega) (by omega) a c f hk⟩
        · rw [if_neg c4, if_pos rfl]
          rw [if_neg (fun q => c4 q.2.2.2)] at hk
          exact ⟨by rw [h.sh.ob]; trivial, x_no h (by decide) hk⟩
      · rw [if_neg c3, if_pos rfl]
        rw [if_neg (fun q => c3 q.2.2.1)] at hk
        exact ⟨by rw [h.sh.ob]; trivial, x_no h (by decide) hk⟩
    · rw [if_neg c2]
      rw [if_neg (fun q => c2 q.2.1)] at hk
      exact ⟨by rw [h.sh.ob]; trivial, x_no h (by decide) hk⟩
  · rw [if_neg c1]
    rw [if_neg (fun q => c1 q.1)] at hk
    exact ⟨by rw [h.sh.ob]; trivial, x_no h (by decide) hk⟩
end XADD
