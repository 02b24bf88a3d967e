/-! ===== islands written, whoever's they are ===== -/
section XI1
variable {w : Wd} {b j : Nat} {N : Nw}
theorem x_mayI (h : isl w b j N) (hP : okP N) (c : Int32) {k : Int32 → Wd → Prop} (hk : k (if smb N c then 0 else 1) w) : wp_X1_mayPond w j c k := by
  have h8 := hP.2
  unfold wp_X1_mayPond
  refine loopN (n := pe N) (I := fun x w2 => w2 = w) (L := fun fu x w2 => wl_X1_mayPond_4 k fu w2 j c (if ¬ ∀ p : Nat, p < x → ¬ N (5 * p + 2) = c then 0 else 1) (Int32.ofNat x)) ?_ ?_ (pe N) FU 0 w (by omega) (by unfold FU; omega) rfl
  · rintro fu x w2 hj rfl ih
    have hv : vp_in (Int32.ofNat x) 8 := vp_iff.2 (by rw [i_ti (by omega)]; omega)
    rw [wl_X1_mayPond_4_s]
    unfold wb_X1_mayPond_4
    rw [h.F107, if_neg (by rw [hP.le (by omega)]; omega)]
    simp only [h.G102, h.r3, hv, true_and, i_tt (show x < 1000000 by omega), (h.p3 hj).1, i_ofS]
    have ih' := ih _ rfl
    by_cases e2 : N (5 * x + 2) = c
    · rw [if_pos e2]
      rw [if_pos (fun q => q x (by omega) e2)] at ih'
      rw [show ∀ x : Int32, x &&& 0 = 0 from fun x => Int32.and_zero]
      exact ih'
    · rw [if_neg e2]
      by_cases e : ∀ p : Nat, p < x → ¬ N (5 * p + 2) = c
      · rw [if_neg (fun q => q e)]
        rwa [if_neg (fun q => q (fun p hp => by
          by_cases hpj : p = x
          · rw [hpj]; exact e2
          · exact e p (by omega)))] at ih'
      · rw [if_pos e]
        rwa [if_pos (fun q => e (fun p hp => q p (by omega)))] at ih'
  · rintro fu w2 rfl
    rw [wl_X1_mayPond_4_s]
    unfold wb_X1_mayPond_4
    rw [h.F107, if_pos (by rw [hP.le (by omega)]; omega)]
    refine ⟨?_, hk⟩
    by_cases e : smb N c
    · rw [if_pos e]; exact of_eq_true nar_0
    · rw [if_neg e]; exact of_eq_true nar_1
theorem x_pondI (h : isl w b j N) (hN : okN N) {c is : Int32} (hc : isC (N 90) c) {k : Wd → Prop} (hk : ∀ w', isl w' b j (up1 N (pat c) (if is = 0 then 0 else 1)) → fr (isP7 j) w w' → k w') : wp_X1_pond w j c is k := by
  obtain ⟨h1, h2, h3, h4, h5⟩ := cell_rc hN.side hc
  have hv : vp_in (c / 10) 7 := vp_iff.2 (by omega)
  obtain ⟨a, ha, e1, e2⟩ := row7_a (okN_bits hN h1)
  obtain ⟨⟨s1, s2⟩, s3, s4, s5⟩ := rowA_set ha h4
  unfold wp_X1_pond
  simp only [h.G100, h.r1, h.w1, hv, true_and, h.po _ h1, e1, h3, s1, s2]
  rw [h5] at hk
  have key : ∀ (B : Bool) (v : Int32), v = (if B then 1 else 0) → isl (sI w (j + 1) (c / 10).toInt.toNat (rowA (setA a (c.toInt % 10).toNat B))) b j (up1 N (40 + 7 * (c / 10).toInt.toNat + (c.toInt % 10).toNat) v) := by
    intro B v hvB
    refine h.wPond hN.pe8 h1 h4 (row7_rowA (fun c' hc' => ?_)).symm
    by_cases e : c' = (c.toInt % 10).toNat
    · rw [e, up1_eq, hvB]
      cases B
      · rw [(s5 _ h4).2, if_pos rfl]; rfl
      · rw [(s5 _ h4).1, if_pos rfl, if_pos rfl]; rfl
    · rw [up1_ne (by omega), e2 c' hc']
      cases B
      · rw [(s5 _ hc').2, if_neg e]
      · rw [(s5 _ hc').1, if_neg e]
  by_cases e : is = 0
  · rw [if_pos e] at hk ⊢
    exact hk _ (key false 0 rfl) ((fr.refl _ _).sI (fun _ => by unfold isP7; omega))
  · rw [if_neg e] at hk ⊢
    exact hk _ (key true 1 rfl) ((fr.refl _ _).sI (fun _ => by unfold isP7; omega))
theorem x_addsI (h : isl w b j N) (hN : okN N) (hbz : b + 60 ≤ wz w) (h8 : pe N < 8) {kd : Int32} (hkd : 0 ≤ kd.toInt ∧ kd.toInt < 6) (a c f : Int32) {k : Int32 → Wd → Prop} (hk : ∀ w', isl w' b j (addN N kd a c f) → fr (isP7 j) w w' → k (N 89) w') : wp_X1_adds w j kd a c f k := by
  have hP := hN.P
  have hpe : N 89 = Int32.ofNat (pe N) := by rw [i_eq, hP.1, i_ti (by omega)]
  have hv8 : vp_in (Int32.ofNat (pe N)) 8 := vp_iff.2 (by rw [i_ti (by omega)]; omega)
  have hq7 : (Int32.ofNat (pe N)).toInt.toNat = pe N := i_tt (by omega)
  have hjz := h.z
  unfold wp_X1_adds
  simp only [h.G101, h.F107, hpe]
  refine x_made hbz hkd _ _ (fun w1 hf1 hv1 hz1 => ?_)
  have h1 : isl w1 b j N := h.sc hf1 (fun _ _ _ _ q => q) (fun _ _ _ q => q)
  have u := h1.add hP h8 hv1 c f
  have hst : ∀ K : Wd → Prop, wstQ w1 (some (j + 2)) 6 [26, 27, 28, 29, 30, 31] (Int32.ofNat (pe N)) (some (wz w)) K = K (sQ w1 (j + 2) (pe N) (some (wz w))) := by
    intro K
    show (warw w1 (j + 2) 6 (Int32.ofNat (pe N)) ∧ _ ∧ K (sQ w1 (j + 2) (Int32.ofNat (pe N)).toInt.toNat _)) = _
    rw [hq7]
    refine propext ⟨fun e => e.2.2, fun e => ⟨?_, fun b' hb' => ?_, e⟩⟩
    · unfold warw
      rw [h1.t2]
      exact ⟨rfl, hv8, rfl⟩
    · cases hb'
      exact hv1.ob
  rw [hst]
  have e107 : wF w1 j 107 = Int32.ofNat (pe N) := h1.f107.trans hpe
  simp only [wgF, wgG, wpF, wpG, wld, wldL, wldQ, wst, wstL, wstQ, wob, wobw, warr, warw, wnn, wln, List.mem_cons, List.not_mem_nil, i_nat, wT_sF, wF_sF, wG_sF, wI_sF, wL_sF, wQ_sF, wz_sF, wk_sF, wT_sG, wF_sG, wG_sG, wI_sG, wL_sG, wQ_sG, wz_sG, wk_sG, wT_sI, wF_sI, wG_sI, wI_sI, wL_sI, wQ_sI, wz_sI, wk_sI, wT_sL, wF_sL, wG_sL, wI_sL, wL_sL, wQ_sL, wz_sL, wk_sL, wT_sQ, wF_sQ, wG_sQ, wI_sQ, wL_sQ, wQ_sQ, wz_sQ, wk_sQ, wT_sZ, wF_sZ, wG_sZ, wI_sZ, wL_sZ, wQ_sZ, wz_sZ, wk_sZ, wT_nw, wF_nw, wG_nw, wI_nw, wL_nw, wQ_nw, wz_nw, wk_nw, wT_sIc, wF_sIc, wG_sIc, wI_sIc, wL_sIc, wQ_sIc, wz_sIc, wk_sIc, wT_sLc, wF_sLc, wG_sLc, wI_sLc, wL_sLc, wQ_sLc, wz_sLc, wk_sLc, wT_sQc, wF_sQc, wG_sQc, wI_sQc, wL_sQc, wQ_sQc, wz_sQc, wk_sQc, wT_sCp, wF_sCp, wG_sCp, wI_sCp, wL_sCp, wQ_sCp, wz_sCp, wk_sCp, h1.t0, h1.t3, h1.t4, h1.t5, h1.g102, h1.g103, h1.g104, e107, hv8, hq7, ie_m6_m5, ie_m6_m4, ie_m6_m3, ie_m6_m2, ie_m6_m1, ie_m6_0, ie_m6_1, ie_m6_2, ie_m6_3, ie_m6_4, ie_m6_5, ie_m6_6, ie_m5_m6, ie_m5_m4, ie_m5_m3, ie_m5_m2, ie_m5_m1, ie_m5_0, ie_m5_1, ie_m5_2, ie_m5_3, ie_m5_4, ie_m5_5, ie_m5_6, ie_m4_m6, ie_m4_m5, ie_m4_m3, ie_m4_m2, ie_m4_m1, ie_m4_0, ie_m4_1, ie_m4_2, ie_m4_3, ie_m4_4, ie_m4_5, ie_m4_6, ie_m3_m6, ie_m3_m5, ie_m3_m4, ie_m3_m2, ie_m3_m1, ie_m3_0, ie_m3_1, ie_m3_2, ie_m3_3, ie_m3_4, ie_m3_5, ie_m3_6, ie_m2_m6, ie_m2_m5, ie_m2_m4, ie_m2_m3, ie_m2_m1, ie_m2_0, ie_m2_1, ie_m2_2, ie_m2_3, ie_m2_4, ie_m2_5, ie_m2_6, ie_m1_m6, ie_m1_m5, ie_m1_m4, ie_m1_m3, ie_m1_m2, ie_m1_0, ie_m1_1, ie_m1_2, ie_m1_3, ie_m1_4, ie_m1_5, ie_m1_6, ie_0_m6, ie_0_m5, ie_0_m4, ie_0_m3, ie_0_m2, ie_0_m1, ie_0_1, ie_0_2, ie_0_3, ie_0_4, ie_0_5, ie_0_6, ie_1_m6, ie_1_m5, ie_1_m4, ie_1_m3, ie_1_m2, ie_1_m1, ie_1_0, ie_1_2, ie_1_3, ie_1_4, ie_1_5, ie_1_6, ie_2_m6, ie_2_m5, ie_2_m4, ie_2_m3, ie_2_m2, ie_2_m1, ie_2_0, ie_2_1, ie_2_3, ie_2_4, ie_2_5, ie_2_6, ie_3_m6, ie_3_m5, ie_3_m4, ie_3_m3, ie_3_m2, ie_3_m1, ie_3_0, ie_3_1, ie_3_2, ie_3_4, ie_3_5, ie_3_6, ie_4_m6, ie_4_m5, ie_4_m4, ie_4_m3, ie_4_m2, ie_4_m1, ie_4_0, ie_4_1, ie_4_2, ie_4_3, ie_4_5, ie_4_6, ie_5_m6, ie_5_m5, ie_5_m4, ie_5_m3, ie_5_m2, ie_5_m1, ie_5_0, ie_5_1, ie_5_2, ie_5_3, ie_5_4, ie_5_6, ie_6_m6, ie_6_m5, ie_6_m4, ie_6_m3, ie_6_m2, ie_6_m1, ie_6_0, ie_6_1, ie_6_2, ie_6_3, ie_6_4, ie_6_5, Int32.reduceToInt, Int64.reduceToInt, Int.reduceToNat, Int32.reduceAdd, Int32.reduceSub, Int32.reduceMul, Int32.reduceDiv, Int32.reduceLT, Int32.reduceLE, Int.reduceLE, Int.reduceLT, Int.reduceNeg, Int.reduceAdd, Int.reduceSub, Int.reduceMul, Int.reduceEq, Nat.reduceAdd, Nat.reduceMul, Nat.reduceLT, Nat.reduceEqDiff, true_and, and_true, and_self, false_and, and_false, if_true, if_false, ite_true, ite_false, ↓reduceIte, not_true_eq_false, not_false_eq_true, true_or, or_true, or_false, false_or, Int.cast_ofNat_Int, Int.reduceNatCast]
  have hk' := hk _ u.1 ((x0_P hf1).trans u.2)
  rw [Int32.add_sub_cancel, ← hpe]
  exact hk'
end XI1
