/-! ===== votes, of the class ===== -/
section XV
variable {w : Wd} {b i : Nat} {o : Option Nat} {A : Ab}
theorem x_hs (w : Wd) (set : Int32) (q : Nat) (k : Int32 → Wd → Prop) : wp_X0_has w set (Int32.ofNat q) k = k (sbit set q) w := by
  unfold wp_X0_has
  show (if sbit set q = 1 then _ else _) = _
  rcases sbit_c set q with e | e <;> rw [e] <;> simp only [ie_m6_m5, ie_m6_m4, ie_m6_m3, ie_m6_m2, ie_m6_m1, ie_m6_0, ie_m6_1, ie_m6_2, ie_m6_3, ie_m6_4, ie_m6_5, ie_m6_6, ie_m5_m6, ie_m5_m4, ie_m5_m3, ie_m5_m2, ie_m5_m1, ie_m5_0, ie_m5_1, ie_m5_2, ie_m5_3, ie_m5_4, ie_m5_5, ie_m5_6, ie_m4_m6, ie_m4_m5, ie_m4_m3, ie_m4_m2, ie_m4_m1, ie_m4_0, ie_m4_1, ie_m4_2, ie_m4_3, ie_m4_4, ie_m4_5, ie_m4_6, ie_m3_m6, ie_m3_m5, ie_m3_m4, ie_m3_m2, ie_m3_m1, ie_m3_0, ie_m3_1, ie_m3_2, ie_m3_3, ie_m3_4, ie_m3_5, ie_m3_6, ie_m2_m6, ie_m2_m5, ie_m2_m4, ie_m2_m3, ie_m2_m1, ie_m2_0, ie_m2_1, ie_m2_2, ie_m2_3, ie_m2_4, ie_m2_5, ie_m2_6, ie_m1_m6, ie_m1_m5, ie_m1_m4, ie_m1_m3, ie_m1_m2, ie_m1_0, ie_m1_1, ie_m1_2, ie_m1_3, ie_m1_4, ie_m1_5, ie_m1_6, ie_0_m6, ie_0_m5, ie_0_m4, ie_0_m3, ie_0_m2, ie_0_m1, ie_0_1, ie_0_2, ie_0_3, ie_0_4, ie_0_5, ie_0_6, ie_1_m6, ie_1_m5, ie_1_m4, ie_1_m3, ie_1_m2, ie_1_m1, ie_1_0, ie_1_2, ie_1_3, ie_1_4, ie_1_5, ie_1_6, ie_2_m6, ie_2_m5, ie_2_m4, ie_2_m3, ie_2_m2, ie_2_m1, ie_2_0, ie_2_1, ie_2_3, ie_2_4, ie_2_5, ie_2_6, ie_3_m6, ie_3_m5, ie_3_m4, ie_3_m3, ie_3_m2, ie_3_m1, ie_3_0, ie_3_1, ie_3_2, ie_3_4, ie_3_5, ie_3_6, ie_4_m6, ie_4_m5, ie_4_m4, ie_4_m3, ie_4_m2, ie_4_m1, ie_4_0, ie_4_1, ie_4_2, ie_4_3, ie_4_5, ie_4_6, ie_5_m6, ie_5_m5, ie_5_m4, ie_5_m3, ie_5_m2, ie_5_m1, ie_5_0, ie_5_1, ie_5_2, ie_5_3, ie_5_4, ie_5_6, ie_6_m6, ie_6_m5, ie_6_m4, ie_6_m3, ie_6_m2, ie_6_m1, ie_6_0, ie_6_1, ie_6_2, ie_6_3, ie_6_4, ie_6_5, Int32.reduceToInt, Int64.reduceToInt, Int.reduceToNat, Int32.reduceAdd, Int32.reduceSub, Int32.reduceMul, Int32.reduceDiv, Int32.reduceLT, Int32.reduceLE, Int.reduceLE, Int.reduceLT, Int.reduceNeg, Int.reduceAdd, Int.reduceSub, Int.reduceMul, Int.reduceEq, Nat.reduceAdd, Nat.reduceMul, Nat.reduceLT, Nat.reduceEqDiff, true_and, and_true, and_self, false_and, and_false, if_true, if_false, ite_true, ite_false, ↓reduceIte, not_true_eq_false, not_false_eq_true, true_or, or_true, or_false, false_or, Int.cast_ofNat_Int, Int.reduceNatCast]
theorem vot.ob {v p : Nat} {kd av : Int32} (hv : vot w b v kd p av) : wob w v [26, 27, 28, 29, 30, 31] := by
  have hk0 := hv.2.2.1
  unfold wob
  rw [hv.2.1]
  show 26 + kd.toInt.toNat ∈ _
  rcases (show kd.toInt.toNat = 0 ∨ kd.toInt.toNat = 1 ∨ kd.toInt.toNat = 2 ∨ kd.toInt.toNat = 3 ∨ kd.toInt.toNat = 4 ∨ kd.toInt.toNat = 5 by omega) with e | e | e | e | e | e <;> rw [e] <;> decide
theorem vot.aw {v p : Nat} {kd av : Int32} (hv : vot w b v kd p av) (K : Int32 → Prop) : wgF w (some v) [26, 27, 28, 29, 30, 31] 601 K = K av := by
  show (wob w v [26, 27, 28, 29, 30, 31] ∧ K (wF w v 601)) = _
  rw [hv.2.2.2.2]
  exact propext ⟨fun e => e.2, fun e => ⟨hv.ob, e⟩⟩
theorem x_kind {v p : Nat} {kd av : Int32} (hv : vot w b v kd p av) {k : Int32 → Wd → Prop} (hk : k kd w) : wd_kind w v k := by
  have ht := hv.2.1
  have hkd := hv.2.2.1
  have hob : ∀ c : Nat, wob w v [26 + c] → kd.toInt.toNat = c := fun c hc => by
    unfold wob at hc
    rw [ht] at hc
    have : 26 + kd.toInt.toNat ∈ [26 + c] := hc
    rw [List.mem_singleton] at this
    omega
  have ek : ∀ c : Nat, c < 6 → wob w v [26 + c] → kd = Int32.ofNat c := fun c h6 hc => by
    have := hob c hc
    rw [i_eq, i_ti (by omega)]
    omega
  refine ⟨hv.ob, fun c => ?_, fun c => ?_, fun c => ?_, fun c => ?_, fun c => ?_, fun c => ?_⟩
  · have := ek 0 (by decide) c; subst this; exact hk
  · have := ek 1 (by decide) c; subst this; exact hk
  · have := ek 2 (by decide) c; subst this; exact hk
  · have := ek 3 (by decide) c; subst this; exact hk
  · have := ek 4 (by decide) c; subst this; exact hk
  · have := ek 5 (by decide) c; subst this; exact hk
theorem x_every (h : XX w b i o A) (k : Int32 → Wd → Prop) : wp_X1_everybody w i k = k ((1 <<< (aN A 89 &&& 31)) - 1) w := by
  unfold wp_X1_everybody
  rw [h.is.F107]
theorem x_weight (h : XX w b i o A) (hN : okN (aN A)) (set : Int32) {k : Int32 → Wd → Prop} (hk : k (wsF (aN A) set) w) : wp_X1_weight w i set k := by
  have hP := hN.P
  have h8 := hN.pe8
  unfold wp_X1_weight
  refine loopN (n := pe (aN A)) (I := fun j w2 => w2 = w) (L := fun fu j w2 => wl_X1_weight_4 k fu w2 i set (foldP (fun q a => a + sbit set q * aN A (5 * q + 1)) 0 j) (Int32.ofNat j)) ?_ ?_ (pe (aN A)) FU 0 w (by omega) (by unfold FU; omega) rfl
  · rintro fu j w2 hj rfl ih
    rw [wl_X1_weight_4_s]
    unfold wb_X1_weight_4
    rw [h.is.F107, if_neg (by rw [hP.le (by omega)]; omega), x_hs]
    have ih' := ih _ rfl
    simp only [foldP] at ih'
    obtain ⟨v, hv, hvt⟩ := x_vt h hN hj
    rcases sbit_c set j with e | e <;> rw [e] at ih' ⊢
    · rw [if_pos rfl, i_ofS]
      rwa [Int32.zero_mul] at ih'
    · rw [if_neg (by decide)]
      rw [h.is.G101, hvt, hv.aw, i_ofS]
      rwa [Int32.one_mul] at ih'
  · rintro fu w2 rfl
    rw [wl_X1_weight_4_s]
    unfold wb_X1_weight_4
    rw [h.is.F107, if_pos (by rw [hP.le (by omega)]; omega)]
    exact hk
theorem x_forOne (h : XX w b i o A) (hN : okN (aN A)) (set : Int32) {k : Int32 → Wd → Prop} (hk : k (forA (aN A) (pe (aN A)) ^^^ set) w) : wp_X1_forOne w i set k := by
  have hP := hN.P
  have h8 := hN.pe8
  unfold wp_X1_forOne
  refine loopN (n := pe (aN A)) (I := fun j w2 => w2 = w) (L := fun fu j w2 => wl_X1_forOne_4 k fu w2 i set (forA (aN A) j) (Int32.ofNat j)) ?_ ?_ (pe (aN A)) FU 0 w (by omega) (by unfold FU; omega) rfl
  · rintro fu j w2 hj rfl ih
    rw [wl_X1_forOne_4_s]
    unfold wb_X1_forOne_4
    rw [h.is.F107, if_neg (by rw [hP.le (by omega)]; omega), h.is.G104, x_wn h hN hj, i_ofS]
    have ih' := ih _ rfl
    rw [show forA (aN A) (j + 1) = forA (aN A) j ||| (if aN A (5 * j + 4) = 1 then bit1 j else 0) from rfl] at ih'
    by_cases e : aN A (5 * j + 4) = 1
    · rw [if_pos e] at ih' ⊢
      exact ih'
    · rw [if_neg e] at ih' ⊢
      exact ih'
  · rintro fu w2 rfl
    rw [wl_X1_forOne_4_s]
    unfold wb_X1_forOne_4
    rw [h.is.F107, if_pos (by rw [hP.le (by omega)]; omega)]
    exact hk
theorem carW {N : Nw} (hN : okN N) (set : Int32) : (2 : Int32) * wsF N (forA N (pe N) ^^^ set) - wsF N ((1 <<< (N 89 &&& 31)) - 1) = wghF (chJ N set (pe N)) 1 - wghF (chJ N set (pe N)) 0 := by
  have h1 := tot_wgh (chJ_ok hN set hN.pe8)
  rw [chJ_pe N set hN.pe8, chJ_tot set hN.pe8] at h1
  rw [wsF_for hN, wsF_all hN.P, ← h1, two_w]
theorem x_carC (h : XX w b i o A) (hN : okN (aN A)) (set : Int32) {k : Int32 → Wd → Prop} (hk : k (carC (aN A) set) w) : wp_X1_carries w i set k := by
  unfold wp_X1_carries
  refine ⟨by rw [h.is.ob]; trivial, x_forOne h hN set ⟨by rw [h.is.ob]; trivial, x_weight h hN _ ⟨by rw [h.is.ob]; trivial, ?_⟩⟩⟩
  rw [x_every h]
  refine ⟨by rw [h.is.ob]; trivial, x_weight h hN _ ?_⟩
  rw [carW hN set]
  unfold carC carF at hk
  by_cases h1 : 0 < wghF (chJ (aN A) set (pe (aN A))) 1 - wghF (chJ (aN A) set (pe (aN A))) 0
  · rw [if_neg (by rw [i_le]; rw [i_lt] at h1; omega)]
    rwa [if_pos h1] at hk
  · rw [if_pos (by rw [i_le]; rw [i_lt] at h1; omega)]
    rw [if_neg h1] at hk
    by_cases h2 : wghF (chJ (aN A) set (pe (aN A))) 1 - wghF (chJ (aN A) set (pe (aN A))) 0 < 0
    · rw [if_neg (by rw [i_le]; rw [i_lt] at h2; omega)]
      rwa [if_pos h2] at hk
    · rw [if_pos (by rw [i_le]; rw [i_lt] at h2; omega)]
      rw [if_neg h2, chJ_hi (aN A) set hN.pe8 (by decide)] at hk
      rw [h.is.G105, x_t0 h]
      exact hk
theorem carC_0 {N : Nw} (hN : okN N) : carC N 0 = carF N := by unfold carC; rw [chJ_z hN.pe8]
theorem x_car0 (h : XX w b i o A) (hN : okN (aN A)) {k : Int32 → Wd → Prop} (hk : k (carF (aN A)) w) : wp_X1_carries w i 0 k := x_carC h hN 0 (by rw [carC_0 hN]; exact hk)
theorem x_carries (h : XX w b i o A) (hN : okN (aN A)) {k : Int32 → Wd → Prop} (hk : k (carF (aN A)) w) : wp_X0_carries w b k := by
  unfold wp_X0_carries
  rw [h.G0]
  show wob w i [21] ∧ _
  exact ⟨by rw [h.is.ob]; trivial, x_car0 h hN hk⟩
theorem x_bloc (h : XX w b i o A) (hN : okN (aN A)) (v : Int32) {k : Int32 → Wd → Prop} (hk : xR w b i o (F_bloc A v).2 (k (F_bloc A v).1)) : wp_X0_bloc w b v k := by
  unfold wp_X0_bloc
  unfold F_bloc at hk
  simp only [x_isIn, ie_m6_m5, ie_m6_m4, ie_m6_m3, ie_m6_m2, ie_m6_m1, ie_m6_0, ie_m6_1, ie_m6_2, ie_m6_3, ie_m6_4, ie_m6_5, ie_m6_6, ie_m5_m6, ie_m5_m4, ie_m5_m3, ie_m5_m2, ie_m5_m1, ie_m5_0, ie_m5_1, ie_m5_2, ie_m5_3, ie_m5_4, ie_m5_5, ie_m5_6, ie_m4_m6, ie_m4_m5, ie_m4_m3, ie_m4_m2, ie_m4_m1, ie_m4_0, ie_m4_1, ie_m4_2, ie_m4_3, ie_m4_4, ie_m4_5, ie_m4_6, ie_m3_m6, ie_m3_m5, ie_m3_m4, ie_m3_m2, ie_m3_m1, ie_m3_0, ie_m3_1, ie_m3_2, ie_m3_3, ie_m3_4, ie_m3_5, ie_m3_6, ie_m2_m6, ie_m2_m5, ie_m2_m4, ie_m2_m3, ie_m2_m1, ie_m2_0, ie_m2_1, ie_m2_2, ie_m2_3, ie_m2_4, ie_m2_5, ie_m2_6, ie_m1_m6, ie_m1_m5, ie_m1_m4, ie_m1_m3, ie_m1_m2, ie_m1_0, ie_m1_1, ie_m1_2, ie_m1_3, ie_m1_4, ie_m1_5, ie_m1_6, ie_0_m6, ie_0_m5, ie_0_m4, ie_0_m3, ie_0_m2, ie_0_m1, ie_0_1, ie_0_2, ie_0_3, ie_0_4, ie_0_5, ie_0_6, ie_1_m6, ie_1_m5, ie_1_m4, ie_1_m3, ie_1_m2, ie_1_m1, ie_1_0, ie_1_2, ie_1_3, ie_1_4, ie_1_5, ie_1_6, ie_2_m6, ie_2_m5, ie_2_m4, ie_2_m3, ie_2_m2, ie_2_m1, ie_2_0, ie_2_1, ie_2_3, ie_2_4, ie_2_5, ie_2_6, ie_3_m6, ie_3_m5, ie_3_m4, ie_3_m3, ie_3_m2, ie_3_m1, ie_3_0, ie_3_1, ie_3_2, ie_3_4, ie_3_5, ie_3_6, ie_4_m6, ie_4_m5, ie_4_m4, ie_4_m3, ie_4_m2, ie_4_m1, ie_4_0, ie_4_1, ie_4_2, ie_4_3, ie_4_5, ie_4_6, ie_5_m6, ie_5_m5, ie_5_m4, ie_5_m3, ie_5_m2, ie_5_m1, ie_5_0, ie_5_1, ie_5_2, ie_5_3, ie_5_4, ie_5_6, ie_6_m6, ie_6_m5, ie_6_m4, ie_6_m3, ie_6_m2, ie_6_m1, ie_6_0, ie_6_1, ie_6_2, ie_6_3, ie_6_4, ie_6_5, Int32.reduceToInt, Int64.reduceToInt, Int.reduceToNat, Int32.reduceAdd, Int32.reduceSub, Int32.reduceMul, Int32.reduceDiv, Int32.reduceLT, Int32.reduceLE, Int.reduceLE, Int.reduceLT, Int.reduceNeg, Int.reduceAdd, Int.reduceSub, Int.reduceMul, Int.reduceEq, Nat.reduceAdd, Nat.reduceMul, Nat.reduceLT, Nat.reduceEqDiff, true_and, and_true, and_self, false_and, and_false, if_true, if_false, ite_true, ite_false, ↓reduceIte, not_true_eq_false, not_false_eq_true, true_or, or_true, or_false, false_or, Int.cast_ofNat_Int, Int.reduceNatCast]
  by_cases hv : 0 ≤ v.toInt ∧ v.toInt ≤ 1
  · rw [if_pos hv]
    rw [if_pos hv] at hk
    have hk' := hk.self h
    have e1 : wsF (aN A) (forA (aN A) (pe (aN A)) ^^^ 0) = wghF (aN A) 1 := by rw [wsF_for hN, chJ_z hN.pe8]
    rw [h.G0, h.G0]
    show wob w i [21] ∧ _
    refine ⟨by rw [h.is.ob]; trivial, x_forOne h hN 0 ?_⟩
    show wob w i [21] ∧ _
    refine ⟨by rw [h.is.ob]; trivial, x_weight h hN _ ?_⟩
    rw [e1]
    by_cases e : v = 1
    · rw [if_pos e]
      rwa [e] at hk'
    · rw [if_neg e]
      have e0 : v = 0 := by
        rw [i_eq] at e ⊢
        rw [i_p1] at e
        rw [i_0]
        omega
      rw [h.G0, h.G0]
      show wob w i [21] ∧ _
      refine ⟨by rw [h.is.ob]; trivial, ?_⟩
      rw [x_every h]
      show wob w i [21] ∧ _
      refine ⟨by rw [h.is.ob]; trivial, x_weight h hN _ ?_⟩
      rw [wsF_all hN.P, ← tot_wgh hN, Int32.add_sub_cancel]
      rwa [e0] at hk'
  · rw [if_neg hv]
    rw [if_neg hv] at hk
    exact ⟨by rw [h.sh.ob]; trivial, x_no h (by decide) hk⟩
theorem x_swing (h : XX w b i o A) (hN : okN (aN A)) (p : Int32) {k : Int32 → Wd → Prop} (hk : xR w b i o (F_swing A p).2 (k (F_swing A p).1)) : wp_X0_swing w b p k := by
  unfold wp_X0_swing
  unfold F_swing at hk
  rw [h.G0]
  show wob w i [21] ∧ _
  refine ⟨by rw [h.is.ob]; trivial, ?_⟩
  rw [x_isPerson h.is hN]
  by_cases hp : isP (aN A) p
  · rw [if_pos hp, if_neg (by decide), h.G0]
    rw [if_pos hp] at hk
    have hk' := hk.self h
    show wob w i [21] ∧ _
    refine ⟨by rw [h.is.ob]; trivial, x_carC h hN _ ?_⟩
    rw [h.G0]
    show wob w i [21] ∧ _
    refine ⟨by rw [h.is.ob]; trivial, x_car0 h hN ?_⟩
    by_cases e : carF (aN A) = carC (aN A) (1 <<< (p &&& 31))
    · rw [if_pos e.symm]
      rwa [if_pos e] at hk'
    · rw [if_neg (fun q => e q.symm)]
      rwa [if_neg e] at hk'
  · rw [if_neg hp, if_pos rfl]
    rw [if_neg hp] at hk
    exact ⟨by rw [h.sh.ob]; trivial, x_no h (by decide) hk⟩
theorem x_power (h : XX w b i o A) (hN : okN (aN A)) {p : Nat} (hp : p < pe (aN A)) {k : Int32 → Wd → Prop} (hk : k (powF (aN A) p) w) : wp_X0_power w b (Int32.ofNat p) k := by
  have hP := hN.P
  have h8 := hN.pe8
  have hpw := pow8 h8
  have hpe : aN A 89 = Int32.ofNat (pe (aN A)) := by rw [i_eq, hP.1, i_ti (by omega)]
  unfold wp_X0_power
  rw [h.G0, h.G0]
  show wob w i [21] ∧ _
  refine ⟨by rw [h.is.ob]; trivial, ?_⟩
  rw [x_every h]
  show wob w i [21] ∧ _
  refine ⟨by rw [h.is.ob]; trivial, x_weight h hN _ ?_⟩
  rw [wsF_all hN.P, ← tot_wgh hN]
  refine loopN (n := 2 ^ pe (aN A)) (I := fun j w2 => w2 = w) (L := fun fu j w2 => wl_X0_power_20 k fu w2 b (Int32.ofNat p) (wghF (aN A) 0 + wghF (aN A) 1) (foldP (fun c a => if sbit (Int32.ofNat c) p = 0 then a + (if 2 * wsF (aN A) (Int32.ofNat c) ≤ wghF (aN A) 0 + wghF (aN A) 1 ∧ wghF (aN A) 0 + wghF (aN A) 1 < 2 * (wsF (aN A) (Int32.ofNat c) + aN A (5 * p + 1)) then 1 else 0) else a) 0 j) (Int32.ofNat j)) ?_ ?_ (2 ^ pe (aN A)) FU 0 w (by omega) (by unfold FU; omega) rfl
  · rintro fu c w2 hc rfl ih
    rw [wl_X0_power_20_s]
    unfold wb_X0_power_20
    rw [h.G0]
    show wob _ i [21] ∧ _
    refine ⟨by rw [h.is.ob]; trivial, ?_⟩
    rw [x_every h, hpe, if_neg (by rw [i_lt, all_i h8, i_ti (by omega)]; omega), x_hs]
    have ih' := ih _ rfl
    simp only [foldP] at ih'
    by_cases e : sbit (Int32.ofNat c) p = 0
    · rw [if_pos e] at ih'
      rw [e, if_pos rfl, h.G0]
      show wob _ i [21] ∧ _
      refine ⟨by rw [h.is.ob]; trivial, x_weight h hN _ ?_⟩
      generalize (foldP (fun c a => if sbit (Int32.ofNat c) p = 0 then a + (if 2 * wsF (aN A) (Int32.ofNat c) ≤ wghF (aN A) 0 + wghF (aN A) 1 ∧ wghF (aN A) 0 + wghF (aN A) 1 < 2 * (wsF (aN A) (Int32.ofNat c) + aN A (5 * p + 1)) then 1 else 0) else a) 0 c : Int32) = acc at ih' ⊢
      by_cases e1 : wghF (aN A) 0 + wghF (aN A) 1 < 2 * wsF (aN A) (Int32.ofNat c)
      · rw [if_pos e1]
        rw [if_neg (fun q => by have := q.1; rw [i_le] at this; rw [i_lt] at e1; omega)] at ih'
        unfold wb_X0_power_60 wb_X0_power_61
        rw [if_pos rfl, i_ofS]
        exact ih'
      · rw [if_neg e1]
        unfold wb_X0_power_61
        rw [if_neg (by decide), h.G0]
        show wob _ i [21] ∧ _
        refine ⟨by rw [h.is.ob]; trivial, x_weight h hN _ ?_⟩
        have ew : wsF (aN A) (Int32.ofNat c ||| (1 <<< (Int32.ofNat p &&& 31))) = wsF (aN A) (Int32.ofNat c) + aN A (5 * p + 1) := by
          have := wsF_or (N := aN A) (Int32.ofNat c) (p := p) (by omega) e (pe (aN A)) h8
          rw [if_pos hp] at this
          exact this
        rw [ew, i_ofS]
        by_cases e2 : 2 * (wsF (aN A) (Int32.ofNat c) + aN A (5 * p + 1)) ≤ wghF (aN A) 0 + wghF (aN A) 1
        · rw [if_pos e2]
          rwa [if_neg (fun q => by have := q.2; rw [i_lt] at this; rw [i_le] at e2; omega)] at ih'
        · rw [if_neg e2]
          rwa [if_pos ⟨by rw [i_le]; rw [i_lt] at e1; omega, by rw [i_lt]; rw [i_le] at e2; omega⟩] at ih'
    · rw [if_neg e] at ih'
      rw [if_neg e]
      unfold wb_X0_power_60 wb_X0_power_61
      rw [if_pos rfl, i_ofS, Int32.add_zero]
      exact ih'
  · rintro fu w2 rfl
    rw [wl_X0_power_20_s]
    unfold wb_X0_power_20
    rw [h.G0]
    show wob _ i [21] ∧ _
    refine ⟨by rw [h.is.ob]; trivial, ?_⟩
    rw [x_every h, hpe, if_pos (by rw [i_lt, all_i h8, i_ti (by omega)]; omega)]
    exact hk
theorem x_mightiest (h : XX w b i o A) (hN : okN (aN A)) {k : Int32 → Wd → Prop} (hk : xR w b i o (F_mightiest A).2 (k (F_mightiest A).1)) : wp_X0_mightiest w b k := by
  have hP := hN.P
  have h8 := hN.pe8
  unfold wp_X0_mightiest
  unfold F_mightiest at hk
  by_cases e : pe (aN A) = 0
  · rw [if_pos e] at hk
    show wl_X0_mightiest_4 k (FU - 1 + 1) w b (-1) 0
    rw [wl_X0_mightiest_4_s]
    unfold wb_X0_mightiest_4
    simp only [h.G0, h.is.F107]
    rw [if_pos (by rw [i_le, hP.1, e]; decide), if_pos trivial]
    exact ⟨by rw [h.sh.ob]; trivial, x_no h (by decide) hk⟩
  · rw [if_neg e] at hk
    show wl_X0_mightiest_4 k (FU - 1 + 1) w b (-1) 0
    rw [wl_X0_mightiest_4_s]
    unfold wb_X0_mightiest_4
    simp only [h.G0, h.is.F107]
    rw [if_neg (by rw [i_le, hP.1, i_0]; omega), if_pos trivial]
    refine loopN (n := pe (aN A) - 1) (I := fun j w2 => w2 = w) (L := fun fu j w2 => wl_X0_mightiest_4 k fu w2 b (Int32.ofNat (migJ (aN A) j)) (Int32.ofNat (j + 1))) ?_ ?_ (pe (aN A) - 1) (FU - 1) 0 w (by omega) (by unfold FU; omega) rfl
    · rintro fu j w2 hj rfl ih
      have hmj := migJ_le (aN A) j
      rw [wl_X0_mightiest_4_s]
      unfold wb_X0_mightiest_4
      simp only [h.G0, h.is.F107]
      have hne : ¬ Int32.ofNat (migJ (aN A) j) = -1 := by rw [i_eq, i_ti (by omega), i_m1]; omega
      rw [if_neg (by rw [hP.le (by omega)]; omega), if_neg hne]
      refine ⟨by rw [h.sh.ob]; trivial, x_power h hN (by omega) ⟨by rw [h.sh.ob]; trivial, x_power h hN (by omega) ?_⟩⟩
      have ih' := ih _ rfl
      rw [show migJ (aN A) (j + 1) = if powF (aN A) (migJ (aN A) j) < powF (aN A) (j + 1) then j + 1 else migJ (aN A) j from rfl] at ih'
      rw [i_ofS]
      by_cases e2 : powF (aN A) (migJ (aN A) j) < powF (aN A) (j + 1)
      · rw [if_pos e2] at ih'
        rw [if_neg (by rw [i_le]; rw [i_lt] at e2; omega)]
        exact ih'
      · rw [if_neg e2] at ih'
        rw [if_pos (by rw [i_le]; rw [i_lt] at e2; omega)]
        exact ih'
    · rintro fu w2 rfl
      have hmj := migJ_le (aN A) (pe (aN A) - 1)
      rw [wl_X0_mightiest_4_s]
      unfold wb_X0_mightiest_4
      simp only [h.G0, h.is.F107]
      have hne : ¬ Int32.ofNat (migJ (aN A) (pe (aN A) - 1)) = -1 := by rw [i_eq, i_ti (by omega), i_m1]; omega
      rw [if_pos (by rw [hP.le (by omega)]; omega), if_neg hne]
      exact hk.self h
theorem turJ_b (N : Nw) : ∀ j, j < 256 → turJ N j = -1 ∨ ∃ c, c < 256 ∧ turJ N j = Int32.ofNat c
  | 0, _ => Or.inl rfl
  | j + 1, h => by
    rw [show turJ N (j + 1) = if ¬ carC N (Int32.ofNat (j + 1)) = carF N ∧ (turJ N j = -1 ∨ oneF (Int32.ofNat (j + 1)) < oneF (turJ N j)) then Int32.ofNat (j + 1) else turJ N j from rfl]
    by_cases e : ¬ carC N (Int32.ofNat (j + 1)) = carF N ∧ (turJ N j = -1 ∨ oneF (Int32.ofNat (j + 1)) < oneF (turJ N j))
    · rw [if_pos e]
      exact Or.inr ⟨j + 1, h, rfl⟩
    · rw [if_neg e]
      exact turJ_b N j (by omega)
theorem turJ_1 {N : Nw} {j : Nat} (hj : j < 256) (k : Int32 → Wd → Prop) (w : Wd) (h : ¬ turJ N j = -1) : wp_J18_bitCount w (turJ N j) k = k (oneF (turJ N j)) w := by
  rcases turJ_b N j hj with e | ⟨c, hc, e⟩
  · exact absurd e h
  · rw [e]
    exact ones_c hc k
theorem x_turn (h : XX w b i o A) (hN : okN (aN A)) (what : Int32) {k : Int32 → Wd → Prop} (hk : xR w b i o (F_turn A what).2 (k (F_turn A what).1)) : wp_X0_turn w b what k := by
  have hP := hN.P
  have h8 := hN.pe8
  have hpw := pow8 h8
  have hpe : aN A 89 = Int32.ofNat (pe (aN A)) := by rw [i_eq, hP.1, i_ti (by omega)]
  unfold wp_X0_turn
  unfold F_turn at hk
  simp only [x_isIn, ie_m6_m5, ie_m6_m4, ie_m6_m3, ie_m6_m2, ie_m6_m1, ie_m6_0, ie_m6_1, ie_m6_2, ie_m6_3, ie_m6_4, ie_m6_5, ie_m6_6, ie_m5_m6, ie_m5_m4, ie_m5_m3, ie_m5_m2, ie_m5_m1, ie_m5_0, ie_m5_1, ie_m5_2, ie_m5_3, ie_m5_4, ie_m5_5, ie_m5_6, ie_m4_m6, ie_m4_m5, ie_m4_m3, ie_m4_m2, ie_m4_m1, ie_m4_0, ie_m4_1, ie_m4_2, ie_m4_3, ie_m4_4, ie_m4_5, ie_m4_6, ie_m3_m6, ie_m3_m5, ie_m3_m4, ie_m3_m2, ie_m3_m1, ie_m3_0, ie_m3_1, ie_m3_2, ie_m3_3, ie_m3_4, ie_m3_5, ie_m3_6, ie_m2_m6, ie_m2_m5, ie_m2_m4, ie_m2_m3, ie_m2_m1, ie_m2_0, ie_m2_1, ie_m2_2, ie_m2_3, ie_m2_4, ie_m2_5, ie_m2_6, ie_m1_m6, ie_m1_m5, ie_m1_m4, ie_m1_m3, ie_m1_m2, ie_m1_0, ie_m1_1, ie_m1_2, ie_m1_3, ie_m1_4, ie_m1_5, ie_m1_6, ie_0_m6, ie_0_m5, ie_0_m4, ie_0_m3, ie_0_m2, ie_0_m1, ie_0_1, ie_0_2, ie_0_3, ie_0_4, ie_0_5, ie_0_6, ie_1_m6, ie_1_m5, ie_1_m4, ie_1_m3, ie_1_m2, ie_1_m1, ie_1_0, ie_1_2, ie_1_3, ie_1_4, ie_1_5, ie_1_6, ie_2_m6, ie_2_m5, ie_2_m4, ie_2_m3, ie_2_m2, ie_2_m1, ie_2_0, ie_2_1, ie_2_3, ie_2_4, ie_2_5, ie_2_6, ie_3_m6, ie_3_m5, ie_3_m4, ie_3_m3, ie_3_m2, ie_3_m1, ie_3_0, ie_3_1, ie_3_2, ie_3_4, ie_3_5, ie_3_6, ie_4_m6, ie_4_m5, ie_4_m4, ie_4_m3, ie_4_m2, ie_4_m1, ie_4_0, ie_4_1, ie_4_2, ie_4_3, ie_4_5, ie_4_6, ie_5_m6, ie_5_m5, ie_5_m4, ie_5_m3, ie_5_m2, ie_5_m1, ie_5_0, ie_5_1, ie_5_2, ie_5_3, ie_5_4, ie_5_6, ie_6_m6, ie_6_m5, ie_6_m4, ie_6_m3, ie_6_m2, ie_6_m1, ie_6_0, ie_6_1, ie_6_2, ie_6_3, ie_6_4, ie_6_5, Int32.reduceToInt, Int64.reduceToInt, Int.reduceToNat, Int32.reduceAdd, Int32.reduceSub, Int32.reduceMul, Int32.reduceDiv, Int32.reduceLT, Int32.reduceLE, Int.reduceLE, Int.reduceLT, Int.reduceNeg, Int.reduceAdd, Int.reduceSub, Int.reduceMul, Int.reduceEq, Nat.reduceAdd, Nat.reduceMul, Nat.reduceLT, Nat.reduceEqDiff, true_and, and_true, and_self, false_and, and_false, if_true, if_false, ite_true, ite_false, ↓reduceIte, not_true_eq_false, not_false_eq_true, true_or, or_true, or_false, false_or, Int.cast_ofNat_Int, Int.reduceNatCast]
  by_cases hv : 0 ≤ what.toInt ∧ what.toInt ≤ 1
  · rw [if_pos hv]
    rw [if_pos hv] at hk
    have first : wl_X0_turn_20 k (FU - 1) w b what (-1) 1 := by
      refine loopN (n := 2 ^ pe (aN A) - 1) (I := fun j w2 => w2 = w) (L := fun fu j w2 => wl_X0_turn_20 k fu w2 b what (turJ (aN A) j) (Int32.ofNat (j + 1))) ?_ ?_ (2 ^ pe (aN A) - 1) (FU - 1) 0 w (by omega) (by unfold FU; omega) rfl
      · rintro fu j w2 hj rfl ih
        rw [wl_X0_turn_20_s]
        unfold wb_X0_turn_20
        rw [h.G0]
        show wob _ i [21] ∧ _
        refine ⟨by rw [h.is.ob]; trivial, ?_⟩
        rw [x_every h, hpe, if_neg (by rw [i_lt, all_i h8, i_ti (by omega)]; omega)]
        have ih' := ih _ rfl
        rw [show turJ (aN A) (j + 1) = if ¬ carC (aN A) (Int32.ofNat (j + 1)) = carF (aN A) ∧ (turJ (aN A) j = -1 ∨ oneF (Int32.ofNat (j + 1)) < oneF (turJ (aN A) j)) then Int32.ofNat (j + 1) else turJ (aN A) j from rfl] at ih'
        have g : (turJ (aN A) j = -1 ∨ oneF (Int32.ofNat (j + 1)) < oneF (turJ (aN A) j)) → wb_X0_turn_47 k (wl_X0_turn_20 k fu) w2 b what (turJ (aN A) j) (Int32.ofNat (j + 1)) := by
          intro e1
          unfold wb_X0_turn_47 wb_X0_turn_52
          rw [if_neg (by decide), h.G0]
          show wob _ i [21] ∧ _
          refine ⟨by rw [h.is.ob]; trivial, x_carC h hN _ ?_⟩
          rw [h.G0]
          show wob _ i [21] ∧ _
          refine ⟨by rw [h.is.ob]; trivial, x_car0 h hN ?_⟩
          rw [i_ofS]
          by_cases e : carC (aN A) (Int32.ofNat (j + 1)) = carF (aN A)
          · rw [if_pos e]
            rwa [if_neg (fun q => q.1 e)] at ih'
          · rw [if_neg e]
            rwa [if_pos ⟨e, e1⟩] at ih'
        by_cases e1 : turJ (aN A) j = -1
        · rw [if_pos e1]
          exact g (Or.inl e1)
        · rw [if_neg e1, ones_c (by omega), turJ_1 (by omega) _ _ e1]
          by_cases e2 : oneF (Int32.ofNat (j + 1)) < oneF (turJ (aN A) j)
          · rw [if_neg (by rw [i_le]; rw [i_lt] at e2; omega)]
            exact g (Or.inr e2)
          · rw [if_pos (by rw [i_le]; rw [i_lt] at e2; omega)]
            unfold wb_X0_turn_52
            rw [if_pos rfl, i_ofS]
            rwa [if_neg (fun q => q.2.elim e1 e2)] at ih'
      · rintro fu w2 rfl
        rw [wl_X0_turn_20_s]
        unfold wb_X0_turn_20
        rw [h.G0]
        show wob _ i [21] ∧ _
        refine ⟨by rw [h.is.ob]; trivial, ?_⟩
        rw [x_every h, hpe, if_pos (by rw [i_lt, all_i h8, i_ti (by omega)]; omega)]
        have hk2 := hk.self h
        by_cases e0 : what = 1
        · rw [if_pos e0]
          rw [if_neg (show ¬ what = 0 by rw [e0]; decide)] at hk2
          by_cases e1 : turJ (aN A) (2 ^ pe (aN A) - 1) = -1
          · rw [if_pos e1] at hk2
            rwa [e1]
          · rwa [if_neg e1] at hk2
        · rw [if_neg e0]
          have e0' : what = 0 := by
            rw [i_eq] at e0 ⊢
            rw [i_p1] at e0
            rw [i_0]
            omega
          by_cases e1 : turJ (aN A) (2 ^ pe (aN A) - 1) = -1
          · rw [if_pos e1] at hk2 ⊢
            rwa [e1]
          · rw [if_neg e1, if_pos e0'] at hk2
            rw [if_neg e1, turJ_1 (by omega) _ _ e1]
            exact hk2
    show wl_X0_turn_20 k (FU - 1 + 1) w b what (-1) 0
    rw [wl_X0_turn_20_s]
    unfold wb_X0_turn_20
    rw [h.G0]
    show wob _ i [21] ∧ _
    refine ⟨by rw [h.is.ob]; trivial, ?_⟩
    rw [x_every h, hpe, if_neg (by rw [i_lt, all_i h8, i_0]; omega), if_pos rfl]
    unfold wb_X0_turn_47 wb_X0_turn_52
    rw [if_neg (by decide), h.G0]
    show wob _ i [21] ∧ _
    refine ⟨by rw [h.is.ob]; trivial, x_car0 h hN ?_⟩
    rw [h.G0]
    show wob _ i [21] ∧ _
    refine ⟨by rw [h.is.ob]; trivial, x_car0 h hN ?_⟩
    rw [if_pos rfl]
    exact first
  · rw [if_neg hv]
    rw [if_neg hv] at hk
    exact ⟨by rw [h.sh.ob]; trivial, x_no h (by decide) hk⟩
theorem x_personOf (h : XX w b i o A) (hN : okN (aN A)) (p what : Int32) {k : Int32 → Wd → Prop} (hk : xR w b i o (F_personOf A p what).2 (k (F_personOf A p what).1)) : wp_X0_personOf w b p what k := by
  unfold wp_X0_personOf
  unfold F_personOf at hk
  rw [h.G0]
  show wob w i [21] ∧ _
  refine ⟨by rw [h.is.ob]; trivial, ?_⟩
  rw [x_isPerson h.is hN]
  by_cases hp : isP (aN A) p
  · have hp8 := isP_8 hN hp
    have hP := isP_nat hp
    rw [if_pos hp, if_neg (by decide)]
    rw [show p = Int32.ofNat p.toInt.toNat from (i_of hp8.1).symm]
    have et : ∀ d : Nat, d < 6 → what.toInt = d → what = Int32.ofNat d := fun d hd e => by rw [i_eq, i_ti (by omega)]; exact e
    obtain ⟨v, hv, hvt⟩ := x_vt h hN hP
    by_cases hw : 0 ≤ what.toInt ∧ what.toInt ≤ 5
    · rw [if_pos ⟨hp, hw⟩] at hk
      have hk' := hk.self h
      generalize p.toInt.toNat = P at *
      rcases (show what.toInt = 0 ∨ what.toInt = 1 ∨ what.toInt = 2 ∨ what.toInt = 3 ∨ what.toInt = 4 ∨ what.toInt = 5 by omega) with e | e | e | e | e | e
      · have := et 0 (by decide) e; subst this
        rw [show Int32.ofNat 0 = 0 from rfl, if_pos rfl, h.G0, h.is.G101, hvt]
        exact x_kind hv hk'
      · have := et 1 (by decide) e; subst this
        rw [show Int32.ofNat 1 = 1 from rfl, if_neg (by decide), if_pos rfl, h.G0, h.is.G101, hvt, hv.aw]
        exact hk'
      · have := et 2 (by decide) e; subst this
        rw [show Int32.ofNat 2 = 2 from rfl, if_neg (by decide), if_neg (by decide), if_pos rfl, h.G0, h.is.G102, x_cl h hN hP]
        exact hk'
      · have := et 3 (by decide) e; subst this
        rw [show Int32.ofNat 3 = 3 from rfl, if_neg (by decide), if_neg (by decide), if_neg (by decide), if_pos rfl, h.G0, h.is.G103, x_fc h hN hP]
        exact hk'
      · have := et 4 (by decide) e; subst this
        rw [show Int32.ofNat 4 = 4 from rfl, if_neg (by decide), if_neg (by decide), if_neg (by decide), if_neg (by decide), if_pos rfl, h.G0, h.is.G104, x_wn h hN hP]
        exact hk'
      · have := et 5 (by decide) e; subst this
        rw [show Int32.ofNat 5 = 5 from rfl, if_neg (by decide), if_neg (by decide), if_neg (by decide), if_neg (by decide), if_neg (by decide), if_pos rfl]
        exact ⟨by rw [h.sh.ob]; trivial, x_power h hN hP hk'⟩
    · rw [if_neg (fun e => hw e.2)] at hk
      have en : ∀ d : Int32, 0 ≤ d.toInt → d.toInt ≤ 5 → ¬ what = d := fun d h0 h5 e => hw (by rw [e]; exact ⟨h0, h5⟩)
      rw [if_neg (en 0 (by decide) (by decide)), if_neg (en 1 (by decide) (by decide)), if_neg (en 2 (by decide) (by decide)), if_neg (en 3 (by decide) (by decide)), if_neg (en 4 (by decide) (by decide)), if_neg (en 5 (by decide) (by decide))]
      exact ⟨by rw [h.sh.ob]; trivial, x_no h (by decide) hk⟩
  · rw [if_neg hp, if_pos rfl]
    rw [if_neg (fun e => hp e.1)] at hk
    exact ⟨by rw [h.sh.ob]; trivial, x_no h (by decide) hk⟩
end XV
