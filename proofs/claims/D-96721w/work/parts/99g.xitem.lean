/-! ===== the class's Reader: statements ===== -/
def wlL : List Nat := [4, 4, 3, 6, 2, 4, 3, 5]
def wl8 (k : Nat) : Nat := wlL.getD k 0
def hsL : List Int32 := [3530071, 3446773, 99755, -991716523, 3370, 3317767, 110119, 95774492]
def hs8 (k : Nat) : Int32 := hsL.getD k 0
/-- the String constants -/
def kst (w : Wd) (b : Nat) : Prop := (∀ k, k < 8 → ∃ q, wk w (11 + k) = some q ∧ strA w 0 b q false (fun x => wrd (6 * k + x)) (wl8 k)) ∧ ∃ q, wk w 10 = some q ∧ strA w 0 b q false (fun _ => 59) 1 ∧ wF w q 1402 = 59
theorem kst.sc {w w' : Wd} {b : Nat} {P : Nat → Nat → Prop} (h : kst w b) (hf : fr P w w') (hb : b ≤ wz w) (hP : ∀ x k, x < b → ¬ P x k) : kst w' b := by
  refine ⟨fun k hk => ?_, ?_⟩
  · obtain ⟨q, h1, h2⟩ := h.1 k hk
    exact ⟨q, (congrFun hf.1.2 _).trans h1, h2.sc hf hb (fun x k _ hx hp => absurd hp (hP x k hx))⟩
  · obtain ⟨q, h1, h2, h3⟩ := h.2
    have hq : q < b := h2.choose_spec.1.1.2
    exact ⟨q, (congrFun hf.1.2 _).trans h1, h2.sc hf hb (fun x k _ hx hp => absurd hp (hP x k hx)), (hf.F (by omega) (hP _ _ hq)).trans h3⟩
/-- word k, in full -/
def wdM (T : Nw) (f n k : Nat) : Prop := n = wl8 k ∧ ∀ j, j < n → T (f + j) = wrd (6 * k + j)
theorem wl_z : ∀ k, k < 8 → ∀ i, i < 6 → (wrd (6 * k + i) = 0 ↔ wl8 k ≤ i) := by decide
theorem wl_b : ∀ k, k < 8 → 1 ≤ wl8 k ∧ wl8 k ≤ 6 := by decide
theorem wd_ne : ∀ k, k < 8 → ∀ k', k' < 8 → wl8 k = wl8 k' → (∀ j, j < 6 → wrd (6 * k + j) = wrd (6 * k' + j)) → k = k' := by decide
theorem hs_ne : ∀ k, k < 8 → ∀ k', k' < 8 → hs8 k = hs8 k' → k = k' := by decide
theorem hs_w : ∀ k, k < 8 → hshS (fun x => wrd (6 * k + x)) (wl8 k) = hs8 k := by decide +kernel
theorem hshS_cg {C C' : Nat → Int32} : ∀ n, (∀ j, j < n → C j = C' j) → hshS C n = hshS C' n
  | 0, _ => rfl
  | n + 1, h => by
    show 31 * hshS C n + (C n &&& 255) = 31 * hshS C' n + (C' n &&& 255)
    rw [hshS_cg n (fun j hj => h j (by omega)), h n (by omega)]
theorem wdM_P {T : Nw} {f e k : Nat} (hk : k < 8) (hfe : f ≤ e) (hl : ∀ j, f + j < e → isLt (T (f + j))) : (e - f ≤ 6 ∧ wdP T f e k) ↔ wdM T f (e - f) k := by
  have hz := wl_z k hk
  have hb := wl_b k hk
  have ne0 : ∀ j, f + j < e → ¬ T (f + j) = 0 := fun j hj q => by
    have := hl j hj
    rw [q] at this
    exact absurd this.1 (by decide)
  constructor
  · rintro ⟨h6, hp⟩
    have hw : e - f = wl8 k := by
      rcases Nat.lt_trichotomy (e - f) (wl8 k) with h | h | h
      · exfalso
        have h1 := hp (e - f) (by omega)
        rw [if_neg (by omega)] at h1
        have := (hz (e - f) (by omega)).1 h1.symm
        omega
      · exact h
      · exfalso
        have h1 := hp (wl8 k) (by omega)
        rw [if_pos (by omega), (hz (wl8 k) (by omega)).2 (Nat.le_refl _)] at h1
        exact ne0 _ (by omega) h1
    refine ⟨hw, fun j hj => ?_⟩
    have h1 := hp j (by omega)
    rwa [if_pos (by omega)] at h1
  · rintro ⟨hn, hm⟩
    refine ⟨by omega, fun i hi => ?_⟩
    by_cases c : f + i < e
    · rw [if_pos c]
      exact hm i (by omega)
    · rw [if_neg c]
      exact ((hz i hi).2 (by omega)).symm
theorem whJ_is {T : Nw} {z i k : Nat} (hk : k < 8) (hs : tkS T z i = 1) (hm : tkE T z i - tkF T z i ≤ 6 ∧ wdP T (tkF T z i) (tkE T z i) k) (hu : ∀ k', k' < 8 → (tkE T z i - tkF T z i ≤ 6 ∧ wdP T (tkF T z i) (tkE T z i) k') → k' = k) : ∀ m, m ≤ 8 → k < m → whJ T z i m = Int32.ofNat k
  | 0, _, h => absurd h (Nat.not_lt_zero k)
  | m + 1, h8, h => by
    have e : whJ T z i (m + 1) = if tkS T z i = 1 ∧ tkE T z i - tkF T z i ≤ 6 ∧ wdP T (tkF T z i) (tkE T z i) m then Int32.ofNat m else whJ T z i m := rfl
    rw [e]
    by_cases c : m = k
    · subst c
      rw [if_pos ⟨hs, hm⟩]
    · rw [if_neg (fun q => c (hu m (by omega) q.2))]
      exact whJ_is hk hs hm hu m (by omega) (by omega)
theorem whJ_no {T : Nw} {z i : Nat} (hn : ∀ k, k < 8 → ¬ (tkS T z i = 1 ∧ tkE T z i - tkF T z i ≤ 6 ∧ wdP T (tkF T z i) (tkE T z i) k)) : ∀ m, m ≤ 8 → whJ T z i m = -1
  | 0, _ => rfl
  | m + 1, h8 => by
    have e : whJ T z i (m + 1) = if tkS T z i = 1 ∧ tkE T z i - tkF T z i ≤ 6 ∧ wdP T (tkF T z i) (tkE T z i) m then Int32.ofNat m else whJ T z i m := rfl
    rw [e, if_neg (hn m (by omega))]
    exact whJ_no hn m (by omega)
/-- the Reader stands ahead of the token behind i, its island being N; w0: where the call began -/
def rdI (w0 w : Wd) (b : Nat) (A : Ab) (N : Nw) (i : Nat) : Prop := (rdS w b (wz w0) (wz w0 + 1) A ∧ isl w b (wz w0 + 1) N ∧ tkn w (wz w0) (wz w0 + 8) (aT A) (zA A) i) ∧ kst w b ∧ fr x0 w0 w ∧ (b + 60 ≤ wz w0 ∧ wz w0 + 8 ≤ wz w) ∧ i ≤ zA A
/-- a Fault thrown, of place p -/
def xF (w0 : Wd) (X : Nat → Wd → Prop) (p : Nat) : Prop := ∀ q w', fr x0 w0 w' → wT w' q = some (33, 7, true) → wz w0 ≤ q → q < wz w' → wF w' q 506 = Int32.ofNat p → X q w'
def iK (w0 : Wd) (b : Nat) (A : Ab) (X : Nat → Wd → Prop) (k : Wd → Prop) (r : PR) : Prop := match r.2 with
  | some N' => ∀ w', rdI w0 w' b A N' r.1 → k w'
  | none => xF w0 X r.1
section XIT
variable {w0 w : Wd} {b : Nat} {A : Ab} {N : Nw} {i : Nat}
theorem rdI.r (h : rdI w0 w b A N i) : rdS w b (wz w0) (wz w0 + 1) A := h.1.1
theorem rdI.is (h : rdI w0 w b A N i) : isl w b (wz w0 + 1) N := h.1.2.1
theorem rdI.tk (h : rdI w0 w b A N i) : tkn w (wz w0) (wz w0 + 8) (aT A) (zA A) i := h.1.2.2
theorem rdI.ks (h : rdI w0 w b A N i) : kst w b := h.2.1
theorem rdI.f0 (h : rdI w0 w b A N i) : fr x0 w0 w := h.2.2.1
theorem rdI.zz (h : rdI w0 w b A N i) : b + 60 ≤ wz w0 ∧ wz w0 + 8 ≤ wz w := h.2.2.2.1
theorem rdI.le (h : rdI w0 w b A N i) : i ≤ zA A := h.2.2.2.2
theorem x0_n {P : Nat → Nat → Prop} {w1 : Wd} (h : fr x0 w0 w) (hf : fr P w w1) (hP : ∀ x k, P x k → wz w0 ≤ x) : fr x0 w0 w1 := by
  have hz := h.z
  refine (fr.trans (P := fun x k => wz w0 ≤ x) (h.mono (fun _ _ _ q => q.elim)) (hf.mono (fun x k _ hp => hP x k hp))).mono (fun x k hx hp => ?_)
  exact absurd hp (by omega)
/-- where it fails -/
theorem x_wrong (h : rdI w0 w b A N i) {X : Nat → Wd → Prop} (hX : xF w0 X (tkF (aT A) (zA A) i)) : wp_X12_wrong w (wz w0) (fun v2 w3 => wthr w3 v2 33 (fun q4 => X q4 w3)) := by
  have e4 : wF w (wz w0) 1204 = Int32.ofNat (tkF (aT A) (zA A) i) := h.tk.2.1
  have hr := h.r
  have hz := h.zz
  unfold wp_X12_wrong wnew
  have hf1 : fr x0 w (nw w (33, 7, true)) := (fr.refl _ _).nw
  have hr1 := hr.sc hf1 (fun _ q => q.elim) (fun q => q)
  have e41 : wF (nw w (33, 7, true)) (wz w0) 1204 = Int32.ofNat (tkF (aT A) (zA A) i) := by rw [wF_nw, if_neg (by omega)]; exact e4
  have hgo : wgF (nw w (33, 7, true)) (some (wz w0)) [32] 1204 = fun K => K (wF (nw w (33, 7, true)) (wz w0) 1204) := funext fun K => hr1.gF _ _
  dsimp only
  rw [hgo]
  dsimp only
  rw [e41]
  unfold wp_X13_init wp_J1_init_2 wp_J0_init_3 wb_J0_init_3_41
  simp only [wpF, wpG, wobw, wthr, wT_sF, wF_sF, wG_sF, wI_sF, wL_sF, wQ_sF, wz_sF, wk_sF, wT_sG, wF_sG, wG_sG, wI_sG, wL_sG, wQ_sG, wz_sG, wk_sG, wT_sI, wF_sI, wG_sI, wI_sI, wL_sI, wQ_sI, wz_sI, wk_sI, wT_sL, wF_sL, wG_sL, wI_sL, wL_sL, wQ_sL, wz_sL, wk_sL, wT_sQ, wF_sQ, wG_sQ, wI_sQ, wL_sQ, wQ_sQ, wz_sQ, wk_sQ, wT_sZ, wF_sZ, wG_sZ, wI_sZ, wL_sZ, wQ_sZ, wz_sZ, wk_sZ, wT_nw, wF_nw, wG_nw, wI_nw, wL_nw, wQ_nw, wz_nw, wk_nw, wT_sIc, wF_sIc, wG_sIc, wI_sIc, wL_sIc, wQ_sIc, wz_sIc, wk_sIc, wT_sLc, wF_sLc, wG_sLc, wI_sLc, wL_sLc, wQ_sLc, wz_sLc, wk_sLc, wT_sQc, wF_sQc, wG_sQc, wI_sQc, wL_sQc, wQ_sQc, wz_sQc, wk_sQc, wT_sCp, wF_sCp, wG_sCp, wI_sCp, wL_sCp, wQ_sCp, wz_sCp, wk_sCp, List.mem_cons, List.not_mem_nil, ie_m6_m5, ie_m6_m4, ie_m6_m3, ie_m6_m2, ie_m6_m1, ie_m6_0, ie_m6_1, ie_m6_2, ie_m6_3, ie_m6_4, ie_m6_5, ie_m6_6, ie_m5_m6, ie_m5_m4, ie_m5_m3, ie_m5_m2, ie_m5_m1, ie_m5_0, ie_m5_1, ie_m5_2, ie_m5_3, ie_m5_4, ie_m5_5, ie_m5_6, ie_m4_m6, ie_m4_m5, ie_m4_m3, ie_m4_m2, ie_m4_m1, ie_m4_0, ie_m4_1, ie_m4_2, ie_m4_3, ie_m4_4, ie_m4_5, ie_m4_6, ie_m3_m6, ie_m3_m5, ie_m3_m4, ie_m3_m2, ie_m3_m1, ie_m3_0, ie_m3_1, ie_m3_2, ie_m3_3, ie_m3_4, ie_m3_5, ie_m3_6, ie_m2_m6, ie_m2_m5, ie_m2_m4, ie_m2_m3, ie_m2_m1, ie_m2_0, ie_m2_1, ie_m2_2, ie_m2_3, ie_m2_4, ie_m2_5, ie_m2_6, ie_m1_m6, ie_m1_m5, ie_m1_m4, ie_m1_m3, ie_m1_m2, ie_m1_0, ie_m1_1, ie_m1_2, ie_m1_3, ie_m1_4, ie_m1_5, ie_m1_6, ie_0_m6, ie_0_m5, ie_0_m4, ie_0_m3, ie_0_m2, ie_0_m1, ie_0_1, ie_0_2, ie_0_3, ie_0_4, ie_0_5, ie_0_6, ie_1_m6, ie_1_m5, ie_1_m4, ie_1_m3, ie_1_m2, ie_1_m1, ie_1_0, ie_1_2, ie_1_3, ie_1_4, ie_1_5, ie_1_6, ie_2_m6, ie_2_m5, ie_2_m4, ie_2_m3, ie_2_m2, ie_2_m1, ie_2_0, ie_2_1, ie_2_3, ie_2_4, ie_2_5, ie_2_6, ie_3_m6, ie_3_m5, ie_3_m4, ie_3_m3, ie_3_m2, ie_3_m1, ie_3_0, ie_3_1, ie_3_2, ie_3_4, ie_3_5, ie_3_6, ie_4_m6, ie_4_m5, ie_4_m4, ie_4_m3, ie_4_m2, ie_4_m1, ie_4_0, ie_4_1, ie_4_2, ie_4_3, ie_4_5, ie_4_6, ie_5_m6, ie_5_m5, ie_5_m4, ie_5_m3, ie_5_m2, ie_5_m1, ie_5_0, ie_5_1, ie_5_2, ie_5_3, ie_5_4, ie_5_6, ie_6_m6, ie_6_m5, ie_6_m4, ie_6_m3, ie_6_m2, ie_6_m1, ie_6_0, ie_6_1, ie_6_2, ie_6_3, ie_6_4, ie_6_5, Int32.reduceToInt, Int64.reduceToInt, Int.reduceToNat, Int32.reduceAdd, Int32.reduceSub, Int32.reduceMul, Int32.reduceDiv, Int32.reduceLT, Int32.reduceLE, Int.reduceLE, Int.reduceLT, Int.reduceNeg, Int.reduceAdd, Int.reduceSub, Int.reduceMul, Int.reduceEq, Nat.reduceAdd, Nat.reduceMul, Nat.reduceLT, Nat.reduceEqDiff, true_and, and_true, and_self, false_and, and_false, if_true, if_false, ite_true, ite_false, ↓reduceIte, not_true_eq_false, not_false_eq_true, true_or, or_true, or_false, false_or, Int.cast_ofNat_Int, Int.reduceNatCast]
  refine hX (wz w) _ (x0_n h.f0 (P := fun x _ => wz w0 ≤ x) ?_ (fun _ _ q => q)) ?_ (by omega) ?_ ?_
  · refine fr.sF (fr.sG (fr.sG (fr.sG (fr.sG (fr.sG (fr.sG (fr.sG (fr.nw (fr.refl _ _)) ?_) ?_) ?_) ?_) ?_) ?_) ?_) ?_ <;> (intro hlt; exact absurd hlt (Nat.lt_irrefl _))
  · simp only [wT_sF, wF_sF, wG_sF, wI_sF, wL_sF, wQ_sF, wz_sF, wk_sF, wT_sG, wF_sG, wG_sG, wI_sG, wL_sG, wQ_sG, wz_sG, wk_sG, wT_sI, wF_sI, wG_sI, wI_sI, wL_sI, wQ_sI, wz_sI, wk_sI, wT_sL, wF_sL, wG_sL, wI_sL, wL_sL, wQ_sL, wz_sL, wk_sL, wT_sQ, wF_sQ, wG_sQ, wI_sQ, wL_sQ, wQ_sQ, wz_sQ, wk_sQ, wT_sZ, wF_sZ, wG_sZ, wI_sZ, wL_sZ, wQ_sZ, wz_sZ, wk_sZ, wT_nw, wF_nw, wG_nw, wI_nw, wL_nw, wQ_nw, wz_nw, wk_nw, wT_sIc, wF_sIc, wG_sIc, wI_sIc, wL_sIc, wQ_sIc, wz_sIc, wk_sIc, wT_sLc, wF_sLc, wG_sLc, wI_sLc, wL_sLc, wQ_sLc, wz_sLc, wk_sLc, wT_sQc, wF_sQc, wG_sQc, wI_sQc, wL_sQc, wQ_sQc, wz_sQc, wk_sQc, wT_sCp, wF_sCp, wG_sCp, wI_sCp, wL_sCp, wQ_sCp, wz_sCp, wk_sCp, if_true]
  · simp only [wT_sF, wF_sF, wG_sF, wI_sF, wL_sF, wQ_sF, wz_sF, wk_sF, wT_sG, wF_sG, wG_sG, wI_sG, wL_sG, wQ_sG, wz_sG, wk_sG, wT_sI, wF_sI, wG_sI, wI_sI, wL_sI, wQ_sI, wz_sI, wk_sI, wT_sL, wF_sL, wG_sL, wI_sL, wL_sL, wQ_sL, wz_sL, wk_sL, wT_sQ, wF_sQ, wG_sQ, wI_sQ, wL_sQ, wQ_sQ, wz_sQ, wk_sQ, wT_sZ, wF_sZ, wG_sZ, wI_sZ, wL_sZ, wQ_sZ, wz_sZ, wk_sZ, wT_nw, wF_nw, wG_nw, wI_nw, wL_nw, wQ_nw, wz_nw, wk_nw, wT_sIc, wF_sIc, wG_sIc, wI_sIc, wL_sIc, wQ_sIc, wz_sIc, wk_sIc, wT_sLc, wF_sLc, wG_sLc, wI_sLc, wL_sLc, wQ_sLc, wz_sLc, wk_sLc, wT_sQc, wF_sQc, wG_sQc, wI_sQc, wL_sQc, wQ_sQc, wz_sQc, wk_sQc, wT_sCp, wF_sCp, wG_sCp, wI_sCp, wL_sCp, wQ_sCp, wz_sCp, wk_sCp]; omega
  · simp only [wT_sF, wF_sF, wG_sF, wI_sF, wL_sF, wQ_sF, wz_sF, wk_sF, wT_sG, wF_sG, wG_sG, wI_sG, wL_sG, wQ_sG, wz_sG, wk_sG, wT_sI, wF_sI, wG_sI, wI_sI, wL_sI, wQ_sI, wz_sI, wk_sI, wT_sL, wF_sL, wG_sL, wI_sL, wL_sL, wQ_sL, wz_sL, wk_sL, wT_sQ, wF_sQ, wG_sQ, wI_sQ, wL_sQ, wQ_sQ, wz_sQ, wk_sQ, wT_sZ, wF_sZ, wG_sZ, wI_sZ, wL_sZ, wQ_sZ, wz_sZ, wk_sZ, wT_nw, wF_nw, wG_nw, wI_nw, wL_nw, wQ_nw, wz_nw, wk_nw, wT_sIc, wF_sIc, wG_sIc, wI_sIc, wL_sIc, wQ_sIc, wz_sIc, wk_sIc, wT_sLc, wF_sLc, wG_sLc, wI_sLc, wL_sLc, wQ_sLc, wz_sLc, wk_sLc, wT_sQc, wF_sQc, wG_sQc, wI_sQc, wL_sQc, wQ_sQc, wz_sQc, wk_sQc, wT_sCp, wF_sCp, wG_sCp, wI_sCp, wL_sCp, wQ_sCp, wz_sCp, wk_sCp, and_self, if_true]
theorem x_need1 (h : rdI w0 w b A N i) {X : Nat → Wd → Prop} {k : Wd → Prop} (v : Int32) (hX : v = 0 → xF w0 X (tkF (aT A) (zA A) i)) (hk : ¬ v = 0 → k w) : wp_X12_need w (wz w0) v X k := by
  unfold wp_X12_need
  by_cases c : v = 0
  · rw [if_pos c]
    exact ⟨h.r.ob, x_wrong h (hX c)⟩
  · rw [if_neg c]
    exact hk c
/-- the next token -/
theorem x_nxt (h : rdI w0 w b A N i) (hT : okT A) (hz63 : zA A ≤ 63) (hs4 : ¬ tkS (aT A) (zA A) i = 4) {k : Wd → Prop} (hk : ∀ w', rdI w0 w' b A N (tkE (aT A) (zA A) i) → hsh0 w' (wz w0) (tkS (aT A) (zA A) (tkE (aT A) (zA A) i)) → k w') : wp_X12_next w (wz w0) k := by
  have hz := h.zz
  have hE := tkE_b (T := aT A) h.le
  have e3 : wF w (wz w0) 1203 = Int32.ofNat (tkE (aT A) (zA A) i) := by rw [h.tk.1, if_neg hs4]
  have hjz := h.is.z
  refine x_next h.r hT hz63 hE.2 e3 hz.2 (fun w1 hf1 ht1 hh1 => hk w1 ⟨⟨h.r.sc hf1 (fun k hk => hk.2) (fun hp => by unfold rnP at hp; omega), h.is.sc hf1 (fun x k h1 h2 hp => by unfold rnP at hp; omega) (fun v k hv hp => ?_), ht1⟩, h.ks.sc hf1 (by omega) (fun x k hx hp => by unfold rnP at hp; omega), x0_n h.f0 hf1 (fun x k hp => by unfold rnP at hp; omega), ⟨hz.1, by have := hf1.z; omega⟩, hE.2⟩ hh1)
  obtain ⟨-, -, c, hc, -⟩ := hv
  have := hp.1
  rw [this, h.r.1.1] at hc
  simp only [Option.some.injEq, Prod.mk.injEq] at hc
  exact absurd hc.2.1 (by decide)
theorem isC_nm (hN : okN N) {T : Nw} {z i : Nat} (hi : i ≤ z) : isC (N 90) (nmC T z i) ↔ (tkS T z i = 2 ∧ tkE T z i - tkF T z i ≤ 2 ∧ isC (N 90) (tkV T z i)) := by
  have hs := hN.side
  unfold nmC
  by_cases c : tkS T z i = 2
  · rw [if_pos c]
    by_cases d : tkE T z i - tkF T z i ≤ 2
    · rw [if_pos d]
      exact ⟨fun q => ⟨c, d, q⟩, fun q => q.2.2⟩
    · rw [if_neg d]
      refine ⟨fun q => ?_, fun q => absurd q.2.1 d⟩
      have := q.2.1
      rw [show (100 : Int32).toInt = 100 from rfl] at this
      omega
  · rw [if_neg c]
    refine ⟨fun q => ?_, fun q => absurd q.1 c⟩
    have := q.1
    rw [i_m1] at this
    omega
theorem nm_val {T : Nw} {z i : Nat} (h1 : tkS T z i = 2) (h2 : tkE T z i - tkF T z i ≤ 2) : nmC T z i = tkV T z i := by
  unfold nmC
  rw [if_pos h1, if_pos h2]
theorem x_numK (h : rdI w0 w b A N i) (hT : okT A) (hz63 : zA A ≤ 63) (l u : Int32) (hl : 0 ≤ l.toInt) (hu : u.toInt ≤ 99) {X : Nat → Wd → Prop} {kF : Wd → Prop} {kk : Int32 → Nat → PR} (hK : iK w0 b A X kF (pN (aT A) (zA A) (rngP l u) i kk)) {k : Int32 → Wd → Prop} (hk : ∀ w', (0 ≤ (tkV (aT A) (zA A) i).toInt ∧ (tkV (aT A) (zA A) i).toInt ≤ 99) → rngP l u (tkV (aT A) (zA A) i) → rdI w0 w' b A N (tkE (aT A) (zA A) i) → iK w0 b A X kF (kk (tkV (aT A) (zA A) i) (tkE (aT A) (zA A) i)) → k (tkV (aT A) (zA A) i) w') : wp_X12_number w (wz w0) l u X k := by
  have e6 : wF w (wz w0) 1206 = nmC (aT A) (zA A) i := h.tk.2.2.1
  unfold wp_X12_number
  unfold pN at hK
  rw [h.r.gF, e6]
  by_cases c : tkS (aT A) (zA A) i = 2 ∧ tkE (aT A) (zA A) i - tkF (aT A) (zA A) i ≤ 2
  · have hb := tkV_b h.le c.1 c.2
    rw [nm_val c.1 c.2]
    by_cases d : rngP l u (tkV (aT A) (zA A) i)
    · rw [if_pos ⟨c.1, c.2, d⟩] at hK
      rw [if_neg (by rw [i_lt]; have := d.1; omega), h.r.gF, e6, nm_val c.1 c.2, if_pos (by rw [i_le]; exact d.2), h.r.gF, e6, nm_val c.1 c.2]
      exact ⟨h.r.ob, x_nxt h hT hz63 (by omega) (fun w1 h1 _ => hk w1 hb d h1 hK)⟩
    · rw [if_neg (fun q => d q.2.2)] at hK
      by_cases e : tkV (aT A) (zA A) i < l
      · rw [if_pos e]
        exact ⟨h.r.ob, x_wrong h hK⟩
      · rw [if_neg e, h.r.gF, e6, nm_val c.1 c.2, if_neg (fun q => d ⟨by rw [i_lt] at e; omega, i_le.1 q⟩)]
        exact ⟨h.r.ob, x_wrong h hK⟩
  · rw [if_neg (fun q => c ⟨q.1, q.2.1⟩)] at hK
    by_cases e : nmC (aT A) (zA A) i < l
    · rw [if_pos e]
      exact ⟨h.r.ob, x_wrong h hK⟩
    · have h100 : (nmC (aT A) (zA A) i).toInt = 100 := by
        unfold nmC at e ⊢
        by_cases c1 : tkS (aT A) (zA A) i = 2
        · rw [if_pos c1, if_neg (fun q => c ⟨c1, q⟩)]; rfl
        · rw [if_neg c1, i_lt, i_m1] at e
          omega
      rw [if_neg e, h.r.gF, e6, if_neg (by rw [i_le]; omega)]
      exact ⟨h.r.ob, x_wrong h hK⟩
/-- the cell's number, when it is one -/
theorem x_cell1 (h : rdI w0 w b A N i) (hN : okN N) (hT : okT A) (hz63 : zA A ≤ 63) {X : Nat → Wd → Prop} {k : Int32 → Wd → Prop} (hX : ¬ isC (N 90) (nmC (aT A) (zA A) i) → xF w0 X (tkF (aT A) (zA A) i)) (hk : isC (N 90) (nmC (aT A) (zA A) i) → ∀ w', rdI w0 w' b A N (tkE (aT A) (zA A) i) → k (tkV (aT A) (zA A) i) w') : wp_X12_cell w (wz w0) X k := by
  have e6 : wF w (wz w0) 1206 = nmC (aT A) (zA A) i := h.tk.2.2.1
  have hs := hN.side
  unfold wp_X12_cell
  rw [h.r.gG, h.r.2.2.2.1, h.r.gF, e6]
  simp only [wnn]
  refine ⟨by rw [h.is.ob]; trivial, ?_⟩
  rw [x_isCell h.is]
  by_cases c : isC (N 90) (nmC (aT A) (zA A) i)
  · rw [if_pos c]
    obtain ⟨c1, c2, c3⟩ := (isC_nm hN h.le).1 c
    refine ⟨h.r.ob, x_need1 h 1 (fun q => absurd q (by decide)) (fun _ => ⟨h.r.ob, ?_⟩)⟩
    have hr : rngP 0 70 (tkV (aT A) (zA A) i) := ⟨c3.1, by have := isC_b hs c3; show _ ≤ (70 : Int); omega⟩
    refine x_numK h hT hz63 0 70 (by decide) (by decide) (X := X) (kF := fun w' => k (tkV (aT A) (zA A) i) w') (kk := fun v e => (e, some N)) ?_ (fun w' hv hrv h' hK' => hk c w' h')
    unfold pN
    rw [if_pos ⟨c1, c2, hr⟩]
    exact fun w' h' => hk c w' h'
  · rw [if_neg c]
    exact ⟨h.r.ob, x_need1 h 0 (fun _ => hX c) (fun q => absurd rfl q)⟩
/-- the island is written -/
theorem rdI_is {w' : Wd} {N' : Nw} (h : rdI w0 w b A N i) (hi : isl w' b (wz w0 + 1) N') (hf : fr (isP7 (wz w0 + 1)) w w') : rdI w0 w' b A N' i := by
  obtain ⟨⟨hr, hs, ht⟩, hk, h0, hz, hl⟩ := h
  have hfz := hf.z
  have hrd : wz w0 < wz w := by omega
  have hp : ∀ k, ¬ isP7 (wz w0 + 1) (wz w0) k := fun k q => by unfold isP7 at q; omega
  refine ⟨⟨hr.sc hf (fun k q => absurd q (hp k)) (fun q => by unfold isP7 at q; omega), hi, ?_⟩, hk.sc hf (by omega) (fun x k hx q => by unfold isP7 at q; omega), x0_n h0 hf (fun x k q => by unfold isP7 at q; omega), ⟨hz.1, by omega⟩, hl⟩
  obtain ⟨t1, t2, t3, t4⟩ := ht
  refine ⟨(hf.F hrd (hp _)).trans t1, (hf.F hrd (hp _)).trans t2, (hf.F hrd (hp _)).trans t3, ?_⟩
  rcases t4 with ⟨s1, q, g1, g2⟩ | ⟨s3, g⟩ | ⟨s1, s3, g⟩
  · obtain ⟨v, hb, e⟩ := g2.sc hf (Nat.le_refl _) (fun x k hx _ q => by unfold isP7 at q; omega)
    exact Or.inl ⟨s1, q, (hf.G hrd (hp _)).trans g1, ⟨v, by omega, e⟩⟩
  · exact Or.inr (Or.inl ⟨s3, ((hf.G hrd (hp _)).trans g).trans (congrFun hf.1.2 10).symm⟩)
  · exact Or.inr (Or.inr ⟨s1, s3, (hf.G hrd (hp _)).trans g⟩)
theorem x_toldK (h : rdI w0 w b A N i) (hN : okN N) (hT : okT A) (hz63 : zA A ≤ 63) (hs1 : tkS (aT A) (zA A) i = 1) {t : Nat} (ht : t < 3) {u : Int32} (hu : u.toInt ≤ 99) {X : Nat → Wd → Prop} {k : Wd → Prop} (hK : iK w0 b A X k (pN (aT A) (zA A) (rngP 0 u) (tkE (aT A) (zA A) i) (fun v e => (e, some (up1 N (91 + t) v))))) : wp_X12_told w (wz w0) (Int32.ofNat t) u X k := by
  unfold wp_X12_told
  refine ⟨h.r.ob, x_nxt h hT hz63 (by omega) (fun w1 h1 _ => ?_)⟩
  rw [h1.r.gG, h1.r.2.2.2.1, h1.is.G105]
  refine ⟨h1.r.ob, x_numK h1 hT hz63 0 u (by decide) hu hK (fun w2 hb2 hr2 h2 hK2 => ?_)⟩
  have hv : vp_in (Int32.ofNat t) 3 := vp_iff.2 (by rw [i_ti (by omega)]; omega)
  rw [h2.is.w6, i_tt (by omega)]
  refine ⟨hv, hK2 _ (rdI_is h2 (h2.is.wTold hN.pe8 ht _) ((fr.refl _ _).sI (fun _ => by unfold isP7; omega)))⟩
end XIT
