/-! ===== the class's small methods over XX ===== -/
section XH
variable {w : Wd} {b i : Nat} {o : Option Nat} {A : Ab} {N : Nw}
theorem x_isIn (w : Wd) (x lo hi : Int32) (k : Int32 → Wd → Prop) : wp_X0_isIn w x lo hi k = if lo.toInt ≤ x.toInt ∧ x.toInt ≤ hi.toInt then k 1 w else k 0 w := by
  unfold wp_X0_isIn
  simp only [i_lt]
  by_cases h1 : x.toInt < lo.toInt
  · rw [if_pos h1, if_neg (by omega)]
  · by_cases h2 : hi.toInt < x.toInt
    · rw [if_neg h1, if_pos h2, if_neg (by omega)]
    · rw [if_neg h1, if_neg h2, if_pos (by omega)]
theorem x_isShelf (w : Wd) (s : Int32) (k : Int32 → Wd → Prop) : wp_X0_isShelf w s k = if isS s then k 1 w else k 0 w := by
  unfold wp_X0_isShelf
  simp only [x_isIn, nar_0, nar_1, ie_m6_m5, ie_m6_m4, ie_m6_m3, ie_m6_m2, ie_m6_m1, ie_m6_0, ie_m6_1, ie_m6_2, ie_m6_3, ie_m6_4, ie_m6_5, ie_m6_6, ie_m5_m6, ie_m5_m4, ie_m5_m3, ie_m5_m2, ie_m5_m1, ie_m5_0, ie_m5_1, ie_m5_2, ie_m5_3, ie_m5_4, ie_m5_5, ie_m5_6, ie_m4_m6, ie_m4_m5, ie_m4_m3, ie_m4_m2, ie_m4_m1, ie_m4_0, ie_m4_1, ie_m4_2, ie_m4_3, ie_m4_4, ie_m4_5, ie_m4_6, ie_m3_m6, ie_m3_m5, ie_m3_m4, ie_m3_m2, ie_m3_m1, ie_m3_0, ie_m3_1, ie_m3_2, ie_m3_3, ie_m3_4, ie_m3_5, ie_m3_6, ie_m2_m6, ie_m2_m5, ie_m2_m4, ie_m2_m3, ie_m2_m1, ie_m2_0, ie_m2_1, ie_m2_2, ie_m2_3, ie_m2_4, ie_m2_5, ie_m2_6, ie_m1_m6, ie_m1_m5, ie_m1_m4, ie_m1_m3, ie_m1_m2, ie_m1_0, ie_m1_1, ie_m1_2, ie_m1_3, ie_m1_4, ie_m1_5, ie_m1_6, ie_0_m6, ie_0_m5, ie_0_m4, ie_0_m3, ie_0_m2, ie_0_m1, ie_0_1, ie_0_2, ie_0_3, ie_0_4, ie_0_5, ie_0_6, ie_1_m6, ie_1_m5, ie_1_m4, ie_1_m3, ie_1_m2, ie_1_m1, ie_1_0, ie_1_2, ie_1_3, ie_1_4, ie_1_5, ie_1_6, ie_2_m6, ie_2_m5, ie_2_m4, ie_2_m3, ie_2_m2, ie_2_m1, ie_2_0, ie_2_1, ie_2_3, ie_2_4, ie_2_5, ie_2_6, ie_3_m6, ie_3_m5, ie_3_m4, ie_3_m3, ie_3_m2, ie_3_m1, ie_3_0, ie_3_1, ie_3_2, ie_3_4, ie_3_5, ie_3_6, ie_4_m6, ie_4_m5, ie_4_m4, ie_4_m3, ie_4_m2, ie_4_m1, ie_4_0, ie_4_1, ie_4_2, ie_4_3, ie_4_5, ie_4_6, ie_5_m6, ie_5_m5, ie_5_m4, ie_5_m3, ie_5_m2, ie_5_m1, ie_5_0, ie_5_1, ie_5_2, ie_5_3, ie_5_4, ie_5_6, ie_6_m6, ie_6_m5, ie_6_m4, ie_6_m3, ie_6_m2, ie_6_m1, ie_6_0, ie_6_1, ie_6_2, ie_6_3, ie_6_4, ie_6_5, Int32.reduceToInt, Int64.reduceToInt, Int.reduceToNat, Int32.reduceAdd, Int32.reduceSub, Int32.reduceMul, Int32.reduceDiv, Int32.reduceLT, Int32.reduceLE, Int.reduceLE, Int.reduceLT, Int.reduceNeg, Int.reduceAdd, Int.reduceSub, Int.reduceMul, Int.reduceEq, Nat.reduceAdd, Nat.reduceMul, Nat.reduceLT, Nat.reduceEqDiff, true_and, and_true, and_self, false_and, and_false, if_true, if_false, ite_true, ite_false, ↓reduceIte, not_true_eq_false, not_false_eq_true, true_or, or_true, or_false, false_or, Int.cast_ofNat_Int, Int.reduceNatCast]
/-- what a method leaves of the class -/
def xR (w : Wd) (b i : Nat) (o : Option Nat) (A : Ab) (K : Wd → Prop) : Prop := ∀ w', XX w' b i o A → fr (xQ b) w w' → K w'
theorem xR.self (h : XX w b i o A) {K : Wd → Prop} (hk : xR w b i o A K) : K w := hk w h (fr.refl _ _)
/-- nothing old written -/
def x0 : Nat → Nat → Prop := fun _ _ => False
theorem x0_P {w w' : Wd} {P : Nat → Nat → Prop} (h : fr x0 w w') : fr P w w' := h.mono (fun _ _ _ hp => hp.elim)
theorem xP_Q {w w' : Wd} (h : fr (xP b) w w') : fr (xQ b) w w' := h.mono (fun q k _ hp => by unfold xP at hp; unfold xQ; omega)
theorem XX.sc0 (h : XX w b i o A) {w' : Wd} (hf : fr x0 w w') : XX w' b i o A := h.sc hf (fun _ _ _ hp => hp.elim)
theorem XX.scP (h : XX w b i o A) {w' : Wd} (hf : fr (xP b) w w') : XX w' b i o A := h.sc hf (fun _ _ _ hp => Or.inl hp)
theorem XX.zR (h : XX w b i o A) (k : Nat) (v : Int32) (hk : k < 7) : XX (sI w (b + 16) k v) b i o (zR A (up1 (aR A) k v)) := by
  have hf : fr (fun q k => q = b + 16 ∧ k = 9999) w (sI w (b + 16) k v) := (fr.refl _ _).sI (fun _ => ⟨rfl, rfl⟩)
  have hz := h.sh.z
  have hiz := h.is.z
  have hi : ∀ j N, isl w b j N → isl (sI w (b + 16) k v) b j N := fun j N hj => hj.sc hf (fun q k h1 h2 => by have := hj.z; omega) (fun q k hv => by have := hv.1; omega)
  have ne : ∀ q, ¬ q = b + 16 → wI (sI w (b + 16) k v) q = wI w q := fun q hq => funext fun j => if_neg (fun e => hq e.1)
  refine ⟨h.sh.sc hf (fun q k hp => by omega), hi _ _ h.is, h.g0, h.g1, fun j hj => (congrFun (ne _ (by omega)) j).trans (h.Tt j hj), h.Z, fun j hj => ?_, h.im, fun j hj => ⟨hi _ _ (h.ik j hj).1, (h.ik j hj).2⟩, fun s hs => ?_, h.dj⟩
  · rw [wI_sI, aR_zR, up1_at]
    by_cases e : j = k
    · rw [if_pos ⟨rfl, e⟩, if_pos e]
    · rw [if_neg (fun c => e c.2), if_neg e]
      exact h.R j hj
  · rcases h.sf s hs with a | a | ⟨q, a1, a2⟩
    · exact Or.inl a
    · exact Or.inr (Or.inl a)
    · exact Or.inr (Or.inr ⟨q, a1, a2.sc hf (by have := a2.1; omega)⟩)
theorem x_no (h : XX w b i o A) {c : Int32} (hc : -6 ≤ c.toInt ∧ c.toInt ≤ 0) {k : Int32 → Wd → Prop} (hk : xR w b i o (bump A c) (k c)) : wp_X0_no w b c k := by
  unfold wp_X0_no
  have e1 : (-c).toInt = -c.toInt := i_neg (by omega)
  have e2 : vp_in (-c) 7 := vp_iff.2 (by rw [e1]; omega)
  have e3 := h.R (-c).toInt.toNat (by rw [e1]; omega)
  simp only [h.sh.G11, h.sh.r16, h.sh.w16, e2, e3, true_and]
  exact hk _ (h.zR _ _ (by rw [e1]; omega)) (by (repeat' (first | exact fr.refl _ _ | (refine fr.sF ?_ ?_) | (refine fr.sI ?_ ?_) | (refine fr.sL ?_ ?_) | (refine fr.sQ ?_ ?_) | (refine fr.sG ?_ ?_) | (refine fr.nw ?_))) <;> (intro _; unfold xQ; omega))
/-- a Refused thrown, of code c -/
def rfd (w : Wd) (q : Nat) (c : Int32) : Prop := wT w q = some (25, 7, true) ∧ wF w q 506 = c
theorem x_refd (w : Wd) (c : Int32) {X : Nat → Wd → Prop} (hx : ∀ w', fr x0 w w' → rfd w' (wz w) c → X (wz w) w') : wnew w 25 7 (fun n1 w2 => wp_X5_init w2 n1 c (fun w3 => wthr w3 (some n1) 25 (fun q4 => X q4 w3))) := by
  unfold wnew wp_X5_init wp_J2_init_2 wp_J1_init_2 wp_J0_init_3 wb_J0_init_3_41
  simp only [wpF, wpG, wobw, wthr, wT_sF, wF_sF, wG_sF, wI_sF, wL_sF, wQ_sF, wz_sF, wk_sF, wT_sG, wF_sG, wG_sG, wI_sG, wL_sG, wQ_sG, wz_sG, wk_sG, wT_sI, wF_sI, wG_sI, wI_sI, wL_sI, wQ_sI, wz_sI, wk_sI, wT_sL, wF_sL, wG_sL, wI_sL, wL_sL, wQ_sL, wz_sL, wk_sL, wT_sQ, wF_sQ, wG_sQ, wI_sQ, wL_sQ, wQ_sQ, wz_sQ, wk_sQ, wT_sZ, wF_sZ, wG_sZ, wI_sZ, wL_sZ, wQ_sZ, wz_sZ, wk_sZ, wT_nw, wF_nw, wG_nw, wI_nw, wL_nw, wQ_nw, wz_nw, wk_nw, wT_sIc, wF_sIc, wG_sIc, wI_sIc, wL_sIc, wQ_sIc, wz_sIc, wk_sIc, wT_sLc, wF_sLc, wG_sLc, wI_sLc, wL_sLc, wQ_sLc, wz_sLc, wk_sLc, wT_sQc, wF_sQc, wG_sQc, wI_sQc, wL_sQc, wQ_sQc, wz_sQc, wk_sQc, wT_sCp, wF_sCp, wG_sCp, wI_sCp, wL_sCp, wQ_sCp, wz_sCp, wk_sCp, List.mem_cons, List.not_mem_nil, ie_m6_m5, ie_m6_m4, ie_m6_m3, ie_m6_m2, ie_m6_m1, ie_m6_0, ie_m6_1, ie_m6_2, ie_m6_3, ie_m6_4, ie_m6_5, ie_m6_6, ie_m5_m6, ie_m5_m4, ie_m5_m3, ie_m5_m2, ie_m5_m1, ie_m5_0, ie_m5_1, ie_m5_2, ie_m5_3, ie_m5_4, ie_m5_5, ie_m5_6, ie_m4_m6, ie_m4_m5, ie_m4_m3, ie_m4_m2, ie_m4_m1, ie_m4_0, ie_m4_1, ie_m4_2, ie_m4_3, ie_m4_4, ie_m4_5, ie_m4_6, ie_m3_m6, ie_m3_m5, ie_m3_m4, ie_m3_m2, ie_m3_m1, ie_m3_0, ie_m3_1, ie_m3_2, ie_m3_3, ie_m3_4, ie_m3_5, ie_m3_6, ie_m2_m6, ie_m2_m5, ie_m2_m4, ie_m2_m3, ie_m2_m1, ie_m2_0, ie_m2_1, ie_m2_2, ie_m2_3, ie_m2_4, ie_m2_5, ie_m2_6, ie_m1_m6, ie_m1_m5, ie_m1_m4, ie_m1_m3, ie_m1_m2, ie_m1_0, ie_m1_1, ie_m1_2, ie_m1_3, ie_m1_4, ie_m1_5, ie_m1_6, ie_0_m6, ie_0_m5, ie_0_m4, ie_0_m3, ie_0_m2, ie_0_m1, ie_0_1, ie_0_2, ie_0_3, ie_0_4, ie_0_5, ie_0_6, ie_1_m6, ie_1_m5, ie_1_m4, ie_1_m3, ie_1_m2, ie_1_m1, ie_1_0, ie_1_2, ie_1_3, ie_1_4, ie_1_5, ie_1_6, ie_2_m6, ie_2_m5, ie_2_m4, ie_2_m3, ie_2_m2, ie_2_m1, ie_2_0, ie_2_1, ie_2_3, ie_2_4, ie_2_5, ie_2_6, ie_3_m6, ie_3_m5, ie_3_m4, ie_3_m3, ie_3_m2, ie_3_m1, ie_3_0, ie_3_1, ie_3_2, ie_3_4, ie_3_5, ie_3_6, ie_4_m6, ie_4_m5, ie_4_m4, ie_4_m3, ie_4_m2, ie_4_m1, ie_4_0, ie_4_1, ie_4_2, ie_4_3, ie_4_5, ie_4_6, ie_5_m6, ie_5_m5, ie_5_m4, ie_5_m3, ie_5_m2, ie_5_m1, ie_5_0, ie_5_1, ie_5_2, ie_5_3, ie_5_4, ie_5_6, ie_6_m6, ie_6_m5, ie_6_m4, ie_6_m3, ie_6_m2, ie_6_m1, ie_6_0, ie_6_1, ie_6_2, ie_6_3, ie_6_4, ie_6_5, Int32.reduceToInt, Int64.reduceToInt, Int.reduceToNat, Int32.reduceAdd, Int32.reduceSub, Int32.reduceMul, Int32.reduceDiv, Int32.reduceLT, Int32.reduceLE, Int.reduceLE, Int.reduceLT, Int.reduceNeg, Int.reduceAdd, Int.reduceSub, Int.reduceMul, Int.reduceEq, Nat.reduceAdd, Nat.reduceMul, Nat.reduceLT, Nat.reduceEqDiff, true_and, and_true, and_self, false_and, and_false, if_true, if_false, ite_true, ite_false, ↓reduceIte, not_true_eq_false, not_false_eq_true, true_or, or_true, or_false, false_or, Int.cast_ofNat_Int, Int.reduceNatCast]
  refine hx _ ?_ ⟨?_, ?_⟩
  · refine fr.sF (fr.sG (fr.sG (fr.sG (fr.sG (fr.sG (fr.sG (fr.sG (fr.nw (fr.refl _ _)) ?_) ?_) ?_) ?_) ?_) ?_) ?_) ?_ <;> (intro hlt; exact absurd hlt (Nat.lt_irrefl _))
  · simp only [wT_sF, wF_sF, wG_sF, wI_sF, wL_sF, wQ_sF, wz_sF, wk_sF, wT_sG, wF_sG, wG_sG, wI_sG, wL_sG, wQ_sG, wz_sG, wk_sG, wT_sI, wF_sI, wG_sI, wI_sI, wL_sI, wQ_sI, wz_sI, wk_sI, wT_sL, wF_sL, wG_sL, wI_sL, wL_sL, wQ_sL, wz_sL, wk_sL, wT_sQ, wF_sQ, wG_sQ, wI_sQ, wL_sQ, wQ_sQ, wz_sQ, wk_sQ, wT_sZ, wF_sZ, wG_sZ, wI_sZ, wL_sZ, wQ_sZ, wz_sZ, wk_sZ, wT_nw, wF_nw, wG_nw, wI_nw, wL_nw, wQ_nw, wz_nw, wk_nw, wT_sIc, wF_sIc, wG_sIc, wI_sIc, wL_sIc, wQ_sIc, wz_sIc, wk_sIc, wT_sLc, wF_sLc, wG_sLc, wI_sLc, wL_sLc, wQ_sLc, wz_sLc, wk_sLc, wT_sQc, wF_sQc, wG_sQc, wI_sQc, wL_sQc, wQ_sQc, wz_sQc, wk_sQc, wT_sCp, wF_sCp, wG_sCp, wI_sCp, wL_sCp, wQ_sCp, wz_sCp, wk_sCp, if_true]
  · simp only [wT_sF, wF_sF, wG_sF, wI_sF, wL_sF, wQ_sF, wz_sF, wk_sF, wT_sG, wF_sG, wG_sG, wI_sG, wL_sG, wQ_sG, wz_sG, wk_sG, wT_sI, wF_sI, wG_sI, wI_sI, wL_sI, wQ_sI, wz_sI, wk_sI, wT_sL, wF_sL, wG_sL, wI_sL, wL_sL, wQ_sL, wz_sL, wk_sL, wT_sQ, wF_sQ, wG_sQ, wI_sQ, wL_sQ, wQ_sQ, wz_sQ, wk_sQ, wT_sZ, wF_sZ, wG_sZ, wI_sZ, wL_sZ, wQ_sZ, wz_sZ, wk_sZ, wT_nw, wF_nw, wG_nw, wI_nw, wL_nw, wQ_nw, wz_nw, wk_nw, wT_sIc, wF_sIc, wG_sIc, wI_sIc, wL_sIc, wQ_sIc, wz_sIc, wk_sIc, wT_sLc, wF_sLc, wG_sLc, wI_sLc, wL_sLc, wQ_sLc, wz_sLc, wk_sLc, wT_sQc, wF_sQc, wG_sQc, wI_sQc, wL_sQc, wQ_sQc, wz_sQc, wk_sQc, wT_sCp, wF_sCp, wG_sCp, wI_sCp, wL_sCp, wQ_sCp, wz_sCp, wk_sCp, and_self, if_true]
/-- the handler of a Refused -/
theorem x_hand (h : XX w b i o A) {q : Nat} {c : Int32} (hq : rfd w q c) (hc : -6 ≤ c.toInt ∧ c.toInt ≤ 0) {k : Int32 → Wd → Prop} (hk : xR w b i o (bump A c) (k c)) : wgF w (some q) [25] 506 (fun v5 => wob w b [20] ∧ wp_X0_no w b v5 (fun v6 w7 => k v6 w7)) := by
  show wob w q [25] ∧ _
  refine ⟨by unfold wob; rw [hq.1]; simp, by rw [h.sh.ob]; trivial, ?_⟩
  rw [hq.2]
  exact x_no h hc hk
theorem x_shG (h : XX w b i o A) {s : Int32} (hs : isS s) (K : Option Nat → Prop) : wldQ w (some (b + 14)) 8 s K = K (some (b + 17 + s.toInt.toNat)) := by
  have hv : vp_in s 8 := vp_iff.2 (by omega)
  rw [h.sh.r14, h.sh.qs _ (by omega)]
  exact propext ⟨fun h => h.2, fun h => ⟨hv, h⟩⟩
theorem x_held (h : XX w b i o A) {s : Nat} (hs : s < 8) (K : Option Nat → Prop) : wgG w (some (b + 17 + s)) [23] 300 K = K (wG w (b + 17 + s) 300) := by
  show (wob w (b + 17 + s) [23] ∧ _) = _
  unfold wob
  rw [h.sh.tS s hs]
  simp
theorem srt_c {h : Int32} (hh : 0 ≤ h.toInt ∧ h.toInt ≤ 4) : (h = 0 ∧ srt h = 1) ∨ (h = 1 ∧ srt h = 2) ∨ (h = 2 ∧ srt h = 0) ∨ (h = 3 ∧ srt h = 5) ∨ (h = 4 ∧ srt h = 4) := by
  have h1 : h.toInt = 0 ∨ h.toInt = 1 ∨ h.toInt = 2 ∨ h.toInt = 3 ∨ h.toInt = 4 := by omega
  rcases h1 with h1 | h1 | h1 | h1 | h1
  · have e : h = 0 := Int32.toInt_inj.1 h1; subst e; exact Or.inl ⟨rfl, by decide⟩
  · have e : h = 1 := Int32.toInt_inj.1 h1; subst e; exact Or.inr (Or.inl ⟨rfl, by decide⟩)
  · have e : h = 2 := Int32.toInt_inj.1 h1; subst e; exact Or.inr (Or.inr (Or.inl ⟨rfl, by decide⟩))
  · have e : h = 3 := Int32.toInt_inj.1 h1; subst e; exact Or.inr (Or.inr (Or.inr (Or.inl ⟨rfl, by decide⟩)))
  · have e : h = 4 := Int32.toInt_inj.1 h1; subst e; exact Or.inr (Or.inr (Or.inr (Or.inr ⟨rfl, by decide⟩)))
/-- a shelf's row, or what is refused -/
theorem x_rowIn (h : XX w b i o A) (hN : okN (aN A)) {s : Int32} (hs : isS s) {X : Nat → Wd → Prop} {k : Option Nat → Wd → Prop} (hx : (rowC A s.toInt.toNat).toInt < 0 → ∀ q w', fr x0 w w' → rfd w' q (rowC A s.toInt.toNat) → X q w') (hk : ∀ q, 0 ≤ (rowC A s.toInt.toNat).toInt → wG w (b + 17 + s.toInt.toNat) 300 = some q → rwS w b i o q (aH A s.toInt.toNat) (aS A s.toInt.toNat) (fun k => aE A (40 * s.toInt.toNat + k)) → k (some q) w) : wp_X0_rowIn w b s X k := by
  have h8 := hN.pe8
  have hs8 : s.toInt.toNat < 8 := by omega
  unfold wp_X0_rowIn
  simp only [h.sh.G8, x_shG h hs, x_held h hs8]
  rcases h.sf _ hs8 with ⟨a1, a2⟩ | ⟨v, p, a1, a2, a3, a4⟩ | ⟨q, a1, a2⟩
  · have e : rowC A s.toInt.toNat = -4 := by unfold rowC; rw [a2, if_neg (by decide), if_pos rfl]
    rw [a1]
    simp only [wio, ie_m6_m5, ie_m6_m4, ie_m6_m3, ie_m6_m2, ie_m6_m1, ie_m6_0, ie_m6_1, ie_m6_2, ie_m6_3, ie_m6_4, ie_m6_5, ie_m6_6, ie_m5_m6, ie_m5_m4, ie_m5_m3, ie_m5_m2, ie_m5_m1, ie_m5_0, ie_m5_1, ie_m5_2, ie_m5_3, ie_m5_4, ie_m5_5, ie_m5_6, ie_m4_m6, ie_m4_m5, ie_m4_m3, ie_m4_m2, ie_m4_m1, ie_m4_0, ie_m4_1, ie_m4_2, ie_m4_3, ie_m4_4, ie_m4_5, ie_m4_6, ie_m3_m6, ie_m3_m5, ie_m3_m4, ie_m3_m2, ie_m3_m1, ie_m3_0, ie_m3_1, ie_m3_2, ie_m3_3, ie_m3_4, ie_m3_5, ie_m3_6, ie_m2_m6, ie_m2_m5, ie_m2_m4, ie_m2_m3, ie_m2_m1, ie_m2_0, ie_m2_1, ie_m2_2, ie_m2_3, ie_m2_4, ie_m2_5, ie_m2_6, ie_m1_m6, ie_m1_m5, ie_m1_m4, ie_m1_m3, ie_m1_m2, ie_m1_0, ie_m1_1, ie_m1_2, ie_m1_3, ie_m1_4, ie_m1_5, ie_m1_6, ie_0_m6, ie_0_m5, ie_0_m4, ie_0_m3, ie_0_m2, ie_0_m1, ie_0_1, ie_0_2, ie_0_3, ie_0_4, ie_0_5, ie_0_6, ie_1_m6, ie_1_m5, ie_1_m4, ie_1_m3, ie_1_m2, ie_1_m1, ie_1_0, ie_1_2, ie_1_3, ie_1_4, ie_1_5, ie_1_6, ie_2_m6, ie_2_m5, ie_2_m4, ie_2_m3, ie_2_m2, ie_2_m1, ie_2_0, ie_2_1, ie_2_3, ie_2_4, ie_2_5, ie_2_6, ie_3_m6, ie_3_m5, ie_3_m4, ie_3_m3, ie_3_m2, ie_3_m1, ie_3_0, ie_3_1, ie_3_2, ie_3_4, ie_3_5, ie_3_6, ie_4_m6, ie_4_m5, ie_4_m4, ie_4_m3, ie_4_m2, ie_4_m1, ie_4_0, ie_4_1, ie_4_2, ie_4_3, ie_4_5, ie_4_6, ie_5_m6, ie_5_m5, ie_5_m4, ie_5_m3, ie_5_m2, ie_5_m1, ie_5_0, ie_5_1, ie_5_2, ie_5_3, ie_5_4, ie_5_6, ie_6_m6, ie_6_m5, ie_6_m4, ie_6_m3, ie_6_m2, ie_6_m1, ie_6_0, ie_6_1, ie_6_2, ie_6_3, ie_6_4, ie_6_5, Int32.reduceToInt, Int64.reduceToInt, Int.reduceToNat, Int32.reduceAdd, Int32.reduceSub, Int32.reduceMul, Int32.reduceDiv, Int32.reduceLT, Int32.reduceLE, Int.reduceLE, Int.reduceLT, Int.reduceNeg, Int.reduceAdd, Int.reduceSub, Int.reduceMul, Int.reduceEq, Nat.reduceAdd, Nat.reduceMul, Nat.reduceLT, Nat.reduceEqDiff, true_and, and_true, and_self, false_and, and_false, if_true, if_false, ite_true, ite_false, ↓reduceIte, not_true_eq_false, not_false_eq_true, true_or, or_true, or_false, false_or, Int.cast_ofNat_Int, Int.reduceNatCast]
    rw [e] at hx
    exact x_refd w (-4) (fun w' hf hr => hx (by decide) _ w' hf hr)
  · obtain ⟨-, -, -, v', b1, b2⟩ := h.is.pr p a2
    have ev : v' = v := by rw [b1] at a3; exact Option.some.inj a3
    subst ev
    have e : rowC A s.toInt.toNat = -3 := by unfold rowC; rw [a4, if_pos (by rw [i_ti (by omega)]; omega)]
    rw [a1]
    have hkd : (aN A (5 * p)).toInt.toNat < 6 := by have := b2.2.2.1; omega
    have hyes : 26 + (aN A (5 * p)).toInt.toNat ∈ [26, 27, 28, 29, 30, 31] := by
      rcases (show (aN A (5 * p)).toInt.toNat = 0 ∨ (aN A (5 * p)).toInt.toNat = 1 ∨ (aN A (5 * p)).toInt.toNat = 2 ∨ (aN A (5 * p)).toInt.toNat = 3 ∨ (aN A (5 * p)).toInt.toNat = 4 ∨ (aN A (5 * p)).toInt.toNat = 5 by omega) with e | e | e | e | e | e <;> rw [e] <;> decide
    simp only [wio, b2.2.1, if_pos hyes, ie_m6_m5, ie_m6_m4, ie_m6_m3, ie_m6_m2, ie_m6_m1, ie_m6_0, ie_m6_1, ie_m6_2, ie_m6_3, ie_m6_4, ie_m6_5, ie_m6_6, ie_m5_m6, ie_m5_m4, ie_m5_m3, ie_m5_m2, ie_m5_m1, ie_m5_0, ie_m5_1, ie_m5_2, ie_m5_3, ie_m5_4, ie_m5_5, ie_m5_6, ie_m4_m6, ie_m4_m5, ie_m4_m3, ie_m4_m2, ie_m4_m1, ie_m4_0, ie_m4_1, ie_m4_2, ie_m4_3, ie_m4_4, ie_m4_5, ie_m4_6, ie_m3_m6, ie_m3_m5, ie_m3_m4, ie_m3_m2, ie_m3_m1, ie_m3_0, ie_m3_1, ie_m3_2, ie_m3_3, ie_m3_4, ie_m3_5, ie_m3_6, ie_m2_m6, ie_m2_m5, ie_m2_m4, ie_m2_m3, ie_m2_m1, ie_m2_0, ie_m2_1, ie_m2_2, ie_m2_3, ie_m2_4, ie_m2_5, ie_m2_6, ie_m1_m6, ie_m1_m5, ie_m1_m4, ie_m1_m3, ie_m1_m2, ie_m1_0, ie_m1_1, ie_m1_2, ie_m1_3, ie_m1_4, ie_m1_5, ie_m1_6, ie_0_m6, ie_0_m5, ie_0_m4, ie_0_m3, ie_0_m2, ie_0_m1, ie_0_1, ie_0_2, ie_0_3, ie_0_4, ie_0_5, ie_0_6, ie_1_m6, ie_1_m5, ie_1_m4, ie_1_m3, ie_1_m2, ie_1_m1, ie_1_0, ie_1_2, ie_1_3, ie_1_4, ie_1_5, ie_1_6, ie_2_m6, ie_2_m5, ie_2_m4, ie_2_m3, ie_2_m2, ie_2_m1, ie_2_0, ie_2_1, ie_2_3, ie_2_4, ie_2_5, ie_2_6, ie_3_m6, ie_3_m5, ie_3_m4, ie_3_m3, ie_3_m2, ie_3_m1, ie_3_0, ie_3_1, ie_3_2, ie_3_4, ie_3_5, ie_3_6, ie_4_m6, ie_4_m5, ie_4_m4, ie_4_m3, ie_4_m2, ie_4_m1, ie_4_0, ie_4_1, ie_4_2, ie_4_3, ie_4_5, ie_4_6, ie_5_m6, ie_5_m5, ie_5_m4, ie_5_m3, ie_5_m2, ie_5_m1, ie_5_0, ie_5_1, ie_5_2, ie_5_3, ie_5_4, ie_5_6, ie_6_m6, ie_6_m5, ie_6_m4, ie_6_m3, ie_6_m2, ie_6_m1, ie_6_0, ie_6_1, ie_6_2, ie_6_3, ie_6_4, ie_6_5, Int32.reduceToInt, Int64.reduceToInt, Int.reduceToNat, Int32.reduceAdd, Int32.reduceSub, Int32.reduceMul, Int32.reduceDiv, Int32.reduceLT, Int32.reduceLE, Int.reduceLE, Int.reduceLT, Int.reduceNeg, Int.reduceAdd, Int.reduceSub, Int.reduceMul, Int.reduceEq, Nat.reduceAdd, Nat.reduceMul, Nat.reduceLT, Nat.reduceEqDiff, true_and, and_true, and_self, false_and, and_false, if_true, if_false, ite_true, ite_false, ↓reduceIte, not_true_eq_false, not_false_eq_true, true_or, or_true, or_false, false_or, Int.cast_ofNat_Int, Int.reduceNatCast]
    rw [e] at hx
    exact x_refd w (-3) (fun w' hf hr => hx (by decide) _ w' hf hr)
  · have hh := a2.2.1
    have e : rowC A s.toInt.toNat = 1 := by unfold rowC; rw [if_neg (by omega), if_neg (fun e => by rw [e, i_m1] at hh; omega)]
    have hno : ¬ srt (aH A s.toInt.toNat) ∈ [26, 27, 28, 29, 30, 31] ∧ srt (aH A s.toInt.toNat) ∈ [1, 2, 0, 5, 4] := by
      rcases srt_c hh with ⟨-, e⟩ | ⟨-, e⟩ | ⟨-, e⟩ | ⟨-, e⟩ | ⟨-, e⟩ <;> rw [e] <;> decide
    rw [a1]
    simp only [wio, a2.2.2.2.1, if_neg hno.1, hno.2, ie_m6_m5, ie_m6_m4, ie_m6_m3, ie_m6_m2, ie_m6_m1, ie_m6_0, ie_m6_1, ie_m6_2, ie_m6_3, ie_m6_4, ie_m6_5, ie_m6_6, ie_m5_m6, ie_m5_m4, ie_m5_m3, ie_m5_m2, ie_m5_m1, ie_m5_0, ie_m5_1, ie_m5_2, ie_m5_3, ie_m5_4, ie_m5_5, ie_m5_6, ie_m4_m6, ie_m4_m5, ie_m4_m3, ie_m4_m2, ie_m4_m1, ie_m4_0, ie_m4_1, ie_m4_2, ie_m4_3, ie_m4_4, ie_m4_5, ie_m4_6, ie_m3_m6, ie_m3_m5, ie_m3_m4, ie_m3_m2, ie_m3_m1, ie_m3_0, ie_m3_1, ie_m3_2, ie_m3_3, ie_m3_4, ie_m3_5, ie_m3_6, ie_m2_m6, ie_m2_m5, ie_m2_m4, ie_m2_m3, ie_m2_m1, ie_m2_0, ie_m2_1, ie_m2_2, ie_m2_3, ie_m2_4, ie_m2_5, ie_m2_6, ie_m1_m6, ie_m1_m5, ie_m1_m4, ie_m1_m3, ie_m1_m2, ie_m1_0, ie_m1_1, ie_m1_2, ie_m1_3, ie_m1_4, ie_m1_5, ie_m1_6, ie_0_m6, ie_0_m5, ie_0_m4, ie_0_m3, ie_0_m2, ie_0_m1, ie_0_1, ie_0_2, ie_0_3, ie_0_4, ie_0_5, ie_0_6, ie_1_m6, ie_1_m5, ie_1_m4, ie_1_m3, ie_1_m2, ie_1_m1, ie_1_0, ie_1_2, ie_1_3, ie_1_4, ie_1_5, ie_1_6, ie_2_m6, ie_2_m5, ie_2_m4, ie_2_m3, ie_2_m2, ie_2_m1, ie_2_0, ie_2_1, ie_2_3, ie_2_4, ie_2_5, ie_2_6, ie_3_m6, ie_3_m5, ie_3_m4, ie_3_m3, ie_3_m2, ie_3_m1, ie_3_0, ie_3_1, ie_3_2, ie_3_4, ie_3_5, ie_3_6, ie_4_m6, ie_4_m5, ie_4_m4, ie_4_m3, ie_4_m2, ie_4_m1, ie_4_0, ie_4_1, ie_4_2, ie_4_3, ie_4_5, ie_4_6, ie_5_m6, ie_5_m5, ie_5_m4, ie_5_m3, ie_5_m2, ie_5_m1, ie_5_0, ie_5_1, ie_5_2, ie_5_3, ie_5_4, ie_5_6, ie_6_m6, ie_6_m5, ie_6_m4, ie_6_m3, ie_6_m2, ie_6_m1, ie_6_0, ie_6_1, ie_6_2, ie_6_3, ie_6_4, ie_6_5, Int32.reduceToInt, Int64.reduceToInt, Int.reduceToNat, Int32.reduceAdd, Int32.reduceSub, Int32.reduceMul, Int32.reduceDiv, Int32.reduceLT, Int32.reduceLE, Int.reduceLE, Int.reduceLT, Int.reduceNeg, Int.reduceAdd, Int.reduceSub, Int.reduceMul, Int.reduceEq, Nat.reduceAdd, Nat.reduceMul, Nat.reduceLT, Nat.reduceEqDiff, true_and, and_true, and_self, false_and, and_false, if_true, if_false, ite_true, ite_false, ↓reduceIte, not_true_eq_false, not_false_eq_true, true_or, or_true, or_false, false_or, Int.cast_ofNat_Int, Int.reduceNatCast, reduceCtorEq]
    exact hk q (by rw [e]; decide) a1 a2
theorem x_sortOf {q : Nat} {hs sz : Int32} {E : Nat → Int64} (hr : rwS w b i o q hs sz E) (k : Int32 → Wd → Prop) : wp_X0_sortOf w (some q) k = k hs w := by
  unfold wp_X0_sortOf
  have ht := hr.2.2.2.1
  rcases srt_c hr.2.1 with ⟨rfl, e⟩ | ⟨rfl, e⟩ | ⟨rfl, e⟩ | ⟨rfl, e⟩ | ⟨rfl, e⟩ <;> rw [e] at ht <;> simp [wio, ht]
end XH
