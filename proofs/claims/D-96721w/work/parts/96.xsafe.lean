/-! ===== safe, of the class ===== -/
theorem fstW_cg {Q Q' : Nat → Nat → Prop} [∀ n, DecidablePred (Q n)] [∀ n, DecidablePred (Q' n)] (h : ∀ n x, Q n x ↔ Q' n x) : ∀ d n, fstW Q d n = fstW Q' d n
  | 0, _ => rfl
  | d + 1, n => by
    simp only [fstW]
    rw [fstO_cg (h n), fstW_cg h d (n + 1)]
/-- what the shortest word leaves -/
def shoK (w : Wd) (b i : Nat) (o : Option Nat) (A : Ab) (K : Int32 → Wd → Prop) (r : Option (Nat × Nat)) : Prop := match r with
  | some (n, c) => n ≤ 6 → ∀ w', XX w' b i o A → fr (xP b) w w' → (∀ j, j < n → wI w' (b + 12) j = wrdN c n j) → K (Int32.ofNat n) w'
  | none => ∀ w', XX w' b i o A → fr (xP b) w w' → K (-1) w'
section XSF
variable {w : Wd} {b i : Nat} {o : Option Nat} {A : Ab}
theorem x_one0 (h : XX w b i o A) (K : Option Nat → Prop) : wldQ w (some (b + 10)) 7 0 K = K (some (b + 25)) := x_one h (k := 0) (by decide) K
theorem x_two0 (h : XX w b i o A) (K : Option Nat → Prop) : wldQ w (some (b + 11)) 7 0 K = K (some (b + 26)) := x_two h (k := 0) (by decide) K
theorem x_shortest (h : XX w b i o A) (hN : okN (aN A)) {p : Nat} (hp : p < pe (aN A)) {cell both l1 l2 : Int32} (hlf : (both = 0 ∧ l1 = aN A 91 ∧ l2 = aN A 91) ∨ (both = 1 ∧ l1 = 0 ∧ l2 = 1)) {K : Int32 → Wd → Prop} (hK : shoK w b i o A K (fstW (btP (aN A) p l1 l2 cell) 7 0)) : wp_X0_shortest w b (Int32.ofNat p) cell both K := by
  have hz := h.sh.z
  unfold wp_X0_shortest
  simp only [h.sh.G4, x_one0 h, h.G0, h.is.G102, h.is.G103, x_cl h hN hp, x_fc h hN hp, wnn]
  refine ⟨x_obw h (by omega), x_begins (x_tw h (by omega)) (by omega) _ _ (fun w2 hf2 hw2 _ => ?_)⟩
  have h2 := h.scP (hf2.mono (fun q x _ hp => by unfold at1 at hp; unfold xP; omega))
  have hz2 := h2.sh.z
  simp only [h2.sh.G5, h2.sh.G4, x_one0 h2, x_two0 h2]
  refine ⟨x_obw h2 (by omega), x_becomes (x_tw h2 (by omega)) (by omega) hw2 (by omega) (fun w3 hf3 hw3 _ => ?_)⟩
  have h3 := h2.scP (hf3.mono (fun q x _ hp => by unfold at1 at hp; unfold xP; omega))
  have hw2' := hw2.sc hf3 (fun q => by unfold at1; omega)
  have hf03 : fr (xP b) w w3 := (hf2.mono (fun q x _ hp => by unfold at1 at hp; unfold xP; omega)).trans (hf3.mono (fun q x _ hp => by unfold at1 at hp; unfold xP; omega))
  have key : ∀ d fl n w4, n + d = 7 → d < fl → XX w4 b i o A → fr (xP b) w w4 → brI w4 b (aN A) p l1 l2 0 0 → shoK w b i o A K (fstW (btP (aN A) p l1 l2 cell) d n) → wl_X0_shortest_47 K fl w4 b (Int32.ofNat p) cell both (Int32.ofNat n) := by
    intro d
    induction d with
    | zero =>
      intro fl n w4 hn hfl h4 hf4 hI hK4
      obtain ⟨fl, rfl⟩ : ∃ g, fl = g + 1 := ⟨fl - 1, by omega⟩
      obtain rfl : n = 7 := by omega
      rw [wl_X0_shortest_47_s]
      unfold wb_X0_shortest_47
      rw [if_pos (by decide)]
      exact hK4 w4 h4 hf4
    | succ d ih =>
      intro fl n w4 hn hfl h4 hf4 hI hK4
      obtain ⟨fl, rfl⟩ : ∃ g, fl = g + 1 := ⟨fl - 1, by omega⟩
      obtain ⟨v, hv, hvt⟩ := x_vt h4 hN hp
      rw [wl_X0_shortest_47_s]
      unfold wb_X0_shortest_47
      rw [if_neg (by rw [lt_of (by omega)]; show ¬ (6 : Int) < n; omega)]
      simp only [h4.G0, h4.is.G101, hvt]
      refine ⟨by rw [h4.sh.ob]; trivial, ?_⟩
      refine x_brings hN hp hlf (show n ≤ 6 by omega) n 0 0 8 w4 _ (by omega) (by omega) h4 hv hI ?_
      rw [Nat.zero_mul]
      simp only [fstW] at hK4
      cases hr : fstO (btP (aN A) p l1 l2 cell n) (3 ^ n) 0 with
      | some x =>
        rw [hr] at hK4
        intro w5 h5 hf5 hr5
        rw [if_neg (by decide)]
        exact hK4 (by omega) w5 h5 (hf4.trans hf5) hr5
      | none =>
        rw [hr] at hK4
        intro w5 h5 hf5 hr5
        rw [if_pos rfl, i_ofS]
        refine ih fl (n + 1) w5 (by omega) (by omega) h5 (hf4.trans (brP_P hf5)) ⟨hI.1.sc hf5 (fun q => by unfold brP; omega), hI.2.1.sc hf5 (fun q => by unfold brP; omega), fun j hj => absurd hj (Nat.not_lt_zero j)⟩ hK4
  exact key 7 FU 0 w3 (by omega) (by unfold FU; omega) h3 hf03 ⟨hw2', hw3, fun j hj => absurd hj (Nat.not_lt_zero j)⟩ hK
theorem x_safe56 (h : XX w b i o A) (hN : okN (aN A)) {p : Nat} (hp : p < pe (aN A)) {cell what at' both l1 l2 : Int32} (hlf : (both = 0 ∧ l1 = aN A 91 ∧ l2 = aN A 91) ∨ (both = 1 ∧ l1 = 0 ∧ l2 = 1)) (hQ : ∀ n c, btP (aN A) p l1 l2 cell n c ↔ safP (aN A) p cell what n c) (hat : -1 ≤ at'.toInt) {k : Int32 → Wd → Prop} (hk : xR w b i o (safA A at' (fstW (safP (aN A) p cell what) 7 0)).2 (k (safA A at' (fstW (safP (aN A) p cell what) 7 0)).1)) : wb_X0_safe_56 k w b at' (some b) (Int32.ofNat p) cell both := by
  unfold wb_X0_safe_56
  simp only [wnn]
  refine ⟨by rw [h.sh.ob]; trivial, x_shortest h hN hp hlf ?_⟩
  rw [fstW_cg hQ]
  cases hr : fstW (safP (aN A) p cell what) 7 0 with
  | none =>
    rw [hr] at hk
    intro w2 h2 hf2
    unfold safA at hk
    dsimp only at hk
    by_cases e : at' = -1
    · rw [if_pos e] at hk ⊢
      exact hk w2 h2 (xP_Q hf2)
    · rw [if_neg e] at hk ⊢
      rw [if_pos (by rw [i_le, i_m1]; exact hat)]
      exact ⟨by rw [h2.sh.ob]; trivial, x_no h2 (by decide) (fun w3 h3 hf3 => hk w3 h3 ((xP_Q hf2).trans hf3))⟩
  | some r =>
    obtain ⟨n, c⟩ := r
    rw [hr] at hk
    intro hn w2 h2 hf2 hr2
    unfold safA at hk
    dsimp only at hk
    by_cases e : at' = -1
    · rw [if_pos e] at hk ⊢
      exact hk w2 h2 (xP_Q hf2)
    · rw [if_neg e] at hk ⊢
      have e' : ¬ at'.toInt = -1 := fun q => e (by rw [i_eq]; exact q)
      by_cases c1 : (n : Int) ≤ at'.toInt
      · rw [if_pos c1] at hk
        rw [if_pos (by rw [i_le, i_ti (by omega)]; exact c1)]
        exact ⟨by rw [h2.sh.ob]; trivial, x_no h2 (by decide) (fun w3 h3 hf3 => hk w3 h3 ((xP_Q hf2).trans hf3))⟩
      · rw [if_neg c1] at hk
        rw [if_neg (by rw [i_le, i_ti (by omega)]; exact c1)]
        have hv : vp_in at' 6 := vp_iff.2 (by omega)
        simp only [h2.sh.G6, h2.sh.r12, hv, true_and, hr2 at'.toInt.toNat (by omega)]
        exact hk w2 h2 (xP_Q hf2)
theorem saf_1 {N : Nw} {p : Nat} {cell : Int32} (n c : Nat) : btP N p (N 91) (N 91) cell n c ↔ safP N p cell 1 n c := ⟨fun q => ⟨q.1, Or.inl rfl⟩, fun q => ⟨q.1, q.1⟩⟩
theorem saf_0 {N : Nw} (hN : okN N) {p : Nat} {cell : Int32} (n c : Nat) : btP N p 0 1 cell n c ↔ safP N p cell 0 n c := by
  have n01 : ¬ (0 : Int32) = 1 := by decide
  unfold btP safP
  rcases hN.2.2.1 with e | e <;> rw [e]
  · exact ⟨fun q => ⟨q.1, Or.inr q.2⟩, fun q => ⟨q.1, q.2.resolve_left n01⟩⟩
  · exact ⟨fun q => ⟨q.2, Or.inr q.1⟩, fun q => ⟨q.2.resolve_left n01, q.1⟩⟩
theorem x_safe (h : XX w b i o A) (hN : okN (aN A)) (p cell what at' : Int32) {k : Int32 → Wd → Prop} (hk : xR w b i o (F_safe A p cell what at').2 (k (F_safe A p cell what at').1)) : wp_X0_safe w b p cell what at' k := by
  unfold wp_X0_safe
  unfold F_safe at hk
  rw [h.G0]
  show wob w i [21] ∧ _
  refine ⟨by rw [h.is.ob]; trivial, ?_⟩
  rw [x_isPerson h.is hN]
  by_cases c1 : isP (aN A) p
  · rw [if_pos c1, if_neg (by decide), h.G0]
    show wob w i [21] ∧ _
    refine ⟨by rw [h.is.ob]; trivial, ?_⟩
    rw [x_isCell h.is]
    by_cases c2 : isC (aN A 90) cell
    · rw [if_pos c2, if_neg (by decide)]
      simp only [x_isIn, ie_m6_m5, ie_m6_m4, ie_m6_m3, ie_m6_m2, ie_m6_m1, ie_m6_0, ie_m6_1, ie_m6_2, ie_m6_3, ie_m6_4, ie_m6_5, ie_m6_6, ie_m5_m6, ie_m5_m4, ie_m5_m3, ie_m5_m2, ie_m5_m1, ie_m5_0, ie_m5_1, ie_m5_2, ie_m5_3, ie_m5_4, ie_m5_5, ie_m5_6, ie_m4_m6, ie_m4_m5, ie_m4_m3, ie_m4_m2, ie_m4_m1, ie_m4_0, ie_m4_1, ie_m4_2, ie_m4_3, ie_m4_4, ie_m4_5, ie_m4_6, ie_m3_m6, ie_m3_m5, ie_m3_m4, ie_m3_m2, ie_m3_m1, ie_m3_0, ie_m3_1, ie_m3_2, ie_m3_3, ie_m3_4, ie_m3_5, ie_m3_6, ie_m2_m6, ie_m2_m5, ie_m2_m4, ie_m2_m3, ie_m2_m1, ie_m2_0, ie_m2_1, ie_m2_2, ie_m2_3, ie_m2_4, ie_m2_5, ie_m2_6, ie_m1_m6, ie_m1_m5, ie_m1_m4, ie_m1_m3, ie_m1_m2, ie_m1_0, ie_m1_1, ie_m1_2, ie_m1_3, ie_m1_4, ie_m1_5, ie_m1_6, ie_0_m6, ie_0_m5, ie_0_m4, ie_0_m3, ie_0_m2, ie_0_m1, ie_0_1, ie_0_2, ie_0_3, ie_0_4, ie_0_5, ie_0_6, ie_1_m6, ie_1_m5, ie_1_m4, ie_1_m3, ie_1_m2, ie_1_m1, ie_1_0, ie_1_2, ie_1_3, ie_1_4, ie_1_5, ie_1_6, ie_2_m6, ie_2_m5, ie_2_m4, ie_2_m3, ie_2_m2, ie_2_m1, ie_2_0, ie_2_1, ie_2_3, ie_2_4, ie_2_5, ie_2_6, ie_3_m6, ie_3_m5, ie_3_m4, ie_3_m3, ie_3_m2, ie_3_m1, ie_3_0, ie_3_1, ie_3_2, ie_3_4, ie_3_5, ie_3_6, ie_4_m6, ie_4_m5, ie_4_m4, ie_4_m3, ie_4_m2, ie_4_m1, ie_4_0, ie_4_1, ie_4_2, ie_4_3, ie_4_5, ie_4_6, ie_5_m6, ie_5_m5, ie_5_m4, ie_5_m3, ie_5_m2, ie_5_m1, ie_5_0, ie_5_1, ie_5_2, ie_5_3, ie_5_4, ie_5_6, ie_6_m6, ie_6_m5, ie_6_m4, ie_6_m3, ie_6_m2, ie_6_m1, ie_6_0, ie_6_1, ie_6_2, ie_6_3, ie_6_4, ie_6_5, Int32.reduceToInt, Int64.reduceToInt, Int.reduceToNat, Int32.reduceAdd, Int32.reduceSub, Int32.reduceMul, Int32.reduceDiv, Int32.reduceLT, Int32.reduceLE, Int.reduceLE, Int.reduceLT, Int.reduceNeg, Int.reduceAdd, Int.reduceSub, Int.reduceMul, Int.reduceEq, Nat.reduceAdd, Nat.reduceMul, Nat.reduceLT, Nat.reduceEqDiff, true_and, and_true, and_self, false_and, and_false, if_true, if_false, ite_true, ite_false, ↓reduceIte, not_true_eq_false, not_false_eq_true, true_or, or_true, or_false, false_or, Int.cast_ofNat_Int, Int.reduceNatCast]
      by_cases c3 : 0 ≤ what.toInt ∧ what.toInt ≤ 1
      · rw [if_pos c3]
        by_cases c4 : -1 ≤ at'.toInt
        · rw [if_pos (by rw [i_le, i_m1]; exact c4)]
          rw [if_pos ⟨c1, c2, c3, c4⟩] at hk
          have hP := isP_nat c1
          rw [show p = Int32.ofNat p.toInt.toNat from (i_of c1.1).symm]
          generalize p.toInt.toNat = P at *
          rcases (show what.toInt = 0 ∨ what.toInt = 1 by omega) with e | e
          · obtain rfl : what = 0 := Int32.toInt_inj.1 e
            rw [if_pos rfl]
            exact x_safe56 h hN hP (Or.inr ⟨rfl, rfl, rfl⟩) (saf_0 hN) c4 hk
          · obtain rfl : what = 1 := Int32.toInt_inj.1 e
            rw [if_neg (by decide)]
            exact x_safe56 h hN hP (Or.inl ⟨rfl, rfl, rfl⟩) saf_1 c4 hk
        · rw [if_neg (by rw [i_le, i_m1]; exact c4)]
          rw [if_neg (fun q => c4 q.2.2.2)] at hk
          exact ⟨by rw [h.sh.ob]; trivial, x_no h (by decide) hk⟩
      · rw [if_neg c3]
        rw [if_neg (fun q => c3 q.2.2.1)] at hk
        exact ⟨by rw [h.sh.ob]; trivial, x_no h (by decide) hk⟩
    · rw [if_neg c2, if_pos rfl]
      rw [if_neg (fun q => c2 q.2.1)] at hk
      exact ⟨by rw [h.sh.ob]; trivial, x_no h (by decide) hk⟩
  · rw [if_neg c1, if_pos rfl]
    rw [if_neg (fun q => c1 q.1)] at hk
    exact ⟨by rw [h.sh.ob]; trivial, x_no h (by decide) hk⟩
end XSF
