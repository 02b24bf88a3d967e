/-! ===== judge, walk, of the class ===== -/
section XWALK
variable {w w' : Wd} {b i : Nat} {o : Option Nat} {A : Ab}
theorem x_judge (h : XX w b i o A) (hN : okN (aN A)) (s n : Int32) {k : Int32 → Wd → Prop} (hk : xR w b i o (F_judge A s n).2 (k (F_judge A s n).1)) : wp_X0_judge w b s n k := by
  unfold wp_X0_judge wp_X0_toldIn
  unfold F_judge at hk
  refine ⟨by rw [h.sh.ob]; trivial, ?_⟩
  have thr : ∀ (c : Int32) (q : Nat) (w2 : Wd), (-6 ≤ c.toInt ∧ c.toInt ≤ 0) → xR w b i o (bump A c) (k c) → fr x0 w w2 → rfd w2 q c → wb_X0_judge_11 k w2 b (some q) := by
    intro c q w2 hc hk2 hf hr
    unfold wb_X0_judge_11
    exact x_hand (h.sc0 hf) hr hc (fun w3 h3 hf3 => hk2 w3 h3 ((xP_Q (x0_P hf)).trans hf3))
  rw [if_neg (by decide), x_isShelfE]
  by_cases c1 : isS s
  · rw [if_pos c1, if_neg (by decide)]
    simp only [x_isIn, ie_m6_m5, ie_m6_m4, ie_m6_m3, ie_m6_m2, ie_m6_m1, ie_m6_0, ie_m6_1, ie_m6_2, ie_m6_3, ie_m6_4, ie_m6_5, ie_m6_6, ie_m5_m6, ie_m5_m4, ie_m5_m3, ie_m5_m2, ie_m5_m1, ie_m5_0, ie_m5_1, ie_m5_2, ie_m5_3, ie_m5_4, ie_m5_5, ie_m5_6, ie_m4_m6, ie_m4_m5, ie_m4_m3, ie_m4_m2, ie_m4_m1, ie_m4_0, ie_m4_1, ie_m4_2, ie_m4_3, ie_m4_4, ie_m4_5, ie_m4_6, ie_m3_m6, ie_m3_m5, ie_m3_m4, ie_m3_m2, ie_m3_m1, ie_m3_0, ie_m3_1, ie_m3_2, ie_m3_3, ie_m3_4, ie_m3_5, ie_m3_6, ie_m2_m6, ie_m2_m5, ie_m2_m4, ie_m2_m3, ie_m2_m1, ie_m2_0, ie_m2_1, ie_m2_2, ie_m2_3, ie_m2_4, ie_m2_5, ie_m2_6, ie_m1_m6, ie_m1_m5, ie_m1_m4, ie_m1_m3, ie_m1_m2, ie_m1_0, ie_m1_1, ie_m1_2, ie_m1_3, ie_m1_4, ie_m1_5, ie_m1_6, ie_0_m6, ie_0_m5, ie_0_m4, ie_0_m3, ie_0_m2, ie_0_m1, ie_0_1, ie_0_2, ie_0_3, ie_0_4, ie_0_5, ie_0_6, ie_1_m6, ie_1_m5, ie_1_m4, ie_1_m3, ie_1_m2, ie_1_m1, ie_1_0, ie_1_2, ie_1_3, ie_1_4, ie_1_5, ie_1_6, ie_2_m6, ie_2_m5, ie_2_m4, ie_2_m3, ie_2_m2, ie_2_m1, ie_2_0, ie_2_1, ie_2_3, ie_2_4, ie_2_5, ie_2_6, ie_3_m6, ie_3_m5, ie_3_m4, ie_3_m3, ie_3_m2, ie_3_m1, ie_3_0, ie_3_1, ie_3_2, ie_3_4, ie_3_5, ie_3_6, ie_4_m6, ie_4_m5, ie_4_m4, ie_4_m3, ie_4_m2, ie_4_m1, ie_4_0, ie_4_1, ie_4_2, ie_4_3, ie_4_5, ie_4_6, ie_5_m6, ie_5_m5, ie_5_m4, ie_5_m3, ie_5_m2, ie_5_m1, ie_5_0, ie_5_1, ie_5_2, ie_5_3, ie_5_4, ie_5_6, ie_6_m6, ie_6_m5, ie_6_m4, ie_6_m3, ie_6_m2, ie_6_m1, ie_6_0, ie_6_1, ie_6_2, ie_6_3, ie_6_4, ie_6_5, Int32.reduceToInt, Int64.reduceToInt, Int.reduceToNat, Int32.reduceAdd, Int32.reduceSub, Int32.reduceMul, Int32.reduceDiv, Int32.reduceLT, Int32.reduceLE, Int.reduceLE, Int.reduceLT, Int.reduceNeg, Int.reduceAdd, Int.reduceSub, Int.reduceMul, Int.reduceEq, Nat.reduceAdd, Nat.reduceMul, Nat.reduceLT, Nat.reduceEqDiff, true_and, and_true, and_self, false_and, and_false, if_true, if_false, ite_true, ite_false, ↓reduceIte, not_true_eq_false, not_false_eq_true, true_or, or_true, or_false, false_or, Int.cast_ofNat_Int, Int.reduceNatCast]
    by_cases c2 : 0 ≤ n.toInt ∧ n.toInt ≤ 40
    · rw [if_pos c2]
      rw [if_pos ⟨c1, c2⟩] at hk
      refine ⟨by rw [h.sh.ob]; trivial, x_rowIn h hN c1 (fun c q w2 hf hr => ?_) (fun q c hg hr => ?_)⟩
      · rw [if_neg (by omega)] at hk
        refine thr _ q w2 ?_ hk hf hr
        rcases rowC_c A s.toInt.toNat with e | e | e
        · rw [e]; decide
        · rw [e]; decide
        · rw [e] at c; exact absurd c (by decide)
      · rw [if_pos c] at hk
        refine x_elementsIn hr c2 (fun hlt q' w2 hf hrf => ?_) (fun hle w2 hf hl => ?_)
        · rw [if_neg (by omega)] at hk
          exact thr _ q' w2 (by decide) hk hf hrf
        · rw [if_pos hle] at hk
          exact x_wrongIn hl (by omega) (hk w2 (h.sc0 hf) (xP_Q (x0_P hf)))
    · rw [if_neg c2]
      rw [if_neg (fun e => c2 e.2)] at hk
      exact x_refd w (-2) (fun w2 hf hr => thr _ _ w2 (by decide) hk hf hr)
  · rw [if_neg c1, if_pos rfl]
    rw [if_neg (fun e => c1 e.1)] at hk
    exact x_refd w (-2) (fun w2 hf hr => thr _ _ w2 (by decide) hk hf hr)
theorem up1_comm {α : Type} {f : Nat → α} {a c : Nat} {x y : α} (h : ¬ a = c) : up1 (up1 f a x) c y = up1 (up1 f c y) a x := funext fun k => by
  unfold up1
  by_cases e : k = c
  · rw [if_pos e, if_neg (fun q => h (by omega)), if_pos e]
  · rw [if_neg e]
    by_cases e2 : k = a
    · rw [if_pos e2, if_pos e2]
    · rw [if_neg e2, if_neg e2, if_neg e]
theorem runW_stay {N : Nw} {kd lf : Int32} {p : Nat} {T : Nat → Int32} {u : Wk} {j : Nat} (h : ¬ uL (runW N kd lf p T u j) = -1) : ∀ d, runW N kd lf p T u (j + d) = runW N kd lf p T u j ∧ dryW N kd lf p T u (j + d) = dryW N kd lf p T u j
  | 0 => ⟨rfl, rfl⟩
  | d + 1 => by
    have ih := runW_stay h d
    refine ⟨?_, ?_⟩
    · show stp N kd lf p (runW N kd lf p T u (j + d)) _ _ = _
      rw [ih.1]
      unfold stp
      rw [if_neg h]
    · show (if uL (runW N kd lf p T u (j + d)) = -1 then _ else dryW N kd lf p T u (j + d)) = _
      rw [ih.1, if_neg h, ih.2]
theorem x_walkEnd (h : XX w b i o A) (hN : okN (aN A)) {P : Nat} (hP : P < pe (aN A)) {u : Wk} {n : Int32} (hw : wlk w (b + 8) u n) (c : Int32) (hc : c = if uL u = -1 then uC u else wF w (b + 8) 207) {k : Int32 → Wd → Prop} (hk : xR w b i o (zN A (up1 (up1 (up1 (aN A) (5 * P + 2) c) (5 * P + 3) (uF u)) 95 (aN A 95 + if uL u = -1 then 0 else 1))) (k c)) : wb_X0_walk_103 k w b (Int32.ofNat P) := by
  have h8 := hN.pe8
  have hz := h.sh.z
  have hiz := h.is.z
  have hv : vp_in (Int32.ofNat P) 8 := vp_iff.2 (by rw [i_ti (by omega)]; omega)
  have hPn : (Int32.ofNat P).toInt.toNat = P := i_tt (by omega)
  have g127 : ∀ s2 : Int32, s2 = (if uL u = -1 then 0 else 1) → wb_X0_walk_127 k w b (Int32.ofNat P) (some i) (aN A 95) s2 := by
    intro s2 hs2
    unfold wb_X0_walk_127
    rw [h.is.pF]
    have u1 := h.upF (h.is.wFell h8 (aN A 95 + s2)) (pe_up (by decide))
    have hf1 : fr (isP7 i) w (sF w i 109 (aN A 95 + s2)) := (fr.refl _ _).sF (fun _ => ⟨Nat.le_refl _, by omega⟩)
    have hn8 : ∀ k, ¬ isP7 i (b + 8) k := fun k hp => by unfold isP7 at hp; omega
    have hw1 := hw.sc hf1 (fun k => hn8 k)
    have e7 : wF (sF w i 109 (aN A 95 + s2)) (b + 8) 207 = wF w (b + 8) 207 := hf1.F (by omega) (hn8 207)
    generalize sF w i 109 (aN A 95 + s2) = w1 at *
    have g167 : wb_X0_walk_167 k w1 b (Int32.ofNat P) (some (i + 3)) (Int32.ofNat P) c := by
      unfold wb_X0_walk_167
      simp only [u1.1.is.w3, hv, hPn, true_and]
      have hP1 : P < pe (aN (zN A (up1 (aN A) 95 (aN A 95 + s2)))) := by rw [aN_zN, pe_up (by decide)]; exact hP
      have h81 : pe (aN (zN A (up1 (aN A) 95 (aN A 95 + s2)))) ≤ 8 := by rw [aN_zN, pe_up (by decide)]; exact h8
      have u2 := u1.1.upI (a := i + 3) (by omega) (u1.1.is.wP h81 (d := 2) (by decide) hP1 c) (pe_up (by omega))
      have hf2 : fr (isP7 i) w1 (sI w1 (i + 3) P c) := (fr.refl _ _).sI (fun _ => ⟨by omega, by omega⟩)
      have hw2 := hw1.sc hf2 (fun k => hn8 k)
      simp only [u2.1.G0, u2.1.is.G103, u2.1.sh.G2, hw2.gF, hw2.2.2.1, u2.1.is.w4, hv, hPn, true_and]
      have hP2 : P < pe (aN (zN (zN A (up1 (aN A) 95 (aN A 95 + s2))) (up1 (aN (zN A (up1 (aN A) 95 (aN A 95 + s2)))) (5 * P + 2) c))) := by rw [aN_zN, pe_up (by omega)]; exact hP1
      have u3 := u2.1.upI (a := i + 4) (by omega) (u2.1.is.wP (by rw [aN_zN, pe_up (by omega)]; exact h81) (d := 3) (by decide) hP2 (uF u)) (pe_up (by omega))
      have hP3 : P < pe (aN (zN (zN (zN A (up1 (aN A) 95 (aN A 95 + s2))) (up1 (aN (zN A (up1 (aN A) 95 (aN A 95 + s2)))) (5 * P + 2) c)) (up1 (aN (zN (zN A (up1 (aN A) 95 (aN A 95 + s2))) (up1 (aN (zN A (up1 (aN A) 95 (aN A 95 + s2)))) (5 * P + 2) c))) (5 * P + 3) (uF u)))) := by rw [aN_zN, pe_up (by omega)]; exact hP2
      simp only [u3.1.G0, u3.1.is.G102, u3.1.is.r3, hv, hPn, true_and, (u3.1.is.p3 hP3).1]
      simp only [aN_zN, zN_zN] at u3 ⊢
      have ec : up1 (up1 (up1 (aN A) 95 (aN A 95 + s2)) (5 * P + 2) c) (5 * P + 3) (uF u) (5 * P + 2) = c := by
        rw [up1_ne (by omega), up1_eq]
      rw [ec]
      rw [up1_comm (show ¬ 95 = 5 * P + 2 by omega), up1_comm (show ¬ 95 = 5 * P + 3 by omega)] at u3
      rw [← hs2] at hk
      exact hk _ u3.1 ((u1.2.trans u2.2).trans u3.2)
    simp only [u1.1.G0, u1.1.is.G102, u1.1.sh.G2, hw1.gF, hw1.2.2.2.2.2.2.2, hw1.2.1, e7]
    by_cases e : uL u = -1
    · rw [if_pos e] at hc ⊢
      rw [← hc]
      exact g167
    · rw [if_neg e] at hc ⊢
      rw [← hc]
      exact g167
  unfold wb_X0_walk_103
  simp only [h.G0, h.is.F109, h.sh.G2, hw.gF, hw.2.2.2.2.2.2.2]
  by_cases e : uL u = -1
  · rw [if_pos e]
    exact g127 0 (if_pos e).symm
  · rw [if_neg e]
    exact g127 1 (if_neg e).symm
theorem x_walk (h : XX w b i o A) (hN : okN (aN A)) (s n p : Int32) {k : Int32 → Wd → Prop} (hk : xR w b i o (F_walk A s n p).2 (k (F_walk A s n p).1)) : wp_X0_walk w b s n p k := by
  have hz := h.sh.z
  unfold wp_X0_walk
  unfold F_walk at hk
  rw [h.G0]
  show wob w i [21] ∧ _
  refine ⟨by rw [h.is.ob]; trivial, ?_⟩
  have body : ∀ wl : Int32, (¬ wl = 0 ↔ isP (aN A) p) → wp_X0_signsIn w b wl s n (fun q7 w8 => wb_X0_walk_194 k w8 b (some q7)) (fun v5 w6 => wgG w6 (some b) [20] 2 (fun v12 => wgG w6 (some b) [20] 0 (fun v13 => wgG w6 v13 [21] 102 (fun v14 => wld w6 v14 0 p (fun v15 => wgG w6 (some b) [20] 0 (fun v16 => wgG w6 v16 [21] 103 (fun v17 => wld w6 v17 0 p (fun v18 => wnn v12 (fun b21 => wob w6 b21 [22] ∧ wp_X2_begins w6 b21 v15 v18 (fun v19 w20 => wl_X0_walk_45 k FU w20 b n p v5 0)))))))))) := by
    intro wl hwl
    refine x_signsIn h hN (isP (aN A) p) hwl (fun hc q w1 hf1 hr => ?_) (fun hc t w1 hf1 ht hl0 => ?_)
    · rw [if_neg (by omega)] at hk
      have hb := (loadF_c A (isP (aN A) p) s n).resolve_left (by omega)
      unfold wb_X0_walk_194
      exact x_hand (h.sc0 hf1) hr (by omega) (fun w2 h2 hf2 => hk w2 h2 ((xP_Q (x0_P hf1)).trans hf2))
    · rw [if_pos hc] at hk
      have hl1 := loadF_1 hc
      have h1 := h.sc0 hf1
      have hp := hl1.2.2.1
      have hn := hl1.2.1
      have hp8 := isP_8 hN hp
      have hP := isP_nat hp
      have hl : tld w1 b t (elA A s) n.toInt.toNat := ⟨⟨hl0, by omega⟩, by omega, fun j hj => loadF_s hc j hj⟩
      rw [show p = Int32.ofNat p.toInt.toNat from (i_of hp8.1).symm]
      generalize p.toInt.toNat = P at *
      simp only [h1.G0, h1.sh.G2, h1.is.G102, h1.is.G103, x_cl h1 hN hP, x_fc h1 hN hP]
      have hz1 := h1.sh.z
      show wob w1 (b + 8) [22] ∧ _
      refine ⟨by rw [h1.sh.obW8]; trivial, x_begins h1.sh.t8 (by omega) _ _ (fun w2 hf2 hw2 _ => ?_)⟩
      have fin : ∀ (w3 : Wd) (j : Nat), j ≤ n.toInt.toNat → lpI w1 b i o A t s n w3 → wlk w3 (b + 8) (wlA A P s j) (Int32.ofNat j) → (¬ uL (wlA A P s j) = -1 → wF w3 (b + 8) 207 = dryW (aN A) (aN A (5 * P)) (aN A 91) P (tlg A s) (beg (aN A (5 * P + 2)) (aN A (5 * P + 3))) j) → (j = n.toInt.toNat ∨ ¬ uL (wlA A P s j) = -1) → wb_X0_walk_103 k w3 b (Int32.ofNat P) := by
        intro w3 j hj h3 hw3 h7 hend
        have eg : goA A P s n = wlA A P s j ∧ dryW (aN A) (aN A (5 * P)) (aN A 91) P (tlg A s) (beg (aN A (5 * P + 2)) (aN A (5 * P + 3))) n.toInt.toNat = dryW (aN A) (aN A (5 * P)) (aN A 91) P (tlg A s) (beg (aN A (5 * P + 2)) (aN A (5 * P + 3))) j := by
          rcases hend with e | e
          · rw [e]; exact ⟨rfl, rfl⟩
          · have := runW_stay e (n.toInt.toNat - j)
            rw [show j + (n.toInt.toNat - j) = n.toInt.toNat by omega] at this
            exact this
        refine x_walkEnd h3.1 hN hP hw3 (wkC A P s n) ?_ (fun w4 h4 hf4 => hk w4 ?_ (((xP_Q (x0_P hf1)).trans (xP_Q h3.2.1)).trans hf4))
        · unfold wkC
          rw [eg.1, eg.2]
          by_cases e : uL (wlA A P s j) = -1
          · rw [if_pos e, if_pos e]
          · rw [if_neg e, if_neg e, h7 e]
        · unfold wkN
          rw [eg.1]
          exact h4
      have h2 : lpI w1 b i o A t s n w2 := ⟨h1.scP (at8_P hf2), at8_P hf2, hl.sc (at8_P hf2)⟩
      have key : ∀ d fu j w3, j + d = n.toInt.toNat → d < fu → lpI w1 b i o A t s n w3 → wlk w3 (b + 8) (wlA A P s j) (Int32.ofNat j) → (¬ uL (wlA A P s j) = -1 → wF w3 (b + 8) 207 = dryW (aN A) (aN A (5 * P)) (aN A 91) P (tlg A s) (beg (aN A (5 * P + 2)) (aN A (5 * P + 3))) j) → wl_X0_walk_45 k fu w3 b n (Int32.ofNat P) (some t) (Int32.ofNat j) := by
        intro d
        induction d with
        | zero =>
          intro fu j w3 hj hfu h3 hw3 h7
          obtain ⟨fu, rfl⟩ : ∃ g, fu = g + 1 := ⟨fu - 1, by omega⟩
          rw [wl_X0_walk_45_s]
          unfold wb_X0_walk_45
          rw [if_pos (by rw [le_of (by omega)]; omega)]
          exact fin w3 j (by omega) h3 hw3 h7 (Or.inl (by omega))
        | succ d ih =>
          intro fu j w3 hj hfu h3 hw3 h7
          obtain ⟨fu, rfl⟩ : ∃ g, fu = g + 1 := ⟨fu - 1, by omega⟩
          obtain ⟨v, hv, hvt⟩ := x_vt h3.1 hN hP
          rw [wl_X0_walk_45_s]
          unfold wb_X0_walk_45
          rw [if_neg (by rw [le_of (by omega)]; omega)]
          simp only [h3.1.G0, h3.1.sh.G2, hw3.gF, hw3.2.2.2.2.2.2.2]
          by_cases e : uL (wlA A P s j) = -1
          · rw [if_pos e]
            rw [h3.1.is.G101, hvt, h3.2.2.1.1.rd (by omega) (by omega), h3.1.is.G105, x_t0 h3.1]
            show wob w3 (b + 8) [22] ∧ _
            refine ⟨by rw [h3.1.sh.obW8]; trivial, x_stP h3.1 hN hP hv (by omega) hw3 (wlA_ok (N := aN A) hN hP s j (by omega)) (h3.2.2.2.2 j (by omega)) (fun w4 hf4 hw4 h7' => ?_)⟩
            rw [i_ofS] at hw4 ⊢
            refine ih fu (j + 1) w4 (by omega) (by omega) (h3.step hf4) hw4 (fun _ => ?_)
            rw [h7']
            show _ = (if uL (wlA A P s j) = -1 then uC (wlA A P s j) else _)
            rw [if_pos e]
          · rw [if_neg e]
            exact fin w3 j (by omega) h3 hw3 h7 (Or.inr e)
      exact key n.toInt.toNat FU 0 w2 (by omega) (by unfold FU; omega) h2 hw2 (fun e => absurd rfl e)
  rw [x_isPerson h.is hN]
  by_cases hp : isP (aN A) p
  · rw [if_pos hp]
    exact ⟨by rw [h.sh.ob]; trivial, body 1 (one_iff hp)⟩
  · rw [if_neg hp]
    exact ⟨by rw [h.sh.ob]; trivial, body 0 (zero_iff hp)⟩
end XWALK
