/-! ===== meet, waits, of the class ===== -/
section XBOTH
variable {w w' : Wd} {b i : Nat} {o : Option Nat} {A : Ab}
theorem x_rowFor (h : XX w b i o A) (hN : okN (aN A)) {s t : Int32} (hs : isS s) (ht : isS t) {X : Nat → Wd → Prop} {k : Option Nat → Wd → Prop} (hx : ∀ q w', fr x0 w w' → (10 ≤ (aH A s.toInt.toNat).toInt ∨ 10 ≤ (aH A t.toInt.toNat).toInt) → rfd w' q (-3) → X q w') (hx2 : ∀ q w', fr x0 w w' → ¬ (10 ≤ (aH A s.toInt.toNat).toInt ∨ 10 ≤ (aH A t.toInt.toNat).toInt) → aH A s.toInt.toNat = -1 → rfd w' q (-4) → X q w') (hk : ∀ q, ¬ (10 ≤ (aH A s.toInt.toNat).toInt ∨ 10 ≤ (aH A t.toInt.toNat).toInt) → ¬ aH A s.toInt.toNat = -1 → rwS w b i o q (aH A s.toInt.toNat) (aS A s.toInt.toNat) (fun k => aE A (40 * s.toInt.toNat + k)) → k (some q) w) : wp_X0_rowFor w b s t X k := by
  have hs8 : s.toInt.toNat < 8 := by omega
  have ht8 : t.toInt.toNat < 8 := by omega
  unfold wp_X0_rowFor
  simp only [h.sh.G8, x_shG h hs, x_shG h ht, x_held h hs8, x_held h ht8]
  rw [x_isV h hN hs8]
  by_cases d1 : 10 ≤ (aH A s.toInt.toNat).toInt
  · rw [if_pos d1, if_neg (by decide)]
    exact x_refd w (-3) (fun w2 hf hr => hx _ w2 hf (Or.inl d1) hr)
  · rw [if_neg d1, if_pos rfl, x_isV h hN ht8]
    by_cases d2 : 10 ≤ (aH A t.toInt.toNat).toInt
    · rw [if_pos d2, if_neg (by decide)]
      exact x_refd w (-3) (fun w2 hf hr => hx _ w2 hf (Or.inr d2) hr)
    · rw [if_neg d2, if_pos rfl]
      have hd : ¬ (10 ≤ (aH A s.toInt.toNat).toInt ∨ 10 ≤ (aH A t.toInt.toNat).toInt) := fun e => e.elim d1 d2
      refine ⟨by rw [h.sh.ob]; trivial, x_rowIn h hN hs (fun hc q w2 hf hr => ?_) (fun q hc hg hr => ?_)⟩
      · unfold rowC at hc hr
        rw [if_neg d1] at hc hr
        by_cases d3 : aH A s.toInt.toNat = -1
        · rw [if_pos d3] at hr
          exact hx2 q w2 hf hd d3 hr
        · rw [if_neg d3] at hc
          exact absurd hc (by decide)
      · refine hk q hd (fun e => ?_) hr
        have := hr.2.1
        rw [e] at this
        exact absurd this.1 (by decide)
theorem x_both (h : XX w b i o A) (hN : okN (aN A)) (s n p t m' q l7 : Int32) {k : Int32 → Wd → Prop} (hbad : (bothC A s n p t m' q).toInt < 0 → xR w b i o (bump A (bothC A s n p t m' q)) (k (bothC A s n p t m' q))) (hk : 0 ≤ (bothC A s n p t m' q).toInt → ∀ (w1 : Wd) (t1 t2 P Q : Nat), XX w1 b i o A → fr x0 w w1 → p = Int32.ofNat P → q = Int32.ofNat Q → P = p.toInt.toNat → Q = q.toInt.toNat → P < pe (aN A) → Q < pe (aN A) → tld w1 b t1 (elA A s) n.toInt.toNat → tld w1 b t2 (elA A t) m'.toInt.toNat → (if l7 = 0 then wl_X0_both_154 k FU w1 b p q (some t1) (some t2) 0 else wob w1 b [20] ∧ wp_X0_met w1 b p (some t1) q (some t2) 0 (fun v52 w53 => k v52 w53))) : wp_X0_both w b s n p t m' q l7 k := by
  have hz := h.sh.z
  have hFU : FU = 999 + 1 := rfl
  have thr : ∀ (c : Int32) (x : Nat) (w2 : Wd), bothC A s n p t m' q = c → (-6 ≤ c.toInt ∧ c.toInt < 0) → fr x0 w w2 → rfd w2 x c → wb_X0_both_189 k w2 b (some x) := by
    intro c x w2 hc hcc hf hr
    subst hc
    unfold wb_X0_both_189
    exact x_hand (h.sc0 hf) hr (by omega) (fun w3 h3 hf3 => hbad hcc.2 w3 h3 ((xP_Q (x0_P hf)).trans hf3))
  have bad2 : ¬ (isS s ∧ isS t ∧ (0 ≤ n.toInt ∧ n.toInt ≤ 40) ∧ (0 ≤ m'.toInt ∧ m'.toInt ≤ 40) ∧ isP (aN A) p ∧ isP (aN A) q ∧ ¬ p = q) → ∀ (x : Nat) (w2 : Wd), fr x0 w w2 → rfd w2 x (-2) → wb_X0_both_189 k w2 b (some x) := fun hn x w2 hf hr => thr (-2) x w2 (by unfold bothC; rw [if_neg hn]) (by decide) hf hr
  have g40 : ¬ (isS s ∧ isS t ∧ (0 ≤ n.toInt ∧ n.toInt ≤ 40) ∧ (0 ≤ m'.toInt ∧ m'.toInt ≤ 40) ∧ isP (aN A) p ∧ isP (aN A) q ∧ ¬ p = q) → wb_X0_both_40 k w b s n p t m' q l7 := by
    intro hn
    unfold wb_X0_both_40 wb_X0_both_41
    rw [if_pos rfl]
    exact x_refd w (-2) (fun w2 hf hr => bad2 hn _ w2 hf hr)
  unfold wp_X0_both
  rw [x_isShelfE]
  by_cases c1 : isS s
  · rw [if_pos c1, if_neg (by decide), x_isShelfE]
    by_cases c2 : isS t
    · rw [if_pos c2, if_neg (by decide)]
      simp only [x_isIn, ie_m6_m5, ie_m6_m4, ie_m6_m3, ie_m6_m2, ie_m6_m1, ie_m6_0, ie_m6_1, ie_m6_2, ie_m6_3, ie_m6_4, ie_m6_5, ie_m6_6, ie_m5_m6, ie_m5_m4, ie_m5_m3, ie_m5_m2, ie_m5_m1, ie_m5_0, ie_m5_1, ie_m5_2, ie_m5_3, ie_m5_4, ie_m5_5, ie_m5_6, ie_m4_m6, ie_m4_m5, ie_m4_m3, ie_m4_m2, ie_m4_m1, ie_m4_0, ie_m4_1, ie_m4_2, ie_m4_3, ie_m4_4, ie_m4_5, ie_m4_6, ie_m3_m6, ie_m3_m5, ie_m3_m4, ie_m3_m2, ie_m3_m1, ie_m3_0, ie_m3_1, ie_m3_2, ie_m3_3, ie_m3_4, ie_m3_5, ie_m3_6, ie_m2_m6, ie_m2_m5, ie_m2_m4, ie_m2_m3, ie_m2_m1, ie_m2_0, ie_m2_1, ie_m2_2, ie_m2_3, ie_m2_4, ie_m2_5, ie_m2_6, ie_m1_m6, ie_m1_m5, ie_m1_m4, ie_m1_m3, ie_m1_m2, ie_m1_0, ie_m1_1, ie_m1_2, ie_m1_3, ie_m1_4, ie_m1_5, ie_m1_6, ie_0_m6, ie_0_m5, ie_0_m4, ie_0_m3, ie_0_m2, ie_0_m1, ie_0_1, ie_0_2, ie_0_3, ie_0_4, ie_0_5, ie_0_6, ie_1_m6, ie_1_m5, ie_1_m4, ie_1_m3, ie_1_m2, ie_1_m1, ie_1_0, ie_1_2, ie_1_3, ie_1_4, ie_1_5, ie_1_6, ie_2_m6, ie_2_m5, ie_2_m4, ie_2_m3, ie_2_m2, ie_2_m1, ie_2_0, ie_2_1, ie_2_3, ie_2_4, ie_2_5, ie_2_6, ie_3_m6, ie_3_m5, ie_3_m4, ie_3_m3, ie_3_m2, ie_3_m1, ie_3_0, ie_3_1, ie_3_2, ie_3_4, ie_3_5, ie_3_6, ie_4_m6, ie_4_m5, ie_4_m4, ie_4_m3, ie_4_m2, ie_4_m1, ie_4_0, ie_4_1, ie_4_2, ie_4_3, ie_4_5, ie_4_6, ie_5_m6, ie_5_m5, ie_5_m4, ie_5_m3, ie_5_m2, ie_5_m1, ie_5_0, ie_5_1, ie_5_2, ie_5_3, ie_5_4, ie_5_6, ie_6_m6, ie_6_m5, ie_6_m4, ie_6_m3, ie_6_m2, ie_6_m1, ie_6_0, ie_6_1, ie_6_2, ie_6_3, ie_6_4, ie_6_5, Int32.reduceToInt, Int64.reduceToInt, Int.reduceToNat, Int32.reduceAdd, Int32.reduceSub, Int32.reduceMul, Int32.reduceDiv, Int32.reduceLT, Int32.reduceLE, Int.reduceLE, Int.reduceLT, Int.reduceNeg, Int.reduceAdd, Int.reduceSub, Int.reduceMul, Int.reduceEq, Nat.reduceAdd, Nat.reduceMul, Nat.reduceLT, Nat.reduceEqDiff, true_and, and_true, and_self, false_and, and_false, if_true, if_false, ite_true, ite_false, ↓reduceIte, not_true_eq_false, not_false_eq_true, true_or, or_true, or_false, false_or, Int.cast_ofNat_Int, Int.reduceNatCast]
      by_cases c3 : 0 ≤ n.toInt ∧ n.toInt ≤ 40
      · rw [if_pos c3]
        by_cases c4 : 0 ≤ m'.toInt ∧ m'.toInt ≤ 40
        · rw [if_pos c4]
          unfold wb_X0_both_41
          rw [if_neg (by decide), h.G0]
          show wob w i [21] ∧ _
          refine ⟨by rw [h.is.ob]; trivial, ?_⟩
          rw [x_isPerson h.is hN]
          by_cases c5 : isP (aN A) p
          · rw [if_pos c5, if_neg (by decide), h.G0]
            show wob w i [21] ∧ _
            refine ⟨by rw [h.is.ob]; trivial, ?_⟩
            rw [x_isPerson h.is hN]
            by_cases c6 : isP (aN A) q
            · rw [if_pos c6, if_neg (by decide)]
              by_cases c7 : p = q
              · rw [if_pos c7]
                exact x_refd w (-2) (fun w2 hf hr => bad2 (fun e => e.2.2.2.2.2.2 c7) _ w2 hf hr)
              · rw [if_neg c7]
                have hall : isS s ∧ isS t ∧ (0 ≤ n.toInt ∧ n.toInt ≤ 40) ∧ (0 ≤ m'.toInt ∧ m'.toInt ≤ 40) ∧ isP (aN A) p ∧ isP (aN A) q ∧ ¬ p = q := ⟨c1, c2, c3, c4, c5, c6, c7⟩
                have ec : bothC A s n p t m' q = (if 10 ≤ (aH A s.toInt.toNat).toInt ∨ 10 ≤ (aH A t.toInt.toNat).toInt then -3 else if aH A s.toInt.toNat = -1 ∨ aH A t.toInt.toNat = -1 then -4 else if (aS A s.toInt.toNat).toInt < n.toInt ∨ (aS A t.toInt.toNat).toInt < m'.toInt then -2 else if sgn A s n ∧ sgn A t m' then 1 else -5) := by unfold bothC; rw [if_pos hall]
                have hp8 := isP_8 hN c5
                have hq8 := isP_8 hN c6
                refine ⟨by rw [h.sh.ob]; trivial, x_rowFor h hN c1 c2 (fun x w2 hf d hr => thr (-3) x w2 (by rw [ec, if_pos d]) (by decide) hf hr) (fun x w2 hf d d3 hr => thr (-4) x w2 (by rw [ec, if_neg d, if_pos (Or.inl d3)]) (by decide) hf hr) (fun r1 d d3 hr1 => ?_)⟩
                refine ⟨by rw [h.sh.ob]; trivial, x_rowIn h hN c2 (fun hc x w2 hf hr => ?_) (fun r2 hc2 hg2 hr2 => ?_)⟩
                · unfold rowC at hc hr
                  rw [if_neg (fun e => d (Or.inr e))] at hc hr
                  by_cases d4 : aH A t.toInt.toNat = -1
                  · rw [if_pos d4] at hr
                    exact thr (-4) x w2 (by rw [ec, if_neg d, if_pos (Or.inr d4)]) (by decide) hf hr
                  · rw [if_neg d4] at hc
                    exact absurd hc (by decide)
                · have d4 : ¬ aH A t.toInt.toNat = -1 := fun e => by
                    have := hr2.2.1
                    rw [e] at this
                    exact absurd this.1 (by decide)
                  have d34 : ¬ (aH A s.toInt.toNat = -1 ∨ aH A t.toInt.toNat = -1) := fun e => e.elim d3 d4
                  rw [if_neg d, if_neg d34] at ec
                  refine x_elementsIn hr1 c3 (fun hlt x w2 hf hr => thr (-2) x w2 (by rw [ec, if_pos (Or.inl hlt)]) (by decide) hf hr) (fun hle w2 hf2 hl2 => ?_)
                  have hz2 := hf2.z
                  refine x_elementsIn (hr2.sc hf2 (fun hp => hp)) c4 (fun hlt x w3 hf hr => thr (-2) x w3 (by rw [ec, if_pos (Or.inr hlt)]) (by decide) (hf2.trans hf) hr) (fun hle2 w3 hf3 hl3 => ?_)
                  rw [if_neg (by omega)] at ec
                  have hl2' := hl2.sc hf3 (fun hp => hp)
                  refine x_signs hl2' (by omega) (fun s1 => ?_) (fun s1 x w4 hf hr => thr (-5) x w4 (by rw [ec, if_neg (fun e => s1 e.1)]) (by decide) ((hf2.trans hf3).trans hf) hr)
                  refine x_signs hl3 (by omega) (fun s2 => ?_) (fun s2 x w4 hf hr => thr (-5) x w4 (by rw [ec, if_neg (fun e => s2 e.2)]) (by decide) ((hf2.trans hf3).trans hf) hr)
                  rw [if_pos ⟨s1, s2⟩] at ec
                  exact hk (by rw [ec]; decide) w3 _ _ p.toInt.toNat q.toInt.toNat (h.sc0 (hf2.trans hf3)) (hf2.trans hf3) (i_of hp8.1).symm (i_of hq8.1).symm rfl rfl (isP_nat c5) (isP_nat c6) ⟨⟨hl2', by omega⟩, by omega, fun j hj => sgn_c (s1 j hj)⟩ ⟨⟨hl3, by omega⟩, by omega, fun j hj => sgn_c (s2 j hj)⟩
            · rw [if_neg c6, if_pos rfl]
              exact x_refd w (-2) (fun w2 hf hr => bad2 (fun e => c6 e.2.2.2.2.2.1) _ w2 hf hr)
          · rw [if_neg c5, if_pos rfl]
            exact x_refd w (-2) (fun w2 hf hr => bad2 (fun e => c5 e.2.2.2.2.1) _ w2 hf hr)
        · rw [if_neg c4]
          exact g40 (fun e => c4 e.2.2.2.1)
      · rw [if_neg c3]
        exact g40 (fun e => c3 e.2.2.1)
    · rw [if_neg c2, if_pos rfl]
      exact g40 (fun e => c2 e.2.1)
  · rw [if_neg c1, if_pos rfl]
    exact g40 (fun e => c1 e.1)
theorem x_meet (h : XX w b i o A) (hN : okN (aN A)) (s n p t m' q : Int32) {k : Int32 → Wd → Prop} (hk : xR w b i o (F_meet A s n p t m' q).2 (k (F_meet A s n p t m' q).1)) : wp_X0_meet w b s n p t m' q k := by
  unfold wp_X0_meet
  unfold F_meet at hk
  refine ⟨by rw [h.sh.ob]; trivial, x_both h hN s n p t m' q 1 (fun c => ?_) (fun c w1 t1 t2 P Q h1 hf1 hp hq hP hQ hp' hq' hl1 hl2 => ?_)⟩
  · rw [if_neg (by omega)] at hk
    exact hk
  · rw [if_pos c] at hk
    rw [if_neg (by decide), hp, hq]
    refine ⟨by rw [h1.sh.ob]; trivial, x_met h1 hN hl1 hl2 hp' hq' (wt := 0) (by decide) (fun w2 hf2 => ?_)⟩
    rw [hP, hQ]
    exact hk w2 (h1.scP hf2) (xP_Q ((x0_P hf1).trans hf2))
theorem x_waits (h : XX w b i o A) (hN : okN (aN A)) (s n p t m' q : Int32) {k : Int32 → Wd → Prop} (hk : xR w b i o (F_waits A s n p t m' q).2 (k (F_waits A s n p t m' q).1)) : wp_X0_waits w b s n p t m' q k := by
  unfold wp_X0_waits
  unfold F_waits at hk
  refine ⟨by rw [h.sh.ob]; trivial, x_both h hN s n p t m' q 0 (fun c => ?_) (fun c w1 t1 t2 P Q h1 hf1 hp hq hP hQ hp' hq' hl1 hl2 => ?_)⟩
  · rw [if_neg (by omega)] at hk
    exact hk
  · rw [if_pos c] at hk
    rw [if_pos rfl, hp, hq]
    rw [← hP, ← hQ] at hk
    have key : ∀ d fu wt w4, wt + d = 10 → d < fu → fr (xP b) w w4 → xR w b i o A (k (srch (waiP A P s n.toInt.toNat Q t m'.toInt.toNat) (fun wt => Int32.ofNat wt) d wt)) → tld w4 b t1 (elA A s) n.toInt.toNat → tld w4 b t2 (elA A t) m'.toInt.toNat → wl_X0_both_154 k fu w4 b (Int32.ofNat P) (Int32.ofNat Q) (some t1) (some t2) (Int32.ofNat wt) := by
      intro d
      induction d with
      | zero =>
        intro fu wt w4 hj hfu hf4 he hla hlb
        obtain ⟨fu, rfl⟩ : ∃ g, fu = g + 1 := ⟨fu - 1, by omega⟩
        obtain rfl : wt = 10 := by omega
        rw [wl_X0_both_154_s]
        unfold wb_X0_both_154
        rw [if_pos (by decide)]
        exact he w4 (h.scP hf4) (xP_Q hf4)
      | succ d ih =>
        intro fu wt w4 hj hfu hf4 he hla hlb
        obtain ⟨fu, rfl⟩ : ∃ g, fu = g + 1 := ⟨fu - 1, by omega⟩
        have h4 := h.scP hf4
        rw [wl_X0_both_154_s]
        unfold wb_X0_both_154
        rw [if_neg (by rw [i_lt, i_ti (by omega)]; show ¬ (9 : Int) < wt; omega)]
        rw [show srch (waiP A P s n.toInt.toNat Q t m'.toInt.toNat) (fun wt => Int32.ofNat wt) (d + 1) wt = if waiP A P s n.toInt.toNat Q t m'.toInt.toNat wt then Int32.ofNat wt else srch (waiP A P s n.toInt.toNat Q t m'.toInt.toNat) (fun wt => Int32.ofNat wt) d (wt + 1) from rfl] at he
        refine ⟨by rw [h4.sh.ob]; trivial, x_met h4 hN hla hlb hp' hq' (by omega) (fun w5 hf5 => ?_)⟩
        by_cases e : metV A P s n.toInt.toNat Q t m'.toInt.toNat wt = -1
        · rw [if_pos e]
          rw [if_pos e] at he
          exact he w5 (h4.scP hf5) (xP_Q (hf4.trans hf5))
        · rw [if_neg e, i_ofS]
          rw [if_neg e] at he
          exact ih fu (wt + 1) w5 (by omega) (by omega) (hf4.trans hf5) he (hla.sc hf5) (hlb.sc hf5)
    exact key 10 FU 0 w1 (by omega) (by unfold FU; omega) (x0_P hf1) hk hl1 hl2
end XBOTH
