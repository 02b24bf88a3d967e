/-! ===== idle, lefts, again, differ, alike, of the class ===== -/
section XQ3
variable {w : Wd} {b i : Nat} {o : Option Nat} {A : Ab}
theorem x_vt (h : XX w b i o A) (hN : okN (aN A)) {p : Nat} (hp : p < pe (aN A)) : ∃ v, vot w b v (aN A (5 * p)) p (aN A (5 * p + 1)) ∧ ∀ K : Option Nat → Prop, wldQ w (some (i + 2)) 6 (Int32.ofNat p) K = K (some v) := by
  have h8 := hN.pe8
  have vpp : vp_in (Int32.ofNat p) 8 := vp_iff.2 (by rw [i_ti (by omega)]; omega)
  obtain ⟨p1, p2, p3, v, p4, p5⟩ := h.is.pr p hp
  exact ⟨v, p5, fun K => by rw [h.is.r2, i_tt (by omega), p4]; exact propext ⟨fun e => e.2, fun e => ⟨vpp, e⟩⟩⟩
theorem x_cl (h : XX w b i o A) (hN : okN (aN A)) {p : Nat} (hp : p < pe (aN A)) (K : Int32 → Prop) : wld w (some (i + 3)) 0 (Int32.ofNat p) K = K (aN A (5 * p + 2)) := by
  have h8 := hN.pe8
  have vpp : vp_in (Int32.ofNat p) 8 := vp_iff.2 (by rw [i_ti (by omega)]; omega)
  rw [h.is.r3, i_tt (by omega), (h.is.pr p hp).1]
  exact propext ⟨fun e => e.2, fun e => ⟨vpp, e⟩⟩
theorem x_fc (h : XX w b i o A) (hN : okN (aN A)) {p : Nat} (hp : p < pe (aN A)) (K : Int32 → Prop) : wld w (some (i + 4)) 0 (Int32.ofNat p) K = K (aN A (5 * p + 3)) := by
  have h8 := hN.pe8
  have vpp : vp_in (Int32.ofNat p) 8 := vp_iff.2 (by rw [i_ti (by omega)]; omega)
  rw [h.is.r4, i_tt (by omega), (h.is.pr p hp).2.1]
  exact propext ⟨fun e => e.2, fun e => ⟨vpp, e⟩⟩
theorem x_wn (h : XX w b i o A) (hN : okN (aN A)) {p : Nat} (hp : p < pe (aN A)) (K : Int32 → Prop) : wld w (some (i + 5)) 0 (Int32.ofNat p) K = K (aN A (5 * p + 4)) := by
  have h8 := hN.pe8
  have vpp : vp_in (Int32.ofNat p) 8 := vp_iff.2 (by rw [i_ti (by omega)]; omega)
  rw [h.is.r5, i_tt (by omega), (h.is.pr p hp).2.2.1]
  exact propext ⟨fun e => e.2, fun e => ⟨vpp, e⟩⟩
theorem x_t0 (h : XX w b i o A) (K : Int32 → Prop) : wld w (some (i + 6)) 0 0 K = K (aN A 91) := by
  have v0 : vp_in 0 3 := vp_iff.2 (by decide)
  rw [h.is.r6, show (0 : Int32).toInt.toNat = 0 from rfl, h.is.o0]
  exact propext ⟨fun e => e.2, fun e => ⟨v0, e⟩⟩
/-- a query about one, by a telling -/
theorem x_qP (h : XX w b i o A) (hN : okN (aN A)) {p s n val : Int32} {k : Int32 → Wd → Prop} (hk : xR w b i o (qF A (isP (aN A) p) s n val).2 (k (qF A (isP (aN A) p) s n val).1)) {B : Option Nat → Wd → Prop} (hB : (0 ≤ n.toInt ∧ n.toInt ≤ 40) → ∀ P : Nat, p = Int32.ofNat P → P = p.toInt.toNat → P < pe (aN A) → ∀ t w', XX w' b i o A → fr x0 w w' → tld w' b t (elA A s) n.toInt.toNat → xR w' b i o A (k val) → B (some t) w') :
    wgG w (some b) [20] 0 (fun v1 => wnn v1 (fun b4 => wob w b4 [21] ∧ wp_X1_isPerson w b4 p (fun v2 w3 => wob w3 b [20] ∧ wp_X0_signsIn w3 b v2 s n (fun q w' => wgF w' (some q) [25] 506 (fun v5 => wob w' b [20] ∧ wp_X0_no w' b v5 (fun v6 w7 => k v6 w7))) B))) := by
  rw [h.G0]
  show wob w i [21] ∧ _
  refine ⟨by rw [h.is.ob]; trivial, ?_⟩
  rw [x_isPerson h.is hN]
  by_cases hp : isP (aN A) p
  · rw [if_pos hp]
    have hp8 := isP_8 hN hp
    exact ⟨by rw [h.sh.ob]; trivial, x_q h hN (one_iff hp) hk (fun _ hn t w' h' hf hl hk' => hB hn p.toInt.toNat (i_of hp8.1).symm rfl (isP_nat hp) t w' h' hf hl hk')⟩
  · rw [if_neg hp]
    exact ⟨by rw [h.sh.ob]; trivial, x_q h hN (zero_iff hp) hk (fun hp' => absurd hp' hp)⟩
/-- a step of the walk by a person -/
theorem x_stP (h : XX w b i o A) (hN : okN (aN A)) {v p a : Nat} (hp : p < pe (aN A)) (hv : vot w b v (aN A (5 * p)) p (aN A (5 * p + 1))) (ha : b + 8 ≤ a ∧ a < b + 39) {u : Wk} {n : Int32} (hu : wlk w a u n) (hok : okU (aN A) u ∧ uT u < 1000000) {sg : Int32} (hsg : sg = 0 ∨ sg = 1 ∨ sg = 2 ∨ sg = 3) {k : Wd → Prop} (hk : ∀ w', fr (at1 a) w w' → wlk w' a (stp (aN A) (aN A (5 * p)) (aN A 91) p u sg n) (n + 1) → wF w' a 207 = uC u → k w') : wp_X2_goes w a (some i) (some v) sg (aN A 91) k :=
  x_goes h.k h.is hN hp ha hv hu hok.1 hok.2 hsg _ hk
theorem x_idle (h : XX w b i o A) (hN : okN (aN A)) (s n p : Int32) {k : Int32 → Wd → Prop} (hk : xR w b i o (F_idle A s n p).2 (k (F_idle A s n p).1)) : wp_X0_idle w b s n p k := by
  have hz := h.sh.z
  unfold wp_X0_idle
  refine x_qP h hN hk (fun hn0 P hpP hPp hP t w1 h1 hf1 hl1 hk1 => ?_)
  have hz1 := h1.sh.z
  rw [hpP]
  simp only [h1.G0, h1.sh.G2, h1.is.G102, h1.is.G103, x_cl h1 hN hP, x_fc h1 hN hP]
  show wob w1 (b + 8) [22] ∧ _
  refine ⟨by rw [h1.sh.obW8]; trivial, x_begins h1.sh.t8 (by omega) _ _ (fun w2 hf2 hw2 _ => ?_)⟩
  have hn := hl1.2.1
  rw [(hl1.sc (at8_P hf2)).1.1.ln]
  refine loopN (n := n.toInt.toNat) (I := fun j w3 => lpI w1 b i o A t s n w3 ∧ wlk w3 (b + 8) (wlA A P s j) (Int32.ofNat j)) (L := fun fu j w3 => wl_X0_idle_57 k fu w3 b (Int32.ofNat P) (foldP (fun j a => a + (if uC (wlA A p.toInt.toNat s (j + 1)) = uC (wlA A p.toInt.toNat s j) then 1 else 0)) 0 j) (some t) (Int32.ofNat n.toInt.toNat) (Int32.ofNat j)) ?_ ?_ n.toInt.toNat FU 0 w2 (by omega) (by unfold FU; omega) ⟨⟨h1.scP (at8_P hf2), at8_P hf2, hl1.sc (at8_P hf2)⟩, hw2⟩
  · intro fu j w3 hj ⟨h3, hw3⟩ ih
    obtain ⟨v, hv, hvt⟩ := x_vt h3.1 hN hP
    rw [wl_X0_idle_57_s]
    unfold wb_X0_idle_57
    rw [if_neg (by rw [i_le, i_ti (by omega), i_ti (by omega)]; omega), h3.2.2.1.1.rd hj (by omega)]
    simp only [h3.1.G0, h3.1.sh.G2, h3.1.is.G101, hvt, h3.1.is.G105, x_t0 h3.1]
    show wob w3 (b + 8) [22] ∧ _
    refine ⟨by rw [h3.1.sh.obW8]; trivial, x_stP h3.1 hN hP hv (by omega) hw3 (wlA_ok (N := aN A) hN hP s j (by omega)) (h3.2.2.2.2 j hj) (fun w4 hf4 hw4 h7 => ?_)⟩
    rw [i_ofS] at hw4
    have hw4' : wlk w4 (b + 8) (wlA A P s (j + 1)) (Int32.ofNat (j + 1)) := hw4
    have h4 := h3.step hf4
    simp only [h4.1.sh.G2, hw4'.gF, hw4'.2.1, h7, i_ofS]
    have ih' := ih w4 ⟨h4, hw4'⟩
    simp only [foldP] at ih'
    rw [← hPp] at ih' ⊢
    by_cases e : uC (wlA A P s (j + 1)) = uC (wlA A P s j)
    · rw [if_pos e] at ih' ⊢; exact ih'
    · rw [if_neg e] at ih' ⊢; exact ih'
  · intro fu w3 ⟨h3, hw3⟩
    rw [wl_X0_idle_57_s]
    unfold wb_X0_idle_57
    rw [if_pos (by rw [i_le]; omega)]
    exact hk1 w3 h3.1 (xP_Q h3.2.1)
theorem x_lefts (h : XX w b i o A) (hN : okN (aN A)) (p f : Int32) {k : Int32 → Wd → Prop} (hk : xR w b i o (F_lefts A p f).2 (k (F_lefts A p f).1)) : wp_X0_lefts w b p f k := by
  have hz := h.sh.z
  unfold wp_X0_lefts
  unfold F_lefts at hk
  rw [h.G0]
  show wob w i [21] ∧ _
  refine ⟨by rw [h.is.ob]; trivial, ?_⟩
  rw [x_isPerson h.is hN]
  by_cases hp : isP (aN A) p
  · rw [if_pos hp, if_neg (by decide), x_isFaced]
    by_cases hf : okF f
    · rw [if_pos hf, if_neg (by decide)]
      rw [if_pos ⟨hp, hf⟩] at hk
      have hp8 := isP_8 hN hp
      have hP := isP_nat hp
      rw [show p = Int32.ofNat p.toInt.toNat from (i_of hp8.1).symm]
      generalize p.toInt.toNat = P at *
      simp only [h.G0, h.sh.G2, h.is.G102, h.is.G103, x_cl h hN hP, x_fc h hN hP]
      show wob w (b + 8) [22] ∧ _
      refine ⟨by rw [h.sh.obW8]; trivial, x_begins h.sh.t8 (by omega) _ _ (fun w2 hf2 hw2 _ => ?_)⟩
      have key : ∀ d fu j w4, j + d = 21 → d < fu → (fr (xP b) w w4 ∧ wlk w4 (b + 8) (ltW A P j) (Int32.ofNat j)) → xR w b i o A (k (srch (lefP A P f) (fun j => Int32.ofNat j) d j)) → wl_X0_lefts_53 k fu w4 b (Int32.ofNat P) f (Int32.ofNat j) := by
        intro d
        induction d with
        | zero =>
          intro fu j w4 hj hfu ⟨hf4, hw4⟩ he
          obtain ⟨fu, rfl⟩ : ∃ g, fu = g + 1 := ⟨fu - 1, by omega⟩
          obtain rfl : j = 21 := by omega
          rw [wl_X0_lefts_53_s]
          unfold wb_X0_lefts_53
          rw [if_pos (by decide)]
          exact he w4 (h.scP hf4) (xP_Q hf4)
        | succ d ih =>
          intro fu j w4 hj hfu ⟨hf4, hw4⟩ he
          obtain ⟨fu, rfl⟩ : ∃ g, fu = g + 1 := ⟨fu - 1, by omega⟩
          have h4 := h.scP hf4
          obtain ⟨v, hv, hvt⟩ := x_vt h4 hN hP
          rw [wl_X0_lefts_53_s]
          unfold wb_X0_lefts_53
          rw [if_neg (by rw [i_lt, i_ti (by omega), i_20]; omega)]
          rw [show srch (lefP A P f) (fun j => Int32.ofNat j) (d + 1) j = if lefP A P f j then Int32.ofNat j else srch (lefP A P f) (fun j => Int32.ofNat j) d (j + 1) from rfl] at he
          simp only [h4.sh.G2, hw4.gF, hw4.2.2.1]
          by_cases e : uF (ltW A P j) = f
          · rw [if_pos e] at he ⊢
            exact he w4 h4 (xP_Q hf4)
          · rw [if_neg e] at he ⊢
            simp only [h4.G0, h4.is.G101, hvt, h4.is.G105, x_t0 h4]
            show wob w4 (b + 8) [22] ∧ _
            refine ⟨by rw [h4.sh.obW8]; trivial, x_stP h4 hN hP hv (by omega) hw4 (ltW_ok hN hP j (by omega)) (Or.inr (Or.inl rfl)) (fun w5 hf5 hw5 _ => ?_)⟩
            rw [i_ofS] at hw5 ⊢
            exact ih fu (j + 1) w5 (by omega) (by omega) ⟨hf4.trans (at8_P hf5), hw5⟩ he
      exact key 21 FU 0 w2 (by omega) (by unfold FU; omega) ⟨at8_P hf2, hw2⟩ hk
    · rw [if_neg hf, if_pos rfl]
      rw [if_neg (fun e => hf e.2)] at hk
      exact ⟨by rw [h.sh.ob]; trivial, x_no h (by decide) hk⟩
  · rw [if_neg hp, if_pos rfl]
    rw [if_neg (fun e => hp e.1)] at hk
    exact ⟨by rw [h.sh.ob]; trivial, x_no h (by decide) hk⟩
theorem x_again (h : XX w b i o A) (hN : okN (aN A)) (s n p t : Int32) {k : Int32 → Wd → Prop} (hk : xR w b i o (F_again A s n p t).2 (k (F_again A s n p t).1)) : wp_X0_again w b s n p t k := by
  have hz := h.sh.z
  have h28 : ∀ wl : Int32, (¬ wl = 0 ↔ isP (aN A) p ∧ 0 ≤ t.toInt ∧ t.toInt ≤ 20) → wb_X0_again_28 k w b s n p t (some b) wl := by
    intro wl hw
    unfold wb_X0_again_28
    refine ⟨by rw [h.sh.ob]; trivial, x_q h hN hw hk (fun ⟨hp, ht⟩ hnI q w1 h1 hf1 hl1 hk1 => ?_)⟩
    have hz1 := h1.sh.z
    have hp8 := isP_8 hN hp
    have hP := isP_nat hp
    rw [show p = Int32.ofNat p.toInt.toNat from (i_of hp8.1).symm]
    generalize p.toInt.toNat = P at *
    simp only [h1.G0, h1.sh.G2, h1.is.G102, h1.is.G103, x_cl h1 hN hP, x_fc h1 hN hP]
    show wob w1 (b + 8) [22] ∧ _
    refine ⟨by rw [h1.sh.obW8]; trivial, x_begins h1.sh.t8 (by omega) _ _ (fun w2 hf2 hw2 _ => ?_)⟩
    have hn := hl1.2.1
    have hnn := hnI.1
    · have hnt : n.toInt.toNat * t.toInt.toNat ≤ 800 := Nat.le_trans (Nat.mul_le_mul (show n.toInt.toNat ≤ 40 by omega) (show t.toInt.toNat ≤ 20 by omega)) (by decide)
      have ent : (t * n).toInt = (n.toInt.toNat * t.toInt.toNat : Nat) := i_mulv (show t.toInt = ((t.toInt.toNat : Nat) : Int) by omega) (show n.toInt = ((n.toInt.toNat : Nat) : Int) by omega) (by push_cast; rw [Int.mul_comm]) (by omega)
      generalize n.toInt.toNat * t.toInt.toNat = M at *
      refine loopN (n := M) (I := fun j w3 => lpI w1 b i o A q s n w3 ∧ wlk w3 (b + 8) (agW A P s n.toInt.toNat j) (Int32.ofNat j)) (L := fun fu j w3 => wl_X0_again_64 k fu w3 b n (Int32.ofNat P) t (some q) (Int32.ofNat j)) ?_ ?_ M FU 0 w2 (by omega) (by unfold FU; omega) ⟨⟨h1.scP (at8_P hf2), at8_P hf2, hl1.sc (at8_P hf2)⟩, hw2⟩
      · intro fu j w3 hj ⟨h3, hw3⟩ ih
        obtain ⟨v, hv, hvt⟩ := x_vt h3.1 hN hP
        rw [wl_X0_again_64_s]
        unfold wb_X0_again_64
        rw [if_neg (by rw [le_of (by omega)]; omega)]
        have hn0 : 0 < n.toInt.toNat := Nat.pos_of_ne_zero (fun e => by
          have e2 : n.toInt = 0 := by omega
          have : (t * n).toInt = 0 := i_mulv rfl e2 (Int.mul_zero _) (by omega)
          omega)
        have hn1 : ¬ n = 0 := fun e => by rw [e, i_0] at hn0; exact absurd hn0 (by decide)
        have hjn : j % n.toInt.toNat < n.toInt.toNat := Nat.mod_lt _ hn0
        simp only [h3.1.G0, h3.1.sh.G2, h3.1.is.G101, hvt, h3.1.is.G105, x_t0 h3.1, i_mod (show j < 1000 by omega) hn0 (by omega) (show n.toInt = ((n.toInt.toNat : Nat) : Int) by omega), h3.2.2.1.1.rd hjn (show n.toInt.toNat < 1000000 by omega)]
        refine ⟨hn1, ?_⟩
        show wob w3 (b + 8) [22] ∧ _
        refine ⟨by rw [h3.1.sh.obW8]; trivial, x_stP h3.1 hN hP hv (by omega) hw3 (agW_ok hN hP s n.toInt.toNat j (by omega)) (h3.2.2.2.2 _ hjn) (fun w4 hf4 hw4 _ => ?_)⟩
        rw [i_ofS] at hw4 ⊢
        exact ih w4 ⟨h3.step hf4, hw4⟩
      · intro fu w3 ⟨h3, hw3⟩
        rw [wl_X0_again_64_s]
        unfold wb_X0_again_64
        rw [if_pos (by rw [le_of (by omega)]; omega)]
        simp only [h3.1.sh.G2, hw3.gF, hw3.2.1]
        exact hk1 w3 h3.1 (xP_Q h3.2.1)
  unfold wp_X0_again wb_X0_again_27
  rw [h.G0]
  show wob w i [21] ∧ _
  refine ⟨by rw [h.is.ob]; trivial, ?_⟩
  rw [x_isPerson h.is hN]
  by_cases hp : isP (aN A) p
  · rw [if_pos hp, if_neg (by decide)]
    simp only [x_isIn, ie_m6_m5, ie_m6_m4, ie_m6_m3, ie_m6_m2, ie_m6_m1, ie_m6_0, ie_m6_1, ie_m6_2, ie_m6_3, ie_m6_4, ie_m6_5, ie_m6_6, ie_m5_m6, ie_m5_m4, ie_m5_m3, ie_m5_m2, ie_m5_m1, ie_m5_0, ie_m5_1, ie_m5_2, ie_m5_3, ie_m5_4, ie_m5_5, ie_m5_6, ie_m4_m6, ie_m4_m5, ie_m4_m3, ie_m4_m2, ie_m4_m1, ie_m4_0, ie_m4_1, ie_m4_2, ie_m4_3, ie_m4_4, ie_m4_5, ie_m4_6, ie_m3_m6, ie_m3_m5, ie_m3_m4, ie_m3_m2, ie_m3_m1, ie_m3_0, ie_m3_1, ie_m3_2, ie_m3_3, ie_m3_4, ie_m3_5, ie_m3_6, ie_m2_m6, ie_m2_m5, ie_m2_m4, ie_m2_m3, ie_m2_m1, ie_m2_0, ie_m2_1, ie_m2_2, ie_m2_3, ie_m2_4, ie_m2_5, ie_m2_6, ie_m1_m6, ie_m1_m5, ie_m1_m4, ie_m1_m3, ie_m1_m2, ie_m1_0, ie_m1_1, ie_m1_2, ie_m1_3, ie_m1_4, ie_m1_5, ie_m1_6, ie_0_m6, ie_0_m5, ie_0_m4, ie_0_m3, ie_0_m2, ie_0_m1, ie_0_1, ie_0_2, ie_0_3, ie_0_4, ie_0_5, ie_0_6, ie_1_m6, ie_1_m5, ie_1_m4, ie_1_m3, ie_1_m2, ie_1_m1, ie_1_0, ie_1_2, ie_1_3, ie_1_4, ie_1_5, ie_1_6, ie_2_m6, ie_2_m5, ie_2_m4, ie_2_m3, ie_2_m2, ie_2_m1, ie_2_0, ie_2_1, ie_2_3, ie_2_4, ie_2_5, ie_2_6, ie_3_m6, ie_3_m5, ie_3_m4, ie_3_m3, ie_3_m2, ie_3_m1, ie_3_0, ie_3_1, ie_3_2, ie_3_4, ie_3_5, ie_3_6, ie_4_m6, ie_4_m5, ie_4_m4, ie_4_m3, ie_4_m2, ie_4_m1, ie_4_0, ie_4_1, ie_4_2, ie_4_3, ie_4_5, ie_4_6, ie_5_m6, ie_5_m5, ie_5_m4, ie_5_m3, ie_5_m2, ie_5_m1, ie_5_0, ie_5_1, ie_5_2, ie_5_3, ie_5_4, ie_5_6, ie_6_m6, ie_6_m5, ie_6_m4, ie_6_m3, ie_6_m2, ie_6_m1, ie_6_0, ie_6_1, ie_6_2, ie_6_3, ie_6_4, ie_6_5, Int32.reduceToInt, Int64.reduceToInt, Int.reduceToNat, Int32.reduceAdd, Int32.reduceSub, Int32.reduceMul, Int32.reduceDiv, Int32.reduceLT, Int32.reduceLE, Int.reduceLE, Int.reduceLT, Int.reduceNeg, Int.reduceAdd, Int.reduceSub, Int.reduceMul, Int.reduceEq, Nat.reduceAdd, Nat.reduceMul, Nat.reduceLT, Nat.reduceEqDiff, true_and, and_true, and_self, false_and, and_false, if_true, if_false, ite_true, ite_false, ↓reduceIte, not_true_eq_false, not_false_eq_true, true_or, or_true, or_false, false_or, Int.cast_ofNat_Int, Int.reduceNatCast]
    by_cases ht : 0 ≤ t.toInt ∧ t.toInt ≤ 20
    · rw [if_pos ht]
      exact h28 1 (one_iff ⟨hp, ht⟩)
    · rw [if_neg ht]
      exact h28 0 (zero_iff (fun e => ht e.2))
  · rw [if_neg hp, if_pos rfl]
    exact h28 0 (zero_iff (fun e => hp e.1))
end XQ3
