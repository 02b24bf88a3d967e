/-! ===== differ, alike, ring, of the class ===== -/
section XQ4
variable {w : Wd} {b i : Nat} {o : Option Nat} {A : Ab}
theorem x_differ (h : XX w b i o A) (hN : okN (aN A)) (s n p q : Int32) {k : Int32 → Wd → Prop} (hk : xR w b i o (F_differ A s n p q).2 (k (F_differ A s n p q).1)) : wp_X0_differ w b s n p q k := by
  have hz := h.sh.z
  have h35 : ∀ wl : Int32, (¬ wl = 0 ↔ isP (aN A) p ∧ isP (aN A) q ∧ ¬ p = q) → wb_X0_differ_35 k w b s n p q (some b) wl := by
    intro wl hw
    unfold wb_X0_differ_35
    refine ⟨by rw [h.sh.ob]; trivial, x_q h hN hw hk (fun ⟨hp, hq, hne⟩ hn t w1 h1 hf1 hl1 hk1 => ?_)⟩
    have hz1 := h1.sh.z
    have hP := isP_nat hp
    have hQ := isP_nat hq
    rw [show p = Int32.ofNat p.toInt.toNat from (i_of hp.1).symm, show q = Int32.ofNat q.toInt.toNat from (i_of hq.1).symm]
    generalize p.toInt.toNat = P at *
    generalize q.toInt.toNat = Q at *
    simp only [h1.G0, h1.sh.G2, h1.is.G102, h1.is.G103, x_cl h1 hN hP, x_fc h1 hN hP]
    show wob w1 (b + 8) [22] ∧ _
    refine ⟨by rw [h1.sh.obW8]; trivial, x_begins h1.sh.t8 (by omega) _ _ (fun w2 hf2 hw2 _ => ?_)⟩
    have h2 := h1.scP (at8_P hf2)
    have hz2 := h2.sh.z
    simp only [h2.sh.G3, h2.sh.G2]
    show wob w2 (b + 9) [22] ∧ _
    refine ⟨by rw [h2.sh.obW9]; trivial, x_becomes h2.sh.t9 (by omega) hw2 (by omega) (fun w3 hf3 hv3 _ => ?_)⟩
    have hw3 := hw2.sc hf3 (fun k hp => by unfold at1 at hp; omega)
    have key : ∀ d fu j w4, j + d = n.toInt.toNat → d < fu → (lpI w1 b i o A t s n w4 ∧ wlk w4 (b + 8) (wl2 A P P s j) (Int32.ofNat j) ∧ wlk w4 (b + 9) (wl2 A P Q s j) (Int32.ofNat j)) → xR w1 b i o A (k (srch (difP A P Q s) (fun j => Int32.ofNat (j + 1)) d j)) → wl_X0_differ_83 k fu w4 b n (Int32.ofNat P) (Int32.ofNat Q) (some t) (Int32.ofNat j) := by
      intro d
      induction d with
      | zero =>
        intro fu j w4 hj hfu ⟨h4, hw4, hv4⟩ he
        obtain ⟨fu, rfl⟩ : ∃ g, fu = g + 1 := ⟨fu - 1, by omega⟩
        rw [wl_X0_differ_83_s]
        unfold wb_X0_differ_83
        rw [if_pos (by rw [le_of (by omega)]; omega)]
        exact he w4 h4.1 (xP_Q h4.2.1)
      | succ d ih =>
        intro fu j w4 hj hfu ⟨h4, hw4, hv4⟩ he
        obtain ⟨fu, rfl⟩ : ∃ g, fu = g + 1 := ⟨fu - 1, by omega⟩
        obtain ⟨v, hv, hvt⟩ := x_vt h4.1 hN hP
        have hj' : j < n.toInt.toNat := by omega
        rw [wl_X0_differ_83_s]
        unfold wb_X0_differ_83
        rw [if_neg (by rw [le_of (by omega)]; omega)]
        rw [show srch (difP A P Q s) (fun j => Int32.ofNat (j + 1)) (d + 1) j = if difP A P Q s j then Int32.ofNat (j + 1) else srch (difP A P Q s) (fun j => Int32.ofNat (j + 1)) d (j + 1) from rfl] at he
        simp only [h4.1.G0, h4.1.sh.G2, h4.1.is.G101, hvt, h4.1.is.G105, x_t0 h4.1, h4.2.2.1.1.rd hj' (show n.toInt.toNat < 1000000 by omega)]
        show wob w4 (b + 8) [22] ∧ _
        refine ⟨by rw [h4.1.sh.obW8]; trivial, x_stP h4.1 hN hP hv (by omega) hw4 (wl2_ok hN hP s j (by omega)) (h4.2.2.2.2 j hj') (fun w5 hf5 hw5 _ => ?_)⟩
        have h5 := h4.step hf5
        have hv5 := hv4.sc hf5 (fun k hp => by unfold at1 at hp; omega)
        obtain ⟨v', hv', hvt'⟩ := x_vt h5.1 hN hQ
        simp only [h5.1.G0, h5.1.sh.G3, h5.1.is.G101, hvt', h5.1.is.G105, x_t0 h5.1, h5.2.2.1.1.rd hj' (show n.toInt.toNat < 1000000 by omega)]
        show wob w5 (b + 9) [22] ∧ _
        refine ⟨by rw [h5.1.sh.obW9]; trivial, x_stP h5.1 hN hQ hv' (by omega) hv5 (wl2_ok hN hP s j (by omega)) (h5.2.2.2.2 j hj') (fun w6 hf6 hv6 _ => ?_)⟩
        have hw6 := hw5.sc hf6 (fun k hp => by unfold at1 at hp; omega)
        have h6 : lpI w1 b i o A t s n w6 := ⟨h5.1.scP (at9_P hf6), h5.2.1.trans (at9_P hf6), h5.2.2.sc (at9_P hf6)⟩
        rw [i_ofS] at hw6 hv6
        have hw6' : wlk w6 (b + 8) (wl2 A P P s (j + 1)) (Int32.ofNat (j + 1)) := hw6
        have hv6' : wlk w6 (b + 9) (wl2 A P Q s (j + 1)) (Int32.ofNat (j + 1)) := hv6
        simp only [h6.1.sh.G2, h6.1.sh.G3, hw6'.gF, hv6'.gF, hw6'.2.1, hw6'.2.2.1, hv6'.2.1, hv6'.2.2.1, i_ofS]
        by_cases e : uC (wl2 A P P s (j + 1)) = uC (wl2 A P Q s (j + 1))
        · rw [if_pos e]
          by_cases e2 : uF (wl2 A P P s (j + 1)) = uF (wl2 A P Q s (j + 1))
          · rw [if_pos e2]
            rw [if_neg (fun hd => hd ⟨e, e2⟩)] at he
            exact ih fu (j + 1) w6 (by omega) (by omega) ⟨h6, hw6', hv6'⟩ he
          · rw [if_neg e2]
            rw [if_pos (fun hd => e2 hd.2)] at he
            exact he w6 h6.1 (xP_Q h6.2.1)
        · rw [if_neg e]
          rw [if_pos (fun hd => e hd.1)] at he
          exact he w6 h6.1 (xP_Q h6.2.1)
    exact key n.toInt.toNat FU 0 w3 (by omega) (by unfold FU; omega) ⟨⟨h2.scP (at9_P hf3), (at8_P hf2).trans (at9_P hf3), (hl1.sc (at8_P hf2)).sc (at9_P hf3)⟩, hw3, hv3⟩ hk1
  unfold wp_X0_differ wb_X0_differ_34
  rw [h.G0]
  show wob w i [21] ∧ _
  refine ⟨by rw [h.is.ob]; trivial, ?_⟩
  rw [x_isPerson h.is hN]
  by_cases hp : isP (aN A) p
  · rw [if_pos hp, if_neg (by decide), h.G0]
    show wob w i [21] ∧ _
    refine ⟨by rw [h.is.ob]; trivial, ?_⟩
    rw [x_isPerson h.is hN]
    by_cases hq : isP (aN A) q
    · rw [if_pos hq, if_neg (by decide)]
      by_cases e : p = q
      · rw [if_pos e]
        exact h35 0 (zero_iff (fun hc => hc.2.2 e))
      · rw [if_neg e]
        exact h35 1 (one_iff ⟨hp, hq, e⟩)
    · rw [if_neg hq, if_pos rfl]
      exact h35 0 (zero_iff (fun hc => hq hc.2.1))
  · rw [if_neg hp, if_pos rfl]
    exact h35 0 (zero_iff (fun hc => hp hc.1))
theorem x_alike (h : XX w b i o A) (hN : okN (aN A)) (s n p : Int32) {k : Int32 → Wd → Prop} (hk : xR w b i o (F_alike A s n p).2 (k (F_alike A s n p).1)) : wp_X0_alike w b s n p k := by
  unfold wp_X0_alike
  refine x_qP h hN hk (fun hn0 P hpP hPp hP t w1 h1 hf1 hl1 hk1 => ?_)
  have hz1 := h1.sh.z
  have hq := hN.2.2.2.2 P hP
  obtain ⟨v, hv, hvt⟩ := x_vt h1 hN hP
  rw [hpP]
  simp only [h1.G0, h1.sh.G3, h1.is.G101, h1.is.G102, hvt, x_cl h1 hN hP]
  refine ⟨by rw [h1.sh.ob]; trivial, x_walked h1 hN hl1 hP hv ⟨hq.2.1, hq.2.2.2.2⟩ 0 (fun w2 hf2 hw2 => ?_)⟩
  have h2 := h1.scP (at8_P hf2)
  have hz2 := h2.sh.z
  show wob w2 (b + 9) [22] ∧ _
  refine ⟨by rw [h2.sh.obW9]; trivial, x_becomes h2.sh.t9 (by omega) hw2 (by omega) (fun w3 hf3 hv3 _ => ?_)⟩
  have h3 := h2.scP (at9_P hf3)
  have hl3 := (hl1.sc (at8_P hf2)).sc (at9_P hf3)
  simp only [h3.G0, h3.is.G102, x_cl h3 hN hP]
  have hv' : vot w3 b v (aN A (5 * P)) P (aN A (5 * P + 1)) := (hv.sc hf2 (fun k hp => by have := hv.1.1; unfold at1 at hp; omega)).sc hf3 (fun k hp => by have := hv.1.1; unfold at1 at hp; omega)
  refine ⟨by rw [h3.sh.ob]; trivial, x_walked h3 hN hl3 hP hv' ⟨hq.2.1, hq.2.2.2.2⟩ 1 (fun w4 hf4 hw4 => ?_)⟩
  have h4 := h3.scP (at8_P hf4)
  have hv4 := hv3.sc hf4 (fun k hp => by unfold at1 at hp; omega)
  simp only [h4.sh.G2, h4.sh.G3, hw4.gF, hv4.gF, hw4.2.1, hw4.2.2.1, hv4.2.1, hv4.2.2.1]
  have hk4 := hk1 w4 h4 (xP_Q (((at8_P hf2).trans (at9_P hf3)).trans (at8_P hf4)))
  rw [← hPp] at hk4
  show if uC (rnl A 1 P s n) = uC (rnl A 0 P s n) then (if uF (rnl A 1 P s n) = uF (rnl A 0 P s n) then _ else _) else _
  by_cases e1 : uC (rnl A 1 P s n) = uC (rnl A 0 P s n)
  · rw [if_pos e1]
    by_cases e2 : uF (rnl A 1 P s n) = uF (rnl A 0 P s n)
    · rw [if_pos e2]
      rwa [if_pos ⟨e1, e2⟩] at hk4
    · rw [if_neg e2]
      rwa [if_neg (fun e => e2 e.2)] at hk4
  · rw [if_neg e1]
    rwa [if_neg (fun e => e1 e.1)] at hk4
/-- walkers alike but for the number of the sign by which they fell -/
def simU (u v : Wk) : Prop := uC u = uC v ∧ uF u = uF v ∧ uT u = uT v ∧ uS u = uS v ∧ uB u = uB v ∧ (uL u = -1 ↔ uL v = -1)
theorem simU.nx {N : Nw} {kd lf : Int32} {p : Nat} {u v : Wk} {sg n n' : Int32} (h : simU u v) (hn : ¬ n = -1) (hn' : ¬ n' = -1) : simU (stp N kd lf p u sg n) (stp N kd lf p v sg n') := by
  obtain ⟨h1, h2, h3, h4, h5, h6⟩ := h
  have eb : by1 N kd lf p u sg = by1 N kd lf p v sg := by unfold by1; rw [h1, h3, h4, h5]
  by_cases hl : uL u = -1
  · have hl' := h6.1 hl
    by_cases s0 : sg = 0
    · subst s0
      by_cases hb : bes (N 90) (uC u) (uF u) = -1
      · rw [stp_on1 hl hb, stp_on1 hl' (by rw [← h1, ← h2]; exact hb)]
        exact ⟨h1, h2, h3, h4, h5, h6⟩
      · rw [stp_on2 hl hb, stp_on2 hl' (by rw [← h1, ← h2]; exact hb)]
        refine ⟨?_, h2, h3, h4, h5, ?_⟩
        · show bes (N 90) (uC u) (uF u) = bes (N 90) (uC v) (uF v)
          rw [h1, h2]
        · show (if pnd N (bes (N 90) (uC u) (uF u)) = 1 then n else -1) = -1 ↔ (if pnd N (bes (N 90) (uC v) (uF v)) = 1 then n' else -1) = -1
          rw [← h1, ← h2]
          by_cases c : pnd N (bes (N 90) (uC u) (uF u)) = 1
          · rw [if_pos c, if_pos c]
            exact ⟨fun e => absurd e hn, fun e => absurd e hn'⟩
          · rw [if_neg c, if_neg c]
    · by_cases s12 : sg = 1 ∨ sg = 2
      · rw [stp_tn hl s12, stp_tn hl' s12]
        unfold tnW
        rw [← eb]
        refine ⟨h1, ?_, ?_, rfl, rfl, Iff.rfl⟩
        · show trn (uF u) sg _ = trn (uF v) sg _
          rw [h2]
        · show uT u + 1 = uT v + 1
          rw [h3]
      · unfold stp
        rw [if_pos hl, if_pos hl', if_neg s0, if_neg s0, if_neg s12, if_neg s12]
        exact ⟨h1, h2, h3, h4, h5, h6⟩
  · rw [stp_f hl, stp_f (fun e => hl (h6.2 e))]
    exact ⟨h1, h2, h3, h4, h5, h6⟩
theorem simU.ok {N : Nw} {u v : Wk} (h : simU u v) (hu : okU N u ∧ uT u < 1000000) : okU N v ∧ uT v < 1000000 := by
  obtain ⟨h1, h2, h3, h4, h5, h6⟩ := h
  unfold okU at *
  rw [← h1, ← h2, ← h3]
  exact ⟨⟨hu.1.1, hu.1.2.1, fun e => hu.1.2.2 (h6.2 e)⟩, hu.2⟩
theorem x_ring (h : XX w b i o A) (hN : okN (aN A)) (s n p : Int32) {k : Int32 → Wd → Prop} (hk : xR w b i o (F_ring A s n p).2 (k (F_ring A s n p).1)) : wp_X0_ring w b s n p k := by
  unfold wp_X0_ring
  refine x_qP h hN hk (fun hn0 P hpP hPp hP t w1 h1 hf1 hl1 hk1 => ?_)
  have hz1 := h1.sh.z
  rw [hpP]
  rw [← hPp] at hk1
  simp only [h1.G0, h1.sh.G2, h1.is.G102, h1.is.G103, x_cl h1 hN hP, x_fc h1 hN hP]
  show wob w1 (b + 8) [22] ∧ _
  refine ⟨by rw [h1.sh.obW8]; trivial, x_begins h1.sh.t8 (by omega) _ _ (fun w2 hf2 hw2 _ => ?_)⟩
  have hn := hl1.2.1
  have n1 : ∀ x : Nat, x < 2000 → ¬ Int32.ofNat x = -1 := fun x hx e => by have := congrArg Int32.toInt e; rw [i_ti (by omega), i_m1] at this; omega
  have key : ∀ d fu tm w4 x, tm + d = 20 → d < fu → x ≤ 40 * tm → (lpI w1 b i o A t s n w4 ∧ ∃ u', simU (rgW A P s n.toInt.toNat tm) u' ∧ wlk w4 (b + 8) u' (Int32.ofNat x)) → xR w1 b i o A (k (srch (rgP A P s n.toInt.toNat) (fun t => Int32.ofNat (t + 1)) d tm)) → wl_X0_ring_45 k fu w4 b (Int32.ofNat P) (some t) (Int32.ofNat (tm + 1)) := by
    intro d
    induction d with
    | zero =>
      intro fu tm w4 x ht hfu hx ⟨h4, u', hs4, hw4⟩ he
      obtain ⟨fu, rfl⟩ : ∃ g, fu = g + 1 := ⟨fu - 1, by omega⟩
      obtain rfl : tm = 20 := by omega
      rw [wl_X0_ring_45_s]
      unfold wb_X0_ring_45
      rw [if_pos (by decide)]
      exact he w4 h4.1 (xP_Q h4.2.1)
    | succ d ih =>
      intro fu tm w4 x ht hfu hx ⟨h4, u', hs4, hw4⟩ he
      obtain ⟨fu, rfl⟩ : ∃ g, fu = g + 1 := ⟨fu - 1, by omega⟩
      rw [wl_X0_ring_45_s]
      unfold wb_X0_ring_45
      rw [if_neg (by rw [i_lt, i_ti (by omega), i_20]; omega), h4.2.2.1.1.ln]
      rw [show srch (rgP A P s n.toInt.toNat) (fun t => Int32.ofNat (t + 1)) (d + 1) tm = if rgP A P s n.toInt.toNat tm then Int32.ofNat (tm + 1) else srch (rgP A P s n.toInt.toNat) (fun t => Int32.ofNat (t + 1)) d (tm + 1) from rfl] at he
      have ho := rgW_ok hN hP s hn tm
      refine loopN (n := n.toInt.toNat) (I := fun j w5 => lpI w1 b i o A t s n w5 ∧ ∃ u', simU (runW (aN A) (aN A (5 * P)) (aN A 91) P (tlg A s) (rgW A P s n.toInt.toNat tm) j) u' ∧ wlk w5 (b + 8) u' (Int32.ofNat (x + j))) (L := fun fu' j w5 => wl_X0_ring_64 k (wl_X0_ring_45 k fu) fu' w5 b (Int32.ofNat P) (some t) (Int32.ofNat (tm + 1)) (some t) (Int32.ofNat n.toInt.toNat) (Int32.ofNat j)) ?_ ?_ n.toInt.toNat FU 0 w4 (by omega) (by unfold FU; omega) ⟨h4, u', hs4, hw4⟩
      · intro fu' j w5 hj ⟨h5, v', hs5, hw5⟩ ih'
        obtain ⟨v, hv, hvt⟩ := x_vt h5.1 hN hP
        have oT := runW_T (N := aN A) (kd := aN A (5 * P)) (lf := aN A 91) (p := P) (T := tlg A s) (u := rgW A P s n.toInt.toNat tm) j
        rw [wl_X0_ring_64_s]
        unfold wb_X0_ring_64
        rw [if_neg (by rw [i_le, i_ti (by omega), i_ti (by omega)]; omega), h5.2.2.1.1.rd hj (by omega)]
        simp only [h5.1.G0, h5.1.sh.G2, h5.1.is.G101, hvt, h5.1.is.G105, x_t0 h5.1]
        show wob w5 (b + 8) [22] ∧ _
        refine ⟨by rw [h5.1.sh.obW8]; trivial, x_stP h5.1 hN hP hv (by omega) hw5 (hs5.ok ⟨runW_ok hN ho.1 j (by omega), by omega⟩) (h5.2.2.2.2 j hj) (fun w6 hf6 hw6 _ => ?_)⟩
        rw [i_ofS] at hw6 ⊢
        exact ih' w6 ⟨h5.step hf6, _, hs5.nx (n1 j (by omega)) (n1 (x + j) (by omega)), hw6⟩
      · intro fu' w5 ⟨h5, v', hs5, hw5⟩
        have hs5' : simU (rgW A P s n.toInt.toNat (tm + 1)) v' := hs5
        rw [wl_X0_ring_64_s]
        unfold wb_X0_ring_64
        rw [if_pos (by rw [i_le]; omega)]
        simp only [h5.1.sh.G2, h5.1.G0, h5.1.is.G102, h5.1.is.G103, x_cl h5.1 hN hP, x_fc h5.1 hN hP, hw5.gF, hw5.2.1, hw5.2.2.1, ← hs5'.1, ← hs5'.2.1, i_ofS]
        by_cases e : uC (rgW A P s n.toInt.toNat (tm + 1)) = aN A (5 * P + 2)
        · rw [if_pos e]
          by_cases e2 : uF (rgW A P s n.toInt.toNat (tm + 1)) = aN A (5 * P + 3)
          · rw [if_pos e2]
            rw [if_pos ⟨e, e2⟩] at he
            exact he w5 h5.1 (xP_Q h5.2.1)
          · rw [if_neg e2]
            rw [if_neg (fun hd => e2 hd.2)] at he
            exact ih fu (tm + 1) w5 (x + n.toInt.toNat) (by omega) (by omega) (by omega) ⟨h5, v', hs5', hw5⟩ he
        · rw [if_neg e]
          rw [if_neg (fun hd => e hd.1)] at he
          exact ih fu (tm + 1) w5 (x + n.toInt.toNat) (by omega) (by omega) (by omega) ⟨h5, v', hs5', hw5⟩ he
  exact key 20 FU 0 w2 0 (by omega) (by unfold FU; omega) (by omega) ⟨⟨h1.scP (at8_P hf2), at8_P hf2, hl1.sc (at8_P hf2)⟩, _, ⟨rfl, rfl, rfl, rfl, rfl, Iff.rfl⟩, hw2⟩ hk1
end XQ4
