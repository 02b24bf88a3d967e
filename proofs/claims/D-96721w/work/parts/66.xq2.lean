/-! ===== crowd, lonely, alike, lefts, idle, of the class ===== -/
section XQ2
variable {w : Wd} {b i : Nat} {o : Option Nat} {A : Ab}
theorem at13_P {w w' : Wd} (h : fr (at1 (b + 13)) w w') : fr (xP b) w w' := h.mono (fun q k _ hp => by unfold at1 at hp; unfold xP; omega)
/-- how many come out in each cell -/
def mny (w : Wd) (b : Nat) (f : Nat → Int32) : Prop := ∀ j : Nat, j < 70 → wI w (b + 13) j = f j
theorem mny.sc {w' : Wd} {f : Nat → Int32} {P : Nat → Nat → Prop} (h : mny w b f) (hf : fr P w w') (hz : b + 60 ≤ wz w) (hP : ¬ P (b + 13) 9999) : mny w' b f := fun j hj => by rw [hf.I (by omega) hP]; exact h j hj
theorem x_fill (h : XX w b i o A) {k : Wd → Prop} (hk : ∀ w', fr (at1 (b + 13)) w w' → mny w' b (fun _ => 0) → k w') : wp_J15_fill w (some (b + 13)) 0 k := by
  unfold wp_J15_fill
  show (match wT w (b + 13) with
    | some t => t.1 < 20 ∧ wl_J15_fill_5 k FU w (some (b + 13)) 0 0 (Int32.ofNat t.2.1)
    | none => False)
  rw [h.sh.t13]
  refine ⟨by decide, ?_⟩
  refine loopN (n := 70) (I := fun j w2 => fr (at1 (b + 13)) w w2 ∧ wT w2 = wT w ∧ ∀ x, x < j → wI w2 (b + 13) x = 0) (L := fun fu j w2 => wl_J15_fill_5 k fu w2 (some (b + 13)) 0 (Int32.ofNat j) (Int32.ofNat 70)) ?_ ?_ 70 FU 0 w (by omega) (by unfold FU; omega) ⟨fr.refl _ _, rfl, fun x hx => absurd hx (by omega)⟩
  · intro fu j w2 hj ⟨hf2, ht2, hm2⟩ ih
    have hv : vp_in (Int32.ofNat j) 70 := vp_iff.2 (by rw [i_ti (by omega)]; omega)
    rw [wl_J15_fill_5_s]
    unfold wb_J15_fill_5
    rw [if_neg (by rw [i_le, i_ti (by omega), i_ti (by omega)]; omega)]
    show warw w2 (b + 13) 0 (Int32.ofNat j) ∧ _
    unfold warw
    rw [ht2, h.sh.t13]
    refine ⟨⟨rfl, hv, rfl⟩, ?_⟩
    rw [i_tn (by omega), i_ofS]
    refine ih _ ⟨hf2.sI (fun _ => rfl), ht2, fun x hx => ?_⟩
    rw [wI_sI]
    by_cases e : x = j
    · rw [if_pos ⟨rfl, e⟩]
    · rw [if_neg (fun e' => e e'.2)]
      exact hm2 x (by omega)
  · intro fu w2 ⟨hf2, ht2, hm2⟩
    rw [wl_J15_fill_5_s]
    unfold wb_J15_fill_5
    rw [if_pos (by decide)]
    exact hk w2 hf2 hm2
/-- counts among the first j -/
def cntJ (A : Ab) (s n : Int32) (j c : Nat) : Int32 := foldP (fun p a => a + (if uC (goA A p s n) = Int32.ofNat c then 1 else 0)) 0 j
theorem cntJ_O (A : Ab) (s n : Int32) (c : Nat) : cntJ A s n (pe (aN A)) c = cntO A s n (Int32.ofNat c) := rfl
theorem goA_ok {A : Ab} (hN : okN (aN A)) {s n : Int32} (hn : n.toInt.toNat ≤ 40) {p : Nat} (hp : p < pe (aN A)) : okU (aN A) (goA A p s n) := runW_ok hN (okU_beg hN hp) _ (by omega)
theorem cell_of {A : Ab} (hN : okN (aN A)) {c : Int32} (hc : isC (aN A 90) c) : c.toInt.toNat < 67 ∧ c = Int32.ofNat c.toInt.toNat := by
  have := isC_b hN.side hc
  have h0 := hc.1
  exact ⟨by omega, (i_of h0).symm⟩
theorem x_cnt1 (h : XX w b i o A) (hN : okN (aN A)) {t : Nat} {s n : Int32} (hl : tld w b t (elA A s) n.toInt.toNat) {j : Nat} (hj : j < pe (aN A)) (hm : mny w b (cntJ A s n j)) {k : Wd → Prop} (hk : ∀ w', XX w' b i o A → fr (xP b) w w' → tld w' b t (elA A s) n.toInt.toNat → mny w' b (cntJ A s n (j + 1)) → k w') :
    wp_X0_walkedBy w b (Int32.ofNat j) (some t) (fun v23 w24 => wgF w24 v23 [22] 200 (fun v25 => wld w24 (some (b + 13)) 0 v25 (fun v26 => wst w24 (some (b + 13)) 0 v25 (v26 + 1) (fun w27 => k w27)))) := by
  have hz := h.sh.z
  refine x_walkedBy h hN hl hj (fun w1 hf1 hw1 => ?_)
  have h1 := h.scP (at8_P hf1)
  have hl1 := hl.sc (at8_P hf1)
  have hm1 := hm.sc hf1 hz (by unfold at1; omega)
  have hc := (goA_ok hN (by have := hl.2.1; exact this) hj (s := s)).1
  obtain ⟨c1, c2⟩ := cell_of hN hc
  have hv : vp_in (uC (goA A j s n)) 70 := vp_iff.2 (by have := hc.1; omega)
  rw [hw1.gF, hw1.2.1]
  simp only [h1.sh.r13, h1.sh.w13, hv, hm1 _ (show (uC (goA A j s n)).toInt.toNat < 70 by omega), true_and]
  have hf2 : fr (at1 (b + 13)) w1 (sI w1 (b + 13) (uC (goA A j s n)).toInt.toNat (cntJ A s n j (uC (goA A j s n)).toInt.toNat + 1)) := (fr.refl _ _).sI (fun _ => rfl)
  refine hk _ (h1.scP (at13_P hf2)) ((at8_P hf1).trans (at13_P hf2)) (hl1.sc (at13_P hf2)) (fun x hx => ?_)
  rw [wI_sI]
  show _ = cntJ A s n j x + (if uC (goA A j s n) = Int32.ofNat x then 1 else 0)
  by_cases e : x = (uC (goA A j s n)).toInt.toNat
  · rw [if_pos ⟨rfl, e⟩, e, ← c2, if_pos rfl]
  · rw [if_neg (fun e' => e e'.2), if_neg (fun e' => e (by rw [e', i_tt (by omega)])), add0]
    exact hm1 x hx
/-- cells beyond the island: nobody -/
theorem cntJ_b {A : Ab} (hN : okN (aN A)) {s n : Int32} (hn : n.toInt.toNat ≤ 40) (c : Nat) : ∀ j, j ≤ pe (aN A) → (0 ≤ (cntJ A s n j c).toInt ∧ (cntJ A s n j c).toInt ≤ j) ∧ (67 ≤ c → c < 70 → cntJ A s n j c = 0)
  | 0, _ => ⟨⟨(show (0 : Int) ≤ (0 : Int32).toInt by decide), (show (0 : Int32).toInt ≤ (0 : Int) by decide)⟩, fun _ _ => rfl⟩
  | j + 1, h => by
    have ih := cntJ_b hN hn (s := s) c j (by omega)
    have h8 := hN.pe8
    have e : cntJ A s n (j + 1) c = cntJ A s n j c + (if uC (goA A j s n) = Int32.ofNat c then 1 else 0) := rfl
    rw [e]
    by_cases q : uC (goA A j s n) = Int32.ofNat c
    · rw [if_pos q]
      have e1 : (cntJ A s n j c + 1).toInt = (cntJ A s n j c).toInt + 1 := i_inc (by omega)
      refine ⟨by rw [e1]; omega, fun h1 h2 => ?_⟩
      have hc := isC_b hN.side (goA_ok hN hn (show j < pe (aN A) by omega) (s := s)).1
      rw [q, i_ti (by omega)] at hc
      omega
    · rw [if_neg q, add0]
      exact ⟨by omega, ih.2⟩
theorem bestO_b (A : Ab) (s n : Int32) : ∀ j, j ≤ 1000 → 0 ≤ (bestO A s n j).toInt ∧ (bestO A s n j).toInt ≤ j
  | 0, _ => ⟨(show (0 : Int) ≤ (0 : Int32).toInt by decide), (show (0 : Int32).toInt ≤ (0 : Int) by decide)⟩
  | j + 1, h => by
    have ih := bestO_b A s n j (by omega)
    have e : bestO A s n (j + 1) = if cntO A s n (bestO A s n j) < cntO A s n (Int32.ofNat (j + 1)) then Int32.ofNat (j + 1) else bestO A s n j := rfl
    rw [e]
    split
    · rw [i_ti (by omega)]; omega
    · omega
theorem bestO_s {A : Ab} (hN : okN (aN A)) {s n : Int32} (hn : n.toInt.toNat ≤ 40) {j : Nat} (h1 : 66 ≤ j) (h2 : j < 69) : bestO A s n (j + 1) = bestO A s n j := by
  have hb := bestO_b A s n j (by omega)
  have c0 := (cntJ_b hN hn (s := s) (j + 1) (pe (aN A)) (Nat.le_refl _)).2 (by omega) (by omega)
  have c1 := (cntJ_b hN hn (s := s) (bestO A s n j).toInt.toNat (pe (aN A)) (Nat.le_refl _)).1
  rw [cntJ_O] at c0 c1
  rw [i_of hb.1] at c1
  have e : bestO A s n (j + 1) = if cntO A s n (bestO A s n j) < cntO A s n (Int32.ofNat (j + 1)) then Int32.ofNat (j + 1) else bestO A s n j := rfl
  rw [e, c0, if_neg (by rw [i_lt, i_0]; omega)]
theorem bestO_69 {A : Ab} (hN : okN (aN A)) {s n : Int32} (hn : n.toInt.toNat ≤ 40) : bestO A s n 69 = bestO A s n 66 := by
  rw [bestO_s hN hn (by decide) (by decide), bestO_s hN hn (by decide) (by decide), bestO_s hN hn (by decide) (by decide)]
theorem x_crowd (h : XX w b i o A) (hN : okN (aN A)) (s n what : Int32) {k : Int32 → Wd → Prop} (hk : xR w b i o (F_crowd A s n what).2 (k (F_crowd A s n what).1)) : wp_X0_crowd w b s n what k := by
  have hP := hN.P
  have h8 := hN.pe8
  have hz := h.sh.z
  have body : ∀ wl : Int32, (¬ wl = 0 ↔ (0 ≤ what.toInt ∧ what.toInt ≤ 1)) → wp_X0_signsIn w b wl s n (fun q5 w6 => wb_X0_crowd_145 k w6 b (some q5)) (fun v3 w4 =>
      wgG w4 (some b) [20] 0 (fun v10 =>
      wgF w4 v10 [21] 107 (fun v11 =>
      if v11 = 0 then (
        wnew w4 25 7 (fun n28 w29 =>
        wp_X5_init w29 n28 (-5) (fun w30 =>
        wthr w30 (some n28) 25 (fun q31 => wb_X0_crowd_145 k w30 b (some q31))))
      ) else (
        wgG w4 (some b) [20] 7 (fun v12 =>
        wp_J15_fill w4 v12 0 (fun w13 =>
        wl_X0_crowd_45 k FU w13 b what v3 0))
      ))) ) := by
    intro wl hw
    unfold F_crowd at hk
    refine x_signsIn h hN _ hw (fun hc q w' hf hr => ?_) (fun hc t w1 hf1 ht hl => ?_)
    · rw [if_neg (by omega)] at hk
      have hb := (loadF_c A (0 ≤ what.toInt ∧ what.toInt ≤ 1) s n).resolve_left (by omega)
      exact x_hand (h.sc0 hf) hr (by omega) (fun w2 h2 hf2 => hk w2 h2 ((x0_P hf).trans hf2))
    · rw [if_pos hc] at hk
      have h1 := h.sc0 hf1
      have hld := loadF_1 hc
      have hn : n.toInt.toNat ≤ 40 := by have := hld.2.1; omega
      have hl1 : tld w1 b t (elA A s) n.toInt.toNat := ⟨⟨hl, by omega⟩, hn, fun j hj => loadF_s hc j hj⟩
      simp only [h1.G0, h1.is.F107]
      by_cases hp : pe (aN A) = 0
      · rw [if_pos hp] at hk
        rw [if_pos (hP.z.2 hp)]
        exact x_refd w1 (-5) (fun w2 hf2 hr2 => x_hand (h1.sc0 hf2) hr2 (by decide) (fun w3 h3 hf3 => hk w3 h3 (((x0_P hf1).trans (x0_P hf2)).trans hf3)))
      · rw [if_neg hp] at hk
        rw [if_neg (fun e => hp (hP.z.1 e))]
        simp only [h1.sh.G7]
        refine x_fill h1 (fun w2 hf2 hm2 => ?_)
        refine loopN (n := pe (aN A)) (I := fun j w3 => lpI w1 b i o A t s n w3 ∧ mny w3 b (cntJ A s n j)) (L := fun fu j w3 => wl_X0_crowd_45 k fu w3 b what (some t) (Int32.ofNat j)) ?_ ?_ (pe (aN A)) FU 0 w2 (by omega) (by unfold FU; omega) ⟨⟨h1.scP (at13_P hf2), at13_P hf2, hl1.sc (at13_P hf2)⟩, hm2⟩
        · intro fu j w3 hj ⟨h3, hm3⟩ ih
          rw [wl_X0_crowd_45_s]
          unfold wb_X0_crowd_45
          simp only [h3.1.G0, h3.1.is.F107, h3.1.sh.G7]
          rw [if_neg (by rw [hP.le (by omega)]; omega)]
          refine ⟨by rw [h3.1.sh.ob]; trivial, x_cnt1 h3.1 hN h3.2.2 hj hm3 (fun w4 h4 hf4 hl4 hm4 => ?_)⟩
          rw [i_ofS]
          exact ih w4 ⟨⟨h4, h3.2.1.trans hf4, hl4⟩, hm4⟩
        · intro fu w3 ⟨h3, hm3⟩
          rw [wl_X0_crowd_45_s]
          unfold wb_X0_crowd_45
          simp only [h3.1.G0, h3.1.is.F107]
          rw [if_pos (by rw [hP.le (by omega)]; omega)]
          have hk3 := hk w3 h3.1 ((x0_P hf1).trans (xP_Q h3.2.1))
          have hrd : ∀ (c : Int32) (K : Int32 → Prop), 0 ≤ c.toInt ∧ c.toInt < 70 → wld w3 (some (b + 13)) 0 c K = K (cntO A s n c) := by
            intro c K hc
            have hv : vp_in c 70 := vp_iff.2 (by omega)
            simp only [h3.1.sh.r13, hv, hm3 _ (show c.toInt.toNat < 70 by omega), cntJ_O, i_of hc.1, true_and]
          refine loopN (n := 69) (I := fun j w4 => w4 = w3) (L := fun fu j w4 => wl_X0_crowd_89 k fu w4 b what (bestO A s n j) (Int32.ofNat (j + 1))) ?_ ?_ 69 FU 0 w3 (by omega) (by unfold FU; omega) rfl
          · rintro fu j w4 hj rfl ih
            have hb := bestO_b A s n j (by omega)
            rw [wl_X0_crowd_89_s]
            unfold wb_X0_crowd_89
            rw [if_neg (by rw [i_le, i_ti (by omega)]; show ¬ (70 : Int) ≤ _; omega)]
            simp only [h3.1.sh.G7]
            rw [hrd _ _ (by rw [i_ti (by omega)]; omega), hrd _ _ (by omega), i_ofS]
            have := ih _ rfl
            have eb : bestO A s n (j + 1) = if cntO A s n (bestO A s n j) < cntO A s n (Int32.ofNat (j + 1)) then Int32.ofNat (j + 1) else bestO A s n j := rfl
            rw [eb] at this
            by_cases e : cntO A s n (bestO A s n j) < cntO A s n (Int32.ofNat (j + 1))
            · rw [if_neg (by rw [i_le]; rw [i_lt] at e; omega)]
              rwa [if_pos e] at this
            · rw [if_pos (by rw [i_le]; rw [i_lt] at e; omega)]
              rwa [if_neg e] at this
          · rintro fu w4 rfl
            rw [wl_X0_crowd_89_s]
            unfold wb_X0_crowd_89
            have hb := bestO_b A s n 66 (by omega)
            rw [if_pos (by decide), bestO_69 hN hn]
            by_cases e0 : what = 0
            · rw [if_pos e0] at hk3 ⊢
              exact hk3
            · rw [if_neg e0] at hk3 ⊢
              simp only [h3.1.sh.G7]
              rw [hrd _ _ (by omega)]
              exact hk3
  unfold wp_X0_crowd
  simp only [x_isIn, Int32.reduceToInt]
  by_cases hc : 0 ≤ what.toInt ∧ what.toInt ≤ 1
  · rw [if_pos hc]
    exact ⟨by rw [h.sh.ob]; trivial, body 1 (one_iff hc)⟩
  · rw [if_neg hc]
    exact ⟨by rw [h.sh.ob]; trivial, body 0 (zero_iff hc)⟩
theorem x_lonely (h : XX w b i o A) (hN : okN (aN A)) (s n : Int32) {k : Int32 → Wd → Prop} (hk : xR w b i o (F_lonely A s n).2 (k (F_lonely A s n).1)) : wp_X0_lonely w b s n k := by
  have hP := hN.P
  have h8 := hN.pe8
  unfold wp_X0_lonely
  refine ⟨by rw [h.sh.ob]; trivial, x_q h hN (one_iff trivial) hk (fun _ _ t w1 h1 hf1 hl1 hk1 => ?_)⟩
  simp only [h1.sh.G7]
  refine x_fill h1 (fun w2 hf2 hm2 => ?_)
  refine loopN (n := pe (aN A)) (I := fun j w3 => lpI w1 b i o A t s n w3 ∧ mny w3 b (cntJ A s n j)) (L := fun fu j w3 => wl_X0_lonely_19 k fu w3 b (some t) (Int32.ofNat j)) ?_ ?_ (pe (aN A)) FU 0 w2 (by omega) (by unfold FU; omega) ⟨⟨h1.scP (at13_P hf2), at13_P hf2, hl1.sc (at13_P hf2)⟩, hm2⟩
  · intro fu j w3 hj ⟨h3, hm3⟩ ih
    rw [wl_X0_lonely_19_s]
    unfold wb_X0_lonely_19
    simp only [h3.1.G0, h3.1.is.F107, h3.1.sh.G7]
    rw [if_neg (by rw [hP.le (by omega)]; omega)]
    refine ⟨by rw [h3.1.sh.ob]; trivial, x_cnt1 h3.1 hN h3.2.2 hj hm3 (fun w4 h4 hf4 hl4 hm4 => ?_)⟩
    rw [i_ofS]
    exact ih w4 ⟨⟨h4, h3.2.1.trans hf4, hl4⟩, hm4⟩
  · intro fu w3 ⟨h3, hm3⟩
    rw [wl_X0_lonely_19_s]
    unfold wb_X0_lonely_19
    simp only [h3.1.G0, h3.1.is.F107]
    rw [if_pos (by rw [hP.le (by omega)]; omega)]
    refine loopN (n := pe (aN A)) (I := fun j w4 => lpI w1 b i o A t s n w4 ∧ mny w4 b (cntJ A s n (pe (aN A)))) (L := fun fu j w4 => wl_X0_lonely_62 k fu w4 b (some t) (foldP (fun p a => a ||| (if cntO A s n (uC (goA A p s n)) = 1 then bit1 p else 0)) 0 j) (Int32.ofNat j)) ?_ ?_ (pe (aN A)) FU 0 w3 (by omega) (by unfold FU; omega) ⟨h3, hm3⟩
    · intro fu j w4 hj ⟨h4, hm4⟩ ih
      have hz4 := h4.1.sh.z
      rw [wl_X0_lonely_62_s]
      unfold wb_X0_lonely_62
      simp only [h4.1.G0, h4.1.is.F107, h4.1.sh.G7]
      rw [if_neg (by rw [hP.le (by omega)]; omega)]
      refine ⟨by rw [h4.1.sh.ob]; trivial, x_walkedBy h4.1 hN h4.2.2 hj (fun w5 hf5 hw5 => ?_)⟩
      have h5 := h4.step hf5
      have hm5 := hm4.sc hf5 hz4 (by unfold at1; omega)
      have hc := (goA_ok hN (show n.toInt.toNat ≤ 40 from h4.2.2.2.1) hj (s := s)).1
      obtain ⟨c1, c2⟩ := cell_of hN hc
      have hv : vp_in (uC (goA A j s n)) 70 := vp_iff.2 (by have := hc.1; omega)
      rw [hw5.gF, hw5.2.1]
      simp only [h5.1.sh.r13, hv, hm5 _ (show (uC (goA A j s n)).toInt.toNat < 70 by omega), cntJ_O, ← c2, i_ofS, true_and]
      have := ih w5 ⟨h5, hm5⟩
      simp only [foldP] at this
      by_cases e : cntO A s n (uC (goA A j s n)) = 1
      · rw [if_pos e] at this ⊢; exact this
      · rw [if_neg e] at this ⊢; exact this
    · intro fu w4 ⟨h4, hm4⟩
      rw [wl_X0_lonely_62_s]
      unfold wb_X0_lonely_62
      simp only [h4.1.G0, h4.1.is.F107]
      rw [if_pos (by rw [hP.le (by omega)]; omega)]
      exact hk1 w4 h4.1 (xP_Q h4.2.1)
end XQ2
