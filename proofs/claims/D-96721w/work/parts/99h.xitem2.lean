/-! ===== the class's Reader: an item ===== -/
theorem pN_pos {T : Nw} {z : Nat} {P : Int32 → Prop} [DecidablePred P] {i : Nat} {k : Int32 → Nat → PR} (h : tkS T z i = 2 ∧ tkE T z i - tkF T z i ≤ 2 ∧ P (tkV T z i)) : pN T z P i k = k (tkV T z i) (tkE T z i) := if_pos h
section XIT2
variable {w0 w : Wd} {b : Nat} {A : Ab} {N : Nw} {i : Nat}
theorem x_207 (h : rdI w0 w b A N i) (hN : okN N) (hT : okT A) (hz63 : zA A ≤ 63) (hs1 : tkS (aT A) (zA A) i = 1) {X : Nat → Wd → Prop} {k : Wd → Prop} (hK : iK w0 b A X k (stF (aT A) (zA A) N i)) : wb_X12_item_207 X k w (wz w0) (wch (aT A) (zA A) i) := by
  have hpI := hN.peI
  have h8 := hN.pe8
  have hs := hN.side
  unfold wb_X12_item_207
  unfold stF at hK
  have hc' : wch (aT A) (zA A) i = -1 ∨ ∃ j, j < 8 ∧ wch (aT A) (zA A) i = Int32.ofNat j := whJ_c (aT A) (zA A) i 8
  generalize wch (aT A) (zA A) i = W at *
  rcases hc' with rfl | ⟨j, hj, rfl⟩
  · rw [if_pos rfl] at hK
    rw [if_neg (by decide), if_neg (by decide), if_neg (by decide), if_neg (by decide), if_neg (by decide), if_neg (by decide), if_neg (by decide), if_neg (by decide)]
    exact ⟨h.r.ob, x_wrong h hK⟩
  · rcases (show j = 0 ∨ j = 1 ∨ j = 2 ∨ j = 3 ∨ j = 4 ∨ j = 5 ∨ j = 6 ∨ j = 7 by omega) with rfl | rfl | rfl | rfl | rfl | rfl | rfl | rfl
    · rw [if_neg (by decide), if_neg (by decide), if_neg (by decide), if_neg (by decide), if_pos (by decide)] at hK
      rw [if_pos (by decide)]
      refine ⟨h.r.ob, x_nxt h hT hz63 (by omega) (fun w1 h1 _ => ?_)⟩
      rw [h1.r.gG, h1.r.2.2.2.1, h1.r.gG, h1.r.2.2.2.1, h1.is.F106]
      refine ⟨h1.r.ob, x_numK h1 hT hz63 (N 90) 7 (by have := hN.2.1; omega) (by decide) hK (fun w2 hb2 hr2 h2 hK2 => ?_)⟩
      rw [h2.is.pF]
      exact hK2 _ (rdI_is h2 (h2.is.wSide h8 _) ((fr.refl _ _).sF (fun _ => by unfold isP7; omega)))
    · rw [if_neg (by decide), if_neg (by decide), if_pos (by decide)] at hK
      rw [if_neg (by decide), if_pos (by decide)]
      refine ⟨h.r.ob, x_nxt h hT hz63 (by omega) (fun w1 h1 _ => ?_)⟩
      have e6 : wF w1 (wz w0) 1206 = nmC (aT A) (zA A) (tkE (aT A) (zA A) i) := h1.tk.2.2.1
      rw [h1.r.gG, h1.r.2.2.2.1, h1.r.gF, e6]
      simp only [wnn]
      refine ⟨by rw [h1.is.ob]; trivial, ?_⟩
      rw [x_isCell h1.is]
      have hnm := isC_nm hN (T := aT A) (z := zA A) h1.le
      have fail : (isC (N 90) (nmC (aT A) (zA A) (tkE (aT A) (zA A) i)) → smb N (nmC (aT A) (zA A) (tkE (aT A) (zA A) i))) → wb_X12_item_320 X k w1 (wz w0) (some (wz w0)) := by
        intro hf
        unfold wb_X12_item_320 wb_X12_item_321
        simp only [wnn]
        refine ⟨h1.r.ob, x_need1 h1 0 (fun _ => ?_) (fun q => absurd rfl q)⟩
        unfold pN at hK
        rw [if_neg (fun q => q.2.2.2 (by
          have := hf (hnm.2 ⟨q.1, q.2.1, q.2.2.1⟩)
          rwa [nm_val q.1 q.2.1] at this))] at hK
        exact hK
      by_cases c : isC (N 90) (nmC (aT A) (zA A) (tkE (aT A) (zA A) i))
      · rw [if_pos c, if_neg (by decide), h1.r.gG, h1.r.2.2.2.1, h1.r.gF, e6]
        refine ⟨by rw [h1.is.ob]; trivial, x_mayI h1.is hN.P _ ?_⟩
        by_cases d : smb N (nmC (aT A) (zA A) (tkE (aT A) (zA A) i))
        · rw [if_pos d, if_pos rfl]
          exact fail (fun _ => d)
        · rw [if_neg d, if_neg (by decide)]
          unfold wb_X12_item_321
          simp only [wnn]
          refine ⟨h1.r.ob, x_need1 h1 1 (fun q => absurd q (by decide)) (fun _ => ?_)⟩
          rw [h1.r.gG, h1.r.2.2.2.1]
          obtain ⟨c1, c2, c3⟩ := hnm.1 c
          refine ⟨h1.r.ob, x_cell1 h1 hN hT hz63 (fun q => absurd c q) (fun _ w2 h2 => ⟨by rw [h2.is.ob]; trivial, x_pondI h2.is hN c3 (fun w3 i3 f3 => ?_)⟩)⟩
          unfold pN at hK
          rw [nm_val c1 c2] at d
          rw [if_pos ⟨c1, c2, c3, d⟩] at hK
          exact hK _ (rdI_is h2 i3 f3)
      · rw [if_neg c, if_pos rfl]
        exact fail (fun q => absurd q c)
    · rw [if_neg (by decide), if_neg (by decide), if_neg (by decide), if_pos (by decide)] at hK
      rw [if_neg (by decide), if_neg (by decide), if_pos (by decide)]
      refine ⟨h.r.ob, x_nxt h hT hz63 (by omega) (fun w1 h1 _ => ?_)⟩
      rw [h1.r.gG, h1.r.2.2.2.1]
      have hnm := isC_nm hN (T := aT A) (z := zA A) h1.le
      refine ⟨h1.r.ob, x_cell1 h1 hN hT hz63 (fun q => ?_) (fun c w2 h2 => ?_)⟩
      · unfold pN at hK
        rw [if_neg (fun x => q (hnm.2 ⟨x.1, x.2.1, x.2.2.1⟩))] at hK
        exact hK
      · obtain ⟨c1, c2, c3⟩ := hnm.1 c
        simp only [wnn]
        refine ⟨by rw [h2.is.ob]; trivial, x_pondI h2.is hN c3 (fun w3 i3 f3 => ?_)⟩
        unfold pN at hK
        rw [if_pos ⟨c1, c2, c3, trivial⟩] at hK
        exact hK _ (rdI_is h2 i3 f3)
    · rw [if_neg (by decide), if_pos (by decide)] at hK
      rw [if_neg (by decide), if_neg (by decide), if_neg (by decide), if_pos (by decide)]
      refine ⟨h.r.ob, ?_⟩
      unfold wp_X12_adds
      rw [h.r.gG, h.r.2.2.2.1, h.is.F107]
      by_cases c8 : pe N = 8
      · rw [if_pos (by rw [i_le, hpI, c8]; exact Int.le_refl _)]
        rw [if_pos c8] at hK
        unfold wb_X12_adds_18
        simp only [wnn]
        exact ⟨h.r.ob, x_need1 h 0 (fun _ => hK) (fun q => absurd rfl q)⟩
      · rw [if_neg (by rw [i_le, hpI, show (8 : Int32).toInt = 8 from rfl]; omega)]
        rw [if_neg c8] at hK
        unfold stP at hK
        unfold wb_X12_adds_18
        simp only [wnn]
        refine ⟨h.r.ob, x_need1 h 1 (fun q => absurd q (by decide)) (fun _ => ⟨h.r.ob, x_nxt h hT hz63 (by omega) (fun w1 h1 _ => ⟨h1.r.ob, x_numK h1 hT hz63 0 5 (by decide) (by decide) hK (fun w2 hb2 hr2 h2 hK2 => ⟨h2.r.ob, x_numK h2 hT hz63 0 9 (by decide) (by decide) hK2 (fun w3 hb3 hr3 h3 hK3 => ?_)⟩)⟩)⟩)⟩
        have e6 : wF w3 (wz w0) 1206 = nmC (aT A) (zA A) (tkE (aT A) (zA A) (tkE (aT A) (zA A) (tkE (aT A) (zA A) i))) := h3.tk.2.2.1
        have hnm := isC_nm hN (T := aT A) (z := zA A) h3.le
        rw [h3.r.gG, h3.r.2.2.2.1, h3.r.gF, e6]
        refine ⟨by rw [h3.is.ob]; trivial, ?_⟩
        rw [x_isCell h3.is]
        have fail : (isC (N 90) (nmC (aT A) (zA A) (tkE (aT A) (zA A) (tkE (aT A) (zA A) (tkE (aT A) (zA A) i)))) → pnd N (nmC (aT A) (zA A) (tkE (aT A) (zA A) (tkE (aT A) (zA A) (tkE (aT A) (zA A) i)))) = 1) → wb_X12_adds_73 X k w3 (wz w0) (tkV (aT A) (zA A) (tkE (aT A) (zA A) i)) (tkV (aT A) (zA A) (tkE (aT A) (zA A) (tkE (aT A) (zA A) i))) (some (wz w0)) := by
          intro hf
          unfold wb_X12_adds_73 wb_X12_adds_74
          simp only [wnn]
          refine ⟨h3.r.ob, x_need1 h3 0 (fun _ => ?_) (fun q => absurd rfl q)⟩
          unfold pN at hK3
          rw [if_neg (fun q => q.2.2.2 (by
            have := hf (hnm.2 ⟨q.1, q.2.1, q.2.2.1⟩)
            rwa [nm_val q.1 q.2.1] at this))] at hK3
          exact hK3
        by_cases c : isC (N 90) (nmC (aT A) (zA A) (tkE (aT A) (zA A) (tkE (aT A) (zA A) (tkE (aT A) (zA A) i))))
        · rw [if_pos c, if_neg (by decide), h3.r.gG, h3.r.2.2.2.1, h3.r.gF, e6]
          refine ⟨by rw [h3.is.ob]; trivial, ?_⟩
          rw [x_isPond h3.is hN c]
          by_cases d : pnd N (nmC (aT A) (zA A) (tkE (aT A) (zA A) (tkE (aT A) (zA A) (tkE (aT A) (zA A) i)))) = 1
          · rw [if_pos d, if_neg (by decide)]
            exact fail (fun _ => d)
          · rw [if_neg d, if_pos rfl]
            unfold wb_X12_adds_74
            simp only [wnn]
            refine ⟨h3.r.ob, x_need1 h3 1 (fun q => absurd q (by decide)) (fun _ => ?_)⟩
            obtain ⟨c1, c2, c3⟩ := hnm.1 c
            refine ⟨h3.r.ob, x_cell1 h3 hN hT hz63 (fun q => absurd c q) (fun _ w4 h4 => ?_)⟩
            rw [nm_val c1 c2] at d
            rw [pN_pos ⟨c1, c2, c3, d⟩] at hK3
            rw [h4.r.gG, h4.r.2.2.2.1]
            refine ⟨h4.r.ob, x_numK h4 hT hz63 0 3 (by decide) (by decide) hK3 (fun w5 hb5 hr5 h5 hK5 => ?_)⟩
            refine ⟨by rw [h5.is.ob]; trivial, x_addsI h5.is hN (by have := h5.zz; omega) (by omega) ⟨hr2.1, Int.lt_of_le_of_lt hr2.2 (by decide)⟩ _ _ _ (fun w6 i6 f6 => ?_)⟩
            exact hK5 _ (rdI_is h5 i6 f6)
        · rw [if_neg c, if_pos rfl]
          exact fail (fun q => absurd q c)
    · rw [if_neg (by decide), if_neg (by decide), if_neg (by decide), if_neg (by decide), if_neg (by decide), if_pos (by decide)] at hK
      rw [if_neg (by decide), if_neg (by decide), if_neg (by decide), if_neg (by decide), if_pos (by decide)]
      refine ⟨h.r.ob, x_nxt h hT hz63 (by omega) (fun w1 h1 _ => ?_)⟩
      have e1 : (N 89 - 1).toInt = (N 89).toInt - 1 := i_dec (by omega)
      rw [h1.r.gG, h1.r.2.2.2.1, h1.is.F107]
      refine ⟨h1.r.ob, x_numK h1 hT hz63 0 (N 89 - 1) (by decide) (by rw [e1]; omega) hK (fun w2 hb2 hr2 h2 hK2 => ?_)⟩
      have hx := hr2.2
      rw [e1] at hx
      rw [h2.r.gG, h2.r.2.2.2.1, h2.is.G104]
      refine ⟨h2.r.ob, x_numK h2 hT hz63 0 1 (by decide) (by decide) hK2 (fun w3 hb3 hr3 h3 hK3 => ?_)⟩
      have hv : vp_in (tkV (aT A) (zA A) (tkE (aT A) (zA A) i)) 8 := vp_iff.2 (by omega)
      rw [h3.is.w5]
      exact ⟨hv, hK3 _ (rdI_is h3 (h3.is.wP h8 (d := 4) (by decide) (by omega) _) ((fr.refl _ _).sI (fun _ => by unfold isP7; omega)))⟩
    · rw [if_neg (by decide), if_neg (by decide), if_neg (by decide), if_neg (by decide), if_neg (by decide), if_neg (by decide), if_neg (by decide)] at hK
      rw [if_neg (by decide), if_neg (by decide), if_neg (by decide), if_neg (by decide), if_neg (by decide), if_pos (by decide)]
      exact ⟨h.r.ob, x_toldK h hN hT hz63 hs1 (t := 0) (by decide) (by decide) hK⟩
    · rw [if_neg (by decide), if_neg (by decide), if_neg (by decide), if_neg (by decide), if_neg (by decide), if_neg (by decide), if_neg (by decide)] at hK
      rw [if_neg (by decide), if_neg (by decide), if_neg (by decide), if_neg (by decide), if_neg (by decide), if_neg (by decide), if_pos (by decide)]
      exact ⟨h.r.ob, x_toldK h hN hT hz63 hs1 (t := 1) (by decide) (by decide) hK⟩
    · rw [if_neg (by decide), if_neg (by decide), if_neg (by decide), if_neg (by decide), if_neg (by decide), if_neg (by decide), if_pos (by decide)] at hK
      rw [if_neg (by decide), if_neg (by decide), if_neg (by decide), if_neg (by decide), if_neg (by decide), if_neg (by decide), if_neg (by decide), if_pos (by decide)]
      exact ⟨h.r.ob, x_toldK h hN hT hz63 hs1 (t := 2) (by decide) (by decide) hK⟩
/-- the word, by its String -/
theorem x_item (h : rdI w0 w b A N i) (hN : okN N) (hT : okT A) (hz63 : zA A ≤ 63) (hh : hsh0 w (wz w0) (tkS (aT A) (zA A) i)) {X : Nat → Wd → Prop} {kC : Wd → Prop} (hK : iK w0 b A X kC (stF (aT A) (zA A) N i)) : wp_X12_item w (wz w0) X kC := by
  have hz := h.zz
  have hE := tkE_b (T := aT A) h.le
  have hF := tkF_b (T := aT A) h.le
  unfold wp_X12_item
  rw [h.r.gG]
  have no : ¬ tkS (aT A) (zA A) i = 1 → xF w0 X (tkF (aT A) (zA A) i) := by
    intro hn
    have : wch (aT A) (zA A) i = -1 := whJ_no (fun k _ q => hn q.1) 8 (by decide)
    unfold stF at hK
    rw [if_pos this] at hK
    exact hK
  rcases h.tk.2.2.2 with ⟨s1, q, g1, g2⟩ | ⟨s3, g⟩ | ⟨s1, s3, g⟩
  · rw [g1, if_neg (by simp), h.r.gG, g1]
    simp only [wnn]
    have hlt := tkE_lt (T := aT A) h.le (by omega)
    have hq := g2.choose_spec.1.1
    obtain ⟨g3, g4⟩ := hh q s1 g1
    refine ⟨g2.ob, x_hash g2 g3 g4 (by omega) (fun w1 hf1 => ?_)⟩
    -- the Reader behind the hash
    have h1 : rdI w0 w1 b A N i := by
      have hfz := hf1.z
      have hrd : wz w0 < wz w := by omega
      have hp : ∀ k, ¬ hsP q (wz w0) k := fun k p => by have := p.1; omega
      have hjz := h.is.z
      refine ⟨⟨h.r.sc hf1 (fun k p => absurd p (hp k)) (fun p => by have := p.1; omega), h.is.sc hf1 (fun x k h1 h2 p => by have := p.1; omega) (fun v k hv p => ?_), ?_⟩, h.ks.sc hf1 (by omega) (fun x k hx p => by have := p.1; omega), x0_n h.f0 hf1 (fun x k p => by have := p.1; omega), ⟨hz.1, by omega⟩, h.le⟩
      · obtain ⟨-, -, c, hc, -⟩ := hv
        rw [p.1, g2.choose_spec.2.1] at hc
        simp only [Option.some.injEq, Prod.mk.injEq] at hc
        exact absurd hc.2.1 (by decide)
      · obtain ⟨t1, t2, t3, t4⟩ := h.tk
        obtain ⟨v, hb, e⟩ := g2.sc hf1 (Nat.le_refl _) (fun x k hx _ p => p.2)
        exact ⟨(hf1.F hrd (hp _)).trans t1, (hf1.F hrd (hp _)).trans t2, (hf1.F hrd (hp _)).trans t3, Or.inl ⟨s1, q, (hf1.G hrd (hp _)).trans g1, ⟨v, by omega, e⟩⟩⟩
    have g21 : strA w1 (wz w0 + 8) (wz w) q true (fun x => aT A (tkF (aT A) (zA A) i + x)) (tkE (aT A) (zA A) i - tkF (aT A) (zA A) i) := g2.sc hf1 (Nat.le_refl _) (fun x k hx _ p => p.2)
    have hL : ∀ x, tkF (aT A) (zA A) i + x < tkE (aT A) (zA A) i → isLt (aT A (tkF (aT A) (zA A) i + x)) := fun x hx => srtA_1 ((tk_in (by omega) hx (Or.inl s1)).trans s1)
    have mP : ∀ k, k < 8 → ((tkE (aT A) (zA A) i - tkF (aT A) (zA A) i ≤ 6 ∧ wdP (aT A) (tkF (aT A) (zA A) i) (tkE (aT A) (zA A) i) k) ↔ wdM (aT A) (tkF (aT A) (zA A) i) (tkE (aT A) (zA A) i - tkF (aT A) (zA A) i) k) := fun k hk => wdM_P hk hE.1 hL
    have m207 := x_207 h1 hN hT hz63 s1 hK
    have hM : ∀ k, k < 8 → wdM (aT A) (tkF (aT A) (zA A) i) (tkE (aT A) (zA A) i - tkF (aT A) (zA A) i) k → hshS (fun x => aT A (tkF (aT A) (zA A) i + x)) (tkE (aT A) (zA A) i - tkF (aT A) (zA A) i) = hs8 k := by
      intro k hk hm
      rw [← hs_w k hk, ← hm.1]
      exact hshS_cg _ (fun j hj => hm.2 j hj)
    have mU : ∀ k k', k < 8 → k' < 8 → wdM (aT A) (tkF (aT A) (zA A) i) (tkE (aT A) (zA A) i - tkF (aT A) (zA A) i) k → wdM (aT A) (tkF (aT A) (zA A) i) (tkE (aT A) (zA A) i - tkF (aT A) (zA A) i) k' → k' = k := fun k k' hk hk' a b => hs_ne k' hk' k hk ((hM k' hk' b).symm.trans (hM k hk a))
    have yes : ∀ k, k < 8 → wdM (aT A) (tkF (aT A) (zA A) i) (tkE (aT A) (zA A) i - tkF (aT A) (zA A) i) k → wb_X12_item_207 X kC w1 (wz w0) (Int32.ofNat k) := by
      intro k hk hm
      have : wch (aT A) (zA A) i = Int32.ofNat k := whJ_is hk s1 ((mP k hk).2 hm) (fun k' hk' q => mU k k' hk hk' hm ((mP k' hk').1 q)) 8 (by decide) hk
      rwa [this] at m207
    have nos : (∀ k, k < 8 → ¬ wdM (aT A) (tkF (aT A) (zA A) i) (tkE (aT A) (zA A) i - tkF (aT A) (zA A) i) k) → wb_X12_item_207 X kC w1 (wz w0) (-1) := by
      intro hn
      have : wch (aT A) (zA A) i = -1 := whJ_no (fun k hk q => hn k hk ((mP k hk).1 q.2)) 8 (by decide)
      rwa [this] at m207
    generalize hv : hshS (fun x => aT A (tkF (aT A) (zA A) i + x)) (tkE (aT A) (zA A) i - tkF (aT A) (zA A) i) = v3 at *
    have br : ∀ k, k < 8 → v3 = hs8 k → (wob w1 q [34] ∧ wp_J4_equals w1 q (wk w1 (11 + k)) (fun v6 w7 => if v6 = 0 then wb_X12_item_207 X kC w7 (wz w0) (-1) else wb_X12_item_207 X kC w7 (wz w0) (Int32.ofNat k))) := by
      intro k hk e
      obtain ⟨q', k1, k2⟩ := h1.ks.1 k hk
      have hb := wl_b k hk
      rw [k1]
      refine ⟨g21.ob, x_strEq g21 k2 (by omega) (by omega) ?_⟩
      by_cases m : tkE (aT A) (zA A) i - tkF (aT A) (zA A) i = wl8 k ∧ ∀ j, j < tkE (aT A) (zA A) i - tkF (aT A) (zA A) i → aT A (tkF (aT A) (zA A) i + j) = wrd (6 * k + j)
      · rw [if_pos m, if_neg (by decide)]
        exact yes k hk m
      · rw [if_neg m, if_pos rfl]
        refine nos (fun k' hk' m' => m ?_)
        have := hs_ne k' hk' k hk ((hM k' hk' m').symm.trans e)
        rw [this] at m'
        exact m'
    have dflt : (∀ k, k < 8 → ¬ v3 = hs8 k) → wb_X12_item_207 X kC w1 (wz w0) (-1) := fun hn => nos (fun k hk m => hn k hk (hM k hk m))
    by_cases e3 : v3 = -991716523
    · rw [if_pos e3]; exact br 3 (by decide) e3
    · rw [if_neg e3]
      by_cases e4 : v3 = 3370
      · rw [if_pos e4]; exact br 4 (by decide) e4
      · rw [if_neg e4]
        by_cases e2 : v3 = 99755
        · rw [if_pos e2]; exact br 2 (by decide) e2
        · rw [if_neg e2]
          by_cases e6 : v3 = 110119
          · rw [if_pos e6]; exact br 6 (by decide) e6
          · rw [if_neg e6]
            by_cases e5 : v3 = 3317767
            · rw [if_pos e5]; exact br 5 (by decide) e5
            · rw [if_neg e5]
              by_cases e1 : v3 = 3446773
              · rw [if_pos e1]; exact br 1 (by decide) e1
              · rw [if_neg e1]
                by_cases e0 : v3 = 3530071
                · rw [if_pos e0]; exact br 0 (by decide) e0
                · rw [if_neg e0]
                  by_cases e7 : v3 = 95774492
                  · rw [if_pos e7]; exact br 7 (by decide) e7
                  · rw [if_neg e7]
                    refine dflt (fun k hk e => ?_)
                    rcases (show k = 0 ∨ k = 1 ∨ k = 2 ∨ k = 3 ∨ k = 4 ∨ k = 5 ∨ k = 6 ∨ k = 7 by omega) with rfl | rfl | rfl | rfl | rfl | rfl | rfl | rfl
                    · exact e0 e
                    · exact e1 e
                    · exact e2 e
                    · exact e3 e
                    · exact e4 e
                    · exact e5 e
                    · exact e6 e
                    · exact e7 e
  · rw [g]
    obtain ⟨q, k1, k2, k3⟩ := h.ks.2
    rw [k1, if_neg (by simp), h.r.gG, g, k1]
    simp only [wnn]
    refine ⟨k2.ob, ?_⟩
    unfold wp_J4_hashCode
    rw [ob34F k2.ob, k3, if_neg (by decide)]
    dsimp only
    rw [if_neg (by decide), if_neg (by decide), if_neg (by decide), if_neg (by decide), if_neg (by decide), if_neg (by decide), if_neg (by decide), if_neg (by decide)]
    unfold wb_X12_item_207
    rw [if_neg (by decide), if_neg (by decide), if_neg (by decide), if_neg (by decide), if_neg (by decide), if_neg (by decide), if_neg (by decide), if_neg (by decide)]
    exact ⟨h.r.ob, x_wrong h (no (by omega))⟩
  · rw [g, if_pos rfl]
    exact ⟨h.r.ob, x_wrong h (no s1)⟩
end XIT2
