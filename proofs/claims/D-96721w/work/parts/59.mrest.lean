/-! ===== copy, walk, years, image, back, status, of the reference ===== -/
section MREST
variable {w : Wd} {m : Nat} {A : Ab}
def F_copy (A : Ab) (p q i j n : Int32) : Int32 × Ab := if isS p ∧ isS q then
    (if 10 ≤ (aH A p.toInt.toNat).toInt ∨ 10 ≤ (aH A q.toInt.toNat).toInt ∨ (¬ aH A p.toInt.toNat = -1 ∧ ¬ aH A q.toInt.toNat = -1 ∧ ¬ aH A p.toInt.toNat = aH A q.toInt.toNat) then rf A (-3)
    else if aH A p.toInt.toNat = -1 ∨ aH A q.toInt.toNat = -1 then rf A (-4)
    else if n.toInt < 0 ∨ i.toInt < 0 ∨ j.toInt < 0 ∨ (aS A p.toInt.toNat).toInt - i.toInt < n.toInt ∨ (aS A q.toInt.toNat).toInt - j.toInt < n.toInt then rf A (-2)
    else (n, zE A (fun k => if 40 * q.toInt.toNat + j.toInt.toNat ≤ k ∧ k < 40 * q.toInt.toNat + j.toInt.toNat + n.toInt.toNat then aE A (40 * p.toInt.toNat + i.toInt.toNat + (k - (40 * q.toInt.toNat + j.toInt.toNat))) else aE A k))) else rf A (-2)
theorem i_402 {s i j : Int32} {S I J : Nat} (hs : s.toInt = S) (hS : S ≤ 7) (hi : i.toInt = I) (hj : j.toInt = J) (hJ : I + J < 40) : (40 * s + i + j).toInt.toNat = 40 * S + I + J ∧ vp_in (40 * s + i + j) 320 := by
  have e := i_40 hs hS hi (by omega)
  have e2 : (40 * s + i + j).toInt = ((40 * S + I : Nat) : Int) + J := i_addv e hj (by omega) (by omega)
  exact ⟨by rw [e2]; omega, vp_iff.2 (by rw [e2]; omega)⟩
theorem m_copyB (h : MM w m A) (hA : okS A) {p q i j n : Int32} (hp : isS p) (hq : isS q) (h0 : 0 ≤ n.toInt ∧ 0 ≤ i.toInt ∧ 0 ≤ j.toInt) (h1 : n.toInt ≤ (aS A p.toInt.toNat).toInt - i.toInt ∧ n.toInt ≤ (aS A q.toInt.toNat).toInt - j.toInt) {k : Int32 → Wd → Prop} (hk : mR w m (zE A (fun k => if 40 * q.toInt.toNat + j.toInt.toNat ≤ k ∧ k < 40 * q.toInt.toNat + j.toInt.toNat + n.toInt.toNat then aE A (40 * p.toInt.toNat + i.toInt.toNat + (k - (40 * q.toInt.toNat + j.toInt.toNat))) else aE A k)) (k n)) : wl_X4_copy_160 k FU w m p q i j n 0 := by
  have hSp := (hA p.toInt.toNat (by omega)).1
  have hSq := (hA q.toInt.toNat (by omega)).1
  have en : n.toInt = ((n.toInt.toNat : Nat) : Int) := by omega
  generalize hn' : n.toInt.toNat = n' at *
  have hz := h.sh.z
  refine loopN (n := n') (I := fun c w2 => MM w2 m A ∧ fr (mP m) w w2 ∧ ∀ x, x < c → wL w2 (m + 17) x = aE A (40 * p.toInt.toNat + i.toInt.toNat + x)) (L := fun fu c w2 => wl_X4_copy_160 k fu w2 m p q i j n (Int32.ofNat c)) ?_ ?_ n' FU 0 w (by omega) (by unfold FU; omega) ⟨h, fr.refl _ _, fun x hx => absurd hx (by omega)⟩
  · intro fu c w2 hc ⟨h2, hf2, hw2⟩ ih
    have ec : (Int32.ofNat c).toInt = c := i_ti (by omega)
    have e40 := i_402 (show p.toInt = ((p.toInt.toNat : Nat) : Int) by omega) (by omega) (show i.toInt = ((i.toInt.toNat : Nat) : Int) by omega) ec (by omega)
    have hv : vp_in (Int32.ofNat c) 40 := vp_iff.2 (by omega)
    rw [wl_X4_copy_160_s]
    unfold wb_X4_copy_160
    rw [if_neg (by rw [le_of (by omega)]; omega)]
    simp only [h2.sh.G422, h2.sh.G421, h2.sh.r16, h2.E, e40.2, e40.1, h2.sh.w17, hv, i_tt (show c < 1000000 by omega), i_ofS, true_and]
    have hf3 : fr (fun q k => q = m + 17 ∧ k = 9999) w2 (sL w2 (m + 17) c (aE A (40 * p.toInt.toNat + i.toInt.toNat + c))) := (fr.refl _ _).sL (fun _ => ⟨rfl, rfl⟩)
    have hf3' : fr (mP m) w2 (sL w2 (m + 17) c (aE A (40 * p.toInt.toNat + i.toInt.toNat + c))) := hf3.mono (fun q k _ hp => by unfold mP; omega)
    refine ih _ ⟨h2.sc hf3', hf2.trans hf3', fun x hx => ?_⟩
    rw [wL_sL]
    by_cases e : x = c
    · rw [if_pos ⟨rfl, e⟩, e]
    · rw [if_neg (fun e' => e e'.2)]
      exact hw2 x (by omega)
  · intro fu w2 ⟨h2, hf2, hw2⟩
    rw [wl_X4_copy_160_s]
    unfold wb_X4_copy_160
    rw [if_pos (by rw [le_of (by omega)]; omega)]
    refine loopN (n := n') (I := fun c w3 => MM w3 m (zE A (fun k => if 40 * q.toInt.toNat + j.toInt.toNat ≤ k ∧ k < 40 * q.toInt.toNat + j.toInt.toNat + c then aE A (40 * p.toInt.toNat + i.toInt.toNat + (k - (40 * q.toInt.toNat + j.toInt.toNat))) else aE A k)) ∧ fr (mQ m) w w3 ∧ ∀ x, x < n' → wL w3 (m + 17) x = aE A (40 * p.toInt.toNat + i.toInt.toNat + x)) (L := fun fu c w3 => wl_X4_copy_197 k fu w3 m q j n (Int32.ofNat c)) ?_ ?_ n' FU 0 w2 (by omega) (by unfold FU; omega) ⟨?_, mP_Q hf2, hw2⟩
    · intro fu c w3 hc ⟨h3, hf3, hw3⟩ ih
      have ec : (Int32.ofNat c).toInt = c := i_ti (by omega)
      have e40 := i_402 (show q.toInt = ((q.toInt.toNat : Nat) : Int) by omega) (by omega) (show j.toInt = ((j.toInt.toNat : Nat) : Int) by omega) ec (by omega)
      have hv : vp_in (Int32.ofNat c) 40 := vp_iff.2 (by omega)
      rw [wl_X4_copy_197_s]
      unfold wb_X4_copy_197
      rw [if_neg (by rw [le_of (by omega)]; omega)]
      simp only [h3.sh.G422, h3.sh.G421, h3.sh.r17, h3.sh.w16, e40.2, e40.1, hv, i_tt (show c < 1000000 by omega), hw3 c hc, i_ofS, true_and]
      have h4 := h3.wE (40 * q.toInt.toNat + j.toInt.toNat + c) (aE A (40 * p.toInt.toNat + i.toInt.toNat + c))
      simp only [aE_zE, zE_zE] at h4
      refine ih _ ⟨?_, frL hf3 (by omega), fun x hx => by rw [wL_sL, if_neg (by omega)]; exact hw3 x hx⟩
      have ee : up1 (fun k => if 40 * q.toInt.toNat + j.toInt.toNat ≤ k ∧ k < 40 * q.toInt.toNat + j.toInt.toNat + c then aE A (40 * p.toInt.toNat + i.toInt.toNat + (k - (40 * q.toInt.toNat + j.toInt.toNat))) else aE A k) (40 * q.toInt.toNat + j.toInt.toNat + c) (aE A (40 * p.toInt.toNat + i.toInt.toNat + c)) = fun k => if 40 * q.toInt.toNat + j.toInt.toNat ≤ k ∧ k < 40 * q.toInt.toNat + j.toInt.toNat + (c + 1) then aE A (40 * p.toInt.toNat + i.toInt.toNat + (k - (40 * q.toInt.toNat + j.toInt.toNat))) else aE A k := funext fun x => by
        rw [up1_at]
        by_cases e : x = 40 * q.toInt.toNat + j.toInt.toNat + c
        · rw [if_pos e, if_pos (by omega), show x - (40 * q.toInt.toNat + j.toInt.toNat) = c by omega]
        · rw [if_neg e]
          by_cases e2 : 40 * q.toInt.toNat + j.toInt.toNat ≤ x ∧ x < 40 * q.toInt.toNat + j.toInt.toNat + c
          · rw [if_pos e2, if_pos (by omega)]
          · rw [if_neg e2, if_neg (by omega)]
      rw [ee] at h4
      exact h4
    · intro fu w3 ⟨h3, hf3, hw3⟩
      rw [wl_X4_copy_197_s]
      unfold wb_X4_copy_197
      rw [if_pos (by rw [le_of (by omega)]; omega)]
      exact hk w3 h3 hf3
    · have e0 : (fun k => if 40 * q.toInt.toNat + j.toInt.toNat ≤ k ∧ k < 40 * q.toInt.toNat + j.toInt.toNat + 0 then aE A (40 * p.toInt.toNat + i.toInt.toNat + (k - (40 * q.toInt.toNat + j.toInt.toNat))) else aE A k) = aE A := funext fun k => if_neg (by omega)
      rw [e0]
      exact h2
theorem m_copy (h : MM w m A) (hA : okS A) (p q i j n : Int32) {k : Int32 → Wd → Prop} (hk : mR w m (F_copy A p q i j n).2 (k (F_copy A p q i j n).1)) : wp_X4_copy w m p q i j n k := by
  unfold wp_X4_copy
  unfold F_copy at hk
  rw [m_isShelf]
  by_cases c1 : isS p
  · rw [if_pos c1, if_neg (by decide), m_isShelf]
    by_cases c2 : isS q
    · rw [if_pos c2, if_neg (by decide)]
      rw [if_pos ⟨c1, c2⟩] at hk
      have hv1 : vp_in p 8 := vp_iff.2 (by omega)
      have hv2 : vp_in q 8 := vp_iff.2 (by omega)
      have hSp := (hA p.toInt.toNat (by omega)).1
      have hSq := (hA q.toInt.toNat (by omega)).1
      -- behind the test of sorts
      have g97 : ¬ (10 ≤ (aH A p.toInt.toNat).toInt ∨ 10 ≤ (aH A q.toInt.toNat).toInt ∨ (¬ aH A p.toInt.toNat = -1 ∧ ¬ aH A q.toInt.toNat = -1 ∧ ¬ aH A p.toInt.toNat = aH A q.toInt.toNat)) → ∀ so : Int32, (so = 0 ↔ (aH A p.toInt.toNat = -1 ∨ aH A q.toInt.toNat = -1)) → wb_X4_copy_97 k w m p q i j n so := by
        intro hno so hso
        rw [if_neg hno] at hk
        unfold wb_X4_copy_97
        by_cases d : aH A p.toInt.toNat = -1 ∨ aH A q.toInt.toNat = -1
        · rw [if_pos (hso.2 d)]
          rw [if_pos d] at hk
          exact ⟨by rw [h.sh.ob]; trivial, m_refuse h (by decide) hk⟩
        · rw [if_neg (fun e => d (hso.1 e))]
          rw [if_neg d] at hk
          simp only [i_lt, i_0]
          by_cases d1 : n.toInt < 0
          · rw [if_pos d1]
            rw [if_pos (Or.inl d1)] at hk
            exact ⟨by rw [h.sh.ob]; trivial, m_refuse h (by decide) hk⟩
          · rw [if_neg d1]
            by_cases d2 : i.toInt < 0
            · rw [if_pos d2]
              rw [if_pos (Or.inr (Or.inl d2))] at hk
              exact ⟨by rw [h.sh.ob]; trivial, m_refuse h (by decide) hk⟩
            · rw [if_neg d2]
              by_cases d3 : j.toInt < 0
              · rw [if_pos d3]
                rw [if_pos (Or.inr (Or.inr (Or.inl d3)))] at hk
                exact ⟨by rw [h.sh.ob]; trivial, m_refuse h (by decide) hk⟩
              · rw [if_neg d3]
                have hi := i_hi i
                have hj := i_hi j
                have e1 : (aS A p.toInt.toNat - i).toInt = (aS A p.toInt.toNat).toInt - i.toInt := i_sub (by omega)
                have e2 : (aS A q.toInt.toNat - j).toInt = (aS A q.toInt.toNat).toInt - j.toInt := i_sub (by omega)
                simp only [h.sh.G420, h.sh.r15, h.S, hv1, hv2, e1, e2, i_le, true_and]
                by_cases d4 : (aS A p.toInt.toNat).toInt - i.toInt < n.toInt
                · rw [if_pos d4]
                  rw [if_pos (Or.inr (Or.inr (Or.inr (Or.inl d4))))] at hk
                  exact ⟨by rw [h.sh.ob]; trivial, m_refuse h (by decide) hk⟩
                · rw [if_neg d4]
                  by_cases d5 : (aS A q.toInt.toNat).toInt - j.toInt < n.toInt
                  · rw [if_neg (by omega)]
                    rw [if_pos (Or.inr (Or.inr (Or.inr (Or.inr d5))))] at hk
                    exact ⟨by rw [h.sh.ob]; trivial, m_refuse h (by decide) hk⟩
                  · rw [if_pos (by omega)]
                    rw [if_neg (by omega)] at hk
                    exact m_copyB h hA c1 c2 (by omega) (by omega) hk
      have g46 : ∀ so : Int32, (so = 0 ↔ (aH A p.toInt.toNat = -1 ∨ aH A q.toInt.toNat = -1)) → wb_X4_copy_46 k w m p q i j n so := by
        intro so hso
        unfold wb_X4_copy_46
        simp only [h.sh.G419, h.sh.r14, h.H, hv1, hv2, true_and, i_le, Int32.reduceToInt]
        by_cases d1 : 10 ≤ (aH A p.toInt.toNat).toInt
        · rw [if_pos d1]
          rw [if_pos (Or.inl d1)] at hk
          exact ⟨by rw [h.sh.ob]; trivial, m_refuse h (by decide) hk⟩
        · rw [if_neg d1]
          by_cases d2 : 10 ≤ (aH A q.toInt.toNat).toInt
          · rw [if_pos d2]
            rw [if_pos (Or.inr (Or.inl d2))] at hk
            exact ⟨by rw [h.sh.ob]; trivial, m_refuse h (by decide) hk⟩
          · rw [if_neg d2]
            by_cases d3 : so = 0
            · rw [if_pos d3]
              exact g97 (fun e => e.elim d1 (fun e => e.elim d2 (fun e => (hso.1 d3).elim e.1 e.2.1))) so hso
            · rw [if_neg d3]
              by_cases d4 : aH A p.toInt.toNat = aH A q.toInt.toNat
              · rw [if_pos d4]
                exact g97 (fun e => e.elim d1 (fun e => e.elim d2 (fun e => e.2.2 d4))) so hso
              · rw [if_neg d4]
                have d5 : ¬ (aH A p.toInt.toNat = -1 ∨ aH A q.toInt.toNat = -1) := fun e => d3 (hso.2 e)
                rw [if_pos (Or.inr (Or.inr ⟨fun e => d5 (Or.inl e), fun e => d5 (Or.inr e), d4⟩))] at hk
                exact ⟨by rw [h.sh.ob]; trivial, m_refuse h (by decide) hk⟩
      unfold wb_X4_copy_45
      simp only [h.sh.G419, h.sh.r14, h.H, hv1, hv2, true_and]
      by_cases d1 : aH A p.toInt.toNat = -1
      · rw [if_pos d1]
        exact g46 0 ⟨fun _ => Or.inl d1, fun _ => rfl⟩
      · rw [if_neg d1]
        by_cases d2 : aH A q.toInt.toNat = -1
        · rw [if_pos d2]
          exact g46 0 ⟨fun _ => Or.inr d2, fun _ => rfl⟩
        · rw [if_neg d2]
          exact g46 1 ⟨fun e => absurd e (by decide), fun e => absurd e (fun e => e.elim d1 d2)⟩
    · rw [if_neg c2, if_pos rfl]
      rw [if_neg (fun e => c2 e.2)] at hk
      exact ⟨by rw [h.sh.ob]; trivial, m_refuse h (by decide) hk⟩
  · rw [if_neg c1, if_pos rfl]
    rw [if_neg (fun e => c1 e.1)] at hk
    exact ⟨by rw [h.sh.ob]; trivial, m_refuse h (by decide) hk⟩
/-- in truth -/
def wkC (A : Ab) (p : Nat) (s n : Int32) : Int32 := if uL (goA A p s n) = -1 then uC (goA A p s n) else dryW (aN A) (aN A (5 * p)) (aN A 91) p (tlg A s) (beg (aN A (5 * p + 2)) (aN A (5 * p + 3))) n.toInt.toNat
def wkN (A : Ab) (p : Nat) (s n : Int32) : Nw := up1 (up1 (up1 (aN A) (5 * p + 2) (wkC A p s n)) (5 * p + 3) (uF (goA A p s n))) 95 (aN A 95 + (if uL (goA A p s n) = -1 then 0 else 1))
def F_walk (A : Ab) (s n p : Int32) : Int32 × Ab := if 0 ≤ (loadF A (isP (aN A) p) s n).toInt then (wkC A p.toInt.toNat s n, zN A (wkN A p.toInt.toNat s n)) else rf A (loadF A (isP (aN A) p) s n)
theorem m_walk75 (h : MM w m A) (hN : okN (aN A)) {p : Int32} (hp : isP (aN A) p) {u : Wk} (hu : mw w m 0 u) (l5 c : Int32) (v : Int32) (hv5 : v = if l5 = 0 then 0 else 1) {k : Int32 → Wd → Prop} (hk : mR w m (zN A (up1 (up1 (up1 (aN A) (5 * p.toInt.toNat + 2) c) (5 * p.toInt.toNat + 3) (uF u)) 95 (aN A 95 + v))) (k c)) : wb_X4_walk_75 k w m p l5 (some (m + 2)) ((5 * p) + 2) c := by
  have hp8 := isP_8 hN hp
  have ep : p.toInt = ((p.toInt.toNat : Nat) : Int) := by omega
  have v95 : vp_in 95 97 := vp_iff.2 (by decide)
  unfold wb_X4_walk_75
  simp only [m_wr h ep (by omega) (show (2 : Int32).toInt = ((2 : Nat) : Int) from rfl) (by decide)]
  have h1 := h.wN (5 * p.toInt.toNat + 2) c
  have hu1 := hu.wN (k := 5 * p.toInt.toNat + 2) (v := c)
  simp only [h1.sh.G401, h1.sh.G412, h1.sh.r8, vp_0 (show 0 < 2 by decide), hu1.2.1, m_wr h1 ep (by omega) (show (3 : Int32).toInt = ((3 : Nat) : Int) from rfl) (by decide), ie_m6_m5, ie_m6_m4, ie_m6_m3, ie_m6_m2, ie_m6_m1, ie_m6_0, ie_m6_1, ie_m6_2, ie_m6_3, ie_m6_4, ie_m6_5, ie_m6_6, ie_m5_m6, ie_m5_m4, ie_m5_m3, ie_m5_m2, ie_m5_m1, ie_m5_0, ie_m5_1, ie_m5_2, ie_m5_3, ie_m5_4, ie_m5_5, ie_m5_6, ie_m4_m6, ie_m4_m5, ie_m4_m3, ie_m4_m2, ie_m4_m1, ie_m4_0, ie_m4_1, ie_m4_2, ie_m4_3, ie_m4_4, ie_m4_5, ie_m4_6, ie_m3_m6, ie_m3_m5, ie_m3_m4, ie_m3_m2, ie_m3_m1, ie_m3_0, ie_m3_1, ie_m3_2, ie_m3_3, ie_m3_4, ie_m3_5, ie_m3_6, ie_m2_m6, ie_m2_m5, ie_m2_m4, ie_m2_m3, ie_m2_m1, ie_m2_0, ie_m2_1, ie_m2_2, ie_m2_3, ie_m2_4, ie_m2_5, ie_m2_6, ie_m1_m6, ie_m1_m5, ie_m1_m4, ie_m1_m3, ie_m1_m2, ie_m1_0, ie_m1_1, ie_m1_2, ie_m1_3, ie_m1_4, ie_m1_5, ie_m1_6, ie_0_m6, ie_0_m5, ie_0_m4, ie_0_m3, ie_0_m2, ie_0_m1, ie_0_1, ie_0_2, ie_0_3, ie_0_4, ie_0_5, ie_0_6, ie_1_m6, ie_1_m5, ie_1_m4, ie_1_m3, ie_1_m2, ie_1_m1, ie_1_0, ie_1_2, ie_1_3, ie_1_4, ie_1_5, ie_1_6, ie_2_m6, ie_2_m5, ie_2_m4, ie_2_m3, ie_2_m2, ie_2_m1, ie_2_0, ie_2_1, ie_2_3, ie_2_4, ie_2_5, ie_2_6, ie_3_m6, ie_3_m5, ie_3_m4, ie_3_m3, ie_3_m2, ie_3_m1, ie_3_0, ie_3_1, ie_3_2, ie_3_4, ie_3_5, ie_3_6, ie_4_m6, ie_4_m5, ie_4_m4, ie_4_m3, ie_4_m2, ie_4_m1, ie_4_0, ie_4_1, ie_4_2, ie_4_3, ie_4_5, ie_4_6, ie_5_m6, ie_5_m5, ie_5_m4, ie_5_m3, ie_5_m2, ie_5_m1, ie_5_0, ie_5_1, ie_5_2, ie_5_3, ie_5_4, ie_5_6, ie_6_m6, ie_6_m5, ie_6_m4, ie_6_m3, ie_6_m2, ie_6_m1, ie_6_0, ie_6_1, ie_6_2, ie_6_3, ie_6_4, ie_6_5, Int32.reduceToInt, Int64.reduceToInt, Int.reduceToNat, Int32.reduceAdd, Int32.reduceSub, Int32.reduceMul, Int32.reduceDiv, Int32.reduceLT, Int32.reduceLE, Int.reduceLE, Int.reduceLT, Int.reduceNeg, Int.reduceAdd, Int.reduceSub, Int.reduceMul, Int.reduceEq, Nat.reduceAdd, Nat.reduceMul, Nat.reduceLT, Nat.reduceEqDiff, true_and, and_true, and_self, false_and, and_false, if_true, if_false, ite_true, ite_false, ↓reduceIte, not_true_eq_false, not_false_eq_true, true_or, or_true, or_false, false_or, Int.cast_ofNat_Int, Int.reduceNatCast]
  have h2 := h1.wN (5 * p.toInt.toNat + 3) (uF u)
  simp only [aN_zN, zN_zN] at h2
  have e95 : wI (sI (sI w (m + 2) (5 * p.toInt.toNat + 2) c) (m + 2) (5 * p.toInt.toNat + 3) (uF u)) (m + 2) 95 = aN A 95 := by
    rw [h2.N]
    simp only [aN_zN, up1_at]
    rw [if_neg (by omega), if_neg (by omega)]
  simp only [h2.sh.G401, h2.sh.r2, h2.sh.w2, v95, e95, ie_m6_m5, ie_m6_m4, ie_m6_m3, ie_m6_m2, ie_m6_m1, ie_m6_0, ie_m6_1, ie_m6_2, ie_m6_3, ie_m6_4, ie_m6_5, ie_m6_6, ie_m5_m6, ie_m5_m4, ie_m5_m3, ie_m5_m2, ie_m5_m1, ie_m5_0, ie_m5_1, ie_m5_2, ie_m5_3, ie_m5_4, ie_m5_5, ie_m5_6, ie_m4_m6, ie_m4_m5, ie_m4_m3, ie_m4_m2, ie_m4_m1, ie_m4_0, ie_m4_1, ie_m4_2, ie_m4_3, ie_m4_4, ie_m4_5, ie_m4_6, ie_m3_m6, ie_m3_m5, ie_m3_m4, ie_m3_m2, ie_m3_m1, ie_m3_0, ie_m3_1, ie_m3_2, ie_m3_3, ie_m3_4, ie_m3_5, ie_m3_6, ie_m2_m6, ie_m2_m5, ie_m2_m4, ie_m2_m3, ie_m2_m1, ie_m2_0, ie_m2_1, ie_m2_2, ie_m2_3, ie_m2_4, ie_m2_5, ie_m2_6, ie_m1_m6, ie_m1_m5, ie_m1_m4, ie_m1_m3, ie_m1_m2, ie_m1_0, ie_m1_1, ie_m1_2, ie_m1_3, ie_m1_4, ie_m1_5, ie_m1_6, ie_0_m6, ie_0_m5, ie_0_m4, ie_0_m3, ie_0_m2, ie_0_m1, ie_0_1, ie_0_2, ie_0_3, ie_0_4, ie_0_5, ie_0_6, ie_1_m6, ie_1_m5, ie_1_m4, ie_1_m3, ie_1_m2, ie_1_m1, ie_1_0, ie_1_2, ie_1_3, ie_1_4, ie_1_5, ie_1_6, ie_2_m6, ie_2_m5, ie_2_m4, ie_2_m3, ie_2_m2, ie_2_m1, ie_2_0, ie_2_1, ie_2_3, ie_2_4, ie_2_5, ie_2_6, ie_3_m6, ie_3_m5, ie_3_m4, ie_3_m3, ie_3_m2, ie_3_m1, ie_3_0, ie_3_1, ie_3_2, ie_3_4, ie_3_5, ie_3_6, ie_4_m6, ie_4_m5, ie_4_m4, ie_4_m3, ie_4_m2, ie_4_m1, ie_4_0, ie_4_1, ie_4_2, ie_4_3, ie_4_5, ie_4_6, ie_5_m6, ie_5_m5, ie_5_m4, ie_5_m3, ie_5_m2, ie_5_m1, ie_5_0, ie_5_1, ie_5_2, ie_5_3, ie_5_4, ie_5_6, ie_6_m6, ie_6_m5, ie_6_m4, ie_6_m3, ie_6_m2, ie_6_m1, ie_6_0, ie_6_1, ie_6_2, ie_6_3, ie_6_4, ie_6_5, Int32.reduceToInt, Int64.reduceToInt, Int.reduceToNat, Int32.reduceAdd, Int32.reduceSub, Int32.reduceMul, Int32.reduceDiv, Int32.reduceLT, Int32.reduceLE, Int.reduceLE, Int.reduceLT, Int.reduceNeg, Int.reduceAdd, Int.reduceSub, Int.reduceMul, Int.reduceEq, Nat.reduceAdd, Nat.reduceMul, Nat.reduceLT, Nat.reduceEqDiff, true_and, and_true, and_self, false_and, and_false, if_true, if_false, ite_true, ite_false, ↓reduceIte, not_true_eq_false, not_false_eq_true, true_or, or_true, or_false, false_or, Int.cast_ofNat_Int, Int.reduceNatCast]
  have h3 := h2.wN 95 (aN A 95 + v)
  simp only [aN_zN, zN_zN] at h3
  have ec : aN (zN A (up1 (up1 (up1 (aN A) (5 * p.toInt.toNat + 2) c) (5 * p.toInt.toNat + 3) (uF u)) 95 (aN A 95 + v))) (5 * p.toInt.toNat + 2) = c := by
    simp only [aN_zN, up1_at]
    rw [if_neg (by omega), if_neg (by omega)]
    simp
  have hf3 : fr (mQ m) w (sI (sI (sI w (m + 2) (5 * p.toInt.toNat + 2) c) (m + 2) (5 * p.toInt.toNat + 3) (uF u)) (m + 2) 95 (aN A 95 + v)) := frN (frN (frN (fr.refl _ _)))
  have hk3 := hk _ h3 hf3
  by_cases e : l5 = 0
  · rw [if_pos e] at hv5 ⊢
    subst hv5
    refine ⟨by rw [h3.sh.ob]; trivial, ?_⟩
    rw [m_cell h3 hp8, ec]
    exact hk3
  · rw [if_neg e] at hv5 ⊢
    subst hv5
    refine ⟨by rw [h3.sh.ob]; trivial, ?_⟩
    rw [m_cell h3 hp8, ec]
    exact hk3
theorem m_walk (h : MM w m A) (hN : okN (aN A)) (hA : okS A) (s n p : Int32) {k : Int32 → Wd → Prop} (hk : mR w m (F_walk A s n p).2 (k (F_walk A s n p).1)) : wp_X4_walk w m s n p k := by
  unfold wp_X4_walk
  unfold F_walk at hk
  refine ⟨by rw [h.sh.ob]; trivial, ?_⟩
  have body : ∀ wl : Int32, (¬ wl = 0 ↔ isP (aN A) p) → wp_X4_loadIf w m wl s n (fun v3 w4 => if (0 : Int32) ≤ v3 then (wob w4 m [24] ∧ wp_X4_go w4 m p n (fun w5 => wgG w5 (some m) [24] 416 (fun v6 => wld w5 v6 0 0 (fun v7 => if v7 = (-1) then wb_X4_walk_46 k w5 m p 0 else wb_X4_walk_46 k w5 m p 1)))) else (wob w4 m [24] ∧ wp_X4_refuse w4 m v3 (fun v25 w26 => k v25 w26))) := by
    intro wl hw
    refine m_loadIf h hA _ wl s n hw (fun w1 hf1 hT => ?_)
    have h1 := h.sc (mPt_P hf1)
    generalize hld : loadF A (isP (aN A) p) s n = ld at *
    by_cases hc : 0 ≤ ld.toInt
    · rw [if_pos hc] at hk
      rw [if_pos (by rw [i_le, i_0]; exact hc)]
      have hl := loadF_1 (A := A) (well := isP (aN A) p) (s := s) (n := n) (hld.symm ▸ hc)
      have hsg := loadF_s (A := A) (well := isP (aN A) p) (s := s) (n := n) (hld.symm ▸ hc)
      have hp := hl.2.2.1
      have hp8 := isP_8 hN hp
      have hz := h1.sh.z
      refine ⟨by rw [h1.sh.ob]; trivial, ?_⟩
      rw [show n = Int32.ofNat n.toInt.toNat from (i_of hl.2.1.1).symm]
      refine m_go h1 hN hp (by have := hl.2.1; omega) (hT hc) hsg rfl rfl (okU_beg hN (isP_nat hp)) (fun w2 hf2 _ hw2 hd2 => ?_)
      have h2 := h1.sc (mPw_P hf2)
      have hw2' : mw w2 m 0 (goA A p.toInt.toNat s n) := hw2
      simp only [h2.sh.G416, h2.sh.r12, vp_0 (show 0 < 2 by decide), hw2'.2.2.2.1, ie_m6_m5, ie_m6_m4, ie_m6_m3, ie_m6_m2, ie_m6_m1, ie_m6_0, ie_m6_1, ie_m6_2, ie_m6_3, ie_m6_4, ie_m6_5, ie_m6_6, ie_m5_m6, ie_m5_m4, ie_m5_m3, ie_m5_m2, ie_m5_m1, ie_m5_0, ie_m5_1, ie_m5_2, ie_m5_3, ie_m5_4, ie_m5_5, ie_m5_6, ie_m4_m6, ie_m4_m5, ie_m4_m3, ie_m4_m2, ie_m4_m1, ie_m4_0, ie_m4_1, ie_m4_2, ie_m4_3, ie_m4_4, ie_m4_5, ie_m4_6, ie_m3_m6, ie_m3_m5, ie_m3_m4, ie_m3_m2, ie_m3_m1, ie_m3_0, ie_m3_1, ie_m3_2, ie_m3_3, ie_m3_4, ie_m3_5, ie_m3_6, ie_m2_m6, ie_m2_m5, ie_m2_m4, ie_m2_m3, ie_m2_m1, ie_m2_0, ie_m2_1, ie_m2_2, ie_m2_3, ie_m2_4, ie_m2_5, ie_m2_6, ie_m1_m6, ie_m1_m5, ie_m1_m4, ie_m1_m3, ie_m1_m2, ie_m1_0, ie_m1_1, ie_m1_2, ie_m1_3, ie_m1_4, ie_m1_5, ie_m1_6, ie_0_m6, ie_0_m5, ie_0_m4, ie_0_m3, ie_0_m2, ie_0_m1, ie_0_1, ie_0_2, ie_0_3, ie_0_4, ie_0_5, ie_0_6, ie_1_m6, ie_1_m5, ie_1_m4, ie_1_m3, ie_1_m2, ie_1_m1, ie_1_0, ie_1_2, ie_1_3, ie_1_4, ie_1_5, ie_1_6, ie_2_m6, ie_2_m5, ie_2_m4, ie_2_m3, ie_2_m2, ie_2_m1, ie_2_0, ie_2_1, ie_2_3, ie_2_4, ie_2_5, ie_2_6, ie_3_m6, ie_3_m5, ie_3_m4, ie_3_m3, ie_3_m2, ie_3_m1, ie_3_0, ie_3_1, ie_3_2, ie_3_4, ie_3_5, ie_3_6, ie_4_m6, ie_4_m5, ie_4_m4, ie_4_m3, ie_4_m2, ie_4_m1, ie_4_0, ie_4_1, ie_4_2, ie_4_3, ie_4_5, ie_4_6, ie_5_m6, ie_5_m5, ie_5_m4, ie_5_m3, ie_5_m2, ie_5_m1, ie_5_0, ie_5_1, ie_5_2, ie_5_3, ie_5_4, ie_5_6, ie_6_m6, ie_6_m5, ie_6_m4, ie_6_m3, ie_6_m2, ie_6_m1, ie_6_0, ie_6_1, ie_6_2, ie_6_3, ie_6_4, ie_6_5, Int32.reduceToInt, Int64.reduceToInt, Int.reduceToNat, Int32.reduceAdd, Int32.reduceSub, Int32.reduceMul, Int32.reduceDiv, Int32.reduceLT, Int32.reduceLE, Int.reduceLE, Int.reduceLT, Int.reduceNeg, Int.reduceAdd, Int.reduceSub, Int.reduceMul, Int.reduceEq, Nat.reduceAdd, Nat.reduceMul, Nat.reduceLT, Nat.reduceEqDiff, true_and, and_true, and_self, false_and, and_false, if_true, if_false, ite_true, ite_false, ↓reduceIte, not_true_eq_false, not_false_eq_true, true_or, or_true, or_false, false_or, Int.cast_ofNat_Int, Int.reduceNatCast]
      have hkk : ∀ K : Wd → Prop, mR w m (zN A (wkN A p.toInt.toNat s n)) K → mR w2 m (zN A (wkN A p.toInt.toNat s n)) K := fun K hK w' a b => hK w' a (((mPt_Q hf1).trans (mPw_Q hf2)).trans b)
      have hk2 := hkk _ hk
      unfold wkN wkC at hk2
      by_cases e : uL (goA A p.toInt.toNat s n) = -1
      · simp only [if_pos e] at hk2
        rw [if_pos e]
        unfold wb_X4_walk_46
        simp only [h2.sh.G401, h2.sh.G411, h2.sh.r7, vp_0 (show 0 < 2 by decide), hw2'.1, ie_m6_m5, ie_m6_m4, ie_m6_m3, ie_m6_m2, ie_m6_m1, ie_m6_0, ie_m6_1, ie_m6_2, ie_m6_3, ie_m6_4, ie_m6_5, ie_m6_6, ie_m5_m6, ie_m5_m4, ie_m5_m3, ie_m5_m2, ie_m5_m1, ie_m5_0, ie_m5_1, ie_m5_2, ie_m5_3, ie_m5_4, ie_m5_5, ie_m5_6, ie_m4_m6, ie_m4_m5, ie_m4_m3, ie_m4_m2, ie_m4_m1, ie_m4_0, ie_m4_1, ie_m4_2, ie_m4_3, ie_m4_4, ie_m4_5, ie_m4_6, ie_m3_m6, ie_m3_m5, ie_m3_m4, ie_m3_m2, ie_m3_m1, ie_m3_0, ie_m3_1, ie_m3_2, ie_m3_3, ie_m3_4, ie_m3_5, ie_m3_6, ie_m2_m6, ie_m2_m5, ie_m2_m4, ie_m2_m3, ie_m2_m1, ie_m2_0, ie_m2_1, ie_m2_2, ie_m2_3, ie_m2_4, ie_m2_5, ie_m2_6, ie_m1_m6, ie_m1_m5, ie_m1_m4, ie_m1_m3, ie_m1_m2, ie_m1_0, ie_m1_1, ie_m1_2, ie_m1_3, ie_m1_4, ie_m1_5, ie_m1_6, ie_0_m6, ie_0_m5, ie_0_m4, ie_0_m3, ie_0_m2, ie_0_m1, ie_0_1, ie_0_2, ie_0_3, ie_0_4, ie_0_5, ie_0_6, ie_1_m6, ie_1_m5, ie_1_m4, ie_1_m3, ie_1_m2, ie_1_m1, ie_1_0, ie_1_2, ie_1_3, ie_1_4, ie_1_5, ie_1_6, ie_2_m6, ie_2_m5, ie_2_m4, ie_2_m3, ie_2_m2, ie_2_m1, ie_2_0, ie_2_1, ie_2_3, ie_2_4, ie_2_5, ie_2_6, ie_3_m6, ie_3_m5, ie_3_m4, ie_3_m3, ie_3_m2, ie_3_m1, ie_3_0, ie_3_1, ie_3_2, ie_3_4, ie_3_5, ie_3_6, ie_4_m6, ie_4_m5, ie_4_m4, ie_4_m3, ie_4_m2, ie_4_m1, ie_4_0, ie_4_1, ie_4_2, ie_4_3, ie_4_5, ie_4_6, ie_5_m6, ie_5_m5, ie_5_m4, ie_5_m3, ie_5_m2, ie_5_m1, ie_5_0, ie_5_1, ie_5_2, ie_5_3, ie_5_4, ie_5_6, ie_6_m6, ie_6_m5, ie_6_m4, ie_6_m3, ie_6_m2, ie_6_m1, ie_6_0, ie_6_1, ie_6_2, ie_6_3, ie_6_4, ie_6_5, Int32.reduceToInt, Int64.reduceToInt, Int.reduceToNat, Int32.reduceAdd, Int32.reduceSub, Int32.reduceMul, Int32.reduceDiv, Int32.reduceLT, Int32.reduceLE, Int.reduceLE, Int.reduceLT, Int.reduceNeg, Int.reduceAdd, Int.reduceSub, Int.reduceMul, Int.reduceEq, Nat.reduceAdd, Nat.reduceMul, Nat.reduceLT, Nat.reduceEqDiff, true_and, and_true, and_self, false_and, and_false, if_true, if_false, ite_true, ite_false, ↓reduceIte, not_true_eq_false, not_false_eq_true, true_or, or_true, or_false, false_or, Int.cast_ofNat_Int, Int.reduceNatCast]
        exact m_walk75 h2 hN hp hw2' 0 _ 0 rfl hk2
      · simp only [if_neg e] at hk2
        rw [if_neg e]
        unfold wb_X4_walk_46
        simp only [h2.sh.G401, h2.sh.gF, hd2 e, ie_m6_m5, ie_m6_m4, ie_m6_m3, ie_m6_m2, ie_m6_m1, ie_m6_0, ie_m6_1, ie_m6_2, ie_m6_3, ie_m6_4, ie_m6_5, ie_m6_6, ie_m5_m6, ie_m5_m4, ie_m5_m3, ie_m5_m2, ie_m5_m1, ie_m5_0, ie_m5_1, ie_m5_2, ie_m5_3, ie_m5_4, ie_m5_5, ie_m5_6, ie_m4_m6, ie_m4_m5, ie_m4_m3, ie_m4_m2, ie_m4_m1, ie_m4_0, ie_m4_1, ie_m4_2, ie_m4_3, ie_m4_4, ie_m4_5, ie_m4_6, ie_m3_m6, ie_m3_m5, ie_m3_m4, ie_m3_m2, ie_m3_m1, ie_m3_0, ie_m3_1, ie_m3_2, ie_m3_3, ie_m3_4, ie_m3_5, ie_m3_6, ie_m2_m6, ie_m2_m5, ie_m2_m4, ie_m2_m3, ie_m2_m1, ie_m2_0, ie_m2_1, ie_m2_2, ie_m2_3, ie_m2_4, ie_m2_5, ie_m2_6, ie_m1_m6, ie_m1_m5, ie_m1_m4, ie_m1_m3, ie_m1_m2, ie_m1_0, ie_m1_1, ie_m1_2, ie_m1_3, ie_m1_4, ie_m1_5, ie_m1_6, ie_0_m6, ie_0_m5, ie_0_m4, ie_0_m3, ie_0_m2, ie_0_m1, ie_0_1, ie_0_2, ie_0_3, ie_0_4, ie_0_5, ie_0_6, ie_1_m6, ie_1_m5, ie_1_m4, ie_1_m3, ie_1_m2, ie_1_m1, ie_1_0, ie_1_2, ie_1_3, ie_1_4, ie_1_5, ie_1_6, ie_2_m6, ie_2_m5, ie_2_m4, ie_2_m3, ie_2_m2, ie_2_m1, ie_2_0, ie_2_1, ie_2_3, ie_2_4, ie_2_5, ie_2_6, ie_3_m6, ie_3_m5, ie_3_m4, ie_3_m3, ie_3_m2, ie_3_m1, ie_3_0, ie_3_1, ie_3_2, ie_3_4, ie_3_5, ie_3_6, ie_4_m6, ie_4_m5, ie_4_m4, ie_4_m3, ie_4_m2, ie_4_m1, ie_4_0, ie_4_1, ie_4_2, ie_4_3, ie_4_5, ie_4_6, ie_5_m6, ie_5_m5, ie_5_m4, ie_5_m3, ie_5_m2, ie_5_m1, ie_5_0, ie_5_1, ie_5_2, ie_5_3, ie_5_4, ie_5_6, ie_6_m6, ie_6_m5, ie_6_m4, ie_6_m3, ie_6_m2, ie_6_m1, ie_6_0, ie_6_1, ie_6_2, ie_6_3, ie_6_4, ie_6_5, Int32.reduceToInt, Int64.reduceToInt, Int.reduceToNat, Int32.reduceAdd, Int32.reduceSub, Int32.reduceMul, Int32.reduceDiv, Int32.reduceLT, Int32.reduceLE, Int.reduceLE, Int.reduceLT, Int.reduceNeg, Int.reduceAdd, Int.reduceSub, Int.reduceMul, Int.reduceEq, Nat.reduceAdd, Nat.reduceMul, Nat.reduceLT, Nat.reduceEqDiff, true_and, and_true, and_self, false_and, and_false, if_true, if_false, ite_true, ite_false, ↓reduceIte, not_true_eq_false, not_false_eq_true, true_or, or_true, or_false, false_or, Int.cast_ofNat_Int, Int.reduceNatCast]
        exact m_walk75 h2 hN hp hw2' 1 _ 1 rfl hk2
    · rw [if_neg hc] at hk
      rw [if_neg (by rw [i_le, i_0]; exact hc)]
      have hb := loadF_c A (isP (aN A) p) s n
      rw [hld] at hb
      exact ⟨by rw [h1.sh.ob]; trivial, m_refuse h1 (by omega) (fun w2 h2 hf2 => hk w2 h2 ((mPt_Q hf1).trans hf2))⟩
  rw [m_isPerson h hN]
  by_cases hp : isP (aN A) p
  · rw [if_pos hp]
    exact ⟨by rw [h.sh.ob]; trivial, body 1 (one_iff hp)⟩
  · rw [if_neg hp]
    exact ⟨by rw [h.sh.ob]; trivial, body 0 (zero_iff hp)⟩
end MREST
