/-! ===== the island changed a little ===== -/
theorem pe_up {N : Nw} {k : Nat} {v : Int32} (hk : ¬ k = 89) : pe (up1 N k v) = pe N := by
  unfold pe
  rw [up1_at, if_neg (by omega)]
theorem pnd_up {N : Nw} {k : Nat} {v : Int32} (hk : k < 40) (c : Int32) : pnd (up1 N k v) c = pnd N c := by
  unfold pnd
  rw [up1_at, if_neg (by unfold pat; omega)]
theorem okN_left {N : Nw} {v : Int32} (h : okN N) (hv : v = 0 ∨ v = 1) : okN (up1 N 91 v) := by
  have h8 := h.pe8
  obtain ⟨h1, h2, h3, h4, h5⟩ := h
  have e : ∀ k : Nat, ¬ k = 91 → up1 N 91 v k = N k := fun k hk => by rw [up1_at, if_neg hk]
  refine ⟨by rw [e 89 (by decide)]; exact h1, by rw [e 90 (by decide)]; exact h2, by rw [up1_at, if_pos rfl]; exact hv, fun k hk => by rw [e _ (by omega)]; exact h4 k hk, fun p hp => ?_⟩
  rw [pe_up (by decide)] at hp
  have hq := h5 p hp
  rw [e (5 * p) (by omega), e (5 * p + 2) (by omega), e (5 * p + 3) (by omega), e (5 * p + 4) (by omega), e 90 (by omega)]
  refine ⟨hq.1, hq.2.1, hq.2.2.1, hq.2.2.2.1, ?_⟩
  have hb := pat_b (show (N 90).toInt ≤ 7 from h2.2) hq.2.1
  unfold pnd
  rw [e _ (by omega)]
  exact hq.2.2.2.2
/-- a number of one person -/
theorem okN_per {N : Nw} {k : Nat} {v : Int32} (h : okN N) (hk : k < 40) (hv : ∀ p, p < pe N → (k = 5 * p → 0 ≤ v.toInt ∧ v.toInt < 6) ∧ (k = 5 * p + 2 → isC (N 90) v ∧ ¬ pnd N v = 1) ∧ (k = 5 * p + 3 → okF v) ∧ (k = 5 * p + 4 → v = 0 ∨ v = 1)) : okN (up1 N k v) := by
  obtain ⟨h1, h2, h3, h4, h5⟩ := h
  have e : ∀ j : Nat, ¬ j = k → up1 N k v j = N j := fun j hj => by rw [up1_at, if_neg hj]
  refine ⟨by rw [e 89 (by omega)]; exact h1, by rw [e 90 (by omega)]; exact h2, by rw [e 91 (by omega)]; exact h3, fun j hj => by rw [e _ (by omega)]; exact h4 j hj, fun p hp => ?_⟩
  rw [pe_up (by omega)] at hp
  have hq := h5 p hp
  have hw := hv p hp
  rw [e 90 (by omega)]
  refine ⟨?_, ?_, ?_, ?_, ?_⟩
  · by_cases c : 5 * p = k
    · rw [up1_at, if_pos c]; exact hw.1 c.symm
    · rw [e _ c]; exact hq.1
  · by_cases c : 5 * p + 2 = k
    · rw [up1_at, if_pos c]; exact (hw.2.1 c.symm).1
    · rw [e _ c]; exact hq.2.1
  · by_cases c : 5 * p + 3 = k
    · rw [up1_at, if_pos c]; exact hw.2.2.1 c.symm
    · rw [e _ c]; exact hq.2.2.1
  · by_cases c : 5 * p + 4 = k
    · rw [up1_at, if_pos c]; exact hw.2.2.2 c.symm
    · rw [e _ c]; exact hq.2.2.2.1
  · rw [pnd_up hk]
    by_cases c : 5 * p + 2 = k
    · rw [up1_at, if_pos c]; exact (hw.2.1 c.symm).2
    · rw [e _ c]; exact hq.2.2.2.2
/-- what a walk asks of the island -/
def sameI (N N' : Nw) (p : Nat) : Prop := N' 90 = N 90 ∧ N' 92 = N 92 ∧ N' (5 * p + 4) = N (5 * p + 4) ∧ ∀ k, 40 ≤ k → k < 89 → N' k = N k
theorem sameI_up {N : Nw} {p k : Nat} {v : Int32} (hp : p < 8) (hk : k = 91 ∨ (k < 40 ∧ ¬ k = 5 * p + 4)) : sameI N (up1 N k v) p := by
  have e : ∀ j : Nat, ¬ j = k → up1 N k v j = N j := fun j hj => by rw [up1_at, if_neg hj]
  exact ⟨e _ (by omega), e _ (by omega), e _ (by omega), fun j h1 h2 => e _ (by omega)⟩
theorem pnd_cg {N N' : Nw} {p : Nat} {c : Int32} (hs : (N 90).toInt ≤ 7) (h : sameI N N' p) (hc : isC (N 90) c) : pnd N' c = pnd N c := h.2.2.2 _ (pat_b hs hc).1 (pat_b hs hc).2
theorem shb_cg {N N' : Nw} {p : Nat} {c f : Int32} (hs : (N 90).toInt ≤ 7) (h : sameI N N' p) (hc : isC (N 90) c) : shb N' c f ↔ shb N c f := by
  unfold shb
  rw [h.1]
  exact ⟨fun ⟨a, b⟩ => ⟨a, by rwa [pnd_cg hs h (bes_ne hs hc a)] at b⟩, fun ⟨a, b⟩ => ⟨a, by rwa [pnd_cg hs h (bes_ne hs hc a)]⟩⟩
theorem shr_cg {N N' : Nw} {p : Nat} {c : Int32} (hs : (N 90).toInt ≤ 7) (h : sameI N N' p) (hc : isC (N 90) c) : shr N' c ↔ shr N c := by
  unfold shr
  rw [shb_cg hs h hc, shb_cg hs h hc, shb_cg hs h hc, shb_cg hs h hc]
theorem by1_cg {N N' : Nw} {kd lf : Int32} {p : Nat} {u : Wk} {sg : Int32} (hs : (N 90).toInt ≤ 7) (h : sameI N N' p) (hu : isC (N 90) (uC u)) : by1 N' kd lf p u sg = by1 N kd lf p u sg := by
  unfold by1
  rw [h.2.1, h.2.2.1]
  simp only [shr_cg hs h hu]
theorem stp_cg {N N' : Nw} {kd lf : Int32} {p : Nat} {u : Wk} {sg n : Int32} (hs : (N 90).toInt ≤ 7) (h : sameI N N' p) (hu : okU N u) : stp N' kd lf p u sg n = stp N kd lf p u sg n := by
  unfold stp tnW onW
  rw [by1_cg hs h hu.1, h.1]
  by_cases hb : bes (N 90) (uC u) (uF u) = -1
  · simp only [if_pos hb]
  · simp only [if_neg hb, pnd_cg hs h (bes_ne hs hu.1 hb)]
theorem runW_cg {N N' : Nw} {kd lf : Int32} {p : Nat} {T : Nat → Int32} {u : Wk} (hN : okN N) (h : sameI N N' p) (hu : okU N u) : ∀ n : Nat, n < 1000000 → runW N' kd lf p T u n = runW N kd lf p T u n
  | 0, _ => rfl
  | n + 1, hn => by
    show stp N' kd lf p (runW N' kd lf p T u n) _ _ = stp N kd lf p (runW N kd lf p T u n) _ _
    rw [runW_cg hN h hu n (by omega), stp_cg hN.side h (runW_ok hN hu n (by omega))]
theorem dryW_cg {N N' : Nw} {kd lf : Int32} {p : Nat} {T : Nat → Int32} {u : Wk} (hN : okN N) (h : sameI N N' p) (hu : okU N u) : ∀ n : Nat, n < 1000000 → dryW N' kd lf p T u n = dryW N kd lf p T u n
  | 0, _ => rfl
  | n + 1, hn => by
    show (if _ then _ else _) = (if _ then _ else _)
    rw [runW_cg hN h hu n (by omega), dryW_cg hN h hu n (by omega)]
section MQ3
variable {w : Wd} {m : Nat} {A : Ab}
theorem okU_beg {N : Nw} (hN : okN N) {p : Nat} (hp : p < pe N) : okU N (beg (N (5 * p + 2)) (N (5 * p + 3))) := ⟨(hN.2.2.2.2 p hp).2.1, (hN.2.2.2.2 p hp).2.2.1, fun _ => (hN.2.2.2.2 p hp).2.2.2.2⟩
theorem m_goN {N' : Nw} (h : MM w m (zN A N')) (hN : okN (aN A)) (hN' : okN N') {s n : Int32} (hl : ldd w m A s n) {p : Int32} (hp : isP N' p) (hs : sameI (aN A) N' p.toInt.toNat) {c f kd lf : Int32} (hc : N' (5 * p.toInt.toNat + 2) = c) (hf : N' (5 * p.toInt.toNat + 3) = f) (hkd : N' (5 * p.toInt.toNat) = kd) (hlf : N' 91 = lf)
    {k : Wd → Prop} (hk : ∀ w', fr (mPw m) w w' → MM w' m (zN A N') → ldd w' m A s n → mw w' m 0 (runW (aN A) kd lf p.toInt.toNat (tlg A s) (beg c f) n.toInt.toNat) → (¬ uL (runW (aN A) kd lf p.toInt.toNat (tlg A s) (beg c f) n.toInt.toNat) = -1 → wF w' m 417 = dryW (aN A) kd lf p.toInt.toNat (tlg A s) (beg c f) n.toInt.toNat) → k w') : wp_X4_go w m p n k := by
  have hz := h.sh.z
  have hq := hN'.2.2.2.2 p.toInt.toNat (isP_nat hp)
  have hu' : okU N' (beg c f) := hc ▸ hf ▸ okU_beg hN' (isP_nat hp)
  have hcc : isC (aN A 90) c := by have := hu'.1; rw [hs.1] at this; exact this
  have hu : okU (aN A) (beg c f) := ⟨hcc, hu'.2.1, fun e => by have t : ¬ pnd N' c = 1 := hu'.2.2 e; rw [pnd_cg hN.side hs hcc] at t; exact t⟩
  have hn : n.toInt.toNat ≤ 40 := by have := hl.1; omega
  rw [show n = Int32.ofNat n.toInt.toNat from (i_of hl.1.1).symm]
  refine m_go (A := zN A N') h hN' hp hn hl.2.1 hl.2.2 hc hf hu' (fun w' hf' hS hw hd => ?_)
  simp only [aN_zN, hkd, hlf] at hw hd
  rw [runW_cg hN hs hu _ (by omega)] at hw hd
  rw [dryW_cg hN hs hu _ (by omega)] at hd
  exact hk w' hf' (h.sc (mPw_P hf')) (hl.sc hf' hz (by unfold mPw; omega)) hw hd
/-- the row written, nothing else -/
theorem MM.wN' {N' : Nw} (h : MM w m (zN A N')) (k : Nat) (v : Int32) : MM (sI w (m + 2) k v) m (zN A (up1 N' k v)) := h.wN k v
theorem ldd.wN {s n : Int32} {k : Nat} {v : Int32} (h : ldd w m A s n) : ldd (sI w (m + 2) k v) m A s n := ⟨h.1, fun j hj => (by rw [wI_sI, if_neg (by omega)]; exact h.2.1 j hj), h.2.2⟩
theorem frN {w0 : Wd} {k : Nat} {v : Int32} (h : fr (mQ m) w0 w) : fr (mQ m) w0 (sI w (m + 2) k v) := h.sI (fun _ => by unfold mQ; omega)
theorem mw.wN {i : Nat} {u : Wk} {k : Nat} {v : Int32} (h : mw w m i u) : mw (sI w (m + 2) k v) m i u := by
  obtain ⟨h1, h2, h3, h4, h5⟩ := h
  refine ⟨?_, ?_, ?_, ?_, fun ht => ⟨?_, ?_⟩⟩ <;> rw [wI_sI, if_neg (by omega)]
  · exact h1
  · exact h2
  · exact h3
  · exact h4
  · exact (h5 ht).1
  · exact (h5 ht).2
/-- by a left -/
def rnl (A : Ab) (lf : Int32) (p : Nat) (s n : Int32) : Wk := runW (aN A) (aN A (5 * p)) lf p (tlg A s) (beg (aN A (5 * p + 2)) (aN A (5 * p + 3))) n.toInt.toNat
theorem m_goLf {lf0 : Int32} (h : MM w m (zN A (up1 (aN A) 91 lf0))) (hN : okN (aN A)) {s n : Int32} (hl : ldd w m A s n) {p : Int32} (hp : isP (aN A) p) (hlf : lf0 = 0 ∨ lf0 = 1) {k : Wd → Prop} (hk : ∀ w', fr (mPw m) w w' → MM w' m (zN A (up1 (aN A) 91 lf0)) → ldd w' m A s n → mw w' m 0 (rnl A lf0 p.toInt.toNat s n) → k w') : wp_X4_go w m p n k := by
  have h8 := hN.pe8
  have hpn := isP_nat hp
  refine m_goN h hN (okN_left hN hlf) hl (by unfold isP; rw [up1_at, if_neg (by decide)]; exact hp) (sameI_up (by omega) (Or.inl rfl)) (by rw [up1_at, if_neg (by omega)]) (by rw [up1_at, if_neg (by omega)]) (by rw [up1_at, if_neg (by omega)]) (by rw [up1_at, if_pos rfl]) (fun w' a b c d _ => hk w' a b c d)
def F_alike (A : Ab) (s n p : Int32) : Int32 × Ab := qF A (isP (aN A) p) s n (if uC (rnl A 1 p.toInt.toNat s n) = uC (rnl A 0 p.toInt.toNat s n) ∧ uF (rnl A 1 p.toInt.toNat s n) = uF (rnl A 0 p.toInt.toNat s n) then 1 else 0)
theorem m_alike (h : MM w m A) (hN : okN (aN A)) (hA : okS A) (s n p : Int32) {k : Int32 → Wd → Prop} (hk : mR w m (F_alike A s n p).2 (k (F_alike A s n p).1)) : wp_X4_alike w m s n p k := by
  have v91 : vp_in 91 97 := vp_iff.2 (by decide)
  have body : isP (aN A) p → ∀ w1, MM w1 m A → fr (mP m) w w1 → ldd w1 m A s n → mR w1 m A (k (if uC (rnl A 1 p.toInt.toNat s n) = uC (rnl A 0 p.toInt.toNat s n) ∧ uF (rnl A 1 p.toInt.toNat s n) = uF (rnl A 0 p.toInt.toNat s n) then 1 else 0)) → _ := fun hp w1 h1 hf1 hl1 hk1 => (by
    have g1 : MM (sI w1 (m + 2) 91 0) m (zN A (up1 (aN A) 91 0)) := h1.wN 91 0
    refine (m_goLf g1 hN hl1.wN hp (Or.inl rfl) (fun w2 hf2 h2 hl2 hw2 => ?_) : wp_X4_go (sI w1 (m + 2) 91 0) m p n (fun w9 =>
    wgG w9 (some m) [24] 411 (fun v10 =>
    wld w9 v10 0 0 (fun v11 =>
    wgG w9 (some m) [24] 412 (fun v12 =>
    wld w9 v12 0 0 (fun v13 =>
    wgG w9 (some m) [24] 401 (fun v14 =>
    wst w9 v14 0 91 1 (fun w15 =>
    wob w15 m [24] ∧
    wp_X4_go w15 m p n (fun w16 =>
    wgG w16 (some m) [24] 401 (fun v17 =>
    wst w16 v17 0 91 (aN A 91) (fun w18 =>
    wgG w18 (some m) [24] 411 (fun v19 =>
    wld w18 v19 0 0 (fun v20 =>
    if v20 = v11 then (
      wgG w18 (some m) [24] 412 (fun v21 =>
      wld w18 v21 0 0 (fun v22 =>
      if v22 = v13 then (
        k 1 w18
      ) else (
        k 0 w18
      )))
    ) else (
      k 0 w18
    ))))))))))))))
    simp only [h2.sh.G411, h2.sh.r7, h2.sh.G412, h2.sh.r8, h2.sh.G401, h2.sh.w2, v91, vp_0 (show 0 < 2 by decide), hw2.1, hw2.2.1, ie_m6_m5, ie_m6_m4, ie_m6_m3, ie_m6_m2, ie_m6_m1, ie_m6_0, ie_m6_1, ie_m6_2, ie_m6_3, ie_m6_4, ie_m6_5, ie_m6_6, ie_m5_m6, ie_m5_m4, ie_m5_m3, ie_m5_m2, ie_m5_m1, ie_m5_0, ie_m5_1, ie_m5_2, ie_m5_3, ie_m5_4, ie_m5_5, ie_m5_6, ie_m4_m6, ie_m4_m5, ie_m4_m3, ie_m4_m2, ie_m4_m1, ie_m4_0, ie_m4_1, ie_m4_2, ie_m4_3, ie_m4_4, ie_m4_5, ie_m4_6, ie_m3_m6, ie_m3_m5, ie_m3_m4, ie_m3_m2, ie_m3_m1, ie_m3_0, ie_m3_1, ie_m3_2, ie_m3_3, ie_m3_4, ie_m3_5, ie_m3_6, ie_m2_m6, ie_m2_m5, ie_m2_m4, ie_m2_m3, ie_m2_m1, ie_m2_0, ie_m2_1, ie_m2_2, ie_m2_3, ie_m2_4, ie_m2_5, ie_m2_6, ie_m1_m6, ie_m1_m5, ie_m1_m4, ie_m1_m3, ie_m1_m2, ie_m1_0, ie_m1_1, ie_m1_2, ie_m1_3, ie_m1_4, ie_m1_5, ie_m1_6, ie_0_m6, ie_0_m5, ie_0_m4, ie_0_m3, ie_0_m2, ie_0_m1, ie_0_1, ie_0_2, ie_0_3, ie_0_4, ie_0_5, ie_0_6, ie_1_m6, ie_1_m5, ie_1_m4, ie_1_m3, ie_1_m2, ie_1_m1, ie_1_0, ie_1_2, ie_1_3, ie_1_4, ie_1_5, ie_1_6, ie_2_m6, ie_2_m5, ie_2_m4, ie_2_m3, ie_2_m2, ie_2_m1, ie_2_0, ie_2_1, ie_2_3, ie_2_4, ie_2_5, ie_2_6, ie_3_m6, ie_3_m5, ie_3_m4, ie_3_m3, ie_3_m2, ie_3_m1, ie_3_0, ie_3_1, ie_3_2, ie_3_4, ie_3_5, ie_3_6, ie_4_m6, ie_4_m5, ie_4_m4, ie_4_m3, ie_4_m2, ie_4_m1, ie_4_0, ie_4_1, ie_4_2, ie_4_3, ie_4_5, ie_4_6, ie_5_m6, ie_5_m5, ie_5_m4, ie_5_m3, ie_5_m2, ie_5_m1, ie_5_0, ie_5_1, ie_5_2, ie_5_3, ie_5_4, ie_5_6, ie_6_m6, ie_6_m5, ie_6_m4, ie_6_m3, ie_6_m2, ie_6_m1, ie_6_0, ie_6_1, ie_6_2, ie_6_3, ie_6_4, ie_6_5, Int32.reduceToInt, Int64.reduceToInt, Int.reduceToNat, Int32.reduceAdd, Int32.reduceSub, Int32.reduceMul, Int32.reduceDiv, Int32.reduceLT, Int32.reduceLE, Int.reduceLE, Int.reduceLT, Int.reduceNeg, Int.reduceAdd, Int.reduceSub, Int.reduceMul, Int.reduceEq, Nat.reduceAdd, Nat.reduceMul, Nat.reduceLT, Nat.reduceEqDiff, true_and, and_true, and_self, false_and, and_false, if_true, if_false, ite_true, ite_false, ↓reduceIte, not_true_eq_false, not_false_eq_true, true_or, or_true, or_false, false_or, Int.cast_ofNat_Int, Int.reduceNatCast]
    have g3 : MM (sI w2 (m + 2) 91 1) m (zN A (up1 (aN A) 91 1)) := by have := h2.wN' 91 1; rwa [up1_upd] at this
    refine ⟨by rw [g3.sh.ob]; trivial, m_goLf g3 hN hl2.wN hp (Or.inr rfl) (fun w4 hf4 h4 hl4 hw4 => ?_)⟩
    have g5 : MM (sI w4 (m + 2) 91 (aN A 91)) m A := by have := h4.wN' 91 (aN A 91); rwa [up1_upd, up1_self, zN_a] at this
    have q5 := hw4.wN (k := 91) (v := aN A 91)
    have hf5 : fr (mQ m) w1 (sI w4 (m + 2) 91 (aN A 91)) := frN ((frN ((frN (fr.refl _ _)).trans (mPw_Q hf2))).trans (mPw_Q hf4))
    simp only [h4.sh.G401, h4.sh.w2, g5.sh.G411, g5.sh.r7, g5.sh.G412, g5.sh.r8, v91, vp_0 (show 0 < 2 by decide), q5.1, q5.2.1, ie_m6_m5, ie_m6_m4, ie_m6_m3, ie_m6_m2, ie_m6_m1, ie_m6_0, ie_m6_1, ie_m6_2, ie_m6_3, ie_m6_4, ie_m6_5, ie_m6_6, ie_m5_m6, ie_m5_m4, ie_m5_m3, ie_m5_m2, ie_m5_m1, ie_m5_0, ie_m5_1, ie_m5_2, ie_m5_3, ie_m5_4, ie_m5_5, ie_m5_6, ie_m4_m6, ie_m4_m5, ie_m4_m3, ie_m4_m2, ie_m4_m1, ie_m4_0, ie_m4_1, ie_m4_2, ie_m4_3, ie_m4_4, ie_m4_5, ie_m4_6, ie_m3_m6, ie_m3_m5, ie_m3_m4, ie_m3_m2, ie_m3_m1, ie_m3_0, ie_m3_1, ie_m3_2, ie_m3_3, ie_m3_4, ie_m3_5, ie_m3_6, ie_m2_m6, ie_m2_m5, ie_m2_m4, ie_m2_m3, ie_m2_m1, ie_m2_0, ie_m2_1, ie_m2_2, ie_m2_3, ie_m2_4, ie_m2_5, ie_m2_6, ie_m1_m6, ie_m1_m5, ie_m1_m4, ie_m1_m3, ie_m1_m2, ie_m1_0, ie_m1_1, ie_m1_2, ie_m1_3, ie_m1_4, ie_m1_5, ie_m1_6, ie_0_m6, ie_0_m5, ie_0_m4, ie_0_m3, ie_0_m2, ie_0_m1, ie_0_1, ie_0_2, ie_0_3, ie_0_4, ie_0_5, ie_0_6, ie_1_m6, ie_1_m5, ie_1_m4, ie_1_m3, ie_1_m2, ie_1_m1, ie_1_0, ie_1_2, ie_1_3, ie_1_4, ie_1_5, ie_1_6, ie_2_m6, ie_2_m5, ie_2_m4, ie_2_m3, ie_2_m2, ie_2_m1, ie_2_0, ie_2_1, ie_2_3, ie_2_4, ie_2_5, ie_2_6, ie_3_m6, ie_3_m5, ie_3_m4, ie_3_m3, ie_3_m2, ie_3_m1, ie_3_0, ie_3_1, ie_3_2, ie_3_4, ie_3_5, ie_3_6, ie_4_m6, ie_4_m5, ie_4_m4, ie_4_m3, ie_4_m2, ie_4_m1, ie_4_0, ie_4_1, ie_4_2, ie_4_3, ie_4_5, ie_4_6, ie_5_m6, ie_5_m5, ie_5_m4, ie_5_m3, ie_5_m2, ie_5_m1, ie_5_0, ie_5_1, ie_5_2, ie_5_3, ie_5_4, ie_5_6, ie_6_m6, ie_6_m5, ie_6_m4, ie_6_m3, ie_6_m2, ie_6_m1, ie_6_0, ie_6_1, ie_6_2, ie_6_3, ie_6_4, ie_6_5, Int32.reduceToInt, Int64.reduceToInt, Int.reduceToNat, Int32.reduceAdd, Int32.reduceSub, Int32.reduceMul, Int32.reduceDiv, Int32.reduceLT, Int32.reduceLE, Int.reduceLE, Int.reduceLT, Int.reduceNeg, Int.reduceAdd, Int.reduceSub, Int.reduceMul, Int.reduceEq, Nat.reduceAdd, Nat.reduceMul, Nat.reduceLT, Nat.reduceEqDiff, true_and, and_true, and_self, false_and, and_false, if_true, if_false, ite_true, ite_false, ↓reduceIte, not_true_eq_false, not_false_eq_true, true_or, or_true, or_false, false_or, Int.cast_ofNat_Int, Int.reduceNatCast]
    have hk5 := hk1 _ g5 hf5
    by_cases e1 : uC (rnl A 1 p.toInt.toNat s n) = uC (rnl A 0 p.toInt.toNat s n)
    · rw [if_pos e1]
      by_cases e2 : uF (rnl A 1 p.toInt.toNat s n) = uF (rnl A 0 p.toInt.toNat s n)
      · rw [if_pos e2]
        rwa [if_pos ⟨e1, e2⟩] at hk5
      · rw [if_neg e2]
        rwa [if_neg (fun e => e2 e.2)] at hk5
    · rw [if_neg e1]
      rwa [if_neg (fun e => e1 e.1)] at hk5)
  unfold wp_X4_alike
  refine ⟨by rw [h.sh.ob]; trivial, ?_⟩
  rw [m_isPerson h hN]
  by_cases hp : isP (aN A) p
  · rw [if_pos hp]
    refine ⟨by rw [h.sh.ob]; trivial, m_q h hA (one_iff hp) hk (fun hp w1 h1 hf1 hl1 hk1 => ?_)⟩
    simp only [h1.sh.G401, h1.sh.r2, h1.N, h1.sh.w2, v91, ie_m6_m5, ie_m6_m4, ie_m6_m3, ie_m6_m2, ie_m6_m1, ie_m6_0, ie_m6_1, ie_m6_2, ie_m6_3, ie_m6_4, ie_m6_5, ie_m6_6, ie_m5_m6, ie_m5_m4, ie_m5_m3, ie_m5_m2, ie_m5_m1, ie_m5_0, ie_m5_1, ie_m5_2, ie_m5_3, ie_m5_4, ie_m5_5, ie_m5_6, ie_m4_m6, ie_m4_m5, ie_m4_m3, ie_m4_m2, ie_m4_m1, ie_m4_0, ie_m4_1, ie_m4_2, ie_m4_3, ie_m4_4, ie_m4_5, ie_m4_6, ie_m3_m6, ie_m3_m5, ie_m3_m4, ie_m3_m2, ie_m3_m1, ie_m3_0, ie_m3_1, ie_m3_2, ie_m3_3, ie_m3_4, ie_m3_5, ie_m3_6, ie_m2_m6, ie_m2_m5, ie_m2_m4, ie_m2_m3, ie_m2_m1, ie_m2_0, ie_m2_1, ie_m2_2, ie_m2_3, ie_m2_4, ie_m2_5, ie_m2_6, ie_m1_m6, ie_m1_m5, ie_m1_m4, ie_m1_m3, ie_m1_m2, ie_m1_0, ie_m1_1, ie_m1_2, ie_m1_3, ie_m1_4, ie_m1_5, ie_m1_6, ie_0_m6, ie_0_m5, ie_0_m4, ie_0_m3, ie_0_m2, ie_0_m1, ie_0_1, ie_0_2, ie_0_3, ie_0_4, ie_0_5, ie_0_6, ie_1_m6, ie_1_m5, ie_1_m4, ie_1_m3, ie_1_m2, ie_1_m1, ie_1_0, ie_1_2, ie_1_3, ie_1_4, ie_1_5, ie_1_6, ie_2_m6, ie_2_m5, ie_2_m4, ie_2_m3, ie_2_m2, ie_2_m1, ie_2_0, ie_2_1, ie_2_3, ie_2_4, ie_2_5, ie_2_6, ie_3_m6, ie_3_m5, ie_3_m4, ie_3_m3, ie_3_m2, ie_3_m1, ie_3_0, ie_3_1, ie_3_2, ie_3_4, ie_3_5, ie_3_6, ie_4_m6, ie_4_m5, ie_4_m4, ie_4_m3, ie_4_m2, ie_4_m1, ie_4_0, ie_4_1, ie_4_2, ie_4_3, ie_4_5, ie_4_6, ie_5_m6, ie_5_m5, ie_5_m4, ie_5_m3, ie_5_m2, ie_5_m1, ie_5_0, ie_5_1, ie_5_2, ie_5_3, ie_5_4, ie_5_6, ie_6_m6, ie_6_m5, ie_6_m4, ie_6_m3, ie_6_m2, ie_6_m1, ie_6_0, ie_6_1, ie_6_2, ie_6_3, ie_6_4, ie_6_5, Int32.reduceToInt, Int64.reduceToInt, Int.reduceToNat, Int32.reduceAdd, Int32.reduceSub, Int32.reduceMul, Int32.reduceDiv, Int32.reduceLT, Int32.reduceLE, Int.reduceLE, Int.reduceLT, Int.reduceNeg, Int.reduceAdd, Int.reduceSub, Int.reduceMul, Int.reduceEq, Nat.reduceAdd, Nat.reduceMul, Nat.reduceLT, Nat.reduceEqDiff, true_and, and_true, and_self, false_and, and_false, if_true, if_false, ite_true, ite_false, ↓reduceIte, not_true_eq_false, not_false_eq_true, true_or, or_true, or_false, false_or, Int.cast_ofNat_Int, Int.reduceNatCast]
    have g1 : MM (sI w1 (m + 2) 91 0) m (zN A (up1 (aN A) 91 0)) := h1.wN 91 0
    exact ⟨by rw [g1.sh.ob]; trivial, body hp w1 h1 hf1 hl1 hk1⟩
  · rw [if_neg hp]
    exact ⟨by rw [h.sh.ob]; trivial, m_q h hA (zero_iff hp) hk (fun hp' => absurd hp' hp)⟩
end MQ3
