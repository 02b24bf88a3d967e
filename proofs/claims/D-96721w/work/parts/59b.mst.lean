/-! ===== years, image, back, status, of the reference ===== -/
section MSTT
variable {w : Wd} {m : Nat} {A : Ab}
def sdN (x : Int32) : Int32 := x * 1103515245 + 12345
def drw (x : Int32) : Int32 := ((x.toUInt32 >>> ((16 : Int32).toUInt32 &&& Int32.toUInt32 31)).toInt32) - ((x.toUInt32 >>> ((16 : Int32).toUInt32 &&& Int32.toUInt32 31)).toInt32) / 12 * 12
/-- who changes his mind, among the first j -/
def yrJ (N : Nw) : Nat → Nw
  | 0 => N
  | j + 1 => up1 (up1 (yrJ N j) 96 (sdN (yrJ N j 96))) (5 * j + 4) (yrJ N j (5 * j + 4) ^^^ (if yrJ N j 93 ≤ drw (sdN (yrJ N j 96)) then 0 else 1))
theorem yrJ_at (N : Nw) (k : Nat) (hk : ¬ k = 96) : ∀ j : Nat, (k % 5 = 4 → 5 * j + 4 ≤ k) → yrJ N j k = N k
  | 0, _ => rfl
  | j + 1, h => by
    show up1 _ _ _ k = _
    rw [up1_at, if_neg (by omega), up1_at, if_neg hk]
    exact yrJ_at N k hk j (by omega)
def yr1 (N : Nw) : Nw := up1 (up1 N 92 (N 91)) 91 (carF N)
def yrN (N : Nw) : Nw := up1 (yrJ (yr1 N) (pe N)) 94 (yrJ (yr1 N) (pe N) 94 + 1)
def itY : Nat → Nw → Nw
  | 0, N => N
  | n + 1, N => yrN (itY n N)
theorem yr1_89 (N : Nw) : yr1 N 89 = N 89 := by unfold yr1; rw [up1_at, if_neg (by decide), up1_at, if_neg (by decide)]
theorem yrN_89 {N : Nw} (h : okP N) : yrN N 89 = N 89 := by
  have := h.2
  unfold yrN
  rw [up1_at, if_neg (by decide), yrJ_at _ _ (by decide) _ (by omega), yr1_89]
theorem okP_89 {N N' : Nw} (h : okP N) (e : N' 89 = N 89) : okP N' ∧ pe N' = pe N := by
  unfold okP pe at *
  rw [e]
  exact ⟨h, rfl⟩
theorem itY_P {N : Nw} (h : okP N) : ∀ n, okP (itY n N)
  | 0 => h
  | n + 1 => (okP_89 (itY_P h n) (yrN_89 (itY_P h n))).1
def F_years (A : Ab) (n : Int32) : Int32 × Ab := if 1 ≤ n.toInt ∧ n.toInt ≤ 60 then (itY n.toInt.toNat (aN A) 91, zN A (itY n.toInt.toNat (aN A))) else rf A (-2)
theorem m_draw (h : MM w m A) {k : Int32 → Wd → Prop} (hk : MM (sI w (m + 2) 96 (sdN (aN A 96))) m (zN A (up1 (aN A) 96 (sdN (aN A 96)))) → k (drw (sdN (aN A 96))) (sI w (m + 2) 96 (sdN (aN A 96)))) : wp_X4_draw w m 12 k := by
  have v96 : vp_in 96 97 := vp_iff.2 (by decide)
  unfold wp_X4_draw
  simp only [h.sh.G401, h.sh.r2, h.sh.w2, h.N, v96, true_and, show (96 : Int32).toInt.toNat = 96 from rfl]
  have h1 := h.wN 96 (sdN (aN A 96))
  have e1 : wI (sI w (m + 2) 96 (aN A 96 * 1103515245 + 12345)) (m + 2) 96 = sdN (aN A 96) := by rw [wI_sI, if_pos ⟨rfl, rfl⟩]; rfl
  have h1' : MM (sI w (m + 2) 96 (aN A 96 * 1103515245 + 12345)) m _ := h1
  simp only [h1'.sh.G401, h1'.sh.r2, v96, true_and, show (96 : Int32).toInt.toNat = 96 from rfl, e1]
  exact ⟨by decide, hk h1⟩
theorem m_year56 (h : MM w m A) (hP : okP (aN A)) {n l2 : Int32} {L : Wd → Nat → Int32 → Int32 → Prop} (k : Int32 → Wd → Prop) (hk : ∀ w', MM w' m (zN A (up1 (yrJ (aN A) (pe (aN A))) 94 (yrJ (aN A) (pe (aN A)) 94 + 1))) → fr (mQ m) w w' → L w' m n (l2 + 1)) : wl_X4_years_56 k L FU w m n l2 0 := by
  have h8 := hP.2
  refine loopN (n := pe (aN A)) (I := fun j w2 => MM w2 m (zN A (yrJ (aN A) j)) ∧ fr (mQ m) w w2) (L := fun fu j w2 => wl_X4_years_56 k L fu w2 m n l2 (Int32.ofNat j)) ?_ ?_ (pe (aN A)) FU 0 w (by omega) (by unfold FU; omega) ⟨by show MM w m (zN A (aN A)); rw [zN_a]; exact h, fr.refl _ _⟩
  · intro fu j w2 hj ⟨h2, hf2⟩ ih
    have e89 : yrJ (aN A) j 89 = aN A 89 := yrJ_at _ _ (by decide) _ (by omega)
    have ej : (Int32.ofNat j).toInt = ((j : Nat) : Int) := i_ti (by omega)
    have hj8 : 0 ≤ (Int32.ofNat j).toInt ∧ (Int32.ofNat j).toInt < 8 := by rw [ej]; omega
    rw [wl_X4_years_56_s]
    unfold wb_X4_years_56
    refine ⟨by rw [h2.sh.ob]; trivial, ?_⟩
    rw [m_many h2, aN_zN, e89, if_neg (by rw [hP.le (by omega)]; omega)]
    simp only [h2.sh.G401]
    rw [m_rd h2 hj8 (by decide), i_tt (show j < 1000000 by omega), aN_zN, show (4 : Int32).toInt.toNat = 4 from rfl]
    refine ⟨by rw [h2.sh.ob]; trivial, m_draw h2 (fun h3 => ?_)⟩
    simp only [aN_zN, zN_zN] at h3 ⊢
    have v93 : vp_in 93 97 := vp_iff.2 (by decide)
    have e93 : wI (sI w2 (m + 2) 96 (sdN (yrJ (aN A) j 96))) (m + 2) 93 = yrJ (aN A) j 93 := by rw [h3.N, aN_zN, up1_at, if_neg (by decide)]
    simp only [h3.sh.G401, h3.sh.r2, v93, true_and, show (93 : Int32).toInt.toNat = 93 from rfl, e93, m_wr h3 ej (by omega) (show (4 : Int32).toInt = ((4 : Nat) : Int) from rfl) (by decide), i_ofS]
    have h4 := h3.wN (5 * j + 4) (yrJ (aN A) j (5 * j + 4) ^^^ (if yrJ (aN A) j 93 ≤ drw (sdN (yrJ (aN A) j 96)) then 0 else 1))
    simp only [aN_zN, zN_zN] at h4
    have ih' := ih _ ⟨h4, frN (frN hf2)⟩
    by_cases c : yrJ (aN A) j 93 ≤ drw (sdN (yrJ (aN A) j 96))
    · rw [if_pos c] at ih' ⊢
      exact ih'
    · rw [if_neg c] at ih' ⊢
      exact ih'
  · intro fu w2 ⟨h2, hf2⟩
    have e89 : yrJ (aN A) (pe (aN A)) 89 = aN A 89 := yrJ_at _ _ (by decide) _ (by omega)
    have v94 : vp_in 94 97 := vp_iff.2 (by decide)
    rw [wl_X4_years_56_s]
    unfold wb_X4_years_56
    refine ⟨by rw [h2.sh.ob]; trivial, ?_⟩
    rw [m_many h2, aN_zN, e89, if_pos (by rw [hP.le (by omega)]; omega)]
    simp only [h2.sh.G401, h2.sh.r2, h2.sh.w2, h2.N, aN_zN, v94, true_and, show (94 : Int32).toInt.toNat = 94 from rfl]
    exact hk _ (h2.wN' 94 _) (frN hf2)
theorem m_years (h : MM w m A) (hN : okN (aN A)) (n : Int32) {k : Int32 → Wd → Prop} (hk : mR w m (F_years A n).2 (k (F_years A n).1)) : wp_X4_years w m n k := by
  unfold wp_X4_years
  unfold F_years at hk
  simp only [m_isIn, lg_lit, ie_m6_m5, ie_m6_m4, ie_m6_m3, ie_m6_m2, ie_m6_m1, ie_m6_0, ie_m6_1, ie_m6_2, ie_m6_3, ie_m6_4, ie_m6_5, ie_m6_6, ie_m5_m6, ie_m5_m4, ie_m5_m3, ie_m5_m2, ie_m5_m1, ie_m5_0, ie_m5_1, ie_m5_2, ie_m5_3, ie_m5_4, ie_m5_5, ie_m5_6, ie_m4_m6, ie_m4_m5, ie_m4_m3, ie_m4_m2, ie_m4_m1, ie_m4_0, ie_m4_1, ie_m4_2, ie_m4_3, ie_m4_4, ie_m4_5, ie_m4_6, ie_m3_m6, ie_m3_m5, ie_m3_m4, ie_m3_m2, ie_m3_m1, ie_m3_0, ie_m3_1, ie_m3_2, ie_m3_3, ie_m3_4, ie_m3_5, ie_m3_6, ie_m2_m6, ie_m2_m5, ie_m2_m4, ie_m2_m3, ie_m2_m1, ie_m2_0, ie_m2_1, ie_m2_2, ie_m2_3, ie_m2_4, ie_m2_5, ie_m2_6, ie_m1_m6, ie_m1_m5, ie_m1_m4, ie_m1_m3, ie_m1_m2, ie_m1_0, ie_m1_1, ie_m1_2, ie_m1_3, ie_m1_4, ie_m1_5, ie_m1_6, ie_0_m6, ie_0_m5, ie_0_m4, ie_0_m3, ie_0_m2, ie_0_m1, ie_0_1, ie_0_2, ie_0_3, ie_0_4, ie_0_5, ie_0_6, ie_1_m6, ie_1_m5, ie_1_m4, ie_1_m3, ie_1_m2, ie_1_m1, ie_1_0, ie_1_2, ie_1_3, ie_1_4, ie_1_5, ie_1_6, ie_2_m6, ie_2_m5, ie_2_m4, ie_2_m3, ie_2_m2, ie_2_m1, ie_2_0, ie_2_1, ie_2_3, ie_2_4, ie_2_5, ie_2_6, ie_3_m6, ie_3_m5, ie_3_m4, ie_3_m3, ie_3_m2, ie_3_m1, ie_3_0, ie_3_1, ie_3_2, ie_3_4, ie_3_5, ie_3_6, ie_4_m6, ie_4_m5, ie_4_m4, ie_4_m3, ie_4_m2, ie_4_m1, ie_4_0, ie_4_1, ie_4_2, ie_4_3, ie_4_5, ie_4_6, ie_5_m6, ie_5_m5, ie_5_m4, ie_5_m3, ie_5_m2, ie_5_m1, ie_5_0, ie_5_1, ie_5_2, ie_5_3, ie_5_4, ie_5_6, ie_6_m6, ie_6_m5, ie_6_m4, ie_6_m3, ie_6_m2, ie_6_m1, ie_6_0, ie_6_1, ie_6_2, ie_6_3, ie_6_4, ie_6_5, Int32.reduceToInt, Int64.reduceToInt, Int.reduceToNat, Int32.reduceAdd, Int32.reduceSub, Int32.reduceMul, Int32.reduceDiv, Int32.reduceLT, Int32.reduceLE, Int.reduceLE, Int.reduceLT, Int.reduceNeg, Int.reduceAdd, Int.reduceSub, Int.reduceMul, Int.reduceEq, Nat.reduceAdd, Nat.reduceMul, Nat.reduceLT, Nat.reduceEqDiff, true_and, and_true, and_self, false_and, and_false, if_true, if_false, ite_true, ite_false, ↓reduceIte, not_true_eq_false, not_false_eq_true, true_or, or_true, or_false, false_or, Int.cast_ofNat_Int, Int.reduceNatCast]
  by_cases c : 1 ≤ n.toInt ∧ n.toInt ≤ 60
  · rw [if_pos c] at hk ⊢
    refine loopN (n := n.toInt.toNat) (I := fun j w2 => MM w2 m (zN A (itY j (aN A))) ∧ fr (mQ m) w w2) (L := fun fu j w2 => wl_X4_years_21 k fu w2 m n (Int32.ofNat j)) ?_ ?_ n.toInt.toNat FU 0 w (by omega) (by unfold FU; omega) ⟨by show MM w m (zN A (aN A)); rw [zN_a]; exact h, fr.refl _ _⟩
    · intro fu j w2 hj ⟨h2, hf2⟩ ih
      have hP := itY_P hN.P j
      rw [wl_X4_years_21_s]
      unfold wb_X4_years_21
      rw [if_neg (by rw [le_of (by omega)]; omega)]
      refine ⟨by rw [h2.sh.ob]; trivial, m_carries h2 (by rw [aN_zN]; exact hP) ?_⟩
      have v92 : vp_in 92 97 := vp_iff.2 (by decide)
      simp only [h2.sh.G401, h2.sh.r2, h2.sh.w2, h2.N, aN_zN, v91, v92, true_and, show (91 : Int32).toInt.toNat = 91 from rfl, show (92 : Int32).toInt.toNat = 92 from rfl]
      have h3 := h2.wN' 92 (itY j (aN A) 91)
      simp only [h3.sh.G401, h3.sh.w2, v91, true_and, show (91 : Int32).toInt.toNat = 91 from rfl]
      have h4 := h3.wN' 91 (carF (itY j (aN A)))
      have h4' : MM _ m (zN A (yr1 (itY j (aN A)))) := h4
      have hP4 := okP_89 hP (yr1_89 (itY j (aN A)))
      refine m_year56 h4' (by rw [aN_zN]; exact hP4.1) k (fun w5 h5 hf5 => ?_)
      rw [i_ofS]
      simp only [aN_zN, zN_zN, hP4.2] at h5
      exact ih w5 ⟨h5, (frN (frN hf2)).trans hf5⟩
    · intro fu w2 ⟨h2, hf2⟩
      rw [wl_X4_years_21_s]
      unfold wb_X4_years_21
      rw [if_pos (by rw [le_of (by omega)]; omega)]
      simp only [h2.sh.G401, h2.sh.r2, h2.N, aN_zN, v91, true_and, show (91 : Int32).toInt.toNat = 91 from rfl]
      exact hk w2 h2 hf2
  · rw [if_neg c] at hk ⊢
    exact ⟨by rw [h.sh.ob]; trivial, m_refuse h (by decide) hk⟩
/-- a row moved -/
def mvN (N K : Nw) : Nw := fun k => if k < 97 then N k else K k
theorem mv_s (N K : Nw) (j : Nat) : up1 (fun k => if k < j then N k else K k) j (N j) = fun k => if k < j + 1 then N k else K k := funext fun k => by
  rw [up1_at]
  by_cases e : k = j
  · rw [if_pos e, if_pos (by omega), e]
  · rw [if_neg e]
    by_cases e2 : k < j
    · rw [if_pos e2, if_pos (by omega)]
    · rw [if_neg e2, if_neg (by omega)]
/-- rows of the reference moved, in any world: a, b offsets -/
theorem m_mv (a b : Nat) (ha : wT w (m + a) = some (0, 97, true)) (hb : wT w (m + b) = some (0, 97, true)) (hab : ¬ a = b) {k : Wd → Prop} (hk : ∀ w', (∀ j : Nat, j ≤ 97 → True) → w' = sIc w (m + b) (mvN (wI w (m + a)) (wI w (m + b))) → k w') : wp_X4_move w (some (m + a)) (some (m + b)) k := by
  unfold wp_X4_move
  refine loopN (n := 97) (I := fun j w2 => w2 = sIc w (m + b) (fun k => if k < j then wI w (m + a) k else wI w (m + b) k)) (L := fun fu j w2 => wl_X4_move_2 k fu w2 (some (m + a)) (some (m + b)) (Int32.ofNat j)) ?_ ?_ 97 FU 0 w (by omega) (by unfold FU; omega) ?_
  · rintro fu j w2 hj rfl ih
    have ej : (Int32.ofNat j).toInt = j := i_ti (by omega)
    have hv : ¬ (Int32.ofNat j < 0 ∨ 97 ≤ (Int32.ofNat j).toNatClampNeg) := by rw [i_lt, i_0, i_nat, ej]; omega
    have ejn : (Int32.ofNat j).toNatClampNeg = j := i_tn (by omega)
    rw [wl_X4_move_2_s]
    unfold wb_X4_move_2
    rw [if_neg (by rw [i_le, ej]; show ¬ (97 : Int) ≤ j; omega)]
    have hv' : vp_in (Int32.ofNat j) 97 := hv
    have er : wI (sIc w (m + b) (fun k => if k < j then wI w (m + a) k else wI w (m + b) k)) (m + a) j = wI w (m + a) j := by rw [wI_sIc, if_neg (by omega)]
    simp only [wld, wst, warr, warw, wT_sIc, ha, hb, hv', ejn, er, i_ofS, true_and, and_true]
    refine ih _ ?_
    show wmk _ _ _ (up2 _ _ _ _) _ _ _ _ = wmk _ _ _ _ _ _ _ _
    congr 1
    funext q x
    unfold up2
    by_cases e : q = m + b
    · rw [e, wI_sIc, if_pos rfl, if_pos rfl]
      show (if m + b = m + b ∧ x = j then wI w (m + a) j else if x < j then wI w (m + a) x else wI w (m + b) x) = if x < j + 1 then wI w (m + a) x else wI w (m + b) x
      by_cases e2 : x = j
      · rw [if_pos ⟨rfl, e2⟩, e2, if_pos (by omega)]
      · rw [if_neg (fun c => e2 c.2)]
        by_cases e3 : x < j
        · rw [if_pos e3, if_pos (by omega)]
        · rw [if_neg e3, if_neg (by omega)]
    · rw [if_neg (fun c => e c.1), wI_sIc, if_neg e, if_neg e]
  · rintro fu w2 rfl
    rw [wl_X4_move_2_s]
    unfold wb_X4_move_2
    rw [if_pos (by decide)]
    exact hk _ (fun _ _ => trivial) rfl
  · show w = wmk _ _ _ _ _ _ _ _
    have : (fun q j => if q = m + b then (if j < 0 then wI w (m + a) j else wI w (m + b) j) else wI w q j) = wI w := by
      funext q x
      by_cases e : q = m + b
      · rw [if_pos e, if_neg (by omega), e]
      · rw [if_neg e]
    rw [this]
    rfl
/-- a whole row set anew -/
theorem MM.wKc (h : MM w m A) (f : Nw) : MM (sIc w (m + 3) f) m (zK A f) := by
  have ne : ∀ q : Nat, ¬ q = m + 3 → wI (sIc w (m + 3) f) q = wI w q := fun q hq => funext fun j => if_neg hq
  exact ⟨⟨h.sh.z, h.sh.t, h.sh.g400, h.sh.g401, h.sh.g402, h.sh.g403, h.sh.g405, h.sh.g410, h.sh.g411, h.sh.g412, h.sh.g413, h.sh.g414, h.sh.g415, h.sh.g416, h.sh.g418, h.sh.g419, h.sh.g420, h.sh.g421, h.sh.g422, h.sh.g423, h.sh.g424, h.sh.g425, fun j hj => by rw [ne _ (by omega)]; exact h.sh.wr j hj, fun j hj => by rw [ne _ (by omega)]; exact h.sh.ab j hj⟩, (ne _ (by omega)).trans h.R, (ne _ (by omega)).trans h.N, funext fun j => if_pos rfl, (ne _ (by omega)).trans h.T, (ne _ (by omega)).trans h.H, (ne _ (by omega)).trans h.S, h.E, h.X, h.Z⟩
theorem MM.wNc (h : MM w m A) (f : Nw) : MM (sIc w (m + 2) f) m (zN A f) := by
  have ne : ∀ q : Nat, ¬ q = m + 2 → wI (sIc w (m + 2) f) q = wI w q := fun q hq => funext fun j => if_neg hq
  exact ⟨⟨h.sh.z, h.sh.t, h.sh.g400, h.sh.g401, h.sh.g402, h.sh.g403, h.sh.g405, h.sh.g410, h.sh.g411, h.sh.g412, h.sh.g413, h.sh.g414, h.sh.g415, h.sh.g416, h.sh.g418, h.sh.g419, h.sh.g420, h.sh.g421, h.sh.g422, h.sh.g423, h.sh.g424, h.sh.g425, fun j hj => by rw [ne _ (by omega)]; exact h.sh.wr j hj, fun j hj => by rw [ne _ (by omega)]; exact h.sh.ab j hj⟩, (ne _ (by omega)).trans h.R, funext fun j => if_pos rfl, (ne _ (by omega)).trans h.K, (ne _ (by omega)).trans h.T, (ne _ (by omega)).trans h.H, (ne _ (by omega)).trans h.S, h.E, h.X, h.Z⟩
theorem frC {w0 : Wd} {a : Nat} {f : Nw} (h : fr (mQ m) w0 w) (ha : m ≤ a ∧ a < m + 21) : fr (mQ m) w0 (sIc w a f) :=
  ⟨h.1, fun q hq => ⟨(h.2 q hq).1, (h.2 q hq).2.1, fun hj => ⟨(funext fun j => if_neg (fun e : q = a => hj (by subst e; exact ha))).trans ((h.2 q hq).2.2 hj).1, ((h.2 q hq).2.2 hj).2⟩⟩⟩
def F_image (A : Ab) : Int32 × Ab := (1, zX (zK A (mvN (aN A) (aK A))) 1)
theorem m_image (h : MM w m A) {k : Int32 → Wd → Prop} (hk : mR w m (F_image A).2 (k (F_image A).1)) : wp_X4_image w m k := by
  unfold wp_X4_image
  simp only [h.sh.G401, h.sh.G402]
  refine m_mv 2 3 h.sh.t2 h.sh.t3 (by decide) (fun w2 _ e2 => ?_)
  rw [h.N, h.K] at e2
  subst e2
  have h2 := h.wKc (mvN (aN A) (aK A))
  simp only [h2.sh.pF]
  exact hk _ (h2.wX 1) (frF (frC (fr.refl _ _) (by omega)))
def bkH (A : Ab) (j : Nat) : Nw := fun s => if s < j then (if (aH A s).toInt < 10 + (aK A 89).toInt then aH A s else -1) else aH A s
def F_back (A : Ab) : Int32 × Ab := if aX A = 0 then rf A (-5) else (1, zH (zN A (mvN (aK A) (aN A))) (bkH A 8))
theorem m_back (h : MM w m A) (hK : ¬ aX A = 0 → okP (aK A)) {k : Int32 → Wd → Prop} (hk : mR w m (F_back A).2 (k (F_back A).1)) : wp_X4_back w m k := by
  unfold wp_X4_back
  unfold F_back at hk
  simp only [h.sh.gF, h.X]
  by_cases c : aX A = 0
  · rw [if_pos c] at hk ⊢
    exact ⟨by rw [h.sh.ob]; trivial, m_refuse h (by decide) hk⟩
  · rw [if_neg c] at hk ⊢
    have hKP := hK c
    simp only [h.sh.G401, h.sh.G402]
    refine m_mv 3 2 h.sh.t3 h.sh.t2 (by decide) (fun w2 _ e2 => ?_)
    rw [h.N, h.K] at e2
    subst e2
    have h2 := h.wNc (mvN (aK A) (aN A))
    generalize hw2 : sIc w (m + 2) (mvN (aK A) (aN A)) = w2 at h2 ⊢
    have hf2 : fr (mQ m) w w2 := hw2 ▸ frC (fr.refl _ _) (by omega)
    refine loopN (n := 8) (I := fun j w3 => MM w3 m (zH (zN A (mvN (aK A) (aN A))) (bkH A j)) ∧ fr (mQ m) w w3) (L := fun fu j w3 => wl_X4_back_27 k fu w3 m (Int32.ofNat j)) ?_ ?_ 8 FU 0 w2 (by omega) (by unfold FU; omega) ⟨?_, hf2⟩
    · intro fu j w3 hj ⟨h3, hf3⟩ ih
      have ej : (Int32.ofNat j).toInt = j := i_ti (by omega)
      have hv : vp_in (Int32.ofNat j) 8 := vp_iff.2 (by omega)
      have e10 : (10 + aK A 89).toInt = 10 + (aK A 89).toInt := i_addv rfl rfl (by decide) (by rw [hKP.1]; have := hKP.2; omega)
      have eH : bkH A j j = aH A j := if_neg (by omega)
      rw [wl_X4_back_27_s]
      unfold wb_X4_back_27
      rw [if_neg (by rw [i_le, ej]; show ¬ (8 : Int) ≤ j; omega)]
      simp only [h3.sh.G419, h3.sh.r14, h3.H, aH_zH, hv, i_tt (show j < 1000000 by omega), eH, true_and]
      refine ⟨by rw [h3.sh.ob]; trivial, ?_⟩
      rw [m_many h3, aN_zH, aN_zN, show mvN (aK A) (aN A) 89 = aK A 89 from if_pos (by decide), i_ofS]
      simp only [h3.sh.G419, h3.sh.r14, h3.sh.w14, h3.H, aH_zH, hv, i_tt (show j < 1000000 by omega), eH, true_and, i_lt, e10]
      have h4 := h3.wH j (if (aH A j).toInt < 10 + (aK A 89).toInt then aH A j else -1)
      simp only [aH_zH, zH_zH] at h4
      have es : up1 (bkH A j) j (if (aH A j).toInt < 10 + (aK A 89).toInt then aH A j else -1) = bkH A (j + 1) := funext fun x => by
        rw [up1_at]
        unfold bkH
        by_cases e : x = j
        · rw [if_pos e, if_pos (show x < j + 1 by omega), e]
        · rw [if_neg e]
          by_cases e2 : x < j
          · rw [if_pos e2, if_pos (show x < j + 1 by omega)]
          · rw [if_neg e2, if_neg (show ¬ x < j + 1 by omega)]
      rw [es] at h4
      have ih' := ih _ ⟨h4, frR hf3 (by omega)⟩
      by_cases c2 : (aH A j).toInt < 10 + (aK A 89).toInt
      · rw [if_pos c2] at ih' ⊢
        exact ih'
      · rw [if_neg c2] at ih' ⊢
        exact ih'
    · intro fu w3 ⟨h3, hf3⟩
      rw [wl_X4_back_27_s]
      unfold wb_X4_back_27
      rw [if_pos (by decide)]
      exact hk w3 h3 hf3
    · have e0 : bkH A 0 = aH (zN A (mvN (aK A) (aN A))) := funext fun x => if_neg (by omega)
      rw [e0, zH_a]
      exact h2
def F_status (A : Ab) (x : Int32) : Int32 :=
  if 12 ≤ x.toInt ∧ x.toInt ≤ 16 then aR A (x.toInt.toNat - 10) else if x = 0 then aN A 89 else if x = 1 then aN A 90 else if x = 2 then aN A 91 else if x = 3 then aN A 92 else if x = 4 then aN A 93
  else if x = 5 then foldP (fun k a => a + aN A (40 + k)) 0 49 else if x = 6 then aN A 94 else if x = 7 then aN A 95 else if x = 8 then aZ A else if x = 9 then aN A 96 else if x = 10 then foldP (fun s a => a + (if aH A s = -1 then 0 else 1)) 0 8 else -1
theorem m_status (h : MM w m A) (x : Int32) {k : Int32 → Wd → Prop} (hk : k (F_status A x) w) : wp_X4_status w m x k := by
  unfold wp_X4_status
  unfold F_status at hk
  simp only [m_isIn, lg_lit, ie_m6_m5, ie_m6_m4, ie_m6_m3, ie_m6_m2, ie_m6_m1, ie_m6_0, ie_m6_1, ie_m6_2, ie_m6_3, ie_m6_4, ie_m6_5, ie_m6_6, ie_m5_m6, ie_m5_m4, ie_m5_m3, ie_m5_m2, ie_m5_m1, ie_m5_0, ie_m5_1, ie_m5_2, ie_m5_3, ie_m5_4, ie_m5_5, ie_m5_6, ie_m4_m6, ie_m4_m5, ie_m4_m3, ie_m4_m2, ie_m4_m1, ie_m4_0, ie_m4_1, ie_m4_2, ie_m4_3, ie_m4_4, ie_m4_5, ie_m4_6, ie_m3_m6, ie_m3_m5, ie_m3_m4, ie_m3_m2, ie_m3_m1, ie_m3_0, ie_m3_1, ie_m3_2, ie_m3_3, ie_m3_4, ie_m3_5, ie_m3_6, ie_m2_m6, ie_m2_m5, ie_m2_m4, ie_m2_m3, ie_m2_m1, ie_m2_0, ie_m2_1, ie_m2_2, ie_m2_3, ie_m2_4, ie_m2_5, ie_m2_6, ie_m1_m6, ie_m1_m5, ie_m1_m4, ie_m1_m3, ie_m1_m2, ie_m1_0, ie_m1_1, ie_m1_2, ie_m1_3, ie_m1_4, ie_m1_5, ie_m1_6, ie_0_m6, ie_0_m5, ie_0_m4, ie_0_m3, ie_0_m2, ie_0_m1, ie_0_1, ie_0_2, ie_0_3, ie_0_4, ie_0_5, ie_0_6, ie_1_m6, ie_1_m5, ie_1_m4, ie_1_m3, ie_1_m2, ie_1_m1, ie_1_0, ie_1_2, ie_1_3, ie_1_4, ie_1_5, ie_1_6, ie_2_m6, ie_2_m5, ie_2_m4, ie_2_m3, ie_2_m2, ie_2_m1, ie_2_0, ie_2_1, ie_2_3, ie_2_4, ie_2_5, ie_2_6, ie_3_m6, ie_3_m5, ie_3_m4, ie_3_m3, ie_3_m2, ie_3_m1, ie_3_0, ie_3_1, ie_3_2, ie_3_4, ie_3_5, ie_3_6, ie_4_m6, ie_4_m5, ie_4_m4, ie_4_m3, ie_4_m2, ie_4_m1, ie_4_0, ie_4_1, ie_4_2, ie_4_3, ie_4_5, ie_4_6, ie_5_m6, ie_5_m5, ie_5_m4, ie_5_m3, ie_5_m2, ie_5_m1, ie_5_0, ie_5_1, ie_5_2, ie_5_3, ie_5_4, ie_5_6, ie_6_m6, ie_6_m5, ie_6_m4, ie_6_m3, ie_6_m2, ie_6_m1, ie_6_0, ie_6_1, ie_6_2, ie_6_3, ie_6_4, ie_6_5, Int32.reduceToInt, Int64.reduceToInt, Int.reduceToNat, Int32.reduceAdd, Int32.reduceSub, Int32.reduceMul, Int32.reduceDiv, Int32.reduceLT, Int32.reduceLE, Int.reduceLE, Int.reduceLT, Int.reduceNeg, Int.reduceAdd, Int.reduceSub, Int.reduceMul, Int.reduceEq, Nat.reduceAdd, Nat.reduceMul, Nat.reduceLT, Nat.reduceEqDiff, true_and, and_true, and_self, false_and, and_false, if_true, if_false, ite_true, ite_false, ↓reduceIte, not_true_eq_false, not_false_eq_true, true_or, or_true, or_false, false_or, Int.cast_ofNat_Int, Int.reduceNatCast]
  by_cases c : 12 ≤ x.toInt ∧ x.toInt ≤ 16
  · rw [if_pos c] at hk ⊢
    have e : (x - 10).toInt = x.toInt - 10 := by rw [i_sub (by show _ ≤ x.toInt - 10 ∧ x.toInt - 10 < _; omega)]; rfl
    have hv : vp_in (x - 10) 7 := vp_iff.2 (by omega)
    simp only [h.sh.G400, h.sh.r1, h.R, hv, e, true_and]
    rwa [show x.toInt.toNat - 10 = (x.toInt - 10).toNat by omega] at hk
  · rw [if_neg c] at hk ⊢
    have rd : ∀ (i : Int32) (j : Nat) (K : Int32 → Prop), i.toInt.toNat = j → 0 ≤ i.toInt ∧ i.toInt < 97 → wld w (some (m + 2)) 0 i K = K (aN A j) := fun i j K e hi => by
      have hv : vp_in i 97 := vp_iff.2 hi
      simp only [h.sh.r2, h.N, hv, e, true_and]
    by_cases c0 : x = 0
    · rw [if_pos c0] at hk ⊢
      refine ⟨by rw [h.sh.ob]; trivial, ?_⟩
      rw [m_many h]
      exact hk
    · rw [if_neg c0] at hk ⊢
      simp only [h.sh.G401]
      by_cases c1 : x = 1
      · rw [if_pos c1] at hk ⊢
        subst c1
        rw [rd (90 + 1 - 1) 90 _ (by decide) (by decide)]
        exact hk
      · rw [if_neg c1] at hk ⊢
        by_cases c2 : x = 2
        · rw [if_pos c2] at hk ⊢
          subst c2
          rw [rd (90 + 2 - 1) 91 _ (by decide) (by decide)]
          exact hk
        · rw [if_neg c2] at hk ⊢
          by_cases c3 : x = 3
          · rw [if_pos c3] at hk ⊢
            subst c3
            rw [rd (90 + 3 - 1) 92 _ (by decide) (by decide)]
            exact hk
          · rw [if_neg c3] at hk ⊢
            by_cases c4 : x = 4
            · rw [if_pos c4] at hk ⊢
              subst c4
              rw [rd (90 + 4 - 1) 93 _ (by decide) (by decide)]
              exact hk
            · rw [if_neg c4] at hk ⊢
              by_cases c5 : x = 5
              · rw [if_pos c5] at hk ⊢
                refine loopN (n := 49) (I := fun j w2 => w2 = w) (L := fun fu j w2 => wl_X4_status_103 k fu w2 m (foldP (fun k a => a + aN A (40 + k)) 0 j) (Int32.ofNat j)) ?_ ?_ 49 FU 0 w (by omega) (by unfold FU; omega) rfl
                · rintro fu j w2 hj rfl ih
                  have e : (40 + Int32.ofNat j).toInt = 40 + (j : Int) := i_addv rfl (i_ti (by omega)) (by decide) (by omega)
                  rw [wl_X4_status_103_s]
                  unfold wb_X4_status_103
                  rw [if_neg (by rw [i_le, i_ti (by omega)]; show ¬ (49 : Int) ≤ j; omega)]
                  simp only [h.sh.G401]
                  rw [rd (40 + Int32.ofNat j) (40 + j) _ (by omega) (by omega), i_ofS]
                  exact ih _ rfl
                · rintro fu w2 rfl
                  rw [wl_X4_status_103_s]
                  unfold wb_X4_status_103
                  rw [if_pos (by decide)]
                  exact hk
              · rw [if_neg c5] at hk ⊢
                by_cases c6 : x = 6
                · rw [if_pos c6] at hk ⊢
                  subst c6
                  rw [rd (94 + 6 - 6) 94 _ (by decide) (by decide)]
                  exact hk
                · rw [if_neg c6] at hk ⊢
                  by_cases c7 : x = 7
                  · rw [if_pos c7] at hk ⊢
                    subst c7
                    rw [rd (94 + 7 - 6) 95 _ (by decide) (by decide)]
                    exact hk
                  · rw [if_neg c7] at hk ⊢
                    by_cases c8 : x = 8
                    · rw [if_pos c8] at hk ⊢
                      rw [h.sh.gF, h.Z]
                      exact hk
                    · rw [if_neg c8] at hk ⊢
                      by_cases c9 : x = 9
                      · rw [if_pos c9] at hk ⊢
                        rw [rd 96 96 _ (by decide) (by decide)]
                        exact hk
                      · rw [if_neg c9] at hk ⊢
                        by_cases ca : x = 10
                        · rw [if_pos ca] at hk ⊢
                          refine loopN (n := 8) (I := fun j w2 => w2 = w) (L := fun fu j w2 => wl_X4_status_157 k fu w2 m (foldP (fun s a => a + (if aH A s = -1 then 0 else 1)) 0 j) (Int32.ofNat j)) ?_ ?_ 8 FU 0 w (by omega) (by unfold FU; omega) rfl
                          · rintro fu j w2 hj rfl ih
                            have hv : vp_in (Int32.ofNat j) 8 := vp_iff.2 (by rw [i_ti (by omega)]; omega)
                            rw [wl_X4_status_157_s]
                            unfold wb_X4_status_157
                            rw [if_neg (by rw [i_le, i_ti (by omega)]; show ¬ (8 : Int) ≤ j; omega)]
                            simp only [h.sh.G419, h.sh.r14, h.H, hv, i_tt (show j < 1000000 by omega), true_and, i_ofS]
                            have ih' := ih _ rfl
                            simp only [foldP] at ih'
                            by_cases e : aH A j = -1
                            · rw [if_pos e] at ih' ⊢
                              exact ih'
                            · rw [if_neg e] at ih' ⊢
                              exact ih'
                          · rintro fu w2 rfl
                            rw [wl_X4_status_157_s]
                            unfold wb_X4_status_157
                            rw [if_pos (by decide)]
                            exact hk
                        · rw [if_neg ca] at hk ⊢
                          exact hk
end MSTT
