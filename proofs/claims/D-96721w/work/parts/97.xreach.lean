/-! ===== where one may come, of the class ===== -/
theorem fold7 {g h : Nat → Int32} (hg : ∀ r t, t < 7 → h (10 * r + t) = g (7 * r + t)) (hz : ∀ r t, 7 ≤ t → t < 10 → h (10 * r + t) = 0) : ∀ r, foldP (fun y a => a + h y) 0 (10 * r) = foldP (fun k a => a + g k) 0 (7 * r)
  | 0 => rfl
  | r + 1 => by
    have s : foldP (fun y a => a + h y) 0 (10 * (r + 1)) = foldP (fun y a => a + h y) 0 (10 * r) + h (10 * r + 0) + h (10 * r + 1) + h (10 * r + 2) + h (10 * r + 3) + h (10 * r + 4) + h (10 * r + 5) + h (10 * r + 6) + h (10 * r + 7) + h (10 * r + 8) + h (10 * r + 9) := rfl
    have s2 : foldP (fun k a => a + g k) 0 (7 * (r + 1)) = foldP (fun k a => a + g k) 0 (7 * r) + g (7 * r + 0) + g (7 * r + 1) + g (7 * r + 2) + g (7 * r + 3) + g (7 * r + 4) + g (7 * r + 5) + g (7 * r + 6) := rfl
    rw [s, s2, fold7 hg hz r, hg r 0 (by decide), hg r 1 (by decide), hg r 2 (by decide), hg r 3 (by decide), hg r 4 (by decide), hg r 5 (by decide), hg r 6 (by decide), hz r 7 (by decide) (by decide), hz r 8 (by decide) (by decide), hz r 9 (by decide) (by decide)]
    simp only [Int32.add_zero]
/-- a word below word c of k signs ends, not fallen, in cell y -/
def mkP (N : Nw) (p : Nat) (n k c y : Nat) : Prop := ∃ m x, (k ≤ m ∧ m ≤ n) ∧ x / 3 ^ (m - k) = c ∧ uL (brW N p (N 91) (wrdN x m) m) = -1 ∧ uC (brW N p (N 91) (wrdN x m) m) = Int32.ofNat y
theorem mkP_0 {N : Nw} {p n k c y : Nat} (hk : k ≤ n) (hf : ¬ uL (brW N p (N 91) (wrdN c k) k) = -1) : ¬ mkP N p n k c y := by
  rintro ⟨m, x, ⟨h1, h2⟩, h3, h4, -⟩
  have := brW_p (d := m - k) h3 hf
  rw [show k + (m - k) = m by omega] at this
  exact this h4
theorem mkP_n {N : Nw} {p n c y : Nat} (hf : uL (brW N p (N 91) (wrdN c n) n) = -1) : mkP N p n n c y ↔ uC (brW N p (N 91) (wrdN c n) n) = Int32.ofNat y := by
  constructor
  · rintro ⟨m, x, ⟨h1, h2⟩, h3, h4, h5⟩
    obtain rfl : m = n := by omega
    rw [Nat.sub_self, Nat.pow_zero, Nat.div_one] at h3
    subst h3
    exact h5
  · intro h
    exact ⟨n, c, ⟨Nat.le_refl _, Nat.le_refl _⟩, by rw [Nat.sub_self, Nat.pow_zero, Nat.div_one], hf, h⟩
theorem mkP_s {N : Nw} {p n k c y : Nat} (hk : k < n) (hf : uL (brW N p (N 91) (wrdN c k) k) = -1) : mkP N p n k c y ↔ (uC (brW N p (N 91) (wrdN c k) k) = Int32.ofNat y ∨ ∃ s, s < 3 ∧ mkP N p n (k + 1) (3 * c + s) y) := by
  constructor
  · rintro ⟨m, x, ⟨h1, h2⟩, h3, h4, h5⟩
    by_cases e : m = k
    · subst e
      rw [Nat.sub_self, Nat.pow_zero, Nat.div_one] at h3
      subst h3
      exact Or.inl h5
    · right
      rw [show m - k = (m - (k + 1)) + 1 by omega, Nat.pow_succ, ← Nat.div_div_eq_div_mul] at h3
      exact ⟨x / 3 ^ (m - (k + 1)) % 3, Nat.mod_lt _ (by decide), m, x, ⟨by omega, h2⟩, by omega, h4, h5⟩
  · rintro (h | ⟨s, hs, m, x, ⟨h1, h2⟩, h3, h4, h5⟩)
    · exact ⟨k, c, ⟨Nat.le_refl _, by omega⟩, by rw [Nat.sub_self, Nat.pow_zero, Nat.div_one], hf, h⟩
    · refine ⟨m, x, ⟨by omega, h2⟩, ?_, h4, h5⟩
      rw [show m - k = (m - (k + 1)) + 1 by omega, Nat.pow_succ, ← Nat.div_div_eq_div_mul, h3]
      omega
/-- the cells that are marked -/
def mko (w : Wd) (b : Nat) (P : Nat → Prop) : Prop := ∀ y : Nat, y < 70 → (wI w (b + 13) y = 0 ∨ wI w (b + 13) y = 1) ∧ (wI w (b + 13) y = 1 ↔ P y)
theorem mko.cg {w : Wd} {b : Nat} {P P' : Nat → Prop} (h : mko w b P) (hP : ∀ y, P y ↔ P' y) : mko w b P' := fun y hy => ⟨(h y hy).1, (h y hy).2.trans (hP y)⟩
theorem mko.sc {w w' : Wd} {b : Nat} {P : Nat → Prop} (h : mko w b P) (e : wI w' (b + 13) = wI w (b + 13)) : mko w' b P := fun y hy => by rw [e]; exact h y hy
def mrP (b k : Nat) : Nat → Nat → Prop := fun q _ => q = b + 13 ∨ (b + 27 + 2 * k ≤ q ∧ q < b + 39)
theorem mrP_P {w w' : Wd} {b k : Nat} (h : fr (mrP b k) w w') : fr (xP b) w w' := h.mono (fun q j _ hp => by unfold mrP at hp; unfold xP; omega)
theorem mrP_s {w w' : Wd} {b k : Nat} (h : fr (mrP b (k + 1)) w w') : fr (mrP b k) w w' := h.mono (fun q j _ hp => by unfold mrP at *; omega)
section XRC
variable {w : Wd} {b i : Nat} {o : Option Nat} {A : Ab}
theorem x_marks (hN : okN (aN A)) {p v : Nat} (hp : p < pe (aN A)) {n : Nat} (hn : n ≤ 6) : ∀ (d k c fu : Nat) (w : Wd) (P : Nat → Prop) (K : Wd → Prop), k + d = n → d < fu → XX w b i o A → vot w b v (aN A (5 * p)) p (aN A (5 * p + 1)) → wlk w (b + 25 + 2 * k) (brW (aN A) p (aN A 91) (wrdN c k) k) (Int32.ofNat k) → mko w b P → (∀ w', XX w' b i o A → fr (mrP b k) w w' → mko w' b (fun y => P y ∨ mkP (aN A) p n k c y) → K w') → wp_X0_marks fu w b (some v) (Int32.ofNat k) (Int32.ofNat n) K := by
  intro d
  induction d with
  | zero =>
    intro k c fu w P K hk hfu h hv i1 hm hK
    obtain ⟨fu, rfl⟩ : ∃ g, fu = g + 1 := ⟨fu - 1, by omega⟩
    obtain rfl : k = n := by omega
    have hk7 : k < 7 := by omega
    have hz := h.sh.z
    have hok := (brW_ok hN hp (aN A 91) (wrdN c k) (n := k) (by omega)).1
    obtain ⟨y0, e0⟩ := cell_of hN hok.1
    have hv7 : vp_in (uC (brW (aN A) p (aN A 91) (wrdN c k) k)) 70 := vp_iff.2 (by have := hok.1.1; omega)
    rw [wp_X0_marks_s]
    unfold wp_X0_marks_b
    simp only [h.sh.G4, h.sh.G7, x_one h hk7, i1.gF, i1.2.2.2.2.2.2.2, i1.2.1, h.sh.w13, hv7, true_and]
    by_cases f1 : uL (brW (aN A) p (aN A 91) (wrdN c k) k) = -1
    · rw [if_pos f1]
      have hf2 : fr (at1 (b + 13)) w (sI w (b + 13) (uC (brW (aN A) p (aN A 91) (wrdN c k) k)).toInt.toNat 1) := (fr.refl _ _).sI (fun _ => rfl)
      show wl_X0_marks_32 _ K (999 + 1) _ _ _ _ _ (Int32.ofNat 0)
      rw [wl_X0_marks_32_s]
      unfold wb_X0_marks_32
      rw [if_neg (by decide), if_pos (Int32.le_refl _)]
      refine hK _ (h.scP (at13_P hf2)) (hf2.mono (fun q x _ hq => by unfold at1 at hq; unfold mrP; omega)) (fun y hy => ?_)
      rw [wI_sI]
      show _ ∧ (_ ↔ P y ∨ mkP (aN A) p k k c y)
      rw [mkP_n f1]
      by_cases e : y = (uC (brW (aN A) p (aN A 91) (wrdN c k) k)).toInt.toNat
      · rw [if_pos ⟨rfl, e⟩]
        exact ⟨Or.inr rfl, fun _ => Or.inr (by rw [e]; exact e0), fun _ => rfl⟩
      · rw [if_neg (fun q => e q.2)]
        refine ⟨(hm y hy).1, fun q => Or.inl ((hm y hy).2.1 q), fun q => (hm y hy).2.2 (q.resolve_right (fun q2 => e ?_))⟩
        rw [q2, i_tt (by omega)]
    · rw [if_neg f1]
      exact hK w h (fr.refl _ _) (hm.cg (fun y => ⟨Or.inl, fun q => q.resolve_right (mkP_0 (Nat.le_refl _) f1)⟩))
  | succ d ih =>
    intro k c fu w P K hk hfu h hv i1 hm hK
    obtain ⟨fu, rfl⟩ : ∃ g, fu = g + 1 := ⟨fu - 1, by omega⟩
    have hk7 : k < 7 := by omega
    have hz := h.sh.z
    have hok2 := brW_ok hN hp (aN A 91) (wrdN c k) (n := k) (by omega)
    have hok := hok2.1
    obtain ⟨y0, e0⟩ := cell_of hN hok.1
    have hv7 : vp_in (uC (brW (aN A) p (aN A 91) (wrdN c k) k)) 70 := vp_iff.2 (by have := hok.1.1; omega)
    rw [wp_X0_marks_s]
    unfold wp_X0_marks_b
    simp only [h.sh.G4, h.sh.G7, x_one h hk7, i1.gF, i1.2.2.2.2.2.2.2, i1.2.1, h.sh.w13, hv7, true_and]
    by_cases f1 : uL (brW (aN A) p (aN A 91) (wrdN c k) k) = -1
    · rw [if_pos f1]
      have hf2 : fr (at1 (b + 13)) w (sI w (b + 13) (uC (brW (aN A) p (aN A 91) (wrdN c k) k)).toInt.toNat 1) := (fr.refl _ _).sI (fun _ => rfl)
      have hm2 : mko (sI w (b + 13) (uC (brW (aN A) p (aN A 91) (wrdN c k) k)).toInt.toNat 1) b (fun y => (P y ∨ uC (brW (aN A) p (aN A 91) (wrdN c k) k) = Int32.ofNat y) ∨ ∃ s, s < 0 ∧ mkP (aN A) p n (k + 1) (3 * c + s) y) := by
        intro y hy
        rw [wI_sI]
        by_cases e : y = (uC (brW (aN A) p (aN A 91) (wrdN c k) k)).toInt.toNat
        · rw [if_pos ⟨rfl, e⟩]
          exact ⟨Or.inr rfl, fun _ => Or.inl (Or.inr (by rw [e]; exact e0)), fun _ => rfl⟩
        · rw [if_neg (fun q => e q.2)]
          refine ⟨(hm y hy).1, fun q => Or.inl (Or.inl ((hm y hy).2.1 q)), fun q => (hm y hy).2.2 ?_⟩
          rcases q with (q | q) | ⟨s, hs, -⟩
          · exact q
          · exact absurd (by rw [q, i_tt (by omega)]) e
          · exact absurd hs (Nat.not_lt_zero s)
      have h2 := h.scP (at13_P hf2)
      have hfm : fr (mrP b k) w (sI w (b + 13) (uC (brW (aN A) p (aN A 91) (wrdN c k) k)).toInt.toNat 1) := hf2.mono (fun q x _ hq => by unfold at1 at hq; unfold mrP; omega)
      generalize sI w (b + 13) (uC (brW (aN A) p (aN A 91) (wrdN c k) k)).toInt.toNat 1 = w2 at *
      have key : ∀ t s fl w3, s + t = 3 → t < fl → XX w3 b i o A → fr (mrP b k) w w3 → mko w3 b (fun y => (P y ∨ uC (brW (aN A) p (aN A 91) (wrdN c k) k) = Int32.ofNat y) ∨ ∃ s', s' < s ∧ mkP (aN A) p n (k + 1) (3 * c + s') y) → wl_X0_marks_32 (wp_X0_marks fu) K fl w3 b (some v) (Int32.ofNat k) (Int32.ofNat n) (Int32.ofNat s) := by
        intro t
        induction t with
        | zero =>
          intro s fl w3 hs hfl h3 hf3 hm3
          obtain ⟨fl, rfl⟩ : ∃ g, fl = g + 1 := ⟨fl - 1, by omega⟩
          obtain rfl : s = 3 := by omega
          rw [wl_X0_marks_32_s]
          unfold wb_X0_marks_32
          rw [if_pos (by decide)]
          refine hK w3 h3 hf3 (hm3.cg (fun y => ?_))
          rw [mkP_s (by omega) f1, or_assoc]
        | succ t iht =>
          intro s fl w3 hs hfl h3 hf3 hm3
          obtain ⟨fl, rfl⟩ : ∃ g, fl = g + 1 := ⟨fl - 1, by omega⟩
          have hs3 : s < 3 := by omega
          have j1 := i1.sc hf3 (fun q => by unfold mrP; omega)
          have vt3 := hv.sc (mrP_P hf3) (fun q => by have := hv.1; unfold xP; omega)
          have hz3 := h3.sh.z
          rw [wl_X0_marks_32_s]
          unfold wb_X0_marks_32
          rw [if_neg (by rw [lt_of (by omega)]; show ¬ (2 : Int) < s; omega), if_neg (by rw [i_le, i_ti (by omega), i_ti (by omega)]; omega)]
          simp only [h3.sh.G4, i_ofS, x_one h3 hk7, x_one h3 (show k + 1 < 7 by omega), wnn]
          refine ⟨x_obw h3 (by omega), x_becomes (x_tw h3 (by omega)) (by omega) j1 (by omega) (fun w4 hf4 l1w _ => ?_)⟩
          have h4 := h3.scP (hf4.mono (fun q x _ hp => by unfold at1 at hp; unfold xP; omega))
          have vt4 := vt3.sc hf4 (fun q => by have := hv.1; unfold at1; omega)
          have hz4 := h4.sh.z
          simp only [h4.G0, h4.is.G105, x_t0 h4]
          refine ⟨x_obw h4 (by omega), x_goes h4.k h4.is hN hp (by omega) vt4 l1w hok2.1 hok2.2 (sg3 hs3) (aN A 91) (fun w5 hf5 m5 _ => ?_)⟩
          rw [← brW_s hs3, i_ofS] at m5
          have h5 := h4.scP (hf5.mono (fun q x _ hp => by unfold at1 at hp; unfold xP; omega))
          have vt5 := vt4.sc hf5 (fun q => by have := hv.1; unfold at1; omega)
          have e13 : wI w5 (b + 13) = wI w3 (b + 13) := (hf5.I (by omega) (by unfold at1; omega)).trans (hf4.I (by omega) (by unfold at1; omega))
          have hf05 : fr (mrP b k) w w5 := (hf3.trans (hf4.mono (fun q x _ hp => by unfold at1 at hp; unfold mrP; omega))).trans (hf5.mono (fun q x _ hp => by unfold at1 at hp; unfold mrP; omega))
          refine ⟨by rw [h5.sh.ob]; trivial, ?_⟩
          refine ih (k + 1) (3 * c + s) fu w5 _ _ (by omega) (by omega) h5 vt5 m5 (hm3.sc e13) (fun w6 h6 hf6 hm6 => ?_)
          refine iht (s + 1) fl w6 (by omega) (by omega) h6 (hf05.trans (mrP_s hf6)) (hm6.cg (fun y => ?_))
          constructor
          · rintro ((q | ⟨s', h1, h2⟩) | q)
            · exact Or.inl q
            · exact Or.inr ⟨s', by omega, h2⟩
            · exact Or.inr ⟨s, by omega, q⟩
          · rintro (q | ⟨s', h1, h2⟩)
            · exact Or.inl (Or.inl q)
            · by_cases e : s' = s
              · subst e
                exact Or.inr h2
              · exact Or.inl (Or.inr ⟨s', by omega, h2⟩)
      exact key 3 0 FU w2 (by omega) (by unfold FU; omega) h2 hfm hm2
    · rw [if_neg f1]
      exact hK w h (fr.refl _ _) (hm.cg (fun y => ⟨Or.inl, fun q => q.resolve_right (mkP_0 (by omega) f1)⟩))
theorem mkP_hit {N : Nw} (hN : okN N) {p : Nat} (hp : p < pe N) {n : Nat} (hn : n ≤ 6) (y : Nat) (hy : y < 70) : mkP N p n 0 0 y ↔ y % 10 < 7 ∧ hitL N p (7 * (y / 10) + y % 10) (n + 1) = true := by
  have hs := hN.side
  have hok : ∀ m x, m ≤ n → isC (N 90) (uC (brW N p (N 91) (wrdN x m) m)) := fun m x hm => (brW_ok hN hp (N 91) (wrdN x m) (n := m) (by omega)).1.1
  rw [hitL_iff]
  constructor
  · rintro ⟨m, x, ⟨h1, h2⟩, h3, h4, h5⟩
    have hc := hok m x h2
    rw [h5] at hc
    unfold isC at hc
    rw [i_ti (by omega)] at hc
    refine ⟨by omega, m, x, by omega, ?_, h4, ?_⟩
    · have := Nat.div_add_mod x (3 ^ (m - 0))
      have h0 := Nat.mod_lt x (show 0 < 3 ^ (m - 0) from Nat.pow_pos (by decide))
      rw [h3] at this
      rw [Nat.sub_zero] at *
      omega
    · rw [h5]
      unfold pat
      rw [i_ti (by omega)]
      omega
  · rintro ⟨h0, m, x, h1, h2, h3, h4⟩
    have hc := hok m x (by omega)
    refine ⟨m, x, ⟨by omega, by omega⟩, by rw [Nat.sub_zero]; exact Nat.div_eq_of_lt h2, h3, ?_⟩
    unfold isC at hc
    unfold pat at h4
    rw [i_eq, i_ti (by omega)]
    omega
theorem x_reach (h : XX w b i o A) (hN : okN (aN A)) (p len : Int32) {k : Int32 → Wd → Prop} (hk : xR w b i o (F_reach A p len).2 (k (F_reach A p len).1)) : wp_X0_reach w b p len k := by
  unfold wp_X0_reach
  unfold F_reach at hk
  have hz := h.sh.z
  rw [h.G0]
  show wob w i [21] ∧ _
  refine ⟨by rw [h.is.ob]; trivial, ?_⟩
  rw [x_isPerson h.is hN]
  by_cases c1 : isP (aN A) p
  · rw [if_pos c1, if_neg (by decide)]
    simp only [x_isIn, ie_m6_m5, ie_m6_m4, ie_m6_m3, ie_m6_m2, ie_m6_m1, ie_m6_0, ie_m6_1, ie_m6_2, ie_m6_3, ie_m6_4, ie_m6_5, ie_m6_6, ie_m5_m6, ie_m5_m4, ie_m5_m3, ie_m5_m2, ie_m5_m1, ie_m5_0, ie_m5_1, ie_m5_2, ie_m5_3, ie_m5_4, ie_m5_5, ie_m5_6, ie_m4_m6, ie_m4_m5, ie_m4_m3, ie_m4_m2, ie_m4_m1, ie_m4_0, ie_m4_1, ie_m4_2, ie_m4_3, ie_m4_4, ie_m4_5, ie_m4_6, ie_m3_m6, ie_m3_m5, ie_m3_m4, ie_m3_m2, ie_m3_m1, ie_m3_0, ie_m3_1, ie_m3_2, ie_m3_3, ie_m3_4, ie_m3_5, ie_m3_6, ie_m2_m6, ie_m2_m5, ie_m2_m4, ie_m2_m3, ie_m2_m1, ie_m2_0, ie_m2_1, ie_m2_2, ie_m2_3, ie_m2_4, ie_m2_5, ie_m2_6, ie_m1_m6, ie_m1_m5, ie_m1_m4, ie_m1_m3, ie_m1_m2, ie_m1_0, ie_m1_1, ie_m1_2, ie_m1_3, ie_m1_4, ie_m1_5, ie_m1_6, ie_0_m6, ie_0_m5, ie_0_m4, ie_0_m3, ie_0_m2, ie_0_m1, ie_0_1, ie_0_2, ie_0_3, ie_0_4, ie_0_5, ie_0_6, ie_1_m6, ie_1_m5, ie_1_m4, ie_1_m3, ie_1_m2, ie_1_m1, ie_1_0, ie_1_2, ie_1_3, ie_1_4, ie_1_5, ie_1_6, ie_2_m6, ie_2_m5, ie_2_m4, ie_2_m3, ie_2_m2, ie_2_m1, ie_2_0, ie_2_1, ie_2_3, ie_2_4, ie_2_5, ie_2_6, ie_3_m6, ie_3_m5, ie_3_m4, ie_3_m3, ie_3_m2, ie_3_m1, ie_3_0, ie_3_1, ie_3_2, ie_3_4, ie_3_5, ie_3_6, ie_4_m6, ie_4_m5, ie_4_m4, ie_4_m3, ie_4_m2, ie_4_m1, ie_4_0, ie_4_1, ie_4_2, ie_4_3, ie_4_5, ie_4_6, ie_5_m6, ie_5_m5, ie_5_m4, ie_5_m3, ie_5_m2, ie_5_m1, ie_5_0, ie_5_1, ie_5_2, ie_5_3, ie_5_4, ie_5_6, ie_6_m6, ie_6_m5, ie_6_m4, ie_6_m3, ie_6_m2, ie_6_m1, ie_6_0, ie_6_1, ie_6_2, ie_6_3, ie_6_4, ie_6_5, Int32.reduceToInt, Int64.reduceToInt, Int.reduceToNat, Int32.reduceAdd, Int32.reduceSub, Int32.reduceMul, Int32.reduceDiv, Int32.reduceLT, Int32.reduceLE, Int.reduceLE, Int.reduceLT, Int.reduceNeg, Int.reduceAdd, Int.reduceSub, Int.reduceMul, Int.reduceEq, Nat.reduceAdd, Nat.reduceMul, Nat.reduceLT, Nat.reduceEqDiff, true_and, and_true, and_self, false_and, and_false, if_true, if_false, ite_true, ite_false, ↓reduceIte, not_true_eq_false, not_false_eq_true, true_or, or_true, or_false, false_or, Int.cast_ofNat_Int, Int.reduceNatCast]
    by_cases c2 : 0 ≤ len.toInt ∧ len.toInt ≤ 6
    · rw [if_pos c2]
      rw [if_pos ⟨c1, c2⟩] at hk
      have hP := isP_nat c1
      rw [show p = Int32.ofNat p.toInt.toNat from (i_of c1.1).symm, show len = Int32.ofNat len.toInt.toNat from (i_of c2.1).symm]
      generalize p.toInt.toNat = P at *
      have hn6 : len.toInt.toNat ≤ 6 := by omega
      generalize len.toInt.toNat = n at *
      simp only [h.sh.G7]
      refine x_fill h (fun w2 hf2 hm2 => ?_)
      have h2 := h.scP (at13_P hf2)
      have hz2 := h2.sh.z
      simp only [h2.sh.G4, x_one0 h2, h2.G0, h2.is.G102, h2.is.G103, x_cl h2 hN hP, x_fc h2 hN hP, wnn]
      refine ⟨x_obw h2 (by omega), x_begins (x_tw h2 (by omega)) (by omega) _ _ (fun w3 hf3 hw3 _ => ?_)⟩
      have h3 := h2.scP (hf3.mono (fun q x _ hp => by unfold at1 at hp; unfold xP; omega))
      have hz3 := h3.sh.z
      obtain ⟨v, hv, hvt⟩ := x_vt h3 hN hP
      simp only [h3.G0, h3.is.G101, hvt]
      have hm3 : mko w3 b (fun _ => False) := fun y hy => by
        rw [hf3.I (by omega) (by unfold at1; omega), hm2 y hy]
        exact ⟨Or.inl rfl, fun q => absurd (show (0 : Int32) = 1 from q) (by decide), fun q => q.elim⟩
      refine ⟨by rw [h3.sh.ob]; trivial, ?_⟩
      refine x_marks hN hP hn6 n 0 0 8 w3 _ _ (by omega) (by omega) h3 hv hw3 hm3 (fun w4 h4 hf4 hm4 => ?_)
      have hf04 : fr (xQ b) w w4 := ((xP_Q (at13_P hf2)).trans (xP_Q (hf3.mono (fun q x _ hp => by unfold at1 at hp; unfold xP; omega)))).trans (xP_Q (mrP_P hf4))
      simp only [h4.sh.G7]
      show (match wT w4 (b + 13) with
        | some t => t.1 < 20 ∧ wl_X0_reach_95 k FU w4 0 (some (b + 13)) (Int32.ofNat t.2.1) 0
        | none => False)
      rw [h4.sh.t13]
      refine ⟨by decide, ?_⟩
      have sum : foldP (fun y a => a + wI w4 (b + 13) y) 0 70 = rchF (aN A) P n := by
        have e : ∀ y, y < 70 → wI w4 (b + 13) y = if y % 10 < 7 ∧ hitL (aN A) P (7 * (y / 10) + y % 10) (n + 1) = true then 1 else 0 := by
          intro y hy
          have q := hm4 y hy
          have q2 := mkP_hit hN hP hn6 y hy
          by_cases c : y % 10 < 7 ∧ hitL (aN A) P (7 * (y / 10) + y % 10) (n + 1) = true
          · rw [if_pos c]
            exact q.2.2 (Or.inr (q2.2 c))
          · rw [if_neg c]
            exact q.1.resolve_right (fun e => c (q2.1 ((q.2.1 e).resolve_left id)))
        rw [foldP_c (g := fun y a => a + if y % 10 < 7 ∧ hitL (aN A) P (7 * (y / 10) + y % 10) (n + 1) = true then 1 else 0) (fun y hy a => by rw [e y hy])]
        refine fold7 (g := fun k => if hitL (aN A) P k (n + 1) then 1 else 0) (h := fun y => if y % 10 < 7 ∧ hitL (aN A) P (7 * (y / 10) + y % 10) (n + 1) = true then 1 else 0) (fun r t ht => ?_) (fun r t h1 h2 => ?_) 7
        · show (if (10 * r + t) % 10 < 7 ∧ hitL (aN A) P (7 * ((10 * r + t) / 10) + (10 * r + t) % 10) (n + 1) = true then (1 : Int32) else 0) = if hitL (aN A) P (7 * r + t) (n + 1) then 1 else 0
          rw [show (10 * r + t) / 10 = r by omega, show (10 * r + t) % 10 = t by omega]
          by_cases c : hitL (aN A) P (7 * r + t) (n + 1) = true
          · rw [if_pos ⟨ht, c⟩, if_pos c]
          · rw [if_neg (fun q => c q.2), if_neg c]
        · exact if_neg (fun q => by have := q.1; omega)
      rw [← sum] at hk
      refine loopN (n := 70) (I := fun _ w5 => w5 = w4) (L := fun fu j w5 => wl_X0_reach_95 k fu w5 (foldP (fun y a => a + wI w4 (b + 13) y) 0 j) (some (b + 13)) (Int32.ofNat 70) (Int32.ofNat j)) ?_ ?_ 70 FU 0 w4 (by omega) (by unfold FU; omega) rfl
      · rintro fu j w5 hj rfl ih
        have hvj : vp_in (Int32.ofNat j) 70 := vp_iff.2 (by rw [i_ti (by omega)]; omega)
        rw [wl_X0_reach_95_s]
        unfold wb_X0_reach_95
        rw [if_neg (by rw [i_le, i_ti (by omega), i_ti (by omega)]; omega), h4.sh.r13, i_tt (by omega), i_ofS]
        exact ⟨hvj, ih _ rfl⟩
      · rintro fu w5 rfl
        rw [wl_X0_reach_95_s]
        unfold wb_X0_reach_95
        rw [if_pos (by decide)]
        exact hk _ h4 hf04
    · rw [if_neg c2]
      rw [if_neg (fun q => c2 q.2)] at hk
      exact ⟨by rw [h.sh.ob]; trivial, x_no h (by decide) hk⟩
  · rw [if_neg c1, if_pos rfl]
    rw [if_neg (fun q => c1 q.1)] at hk
    exact ⟨by rw [h.sh.ob]; trivial, x_no h (by decide) hk⟩
end XRC
