/-! ===== words below a word; what brings one somewhere, of the class ===== -/
theorem runW_Tcg {N : Nw} {kd lf : Int32} {p : Nat} {T T' : Nat → Int32} {u : Wk} : ∀ n : Nat, (∀ j, j < n → T j = T' j) → runW N kd lf p T u n = runW N kd lf p T' u n
  | 0, _ => rfl
  | n + 1, h => by
    show stp N kd lf p (runW N kd lf p T u n) (T n) (Int32.ofNat n) = stp N kd lf p (runW N kd lf p T' u n) (T' n) (Int32.ofNat n)
    rw [runW_Tcg n (fun j hj => h j (by omega)), h n (by omega)]
theorem wrdN_e {c s k j : Nat} (hs : s < 3) (hj : j < k) : wrdN (3 * c + s) (k + 1) j = wrdN c k j := by
  unfold wrdN
  rw [show k + 1 - 1 - j = (k - 1 - j) + 1 by omega, Nat.pow_succ, Nat.mul_comm (3 ^ (k - 1 - j)) 3, ← Nat.div_div_eq_div_mul, show (3 * c + s) / 3 = c by omega]
theorem wrdN_l {c s k : Nat} (hs : s < 3) : wrdN (3 * c + s) (k + 1) k = Int32.ofNat s := by
  unfold wrdN
  rw [show k + 1 - 1 - k = 0 by omega, Nat.pow_zero, Nat.div_one, show (3 * c + s) % 3 = s by omega]
theorem wrdN_p {x c d k j : Nat} (hx : x / 3 ^ d = c) (hj : j < k) : wrdN x (k + d) j = wrdN c k j := by
  unfold wrdN
  rw [show k + d - 1 - j = d + (k - 1 - j) by omega, Nat.pow_add, ← Nat.div_div_eq_div_mul, hx]
theorem brW_s {N : Nw} {p : Nat} {lf : Int32} {c s k : Nat} (hs : s < 3) : brW N p lf (wrdN (3 * c + s) (k + 1)) (k + 1) = stp N (N (5 * p)) lf p (brW N p lf (wrdN c k) k) (Int32.ofNat s) (Int32.ofNat k) := by
  show stp N (N (5 * p)) lf p (runW N (N (5 * p)) lf p (wrdN (3 * c + s) (k + 1)) (beg (N (5 * p + 2)) (N (5 * p + 3))) k) (wrdN (3 * c + s) (k + 1) k) (Int32.ofNat k) = _
  rw [wrdN_l hs, runW_Tcg k (fun j hj => wrdN_e (c := c) hs hj)]
  rfl
theorem brW_p {N : Nw} {p : Nat} {lf : Int32} {c k d x : Nat} (hx : x / 3 ^ d = c) (hf : ¬ uL (brW N p lf (wrdN c k) k) = -1) : ¬ uL (brW N p lf (wrdN x (k + d)) (k + d)) = -1 := by
  have e : runW N (N (5 * p)) lf p (wrdN x (k + d)) (beg (N (5 * p + 2)) (N (5 * p + 3))) k = runW N (N (5 * p)) lf p (wrdN c k) (beg (N (5 * p + 2)) (N (5 * p + 3))) k := runW_Tcg k (fun j hj => wrdN_p hx hj)
  unfold brW at hf ⊢
  rw [(runW_stay (by rw [e]; exact hf) d).1, e]
  exact hf
theorem div3 {x c e : Nat} (h1 : c * e ≤ x) (h2 : x < c * e + e) : x / e = c := Nat.div_eq_of_lt_le h1 (by rw [Nat.succ_mul]; exact h2)
def orO (a b : Option Nat) : Option Nat := match a with
  | some c => some c
  | none => b
theorem fstO_none {Q : Nat → Prop} [DecidablePred Q] : ∀ d j, (∀ x, j ≤ x → x < j + d → ¬ Q x) → fstO Q d j = none
  | 0, _, _ => rfl
  | d + 1, j, h => by
    show (if Q j then some j else fstO Q d (j + 1)) = none
    rw [if_neg (h j (Nat.le_refl _) (by omega))]
    exact fstO_none d (j + 1) (fun x h1 h2 => h x (by omega) (by omega))
theorem fstO_add {Q : Nat → Prop} [DecidablePred Q] : ∀ a b j, fstO Q (a + b) j = orO (fstO Q a j) (fstO Q b (j + a))
  | 0, b, j => by rw [Nat.zero_add, Nat.add_zero]; rfl
  | a + 1, b, j => by
    rw [show a + 1 + b = (a + b) + 1 by omega]
    show (if Q j then some j else fstO Q (a + b) (j + 1)) = orO (if Q j then some j else fstO Q a (j + 1)) (fstO Q b (j + (a + 1)))
    by_cases c : Q j
    · rw [if_pos c, if_pos c]; rfl
    · rw [if_neg c, if_neg c, fstO_add a b (j + 1), show j + 1 + a = j + (a + 1) by omega]
theorem fstO_cg {Q Q' : Nat → Prop} [DecidablePred Q] [DecidablePred Q'] (h : ∀ x, Q x ↔ Q' x) : ∀ d j, fstO Q d j = fstO Q' d j
  | 0, _ => rfl
  | d + 1, j => by
    show (if Q j then some j else fstO Q d (j + 1)) = (if Q' j then some j else fstO Q' d (j + 1))
    rw [fstO_cg h d (j + 1)]
    by_cases c : Q j
    · rw [if_pos c, if_pos ((h j).1 c)]
    · rw [if_neg c, if_neg (fun q => c ((h j).2 q))]
/-- a word brings one there, by either left -/
abbrev btP (N : Nw) (p : Nat) (l1 l2 cell : Int32) (n c : Nat) : Prop := brgP N p l1 (wrdN c n) n cell ∧ brgP N p l2 (wrdN c n) n cell
def brP (b k : Nat) : Nat → Nat → Prop := fun q _ => q = b + 12 ∨ (b + 27 + 2 * k ≤ q ∧ q < b + 39)
theorem brP_P {w w' : Wd} {b k : Nat} (h : fr (brP b k) w w') : fr (xP b) w w' := h.mono (fun q j _ hp => by unfold brP at hp; unfold xP; omega)
theorem brP_s {w w' : Wd} {b k : Nat} (h : fr (brP b (k + 1)) w w') : fr (brP b k) w w' := h.mono (fun q j _ hp => by unfold brP at *; omega)
/-- what is left when a word is found, or none is -/
def brK (w : Wd) (b i : Nat) (o : Option Nat) (A : Ab) (k n : Nat) (K : Int32 → Wd → Prop) (r : Option Nat) : Prop := match r with
  | some c => ∀ w', XX w' b i o A → fr (xP b) w w' → (∀ j, j < n → wI w' (b + 12) j = wrdN c n j) → K 1 w'
  | none => ∀ w', XX w' b i o A → fr (brP b k) w w' → (∀ j, j < k → wI w' (b + 12) j = wI w (b + 12) j) → K 0 w'
/-- both walkers behind word c of k signs -/
def brI (w : Wd) (b : Nat) (N : Nw) (p : Nat) (l1 l2 : Int32) (c k : Nat) : Prop := wlk w (b + 25 + 2 * k) (brW N p l1 (wrdN c k) k) (Int32.ofNat k) ∧ wlk w (b + 26 + 2 * k) (brW N p l2 (wrdN c k) k) (Int32.ofNat k) ∧ ∀ j, j < k → wI w (b + 12) j = wrdN c k j
section XBR
variable {w : Wd} {b i : Nat} {o : Option Nat} {A : Ab}
theorem x_one (h : XX w b i o A) {k : Nat} (hk : k < 7) (K : Option Nat → Prop) : wldQ w (some (b + 10)) 7 (Int32.ofNat k) K = K (some (b + 25 + 2 * k)) := by
  have hv : vp_in (Int32.ofNat k) 7 := vp_iff.2 (by rw [i_ti (by omega)]; omega)
  rw [h.sh.r10, i_tt (by omega), h.sh.q1 k hk]
  exact propext ⟨fun e => e.2, fun e => ⟨hv, e⟩⟩
theorem x_two (h : XX w b i o A) {k : Nat} (hk : k < 7) (K : Option Nat → Prop) : wldQ w (some (b + 11)) 7 (Int32.ofNat k) K = K (some (b + 26 + 2 * k)) := by
  have hv : vp_in (Int32.ofNat k) 7 := vp_iff.2 (by rw [i_ti (by omega)]; omega)
  rw [h.sh.r11, i_tt (by omega), h.sh.q2 k hk]
  exact propext ⟨fun e => e.2, fun e => ⟨hv, e⟩⟩
theorem x_tw (h : XX w b i o A) {q : Nat} (hq : b + 25 ≤ q ∧ q < b + 39) : wT w q = some (22, 8, true) := by
  have := h.sh.tW (q - (b + 25)) (by omega)
  rwa [show b + 25 + (q - (b + 25)) = q by omega] at this
theorem x_obw (h : XX w b i o A) {q : Nat} (hq : b + 25 ≤ q ∧ q < b + 39) : wob w q [22] := by
  unfold wob
  rw [x_tw h hq]
  exact List.mem_singleton.2 rfl
theorem brW_ok {N : Nw} (hN : okN N) {p : Nat} (hp : p < pe N) (lf : Int32) (T : Nat → Int32) {n : Nat} (hn : n < 1000) : okU N (brW N p lf T n) ∧ uT (brW N p lf T n) < 1000000 := by
  refine ⟨runW_ok hN (okU_beg hN hp) n (by omega), ?_⟩
  have := runW_T (N := N) (kd := N (5 * p)) (lf := lf) (p := p) (T := T) (u := beg (N (5 * p + 2)) (N (5 * p + 3))) n
  have e : uT (beg (N (5 * p + 2)) (N (5 * p + 3))) = 0 := rfl
  unfold brW
  omega
theorem sg3 {s : Nat} (hs : s < 3) : Int32.ofNat s = 0 ∨ Int32.ofNat s = 1 ∨ Int32.ofNat s = 2 ∨ Int32.ofNat s = 3 := by
  rcases (show s = 0 ∨ s = 1 ∨ s = 2 by omega) with rfl | rfl | rfl
  · exact Or.inl rfl
  · exact Or.inr (Or.inl rfl)
  · exact Or.inr (Or.inr (Or.inl rfl))
theorem x_brings (hN : okN (aN A)) {p v : Nat} (hp : p < pe (aN A)) {cell both l1 l2 : Int32} (hlf : (both = 0 ∧ l1 = aN A 91 ∧ l2 = aN A 91) ∨ (both = 1 ∧ l1 = 0 ∧ l2 = 1)) {n : Nat} (hn : n ≤ 6) : ∀ (d k c fu : Nat) (w : Wd) (K : Int32 → Wd → Prop), k + d = n → d < fu → XX w b i o A → vot w b v (aN A (5 * p)) p (aN A (5 * p + 1)) → brI w b (aN A) p l1 l2 c k → brK w b i o A k n K (fstO (btP (aN A) p l1 l2 cell n) (3 ^ d) (c * 3 ^ d)) → wp_X0_brings fu w b (some v) cell both (Int32.ofNat k) (Int32.ofNat n) K := by
  intro d
  induction d with
  | zero =>
    intro k c fu w K hk hfu h hv hI hK
    obtain ⟨fu, rfl⟩ : ∃ g, fu = g + 1 := ⟨fu - 1, by omega⟩
    obtain rfl : k = n := by omega
    have hk7 : k < 7 := by omega
    rw [Nat.pow_zero, Nat.mul_one] at hK
    replace hK : brK w b i o A k k K (if btP (aN A) p l1 l2 cell k c then some c else none) := hK
    rw [wp_X0_brings_s]
    unfold wp_X0_brings_b
    obtain ⟨i1, i2, i3⟩ := hI
    simp only [h.sh.G4, h.sh.G5, x_one h hk7, x_two h hk7, i1.gF, i2.gF, i1.2.2.2.2.2.2.2, i2.2.2.2.2.2.2.2, i1.2.1, i2.2.1]
    by_cases f1 : uL (brW (aN A) p l1 (wrdN c k) k) = -1
    · rw [if_pos f1]
      by_cases f2 : uL (brW (aN A) p l2 (wrdN c k) k) = -1
      · rw [if_pos f2, if_pos trivial]
        by_cases f3 : uC (brW (aN A) p l1 (wrdN c k) k) = cell
        · rw [if_pos f3]
          by_cases f4 : uC (brW (aN A) p l2 (wrdN c k) k) = cell
          · rw [if_pos f4]
            rw [if_pos ⟨⟨f3, f1⟩, f4, f2⟩] at hK
            exact hK w h (fr.refl _ _) i3
          · rw [if_neg f4]
            rw [if_neg (fun q => f4 q.2.1)] at hK
            exact hK w h (fr.refl _ _) (fun _ _ => rfl)
        · rw [if_neg f3]
          rw [if_neg (fun q => f3 q.1.1)] at hK
          exact hK w h (fr.refl _ _) (fun _ _ => rfl)
      · rw [if_neg f2]
        rw [if_neg (fun q => f2 q.2.2)] at hK
        exact hK w h (fr.refl _ _) (fun _ _ => rfl)
    · rw [if_neg f1]
      rw [if_neg (fun q => f1 q.1.2)] at hK
      exact hK w h (fr.refl _ _) (fun _ _ => rfl)
  | succ d ih =>
    intro k c fu w K hk hfu h hv hI hK
    obtain ⟨fu, rfl⟩ : ∃ g, fu = g + 1 := ⟨fu - 1, by omega⟩
    have hk7 : k < 7 := by omega
    have hz := h.sh.z
    have hkn : ¬ Int32.ofNat k = Int32.ofNat n := fun e => by
      rw [i_eq, i_ti (by omega), i_ti (by omega)] at e
      omega
    rw [wp_X0_brings_s]
    unfold wp_X0_brings_b
    have hI' := hI
    obtain ⟨i1, i2, i3⟩ := hI'
    simp only [h.sh.G4, h.sh.G5, x_one h hk7, x_two h hk7, i1.gF, i2.gF, i1.2.2.2.2.2.2.2, i2.2.2.2.2.2.2.2]
    by_cases f1 : uL (brW (aN A) p l1 (wrdN c k) k) = -1
    · rw [if_pos f1]
      by_cases f2 : uL (brW (aN A) p l2 (wrdN c k) k) = -1
      · rw [if_pos f2, if_neg hkn]
        clear f1 f2
        have key : ∀ t s fl w2, s + t = 3 → t < fl → XX w2 b i o A → fr (brP b k) w w2 → (∀ j, j < k → wI w2 (b + 12) j = wI w (b + 12) j) → brK w b i o A k n K (fstO (btP (aN A) p l1 l2 cell n) (t * 3 ^ d) ((3 * c + s) * 3 ^ d)) → wl_X0_brings_74 (wp_X0_brings fu) K fl w2 b (some v) cell both (Int32.ofNat k) (Int32.ofNat n) (Int32.ofNat s) := by
          intro t
          induction t with
          | zero =>
            intro s fl w2 hs hfl h2 hf2 hr2 hK2
            obtain ⟨fl, rfl⟩ : ∃ g, fl = g + 1 := ⟨fl - 1, by omega⟩
            obtain rfl : s = 3 := by omega
            rw [wl_X0_brings_74_s]
            unfold wb_X0_brings_74
            rw [if_pos (by decide)]
            rw [Nat.zero_mul] at hK2
            exact hK2 w2 h2 hf2 hr2
          | succ t iht =>
            intro s fl w2 hs hfl h2 hf2 hr2 hK2
            obtain ⟨fl, rfl⟩ : ∃ g, fl = g + 1 := ⟨fl - 1, by omega⟩
            have hs3 : s < 3 := by omega
            have hk6 : k < 6 := by omega
            have hv6 : vp_in (Int32.ofNat k) 6 := vp_iff.2 (by rw [i_ti (by omega)]; omega)
            have j1 := i1.sc hf2 (fun q => by unfold brP; omega)
            have j2 := i2.sc hf2 (fun q => by unfold brP; omega)
            have vt2 := hv.sc (brP_P hf2) (fun q => by have := hv.1; unfold xP; omega)
            have hz2 := h2.sh.z
            rw [wl_X0_brings_74_s]
            unfold wb_X0_brings_74
            rw [if_neg (by rw [lt_of (by omega)]; show ¬ (2 : Int) < s; omega)]
            simp only [h2.sh.G6, h2.sh.w12, hv6, true_and, i_tt (show k < 1000000 by omega)]
            have hf3 : fr (at1 (b + 12)) w2 (sI w2 (b + 12) k (Int32.ofNat s)) := (fr.refl _ _).sI (fun _ => rfl)
            have h3 := h2.scP (hf3.mono (fun q x _ hp => by unfold at1 at hp; unfold xP; omega))
            have k1 := j1.sc hf3 (fun q => by unfold at1; omega)
            have k2 := j2.sc hf3 (fun q => by unfold at1; omega)
            have vt3 := vt2.sc hf3 (fun q => by have := hv.1; unfold at1; omega)
            have hr3 : ∀ j, j < k + 1 → wI (sI w2 (b + 12) k (Int32.ofNat s)) (b + 12) j = wrdN (3 * c + s) (k + 1) j := fun j hj => by
              rw [wI_sI]
              by_cases e : j = k
              · rw [if_pos ⟨rfl, e⟩, e, wrdN_l hs3]
              · rw [if_neg (fun q => e q.2), hr2 j (by omega), i3 j (by omega), wrdN_e hs3 (by omega)]
            have hb3 : ∀ j, j < k → wI (sI w2 (b + 12) k (Int32.ofNat s)) (b + 12) j = wI w (b + 12) j := fun j hj => by
              rw [wI_sI, if_neg (fun q => by omega)]
              exact hr2 j hj
            have hf03 : fr (brP b k) w (sI w2 (b + 12) k (Int32.ofNat s)) := hf2.trans (hf3.mono (fun q x _ hp => by unfold at1 at hp; unfold brP; omega))
            generalize sI w2 (b + 12) k (Int32.ofNat s) = w3 at *
            have hz3 := h3.sh.z
            simp only [h3.sh.G4, i_ofS, x_one h3 hk7, x_one h3 (show k + 1 < 7 by omega), wnn]
            refine ⟨x_obw h3 (by omega), x_becomes (x_tw h3 (by omega)) (by omega) k1 (by omega) (fun w4 hf4 l1w _ => ?_)⟩
            have h4 := h3.scP (hf4.mono (fun q x _ hp => by unfold at1 at hp; unfold xP; omega))
            have vt4 := vt3.sc hf4 (fun q => by have := hv.1; unfold at1; omega)
            have hok1 := brW_ok hN hp l1 (wrdN c k) (n := k) (by omega)
            have hok2 := brW_ok hN hp l2 (wrdN c k) (n := k) (by omega)
            -- behind both
            have g178 : ∀ w6, XX w6 b i o A → fr (brP b k) w w6 → (∀ j, j < k + 1 → wI w6 (b + 12) j = wrdN (3 * c + s) (k + 1) j) → (∀ j, j < k → wI w6 (b + 12) j = wI w (b + 12) j) → wlk w6 (b + 25 + 2 * (k + 1)) (brW (aN A) p l1 (wrdN (3 * c + s) (k + 1)) (k + 1)) (Int32.ofNat (k + 1)) → wlk w6 (b + 26 + 2 * (k + 1)) (brW (aN A) p l2 (wrdN c k) k) (Int32.ofNat k) → wb_X0_brings_178 (wp_X0_brings fu) K (wl_X0_brings_74 (wp_X0_brings fu) K fl) w6 b (some v) cell both (Int32.ofNat k) (Int32.ofNat n) (Int32.ofNat s) (some (b + 26 + 2 * (k + 1))) (some i) (some v) (Int32.ofNat s) l2 := by
              intro w6 h6 hf6 hr6 hb6 m1 m2
              have vt6 := hv.sc (brP_P hf6) (fun q => by have := hv.1; unfold xP; omega)
              unfold wb_X0_brings_178
              simp only [wnn]
              refine ⟨x_obw h6 (by omega), x_goes h6.k h6.is hN hp (by omega) vt6 m2 hok2.1 hok2.2 (sg3 hs3) l2 (fun w7 hf7 m7 _ => ?_)⟩
              rw [← brW_s hs3, i_ofS] at m7
              have h7 := h6.scP (hf7.mono (fun q x _ hp => by unfold at1 at hp; unfold xP; omega))
              have vt7 := vt6.sc hf7 (fun q => by have := hv.1; unfold at1; omega)
              have m1' := m1.sc hf7 (fun q => by unfold at1; omega)
              have hz6 := h6.sh.z
              have e12 : wI w7 (b + 12) = wI w6 (b + 12) := hf7.I (by omega) (by unfold at1; omega)
              have hf07 : fr (brP b k) w w7 := hf6.trans (hf7.mono (fun q x _ hp => by unfold at1 at hp; unfold brP; omega))
              refine ⟨by rw [h7.sh.ob]; trivial, ?_⟩
              rw [i_ofS]
              refine ih (k + 1) (3 * c + s) fu w7 _ (by omega) (by omega) h7 vt7 ⟨m1', m7, fun j hj => by rw [e12]; exact hr6 j hj⟩ ?_
              rw [show (t + 1) * 3 ^ d = 3 ^ d + t * 3 ^ d by rw [Nat.succ_mul, Nat.add_comm], fstO_add] at hK2
              rw [show (3 * c + s) * 3 ^ d + 3 ^ d = (3 * c + (s + 1)) * 3 ^ d from (Nat.succ_mul (3 * c + s) (3 ^ d)).symm] at hK2
              cases hr : fstO (btP (aN A) p l1 l2 cell n) (3 ^ d) ((3 * c + s) * 3 ^ d) with
              | some x =>
                rw [hr] at hK2
                intro w8 h8 hf8 hr8
                rw [if_neg (by decide)]
                exact hK2 w8 h8 ((brP_P hf07).trans hf8) hr8
              | none =>
                rw [hr] at hK2
                intro w8 h8 hf8 hr8
                rw [if_pos rfl, i_ofS]
                exact iht (s + 1) fl w8 (by omega) (by omega) h8 (hf07.trans (brP_s hf8)) (fun j hj => by rw [hr8 j (by omega), e12]; exact hb6 j hj) hK2
            have g132 : wb_X0_brings_132 (wp_X0_brings fu) K (wl_X0_brings_74 (wp_X0_brings fu) K fl) w4 b (some v) cell both (Int32.ofNat k) (Int32.ofNat n) (Int32.ofNat s) (some (b + 25 + 2 * (k + 1))) (some i) (some v) (Int32.ofNat s) l1 := by
              unfold wb_X0_brings_132
              simp only [wnn]
              have hz4 := h4.sh.z
              refine ⟨x_obw h4 (by omega), x_goes h4.k h4.is hN hp (by omega) vt4 l1w hok1.1 hok1.2 (sg3 hs3) l1 (fun w5 hf5 m5 _ => ?_)⟩
              rw [← brW_s hs3, i_ofS] at m5
              have h5 := h4.scP (hf5.mono (fun q x _ hp => by unfold at1 at hp; unfold xP; omega))
              have hz5 := h5.sh.z
              have n2 := (k2.sc hf4 (fun q => by unfold at1; omega)).sc hf5 (fun q => by unfold at1; omega)
              simp only [h5.sh.G5, i_ofS, x_two h5 hk7, x_two h5 (show k + 1 < 7 by omega)]
              refine ⟨x_obw h5 (by omega), x_becomes (x_tw h5 (by omega)) (by omega) n2 (by omega) (fun w6 hf6 m6 _ => ?_)⟩
              have h6 := h5.scP (hf6.mono (fun q x _ hp => by unfold at1 at hp; unfold xP; omega))
              have m5' := m5.sc hf6 (fun q => by unfold at1; omega)
              have e12 : wI w6 (b + 12) = wI w3 (b + 12) := (hf6.I (by omega) (by unfold at1; omega)).trans ((hf5.I (by omega) (by unfold at1; omega)).trans (hf4.I (by omega) (by unfold at1; omega)))
              have hf06 : fr (brP b k) w w6 := ((hf03.trans (hf4.mono (fun q x _ hp => by unfold at1 at hp; unfold brP; omega))).trans (hf5.mono (fun q x _ hp => by unfold at1 at hp; unfold brP; omega))).trans (hf6.mono (fun q x _ hp => by unfold at1 at hp; unfold brP; omega))
              have fin := g178 w6 h6 hf06 (fun j hj => by rw [e12]; exact hr3 j hj) (fun j hj => by rw [e12]; exact hb3 j hj) m5' m6
              simp only [h6.G0, h6.is.G105, x_t0 h6]
              rcases hlf with ⟨rfl, -, rfl⟩ | ⟨rfl, -, rfl⟩
              · rw [if_pos rfl]; exact fin
              · rw [if_neg (by decide)]; exact fin
            simp only [h4.G0, h4.is.G105, x_t0 h4]
            rcases hlf with ⟨rfl, rfl, -⟩ | ⟨rfl, rfl, -⟩
            · rw [if_pos rfl]; exact g132
            · rw [if_neg (by decide)]; exact g132
        refine key 3 0 FU w (by omega) (by unfold FU; omega) h (fr.refl _ _) (fun _ _ => rfl) ?_
        rw [Nat.pow_succ, Nat.mul_comm (3 ^ d) 3, ← Nat.mul_assoc, Nat.mul_comm c 3] at hK
        exact hK
      · rw [if_neg f2]
        rw [fstO_none _ _ (fun x h1 h2 q => brW_p (k := k) (div3 h1 h2) f2 (by rw [hk]; exact q.2.2))] at hK
        exact hK w h (fr.refl _ _) (fun _ _ => rfl)
    · rw [if_neg f1]
      rw [fstO_none _ _ (fun x h1 h2 q => brW_p (k := k) (div3 h1 h2) f1 (by rw [hk]; exact q.1.2))] at hK
      exact hK w h (fr.refl _ _) (fun _ _ => rfl)
end XBR
