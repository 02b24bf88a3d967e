/-! ===== shelves written, of the class ===== -/
section XSHF
variable {w w' : Wd} {b i : Nat} {o : Option Nat} {A A' : Ab}
/-- A' is A but for the shelves -/
def shE (A A' : Ab) : Prop := aN A' = aN A ∧ aK A' = aK A ∧ aT A' = aT A ∧ aR A' = aR A ∧ aX A' = aX A ∧ aZ A' = aZ A
theorem XX.shelve (h : XX w b i o A) {s : Nat} (hs : s < 8) {r : Option Nat} (hE : shE A A') (eH : ∀ t, ¬ t = s → aH A' t = aH A t) (eS : ∀ t, ¬ t = s → aS A' t = aS A t) (eE : ∀ k, ¬ (40 * s ≤ k ∧ k < 40 * s + 40) → aE A' k = aE A k) (hsf : shf (sG w (b + 17 + s) 300 r) b i o A' s) (hdj : ∀ q, r = some q → (∃ c n, wT w q = some (c, n, true) ∧ c < 20) → ∀ t, t < 8 → ¬ t = s → ¬ wG w (b + 17 + t) 300 = some q) : XX (sG w (b + 17 + s) 300 r) b i o A' ∧ fr (xQ b) w (sG w (b + 17 + s) 300 r) := by
  have hf : fr (fun q k => q = b + 17 + s ∧ k = 300) w (sG w (b + 17 + s) 300 r) := (fr.refl _ _).sG (fun _ => ⟨rfl, rfl⟩)
  have hz := h.sh.z
  have hi : ∀ j N, isl w b j N → isl (sG w (b + 17 + s) 300 r) b j N := fun j N hj => hj.sc hf (fun q k h1 h2 => by have := hj.z; omega) (fun q k hv => by have := hv.1; omega)
  obtain ⟨e1, e2, e3, e4, e5, e6⟩ := hE
  have hG : ∀ t, t < 8 → ¬ t = s → wG (sG w (b + 17 + s) 300 r) (b + 17 + t) 300 = wG w (b + 17 + t) 300 := fun t _ ht => if_neg (fun e => ht (by omega))
  have hGs : wG (sG w (b + 17 + s) 300 r) (b + 17 + s) 300 = r := if_pos ⟨rfl, rfl⟩
  have hG0 : ∀ k, wG (sG w (b + 17 + s) 300 r) b k = wG w b k := fun k => if_neg (by omega)
  refine ⟨⟨h.sh.sc hf (fun q k hp => by omega), by rw [e1]; exact hi _ _ h.is, (hG0 0).trans h.g0, (hG0 1).trans h.g1, by rw [e3]; exact h.Tt, by rw [e6]; exact h.Z, by rw [e4]; exact h.R, by rw [e5]; exact h.im, fun j hj => ⟨by rw [e2]; exact hi _ _ (h.ik j hj).1, (h.ik j hj).2⟩, fun t ht => ?_, fun t u q h1 h2 h3 h4 h5 => ?_⟩, hf.mono (fun q k hq hp => by unfold xQ; omega)⟩
  · by_cases e : t = s
    · rw [e]; exact hsf
    · rcases h.sf t ht with ⟨a1, a2⟩ | ⟨v, p, a1, a2, a3, a4⟩ | ⟨q, a1, a2⟩
      · exact Or.inl ⟨(hG t ht e).trans a1, (eH t e).trans a2⟩
      · exact Or.inr (Or.inl ⟨v, p, (hG t ht e).trans a1, by rw [e1]; exact a2, a3, (eH t e).trans a4⟩)
      · refine Or.inr (Or.inr ⟨q, (hG t ht e).trans a1, ?_⟩)
        have := a2.sc hf (by have := a2.1; omega)
        rw [eH t e, eS t e]
        obtain ⟨b1, b2, b3, b4, b5, b6, b7⟩ := this
        exact ⟨b1, b2, b3, b4, b5, b6, fun k hk => ⟨(b7 k hk).1.trans (eE _ (by omega)).symm, (b7 k hk).2⟩⟩
  · by_cases et : t = s
    · by_cases eu : u = s
      · rw [et, eu]
      · rw [et, hGs] at h3
        rw [hG u h2 eu] at h4
        exact absurd h4 (hdj q h3 h5 u h2 eu)
    · rw [hG t h1 et] at h3
      by_cases eu : u = s
      · rw [eu, hGs] at h4
        exact absurd h3 (hdj q h4 h5 t h1 et)
      · rw [hG u h2 eu] at h4
        exact h.dj t u q h1 h2 h3 h4 h5
theorem x_shP (h : XX w b i o A) {s : Nat} (hs : s < 8) (r : Option Nat) (K : Wd → Prop) : wpG w (some (b + 17 + s)) [23] 300 r K = K (sG w (b + 17 + s) 300 r) := by
  show (wobw w (b + 17 + s) [23] ∧ _) = _
  unfold wobw
  rw [h.sh.tS s hs]
  simp
theorem x_isShelfE (w : Wd) (s : Int32) (k : Int32 → Wd → Prop) : wp_X0_isShelf w s k = if isS s then k 1 w else k 0 w := x_isShelf w s k
theorem vot_ne {v p : Nat} {kd av : Int32} (hv : vot w b v kd p av) : ¬ ∃ c n, wT w v = some (c, n, true) ∧ c < 20 := by
  rintro ⟨c, n, h1, h2⟩
  rw [hv.2.1] at h1
  have := congrArg (fun x : Option wTy => x.map (fun t => t.1)) h1
  simp at this
  omega
theorem x_show (h : XX w b i o A) (hN : okN (aN A)) (s p : Int32) {k : Int32 → Wd → Prop} (hk : xR w b i o (F_show A s p).2 (k (F_show A s p).1)) : wp_X0_show w b s p k := by
  unfold wp_X0_show
  unfold F_show at hk
  rw [x_isShelfE]
  by_cases c1 : isS s
  · rw [if_pos c1, if_neg (by decide)]
    have hs8 : s.toInt.toNat < 8 := by omega
    by_cases c2 : p = -1
    · rw [if_pos c2]
      unfold wb_X0_show_30
      rw [if_pos ⟨c1, Or.inl c2⟩, if_pos c2] at hk
      rw [h.sh.G8, x_shG h c1, if_pos c2, x_shP h hs8]
      have u := h.shelve (A' := zH A (up1 (aH A) s.toInt.toNat (-1))) hs8 (r := none) ⟨rfl, rfl, rfl, rfl, rfl, rfl⟩ (fun t ht => up1_ne ht) (fun _ _ => rfl) (fun _ _ => rfl) (Or.inl ⟨if_pos ⟨rfl, rfl⟩, up1_eq⟩) (fun q hq => by cases hq)
      exact hk _ u.1 u.2
    · rw [if_neg c2, h.G0]
      show wob w i [21] ∧ _
      refine ⟨by rw [h.is.ob]; trivial, ?_⟩
      rw [x_isPerson h.is hN]
      by_cases c3 : isP (aN A) p
      · rw [if_pos c3, if_neg (by decide)]
        unfold wb_X0_show_30
        rw [if_pos ⟨c1, Or.inr c3⟩, if_neg c2] at hk
        have hp8 := isP_8 hN c3
        have hP := isP_nat c3
        obtain ⟨v, hv, hvt⟩ := x_vt h hN hP
        rw [h.sh.G8, x_shG h c1, if_neg c2, h.G0, h.is.G101, show p = Int32.ofNat p.toInt.toNat from (i_of hp8.1).symm, hvt, x_shP h hs8]
        obtain ⟨-, -, -, v', b1, b2⟩ := h.is.pr _ hP
        have ev : v' = v := by
          have := congrArg (fun K : Prop => K) (hvt (fun r => r = some v'))
          have hp0 : vp_in (Int32.ofNat p.toInt.toNat) 8 := vp_iff.2 (by rw [i_ti (by omega)]; omega)
          rw [h.is.r2, i_tt (by omega), b1] at this
          have h2 : some v = some v' := this.mp ⟨hp0, rfl⟩
          exact (Option.some.inj h2).symm
        subst ev
        have e10 : (10 : Int32) + p = Int32.ofNat (10 + p.toInt.toNat) := by
          rw [i_eq, i_ti (by omega), i_addv rfl rfl (by decide) (by omega)]
          show 10 + p.toInt = _
          omega
        have u := h.shelve (A' := zH A (up1 (aH A) s.toInt.toNat (10 + p))) hs8 (r := some v') ⟨rfl, rfl, rfl, rfl, rfl, rfl⟩ (fun t ht => up1_ne ht) (fun _ _ => rfl) (fun _ _ => rfl) (Or.inr (Or.inl ⟨v', p.toInt.toNat, if_pos ⟨rfl, rfl⟩, hP, b1, by rw [aH_zH, up1_eq]; exact e10⟩)) (fun q hq hc => by cases hq; exact absurd hc (vot_ne b2))
        exact hk _ u.1 u.2
      · rw [if_neg c3, if_pos rfl]
        rw [if_neg (fun q => q.2.elim c2 c3)] at hk
        exact ⟨by rw [h.sh.ob]; trivial, x_no h (by decide) hk⟩
  · rw [if_neg c1, if_pos rfl]
    rw [if_neg (fun q => c1 q.1)] at hk
    exact ⟨by rw [h.sh.ob]; trivial, x_no h (by decide) hk⟩
theorem x_holds (h : XX w b i o A) (hN : okN (aN A)) (s : Int32) {k : Int32 → Wd → Prop} (hk : k (F_holds A s) w) : wp_X0_holds w b s k := by
  unfold wp_X0_holds
  unfold F_holds at hk
  rw [x_isShelfE]
  by_cases c1 : isS s
  · rw [if_pos c1, if_neg (by decide)]
    rw [if_pos c1] at hk
    have hs8 : s.toInt.toNat < 8 := by omega
    have h8 := hN.pe8
    simp only [h.sh.G8, x_shG h c1, x_held h hs8]
    rcases h.sf _ hs8 with ⟨a1, a2⟩ | ⟨v, p, a1, a2, a3, a4⟩ | ⟨q, a1, a2⟩
    · rw [a1, if_pos rfl]
      rwa [a2] at hk
    · obtain ⟨-, -, -, v', b1, b2⟩ := h.is.pr p a2
      have ev : v' = v := by rw [b1] at a3; exact Option.some.inj a3
      subst ev
      rw [a1, if_neg (by simp)]
      have hin := b2.ob
      have ht := b2.2.1
      have hmem : 26 + (aN A (5 * p)).toInt.toNat ∈ [26, 27, 28, 29, 30, 31] := by
        have := hin
        unfold wob at this
        rw [ht] at this
        exact this
      simp only [wio, ht, if_pos hmem]
      refine ⟨trivial, ?_⟩
      rw [if_neg (by decide)]
      simp only [wcc, ht]
      refine ⟨trivial, hmem, hin, ?_⟩
      rw [b2.2.2.2.1]
      rw [a4] at hk
      rwa [show (10 : Int32) + Int32.ofNat p = Int32.ofNat (10 + p) from (Int32.ofNat_add 10 p).symm]
    · rw [a1, if_neg (by simp)]
      have ht := a2.2.2.2.1
      have hc := srt_c a2.2.1
      have g : wio w (some q) [26, 27, 28, 29, 30, 31] [1, 2, 0, 5, 4] (fun v9 => if v9 = 0 then wp_X0_sortOf w (some q) (fun v10 w11 => k v10 w11) else wcc w (some q) [26, 27, 28, 29, 30, 31] (wgF w (some q) [26, 27, 28, 29, 30, 31] 600 (fun v12 => k (10 + v12) w))) := by
        rw [x_sortOf a2]
        simp only [wio, ht]
        refine ⟨trivial, ?_⟩
        rcases hc with ⟨-, e⟩ | ⟨-, e⟩ | ⟨-, e⟩ | ⟨-, e⟩ | ⟨-, e⟩ <;> rw [e, if_neg (by decide)] <;> exact ⟨by decide, by rw [if_pos trivial]; exact hk⟩
      exact g
  · rw [if_neg c1, if_pos rfl]
    rwa [if_neg c1] at hk
end XSHF
