section XBACK2
variable {w w' : Wd} {b i : Nat} {o : Option Nat} {A : Ab}
theorem x_back (h : XX w b i o A) (hN : okN (aN A)) (hK : okN (aK A)) {k : Int32 → Wd → Prop} (hk : ∀ i' w', XX w' b i' o (F_back A).2 → fr (xQ b) w w' → k (F_back A).1 w') : wp_X0_back w b k := by
  have hz := h.sh.z
  have hiz := h.is.z
  have h8 := hN.pe8
  have hK8 := hK.pe8
  unfold wp_X0_back
  rw [h.sh.G1, h.g1]
  by_cases e : aX A = 0
  · have eF : F_back A = rf A (-5) := if_pos e
    rw [eF] at hk
    rw [if_pos (h.im.2 e)]
    exact ⟨by rw [h.sh.ob]; trivial, x_no h (by decide) (fun w2 h2 hf2 => hk i w2 h2 hf2)⟩
  · have eF : F_back A = (1, zH (zN A (mvN (aK A) (aN A))) (bkH A 8)) := if_neg e
    rw [eF] at hk
    obtain ⟨j, hj⟩ : ∃ j, o = some j := by
      cases ho : o with
      | none => exact absurd (h.im.1 ho) e
      | some j => exact ⟨j, rfl⟩
    rw [if_neg (by rw [hj]; simp), h.sh.G1, h.g1, hj]
    have hij := h.ik j hj
    show wob w j [21] ∧ _
    refine ⟨by rw [hij.1.ob]; trivial, x_copied hij.1 hK8 hz (fun w1 hf1 hi1 hz1 => ?_)⟩
    have h1 := h.sc0 hf1
    have hlt : ∀ (t q : Nat), t < 8 → wG w1 (b + 17 + t) 300 = some q → q < wz w := fun t q ht hg => h.lt ht (by rw [← hf1.G (show b + 17 + t < wz w by omega) (fun hp => hp)]; exact hg)
    have hjz : ∀ j', o = some j' → j' + 7 ≤ wz w := h.hb.2
    generalize wz w = z at *
    refine ⟨by rw [h1.sh.ob]; trivial, x_becomesI h1 hN hK hi1 (fun w2 hf hT hQ hb0 hs => ?_)⟩
    replace hs : ∀ s, s < 8 → bkS w1 w2 b i z o A s := hs
    have hzz := hf.z
    have hi : ∀ j' M, isl w1 b j' M → isl w2 b j' M := fun j' M hj' => hj'.sc hf (fun q k a1 a2 hp => by have := hj'.z; unfold bkP at hp; omega) (fun v k hv hp => by have := hv.1; unfold bkP at hp; omega)
    have hpe : pe (mvN (aK A) (aN A)) = pe (aK A) := by unfold pe; rw [show mvN (aK A) (aN A) 89 = aK A 89 from if_pos (by decide)]
    have hzb : b + 60 ≤ z := hz
    refine hk z w2 ⟨h1.sh.sc hf (fun q k hp => by unfold bkP at hp; omega), (hi z _ hi1).cg hK8 (fun k hk' => if_pos hk'), hb0, (hf.G (by omega) (fun hp => by unfold bkP at hp; omega)).trans h1.g1, fun k hk' => (congrFun (hf.I (by omega) (fun hp => by unfold bkP at hp; omega)) k).trans (h1.Tt k hk'), (hf.F (by omega) (fun hp => by unfold bkP at hp; omega)).trans h1.Z, fun k hk' => (congrFun (hf.I (by omega) (fun hp => by unfold bkP at hp; omega)) k).trans (h1.R k hk'), h1.im, fun j' hj' => ⟨hi j' _ (h1.ik j' hj').1, Or.inr (hjz j' hj')⟩, fun s hs8 => ?_, fun s t q hs8 ht8 h3 h4 h5 => ?_⟩ ((xP_Q (x0_P hf1)).trans (hf.mono (fun q k hq hp => by unfold bkP at hp; unfold xQ; omega)))
    · rcases hs s hs8 with ⟨a1, a2⟩ | ⟨v, p, a1, a2, a3, a4⟩ | ⟨q, a1, a2, a3, a4⟩
      · exact Or.inl ⟨a1, a2⟩
      · refine Or.inr (Or.inl ⟨v, p, a1, ?_, by rw [hQ]; exact a3, a4⟩)
        show p < pe (mvN (aK A) (aN A))
        rw [hpe]
        exact a2
      · have hq := hlt s q hs8 a2
        have := a3.sc hf (fun hp => by have := a3.1; unfold bkP at hp; omega)
        obtain ⟨b1, b2, b3, b4, b5, b6, b7⟩ := this
        refine Or.inr (Or.inr ⟨q, a1, ?_⟩)
        show rwS w2 b z o q (bkH A 8 s) (aS A s) _
        rw [a4]
        exact ⟨b1, b2, b3, b4, by omega, b6, b7⟩
    · have row : ∀ s, s < 8 → wG w2 (b + 17 + s) 300 = some q → wG w1 (b + 17 + s) 300 = some q := by
        intro s hs8 hg
        rcases hs s hs8 with ⟨a1, a2⟩ | ⟨v, p, a1, a2, a3, a4⟩ | ⟨q', a1, a2, a3, a4⟩
        · rw [a1] at hg; cases hg
        · rw [a1] at hg; cases hg
          obtain ⟨-, -, -, v', y1, y2⟩ := hi1.pr p a2
          rw [y1] at a3; cases a3
          rw [hT] at h5
          exact absurd h5 (vot_ne y2)
        · rw [a1] at hg; cases hg
          exact a2
      rw [hT] at h5
      exact h1.dj s t q hs8 ht8 (row s hs8 h3) (row t ht8 h4) h5
end XBACK2
