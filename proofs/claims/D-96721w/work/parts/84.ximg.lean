/-! ===== the image, of the class ===== -/
section XIMG
variable {w w' : Wd} {b i : Nat} {o : Option Nat} {A : Ab} {N N' : Nw}
theorem isl.cg (h : isl w b i N) (h8 : pe N ≤ 8) (e : ∀ k, k < 97 → N' k = N k) : isl w b i N' := by
  have hpe : pe N' = pe N := by unfold pe; rw [e 89 (by decide)]
  refine ⟨h.z, h.t0, h.t1, h.t2, h.t3, h.t4, h.t5, h.t6, h.g100, h.g101, h.g102, h.g103, h.g104, h.g105, h.f106.trans (e 90 (by decide)).symm, h.f107.trans (e 89 (by decide)).symm, h.f108.trans (e 94 (by decide)).symm, h.f109.trans (e 95 (by decide)).symm, h.f110.trans (e 96 (by decide)).symm, h.o0.trans (e 91 (by decide)).symm, h.o1.trans (e 92 (by decide)).symm, h.o2.trans (e 93 (by decide)).symm, fun r hr => ?_, fun p hp => ?_, fun p hp h8' => h.no p (by omega) h8'⟩
  · rw [row7_c (fun c hc => e _ (by omega))]
    exact h.po r hr
  · rw [hpe] at hp
    obtain ⟨a1, a2, a3, v, a4, a5⟩ := h.pr p hp
    refine ⟨a1.trans (e _ (by omega)).symm, a2.trans (e _ (by omega)).symm, a3.trans (e _ (by omega)).symm, v, a4, ?_⟩
    rw [e _ (by omega), e _ (by omega)]
    exact a5
theorem x_image (h : XX w b i o A) (hN : okN (aN A)) {k : Int32 → Wd → Prop} (hk : ∀ o' w', XX w' b i o' (F_image A).2 → fr (xQ b) w w' → k (F_image A).1 w') : wp_X0_image w b k := by
  have hz := h.sh.z
  have hiz := h.is.z
  have h8 := hN.pe8
  unfold wp_X0_image
  rw [h.G0]
  show wob w i [21] ∧ _
  refine ⟨by rw [h.is.ob]; trivial, x_copied h.is h8 hz (fun w1 hf1 hi1 hz1 => ?_)⟩
  have h1 := h.sc0 hf1
  have hlt : ∀ (t q : Nat), t < 8 → wG w1 (b + 17 + t) 300 = some q → q < wz w := fun t q ht hg => h.lt ht (by rw [← hf1.G (show b + 17 + t < wz w by omega) (fun hp => hp)]; exact hg)
  generalize wz w = z at *
  show wobw w1 b [20] ∧ k 1 (sG w1 b 1 (some z))
  refine ⟨by unfold wobw; rw [h1.sh.t0]; simp, ?_⟩
  have hf : fr (fun q k => q = b ∧ k = 1) w1 (sG w1 b 1 (some z)) := (fr.refl _ _).sG (fun _ => ⟨rfl, rfl⟩)
  have hi : ∀ j M, isl w1 b j M → isl (sG w1 b 1 (some z)) b j M := fun j M hj => hj.sc hf (fun q k h1 h2 => by have := hj.z; omega) (fun q k hv => by have := hv.1; omega)
  have hG : ∀ q, ¬ q = b → wG (sG w1 b 1 (some z)) q = wG w1 q := fun q hq => funext fun j => if_neg (fun e => hq e.1)
  have hlt : ∀ t q, t < 8 → wG w1 (b + 17 + t) 300 = some q → q < z := hlt
  refine hk (some z) _ ⟨h1.sh.sc hf (fun q k hp => by omega), hi _ _ h1.is, (if_neg (by omega) : (if b = b ∧ 0 = 1 then some z else wG w1 b 0) = _).trans h1.g0, (if_pos ⟨rfl, rfl⟩ : (if b = b ∧ 1 = 1 then some z else wG w1 b 1) = _), h1.Tt, h1.Z, h1.R, ⟨fun e => (by cases e), fun e => absurd e (show ¬ (1 : Int32) = 0 by decide)⟩, fun j hj => ?_, fun s hs => ?_, fun s t q h1' h2' h3 h4 h5 => ?_⟩ ((xP_Q (x0_P hf1)).trans (hf.mono (fun q k hq hp => by unfold xQ; omega)))
  · cases hj
    refine ⟨hi _ _ (hi1.cg h8 (fun k hk' => ?_)), Or.inl (by omega)⟩
    exact if_pos hk'
  · rcases h1.sf s hs with ⟨a1, a2⟩ | ⟨v, p, a1, a2, a3, a4⟩ | ⟨q, a1, a2⟩
    · exact Or.inl ⟨(congrFun (hG _ (by omega)) _).trans a1, a2⟩
    · exact Or.inr (Or.inl ⟨v, p, (congrFun (hG _ (by omega)) _).trans a1, a2, a3, a4⟩)
    · have := a2.sc hf (by have := a2.1; omega)
      obtain ⟨b1, b2, b3, b4, b5, b6, b7⟩ := this
      refine Or.inr (Or.inr ⟨q, (congrFun (hG _ (by omega)) _).trans a1, b1, b2, b3, b4, b5, fun j hj => ?_, b7⟩)
      cases hj
      have := hlt s q hs a1
      omega
  · rw [hG _ (by omega)] at h3 h4
    exact h1.dj s t q h1' h2' h3 h4 h5
end XIMG
