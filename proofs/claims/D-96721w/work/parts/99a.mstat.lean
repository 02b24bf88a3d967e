/-! ===== the island stays well: what statements make of it ===== -/
theorem okN_side {N : Nw} (h : okN N) {v : Int32} (h1 : (N 90).toInt ≤ v.toInt) (h2 : v.toInt ≤ 7) : okN (up1 N 90 v) := by
  have h8 := h.pe8
  have hs := h.side
  have h5 := h.2.1
  have hpe : pe (up1 N 90 v) = pe N := by unfold pe; rw [up1_ne (by decide)]
  refine ⟨by rw [up1_ne (by decide)]; exact h.1, by rw [up1_eq]; omega, by rw [up1_ne (by decide)]; exact h.2.2.1, fun k hk => by rw [up1_ne (by omega)]; exact h.2.2.2.1 k hk, fun p hp => ?_⟩
  rw [hpe] at hp
  obtain ⟨b1, b2, b3, b4, b5⟩ := h.2.2.2.2 p hp
  have hb := pat_b hs b2
  rw [up1_ne (by omega), up1_eq, up1_ne (by omega), up1_ne (by omega), up1_ne (by omega)]
  refine ⟨b1, ⟨b2.1, by have := b2.2.1; omega, by have := b2.2.2; omega⟩, b3, b4, ?_⟩
  unfold pnd at b5 ⊢
  rw [up1_ne (by omega)]
  exact b5
theorem okN_pnd {N : Nw} (h : okN N) {c v : Int32} (hc : isC (N 90) c) (hv : v = 0 ∨ (v = 1 ∧ ¬ smb N c)) : okN (up1 N (pat c) v) := by
  have h8 := h.pe8
  have hs := h.side
  have hcb := pat_b hs hc
  have hpe : pe (up1 N (pat c) v) = pe N := by unfold pe; rw [up1_ne (by omega)]
  refine ⟨by rw [up1_ne (by omega)]; exact h.1, by rw [up1_ne (by omega)]; exact h.2.1, by rw [up1_ne (by omega)]; exact h.2.2.1, fun k hk => ?_, fun p hp => ?_⟩
  · by_cases e : 40 + k = pat c
    · rw [e, up1_eq]
      exact hv.imp id (fun q => q.1)
    · rw [up1_ne e]
      exact h.2.2.2.1 k hk
  · rw [hpe] at hp
    obtain ⟨b1, b2, b3, b4, b5⟩ := h.2.2.2.2 p hp
    have hb := pat_b hs b2
    rw [up1_ne (by omega), up1_ne (by omega), up1_ne (by omega), up1_ne (by omega), up1_ne (by omega)]
    refine ⟨b1, b2, b3, b4, ?_⟩
    unfold pnd at b5 ⊢
    by_cases e : pat (N (5 * p + 2)) = pat c
    · rw [e, up1_eq]
      rcases hv with rfl | ⟨-, hq⟩
      · decide
      · have ec := pat_inj hs b2 hc e
        exact absurd (fun q => q p hp ec) hq
    · rw [up1_ne e]
      exact b5
theorem okN_add {N : Nw} (h : okN N) (h8 : pe N < 8) {kd a c f : Int32} (hkd : 0 ≤ kd.toInt ∧ kd.toInt < 6) (hc : isC (N 90) c) (hf : okF f) (hp0 : ¬ pnd N c = 1) : okN (addN N kd a c f) := by
  have hP := h.P
  have hs := h.side
  have hpe := addN_pe hP h8 kd a c f
  have h89 : addN N kd a c f 89 = N 89 + 1 := up1_eq
  have e89 : (N 89 + 1).toInt = (N 89).toInt + 1 := i_inc (by rw [hP.1]; omega)
  have e90 : addN N kd a c f 90 = N 90 := addN_ne (by decide) (Or.inr (by omega))
  have epd : ∀ x, isC (N 90) x → pnd (addN N kd a c f) x = pnd N x := fun x hx => by
    have hb := pat_b hs hx
    exact addN_ne (by omega) (Or.inr (by omega))
  refine ⟨by rw [h89, e89, hP.1]; omega, by rw [e90]; exact h.2.1, by rw [addN_ne (by decide) (Or.inr (by omega))]; exact h.2.2.1, fun k hk => by rw [addN_ne (by omega) (Or.inr (by omega))]; exact h.2.2.2.1 k hk, fun p hp => ?_⟩
  rw [hpe] at hp
  rw [e90]
  by_cases e : p = pe N
  · obtain ⟨a1, a2, a3, a4, a5⟩ := addN_at h8 kd a c f
    rw [e, a1, a3, a4, a5]
    exact ⟨hkd, hc, hf, Or.inl rfl, by rw [epd c hc]; exact hp0⟩
  · obtain ⟨b1, b2, b3, b4, b5⟩ := h.2.2.2.2 p (by omega)
    rw [addN_ne (by omega) (Or.inl (by omega)), addN_ne (by omega) (Or.inl (by omega)), addN_ne (by omega) (Or.inl (by omega)), addN_ne (by omega) (Or.inl (by omega))]
    exact ⟨b1, b2, b3, b4, by rw [epd _ b2]; exact b5⟩
/-- what a statement that is well says -/
def stW (N : Nw) (z i : Nat) (r : PR) : Prop := ∀ N', r.2 = some N' → okN N' ∧ (∀ k, 97 ≤ k → N' k = N k) ∧ i < r.1 ∧ r.1 ≤ z
theorem pN_W {T : Nw} {z : Nat} {P : Int32 → Prop} [DecidablePred P] {i i0 : Nat} {k : Int32 → Nat → PR} {N : Nw} (hi : i ≤ z) (h0 : i0 ≤ i) (hk : ∀ v e, (0 ≤ v.toInt ∧ v.toInt ≤ 99) → P v → i0 < e → e ≤ z → stW N z i0 (k v e)) : stW N z i0 (pN T z P i k) := by
  unfold pN
  split
  · rename_i c
    have h1 := tkE_lt hi (show ¬ tkS T z i = 0 by rw [c.1]; decide)
    have h2 := tkF_b (T := T) hi
    exact hk _ _ (tkV_b hi c.1 c.2.1) c.2.2 (by omega) (tkE_b hi).2
  · intro N' h
    cases h
theorem up1_97 {N : Nw} {j : Nat} {v : Int32} (hj : j < 97) : ∀ k, 97 ≤ k → up1 N j v k = N k := fun k hk => up1_ne (by omega)
theorem b01 {v : Int32} (h : rngP 0 1 v) : v = 0 ∨ v = 1 := by
  have h' := h
  unfold rngP at h'
  rw [show (0 : Int32).toInt = 0 from rfl, show (1 : Int32).toInt = 1 from rfl] at h'
  rcases (show v.toInt = 0 ∨ v.toInt = 1 by omega) with e | e
  · exact Or.inl (Int32.toInt_inj.1 e)
  · exact Or.inr (Int32.toInt_inj.1 e)
theorem stF_W {T : Nw} {z i : Nat} {N : Nw} (hN : okN N) (hi : i ≤ z) : stW N z i (stF T z N i) := by
  have h8 := hN.pe8
  have hs := hN.side
  have hE := tkE_b (T := T) hi
  have hF := tkF_b (T := T) hi
  have i1 : ∀ (v : Nw) (e : Nat), i < e → e ≤ z → (stW N z i (e, some v) ↔ (okN v ∧ ∀ k, 97 ≤ k → v k = N k)) := fun v e h1 h2 => ⟨fun h => ⟨(h v rfl).1, (h v rfl).2.1⟩, fun h N' e' => by cases e'; exact ⟨h.1, h.2, h1, h2⟩⟩
  have nn : ∀ p, stW N z i (p, none) := fun p N' h => by cases h
  unfold stF
  split
  · exact nn _
  · split
    · split
      · exact nn _
      · rename_i hp8
        unfold stP
        refine pN_W hE.2 (by omega) (fun kd e1 _ hkd h1 h2 => pN_W h2 (by omega) (fun a e2 _ _ h3 h4 => pN_W h4 (by omega) (fun c e3 _ hc h5 h6 => pN_W h6 (by omega) (fun f e4 _ hf h7 h8' => ?_))))
        refine (i1 _ _ h7 h8').2 ⟨okN_add hN (by omega) ⟨hkd.1, Int.lt_of_le_of_lt hkd.2 (by decide)⟩ hc.1 ⟨hf.1, Int.lt_of_le_of_lt hf.2 (by decide)⟩ hc.2, fun k hk => addN_ne (by omega) (Or.inr (by omega))⟩
    · split
      · refine pN_W hE.2 (by omega) (fun c e _ hc h1 h2 => (i1 _ _ h1 h2).2 ⟨okN_pnd hN hc.1 (Or.inr ⟨rfl, hc.2⟩), up1_97 (by have := pat_b hs hc.1; omega)⟩)
      · split
        · refine pN_W hE.2 (by omega) (fun c e _ hc h1 h2 => (i1 _ _ h1 h2).2 ⟨okN_pnd hN hc.1 (Or.inl rfl), up1_97 (by have := pat_b hs hc.1; omega)⟩)
        · split
          · exact pN_W hE.2 (by omega) (fun v e _ hv h1 h2 => (i1 _ _ h1 h2).2 ⟨okN_side hN hv.1 hv.2, up1_97 (by decide)⟩)
          · split
            · refine pN_W hE.2 (by omega) (fun x e _ hx h1 h2 => pN_W h2 (by omega) (fun v e' _ hv h3 h4 => ?_))
              have hx' : x.toInt ≤ (N 89).toInt - 1 := by have := hx.2; rwa [i_dec (by have := hN.1; omega)] at this
              have := hN.1
              have hx0 : 0 ≤ x.toInt := hx.1
              exact (i1 _ _ h3 h4).2 ⟨okN_wn hN (by omega) (b01 hv), up1_97 (by omega)⟩
            · rename_i c5 c4 c3 c2 c1 c0
              rcases whJ_c T z i 8 with e | ⟨j, hj, e⟩
              · exact absurd e c5
              · have e' : wch T z i = Int32.ofNat j := e
                have n3 : ¬ j = 3 := fun q => c4 (by rw [e', q]; rfl)
                have n1 : ¬ j = 1 := fun q => c3 (by rw [e', q]; rfl)
                have n2 : ¬ j = 2 := fun q => c2 (by rw [e', q]; rfl)
                have n0 : ¬ j = 0 := fun q => c1 (by rw [e', q]; rfl)
                have n4 : ¬ j = 4 := fun q => c0 (by rw [e', q]; rfl)
                rcases (show j = 5 ∨ j = 6 ∨ j = 7 by omega) with rfl | rfl | rfl
                · rw [e']
                  refine pN_W hE.2 (by omega) (fun v e _ hv h1 h2 => (i1 _ _ h1 h2).2 ⟨?_, up1_97 (by decide)⟩)
                  exact okN_91 hN (b01 hv)
                · rw [e']
                  refine pN_W hE.2 (by omega) (fun v e _ hv h1 h2 => (i1 _ _ h1 h2).2 ⟨?_, up1_97 (by decide)⟩)
                  exact okN_hi hN (by decide)
                · rw [e']
                  refine pN_W hE.2 (by omega) (fun v e _ hv h1 h2 => (i1 _ _ h1 h2).2 ⟨?_, up1_97 (by decide)⟩)
                  exact okN_hi hN (by decide)
