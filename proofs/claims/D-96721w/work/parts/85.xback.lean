/-! ===== back to the image, of the class ===== -/
section XBACK
variable {w w' : Wd} {b i : Nat} {o : Option Nat} {A : Ab}
/-- what becoming writes -/
def bkP (b : Nat) : Nat → Nat → Prop := fun q k => (q = b ∧ k = 0) ∨ (b + 17 ≤ q ∧ q < b + 25 ∧ k = 300)
/-- what a shelf holds when one has become another island -/
def bkS (w1 w2 : Wd) (b i z : Nat) (o : Option Nat) (A : Ab) (s : Nat) : Prop := (wG w2 (b + 17 + s) 300 = none ∧ bkH A 8 s = -1) ∨ (∃ v p : Nat, wG w2 (b + 17 + s) 300 = some v ∧ p < pe (aK A) ∧ wQ w1 (z + 2) p = some v ∧ bkH A 8 s = Int32.ofNat (10 + p)) ∨ ∃ q : Nat, wG w2 (b + 17 + s) 300 = some q ∧ wG w1 (b + 17 + s) 300 = some q ∧ rwS w1 b i o q (aH A s) (aS A s) (fun k => aE A (40 * s + k)) ∧ bkH A 8 s = aH A s
theorem x_becomesI {w1 : Wd} {z : Nat} {K : Nw} (h1 : XX w1 b i o A) (hN : okN (aN A)) (hK : okN K) (hzi : isl w1 b z K) {k : Wd → Prop} (hk : ∀ w2, fr (bkP b) w1 w2 → wT w2 = wT w1 → wQ w2 = wQ w1 → wG w2 b 0 = some z → (∀ s, s < 8 → bkS w1 w2 b i z o (zK A K) s) → k w2) : wp_X0_becomes w1 b (some z) k := by
  have hz := h1.sh.z
  have h8 := hN.pe8
  have hK8 := hK.pe8
  have hKI := hK.peI
  unfold wp_X0_becomes
  show wobw w1 b [20] ∧ wl_X0_becomes_7 k FU (sG w1 b 0 (some z)) b 0
  refine ⟨by unfold wobw; rw [h1.sh.t0]; simp, ?_⟩
  have f0 : fr (bkP b) w1 (sG w1 b 0 (some z)) := (fr.refl _ _).sG (fun _ => Or.inl ⟨rfl, rfl⟩)
  refine loopN (n := 8) (I := fun j w2 => fr (bkP b) w1 w2 ∧ wT w2 = wT w1 ∧ wQ w2 = wQ w1 ∧ wF w2 = wF w1 ∧ wG w2 b 0 = some z ∧ (∀ s, s < j → bkS w1 w2 b i z o (zK A K) s) ∧ ∀ s, j ≤ s → s < 8 → wG w2 (b + 17 + s) 300 = wG w1 (b + 17 + s) 300) (L := fun fu j w2 => wl_X0_becomes_7 k fu w2 b (Int32.ofNat j)) ?_ ?_ 8 FU 0 (sG w1 b 0 (some z)) (by omega) (by unfold FU; omega) ⟨f0, rfl, rfl, rfl, if_pos ⟨rfl, rfl⟩, fun s hs => absurd hs (by omega), fun s _ hs => if_neg (by omega)⟩
  · intro fu j w2 hj ⟨hf, hT, hQ, hF, hb0, hlo, hhi⟩ ih
    have h2 : xSh w2 b := h1.sh.sc hf (fun q k hp => by unfold bkP at hp; omega)
    have hz2 : isl w2 b z K := hzi.sc hf (fun q k a1 a2 hp => by have := hzi.z; unfold bkP at hp; omega) (fun v k hv hp => by have := hv.1; unfold bkP at hp; omega)
    have shG : ∀ KK : Option Nat → Prop, wldQ w2 (some (b + 14)) 8 (Int32.ofNat j) KK = KK (some (b + 17 + j)) := by
      intro KK
      rw [h2.r14, i_tt (by omega), h2.qs _ hj]
      exact propext ⟨fun e => e.2, fun e => ⟨vp_iff.2 (by rw [i_ti (by omega)]; omega), e⟩⟩
    have hed : ∀ KK : Option Nat → Prop, wgG w2 (some (b + 17 + j)) [23] 300 KK = KK (wG w1 (b + 17 + j) 300) := by
      intro KK
      show (wob w2 (b + 17 + j) [23] ∧ _) = _
      unfold wob
      rw [h2.tS j hj, hhi j (Nat.le_refl _) hj]
      simp
    have put : ∀ (r : Option Nat) (KK : Wd → Prop), wpG w2 (some (b + 17 + j)) [23] 300 r KK = KK (sG w2 (b + 17 + j) 300 r) := by
      intro r KK
      show (wobw w2 (b + 17 + j) [23] ∧ _) = _
      unfold wobw
      rw [h2.tS j hj]
      simp
    have isv : ∀ (r : Option Nat) (y n : List Nat) (KK : Int32 → Prop), wio w2 r y n KK = wio w1 r y n KK := fun r y n KK => by unfold wio; rw [hT]
    have keep : bkS w1 w2 b i z o (zK A K) j → wl_X0_becomes_7 k fu w2 b (Int32.ofNat (j + 1)) := fun hs => ih w2 ⟨hf, hT, hQ, hF, hb0, fun s hs' => by
      by_cases e : s = j
      · rw [e]; exact hs
      · exact hlo s (by omega), fun s a1 a2 => hhi s (by omega) a2⟩
    have wr : ∀ r : Option Nat, bkS w1 (sG w2 (b + 17 + j) 300 r) b i z o (zK A K) j → wl_X0_becomes_7 k fu (sG w2 (b + 17 + j) 300 r) b (Int32.ofNat (j + 1)) := by
      intro r hs
      have ne : ∀ s, ¬ s = j → wG (sG w2 (b + 17 + j) 300 r) (b + 17 + s) 300 = wG w2 (b + 17 + s) 300 := fun s hs' => if_neg (by omega)
      refine ih _ ⟨hf.sG (fun _ => Or.inr ⟨by omega, by omega, rfl⟩), hT, hQ, hF, (if_neg (by omega) : (if b = b + 17 + j ∧ 0 = 300 then r else wG w2 b 0) = _).trans hb0, fun s hs' => ?_, fun s a1 a2 => (ne s (by omega)).trans (hhi s (by omega) a2)⟩
      by_cases e : s = j
      · rw [e]; exact hs
      · have := hlo s (by omega)
        unfold bkS at this ⊢
        rwa [ne s e]
    have eb : ∀ s, s < 8 → bkH (zK A K) 8 s = if (aH A s).toInt < 10 + (K 89).toInt then aH A s else -1 := fun s hs => if_pos hs
    rw [wl_X0_becomes_7_s]
    unfold wb_X0_becomes_7
    rw [if_neg (by rw [i_le, i_ti (by omega)]; show ¬ (8 : Int) ≤ j; omega), h2.G8, shG, hed, isv, x_isV h1 hN hj, i_ofS]
    rcases h1.sf j hj with ⟨a1, a2⟩ | ⟨v, p, a1, a2, a3, a4⟩ | ⟨q, a1, a2⟩
    · rw [show (if 10 ≤ (aH A j).toInt then (1 : Int32) else 0) = 0 from if_neg (by rw [a2]; decide), if_pos rfl]
      refine keep (Or.inl ⟨(hhi j (Nat.le_refl _) hj).trans a1, ?_⟩)
      rw [eb j hj, a2]
      split <;> rfl
    · rw [show (if 10 ≤ (aH A j).toInt then (1 : Int32) else 0) = 1 from if_pos (by rw [a4, i_ti (by omega)]; omega), if_neg (by decide), h2.G8, shG, hed, a1]
      obtain ⟨-, -, -, v', b1, b2⟩ := h1.is.pr p a2
      have ev : v' = v := by rw [b1] at a3; exact Option.some.inj a3
      subst ev
      have b2' : vot w2 b v' (aN A (5 * p)) p (aN A (5 * p + 1)) := b2.sc hf (fun k hp => by have := b2.1; unfold bkP at hp; omega)
      have hmem : 26 + (aN A (5 * p)).toInt.toNat ∈ [26, 27, 28, 29, 30, 31] := by
        have := b2'.ob
        unfold wob at this
        rw [b2'.2.1] at this
        exact this
      have ht2 := b2'.2.1
      simp only [wcc, ht2]
      refine ⟨trivial, hmem, b2'.ob, ?_⟩
      rw [b2'.2.2.2.1]
      show wgG w2 (some b) [20] 8 _
      rw [h2.G8, shG]
      have hb0' : ∀ KK : Option Nat → Prop, wgG w2 (some b) [20] 0 KK = KK (some z) := fun KK => by rw [h2.G0, hb0]
      rw [hb0']
      show wob w2 z [21] ∧ _
      refine ⟨by rw [hz2.ob]; trivial, ?_⟩
      rw [x_isPerson hz2 hK]
      have ip : isP K (Int32.ofNat p) ↔ p < pe K := by
        show (0 ≤ (Int32.ofNat p).toInt ∧ (Int32.ofNat p).toInt < (K 89).toInt) ↔ _
        rw [i_ti (by omega), hKI]
        omega
      by_cases c : p < pe K
      · rw [if_pos (ip.2 c), if_neg (by decide), hb0', hz2.G101, hz2.r2, i_tt (by omega), put]
        refine ⟨vp_iff.2 (by rw [i_ti (by omega)]; omega), wr _ ?_⟩
        obtain ⟨-, -, -, v2, y1, y2⟩ := hzi.pr p c
        refine Or.inr (Or.inl ⟨v2, p, ?_, c, y1, ?_⟩)
        · rw [hQ, y1]
          exact if_pos ⟨rfl, rfl⟩
        · rw [eb j hj, a4, if_pos (by rw [i_ti (by omega), hKI]; omega)]
      · rw [if_neg (fun e => c (ip.1 e)), if_pos rfl, put]
        refine wr none (Or.inl ⟨if_pos ⟨rfl, rfl⟩, ?_⟩)
        rw [eb j hj, a4, if_neg (by rw [i_ti (by omega), hKI]; omega)]
    · have hh := a2.2.1
      rw [show (if 10 ≤ (aH A j).toInt then (1 : Int32) else 0) = 0 from if_neg (by omega), if_pos rfl]
      refine keep (Or.inr (Or.inr ⟨q, (hhi j (Nat.le_refl _) hj).trans a1, a1, a2, ?_⟩))
      rw [eb j hj, if_pos (by omega)]
      rfl
  · intro fu w2 ⟨hf, hT, hQ, hF, hb0, hlo, hhi⟩
    rw [wl_X0_becomes_7_s]
    unfold wb_X0_becomes_7
    rw [if_pos (by decide)]
    exact hk w2 hf hT hQ hb0 hlo
end XBACK
