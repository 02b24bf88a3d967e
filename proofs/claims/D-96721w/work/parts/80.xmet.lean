/-! ===== two who meet, of the class ===== -/
section XMET
variable {w w' : Wd} {b i : Nat} {o : Option Nat} {A : Ab}
theorem x_isV (h : XX w b i o A) (hN : okN (aN A)) {s : Nat} (hs : s < 8) (K : Int32 → Prop) : wio w (wG w (b + 17 + s) 300) [26, 27, 28, 29, 30, 31] [1, 2, 0, 5, 4] K = K (if 10 ≤ (aH A s).toInt then 1 else 0) := by
  have h8 := hN.pe8
  rcases h.sf s hs with ⟨a1, a2⟩ | ⟨v, p, a1, a2, a3, a4⟩ | ⟨q, a1, a2⟩
  · rw [a1, a2, if_neg (by decide)]
    rfl
  · obtain ⟨-, -, -, v', b1, b2⟩ := h.is.pr p a2
    have ev : v' = v := by rw [b1] at a3; exact Option.some.inj a3
    subst ev
    have ht := b2.2.1
    have hmem : 26 + (aN A (5 * p)).toInt.toNat ∈ [26, 27, 28, 29, 30, 31] := by
      have := b2.ob
      unfold wob at this
      rw [ht] at this
      exact this
    rw [a1, a4, if_pos (by rw [i_ti (by omega)]; omega)]
    show (match wT w v' with
      | none => False
      | some t => t.2.2 = true ∧ (if t.1 ∈ [26, 27, 28, 29, 30, 31] then K 1 else t.1 ∈ [1, 2, 0, 5, 4] ∧ K 0)) = _
    rw [ht]
    show (true = true ∧ (if 26 + (aN A (5 * p)).toInt.toNat ∈ [26, 27, 28, 29, 30, 31] then K 1 else _)) = _
    rw [if_pos hmem]
    exact propext ⟨fun e => e.2, fun e => ⟨rfl, e⟩⟩
  · have ht := a2.2.2.2.1
    have hh := a2.2.1
    rw [a1, if_neg (by omega)]
    show (match wT w q with
      | none => False
      | some t => t.2.2 = true ∧ (if t.1 ∈ [26, 27, 28, 29, 30, 31] then K 1 else t.1 ∈ [1, 2, 0, 5, 4] ∧ K 0)) = _
    rw [ht]
    show (true = true ∧ (if srt (aH A s) ∈ [26, 27, 28, 29, 30, 31] then K 1 else srt (aH A s) ∈ [1, 2, 0, 5, 4] ∧ K 0)) = _
    rcases srt_c hh with ⟨-, e⟩ | ⟨-, e⟩ | ⟨-, e⟩ | ⟨-, e⟩ | ⟨-, e⟩ <;> rw [e, if_neg (by decide)] <;> exact propext ⟨fun e => e.2.2, fun e => ⟨rfl, by decide, e⟩⟩
theorem x_signAt {r n wt j : Nat} {s x : Int32} (hl : tld w b r (elA A s) n) (hx : x.toInt = (j : Int) - wt) (hj : j < 1000) (hwt : wt < 1000) (k : Int32 → Wd → Prop) : wp_X0_signAt w (some r) x k = k (sgT A s n wt j) w := by
  unfold wp_X0_signAt sgT
  by_cases c : j < wt
  · rw [if_pos (by rw [i_lt, i_0]; omega), if_neg (by omega)]
  · rw [if_neg (by rw [i_lt, i_0]; omega), hl.1.1.ln]
    have ex : x = Int32.ofNat (j - wt) := by rw [i_eq, i_ti (by omega)]; omega
    have h40 := hl.2.1
    by_cases c2 : n ≤ j - wt
    · rw [if_pos (by rw [i_le, i_ti (by omega)]; omega), if_neg (by omega)]
    · rw [if_neg (by rw [i_le, i_ti (by omega)]; omega), if_pos (by omega), ex, hl.1.1.rd (by omega) (by omega)]
      rfl
theorem x_signs {q n : Nat} {T : Nat → Int64} (hl : lrw w q n T) (hn : n ≤ 40) {X : Nat → Wd → Prop} {k : Option Nat → Wd → Prop} (hk : (∀ j, j < n → 0 ≤ (T j).toInt ∧ (T j).toInt ≤ 3) → k (some q) w) (hx : ¬ (∀ j, j < n → 0 ≤ (T j).toInt ∧ (T j).toInt ≤ 3) → ∀ q' w', fr x0 w w' → rfd w' q' (-5) → X q' w') : wp_X0_signs w (some q) X k := by
  unfold wp_X0_signs
  refine x_wrongIn hl hn ?_
  have en := srch_none (P := fun j => ¬ (0 ≤ (T j).toInt ∧ (T j).toInt ≤ 3)) n 0 (by omega)
  by_cases d3 : ∀ j, j < n → 0 ≤ (T j).toInt ∧ (T j).toInt ≤ 3
  · rw [if_pos (en.2 (fun x _ h2 => fun q => q (d3 x (by omega))))]
    exact hk d3
  · rw [if_neg (fun q => d3 (fun x hx => Classical.byContradiction (fun c => (en.1 q) x (by omega) (by omega) c)))]
    exact x_refd w (-5) (fun w2 hf2 hr2 => hx d3 _ w2 hf2 hr2)
theorem x_met (h : XX w b i o A) (hN : okN (aN A)) {s t : Int32} {n m' t1 t2 P Q wt : Nat} (hl1 : tld w b t1 (elA A s) n) (hl2 : tld w b t2 (elA A t) m') (hP : P < pe (aN A)) (hQ : Q < pe (aN A)) (hwt : wt < 10) {k : Int32 → Wd → Prop} (hk : ∀ w', fr (xP b) w w' → k (metV A P s n Q t m' wt) w') : wp_X0_met w b (Int32.ofNat P) (some t1) (Int32.ofNat Q) (some t2) (Int32.ofNat wt) k := by
  have hz := h.sh.z
  have hn := hl1.2.1
  have hm := hl2.2.1
  unfold wp_X0_met
  simp only [h.G0, h.sh.G2, h.is.G102, h.is.G103, x_cl h hN hP, x_fc h hN hP]
  show wob w (b + 8) [22] ∧ _
  refine ⟨by rw [h.sh.obW8]; trivial, x_begins h.sh.t8 (by omega) _ _ (fun w1 hf1 hw1 _ => ?_)⟩
  have h1 := h.scP (at8_P hf1)
  have hz1 := h1.sh.z
  simp only [h1.G0, h1.sh.G3, h1.is.G102, h1.is.G103, x_cl h1 hN hQ, x_fc h1 hN hQ]
  show wob w1 (b + 9) [22] ∧ _
  refine ⟨by rw [h1.sh.obW9]; trivial, x_begins h1.sh.t9 (by omega) _ _ (fun w2 hf2 hv2 _ => ?_)⟩
  have h2 := h1.scP (at9_P hf2)
  have hw2 := hw1.sc hf2 (fun k hp => by unfold at1 at hp; omega)
  have b1 : wF w2 (b + 8) 200 = aN A (5 * P + 2) := hw2.2.1
  have b2 : wF w2 (b + 9) 200 = aN A (5 * Q + 2) := hv2.2.1
  simp only [h2.sh.G2, h2.sh.G3, hw2.gF, hv2.gF, b1, b2]
  unfold metV at hk
  by_cases e : aN A (5 * P + 2) = aN A (5 * Q + 2)
  · rw [if_pos e]
    have := hk w2 ((at8_P hf1).trans (at9_P hf2))
    rwa [if_pos e] at this
  · rw [if_neg e]
    simp only [if_neg e] at hk
    have ewt : (Int32.ofNat wt).toInt = wt := i_ti (by omega)
    have en' : (Int32.ofNat n).toInt = n := i_ti (by omega)
    have em' : (Int32.ofNat m').toInt = m' := i_ti (by omega)
    have emw : (Int32.ofNat wt + Int32.ofNat m').toInt = (wt : Int) + m' := i_addv ewt em' (by omega) (by omega)
    have key : ∀ d fu j w4, j + d = max n (m' + wt) → d < fu → (XX w4 b i o A ∧ fr (xP b) w w4 ∧ wlk w4 (b + 8) (mtW A P s n 0 j) (Int32.ofNat j) ∧ wlk w4 (b + 9) (mtW A Q t m' wt j) (Int32.ofNat j)) → (∀ w', fr (xP b) w w' → k (srch (metP A P s n Q t m' wt) (fun k => Int32.ofNat (k + 1)) d j) w') → wl_X0_met_74 k fu w4 b (Int32.ofNat P) (some t1) (Int32.ofNat Q) (some t2) (Int32.ofNat wt) (Int32.ofNat j) := by
      intro d
      induction d with
      | zero =>
        intro fu j w4 hj hfu ⟨h4, hf4, hw4, hv4⟩ he
        obtain ⟨fu, rfl⟩ : ∃ g, fu = g + 1 := ⟨fu - 1, by omega⟩
        have hla := hl1.sc hf4
        have hlb := hl2.sc hf4
        rw [wl_X0_met_74_s]
        unfold wb_X0_met_74
        rw [hla.1.1.ln, hlb.1.1.ln, jmax, if_pos (by rw [i_le, i_ti (by omega)]; split <;> (rename_i c; rw [i_lt] at c; omega))]
        exact he w4 hf4
      | succ d ih =>
        intro fu j w4 hj hfu ⟨h4, hf4, hw4, hv4⟩ he
        obtain ⟨fu, rfl⟩ : ∃ g, fu = g + 1 := ⟨fu - 1, by omega⟩
        have hla := hl1.sc hf4
        have hlb := hl2.sc hf4
        have ej : (Int32.ofNat j).toInt = j := i_ti (by omega)
        rw [wl_X0_met_74_s]
        unfold wb_X0_met_74
        rw [hla.1.1.ln, hlb.1.1.ln, jmax, if_neg (by rw [i_le, ej]; split <;> (rename_i c; rw [i_lt] at c; omega))]
        obtain ⟨v, hv, hvt⟩ := x_vt h4 hN hP
        simp only [h4.G0, h4.sh.G2, h4.is.G101, hvt]
        rw [x_signAt hla (wt := 0) (j := j) (by omega) (by omega) (by omega), h4.G0, h4.is.G105, x_t0 h4]
        show wob w4 (b + 8) [22] ∧ _
        have o1 := mtW_ok hN hP s n 0 j (by omega)
        have o2 := mtW_ok hN hQ t m' wt j (by omega)
        refine ⟨by rw [h4.sh.obW8]; trivial, x_stP h4 hN hP hv (by omega) hw4 o1 (sgT_c hla.2.2 0 j) (fun w5 hf5 hw5 h75 => ?_)⟩
        have h5 := h4.scP (at8_P hf5)
        have hlb5 := hlb.sc (at8_P hf5)
        have hv5 := hv4.sc hf5 (fun k hp => by unfold at1 at hp; omega)
        obtain ⟨v', hv', hvt'⟩ := x_vt h5 hN hQ
        have ex : (Int32.ofNat j - Int32.ofNat wt).toInt = (j : Int) - wt := by rw [i_sub (by omega), ej, ewt]
        simp only [h5.G0, h5.sh.G3, h5.is.G101, hvt']
        rw [x_signAt hlb5 (wt := wt) (j := j) ex (by omega) (by omega), h5.G0, h5.is.G105, x_t0 h5]
        show wob w5 (b + 9) [22] ∧ _
        refine ⟨by rw [h5.sh.obW9]; trivial, x_stP h5 hN hQ hv' (by omega) hv5 o2 (sgT_c hlb.2.2 wt j) (fun w6 hf6 hv6 h76 => ?_)⟩
        have h6 := h5.scP (at9_P hf6)
        have hw6 := hw5.sc hf6 (fun k hp => by unfold at1 at hp; omega)
        rw [i_ofS] at hw6 hv6
        have hw6' : wlk w6 (b + 8) (mtW A P s n 0 (j + 1)) (Int32.ofNat (j + 1)) := hw6
        have hv6' : wlk w6 (b + 9) (mtW A Q t m' wt (j + 1)) (Int32.ofNat (j + 1)) := hv6
        have hz5 := h5.sh.z
        have e87 : wF w6 (b + 8) 207 = uC (mtW A P s n 0 j) := (hf6.F (by omega) (fun hp => by unfold at1 at hp; omega)).trans h75
        have hf06 := (hf4.trans (at8_P hf5)).trans (at9_P hf6)
        rw [show srch (metP A P s n Q t m' wt) (fun k => Int32.ofNat (k + 1)) (d + 1) j = if metP A P s n Q t m' wt j then Int32.ofNat (j + 1) else srch (metP A P s n Q t m' wt) (fun k => Int32.ofNat (k + 1)) d (j + 1) from rfl] at he
        have g203 : ∀ s0 : Int32, (s0 = 0 ↔ ¬ (uC (mtW A P s n 0 (j + 1)) = uC (mtW A Q t m' wt j) ∧ uC (mtW A Q t m' wt (j + 1)) = uC (mtW A P s n 0 j))) → wb_X0_met_203 k (wl_X0_met_74 k fu) w6 b (Int32.ofNat P) (some t1) (Int32.ofNat Q) (some t2) (Int32.ofNat wt) (Int32.ofNat j) s0 := by
          intro s0 hs0
          unfold wb_X0_met_203
          simp only [h6.sh.G2, h6.sh.G3, hw6'.gF, hv6'.gF, hw6'.2.1, hv6'.2.1, i_ofS]
          by_cases q1 : uC (mtW A P s n 0 (j + 1)) = uC (mtW A Q t m' wt (j + 1))
          · rw [if_pos q1]
            rw [if_pos (Or.inl q1)] at he
            exact he w6 hf06
          · rw [if_neg q1]
            by_cases q2 : uC (mtW A P s n 0 (j + 1)) = uC (mtW A Q t m' wt j) ∧ uC (mtW A Q t m' wt (j + 1)) = uC (mtW A P s n 0 j)
            · rw [if_neg (fun e => hs0.1 e q2)]
              rw [if_pos (Or.inr q2)] at he
              exact he w6 hf06
            · rw [if_pos (hs0.2 q2)]
              rw [if_neg (fun c => c.elim q1 q2)] at he
              exact ih fu (j + 1) w6 (by omega) (by omega) ⟨h6, hf06, hw6', hv6'⟩ he
        simp only [h6.sh.G2, h6.sh.G3, hw6'.gF, hv6'.gF, hw6'.2.1, hv6'.2.1, h76, e87]
        by_cases q2 : uC (mtW A P s n 0 (j + 1)) = uC (mtW A Q t m' wt j)
        · rw [if_pos q2]
          by_cases q3 : uC (mtW A Q t m' wt (j + 1)) = uC (mtW A P s n 0 j)
          · rw [if_pos q3]
            exact g203 1 ⟨fun e => absurd e (by decide), fun e => absurd ⟨q2, q3⟩ e⟩
          · rw [if_neg q3]
            exact g203 0 ⟨fun _ e => q3 e.2, fun _ => rfl⟩
        · rw [if_neg q2]
          exact g203 0 ⟨fun _ e => q2 e.1, fun _ => rfl⟩
    exact key (max n (m' + wt)) FU 0 w2 (by omega) (by unfold FU; omega) ⟨h2, (at8_P hf1).trans (at9_P hf2), hw2, hv2⟩ hk
end XMET
