/-! ===== the class's island ===== -/
theorem pN_U {T : Nw} {z : Nat} {P : Int32 → Prop} [DecidablePred P] {i : Nat} {k : Int32 → Nat → PR} {U : PR → Prop} (hn : ∀ p, U (p, none)) (hi : i ≤ z) (hk : ∀ v e, (0 ≤ v.toInt ∧ v.toInt ≤ 99) → P v → e ≤ z → U (k v e)) : U (pN T z P i k) := by
  unfold pN
  split
  · rename_i c
    exact hk _ _ (tkV_b hi c.1 c.2.1) c.2.2 (tkE_b hi).2
  · exact hn _
def stU (N : Nw) (r : PR) : Prop := ∀ N', r.2 = some N' → pe N ≤ pe N'
theorem stF_U {T : Nw} {z i : Nat} {N : Nw} (hN : okN N) (hi : i ≤ z) : stU N (stF T z N i) := by
  have h8 := hN.pe8
  have hs := hN.side
  have hE := tkE_b (T := T) hi
  have nn : ∀ p, stU N (p, none) := fun p N' h => by cases h
  have i1 : ∀ (j : Nat) (v : Int32) (e : Nat), ¬ j = 89 → stU N (e, some (up1 N j v)) := fun j v e hj N' e' => by
    cases e'
    unfold pe
    rw [up1_ne (fun q => hj q.symm)]
    exact Nat.le_refl _
  unfold stF
  split
  · exact nn _
  · split
    · split
      · exact nn _
      · rename_i hp8
        unfold stP
        refine pN_U nn hE.2 (fun kd e1 _ hkd h2 => pN_U nn h2 (fun a e2 _ _ h4 => pN_U nn h4 (fun c e3 _ hc h6 => pN_U nn h6 (fun f e4 _ hf h8' => ?_))))
        intro N' e'
        cases e'
        rw [addN_pe hN.P (by omega)]
        exact Nat.le_succ _
    · split
      · exact pN_U nn hE.2 (fun c e _ hc h2 => i1 _ _ _ (by have := pat_b hs hc.1; omega))
      · split
        · exact pN_U nn hE.2 (fun c e _ hc h2 => i1 _ _ _ (by have := pat_b hs hc.1; omega))
        · split
          · exact pN_U nn hE.2 (fun v e _ hv h2 => i1 _ _ _ (by decide))
          · split
            · refine pN_U nn hE.2 (fun x e _ hx h2 => pN_U nn h2 (fun v e' _ hv h4 => i1 _ _ _ ?_))
              have hx' : x.toInt ≤ (N 89).toInt - 1 := by have := hx.2; rwa [i_dec (by have := hN.1; omega)] at this
              have := hN.1
              omega
            · rename_i c5 c4 c3 c2 c1 c0
              exact pN_U nn hE.2 (fun v e _ hv h2 => i1 _ _ _ (by omega))
section XISL
variable {w0 w : Wd} {b : Nat} {A : Ab} {N : Nw} {i : Nat}
/-- a full stop of a statement -/
theorem x_takes (h : rdI w0 w b A N i) (hT : okT A) (hz63 : zA A ≤ 63) {k : Int32 → Wd → Prop} (h0 : ¬ tkS (aT A) (zA A) i = 3 → k 0 w) (h1 : tkS (aT A) (zA A) i = 3 → ∀ w', rdI w0 w' b A N (tkE (aT A) (zA A) i) → hsh0 w' (wz w0) (tkS (aT A) (zA A) (tkE (aT A) (zA A) i)) → k 1 w') : wp_X12_takes w (wz w0) (wk w 10) k := by
  have hE := tkE_b (T := aT A) h.le
  have hF := tkF_b (T := aT A) h.le
  obtain ⟨q, k1, k2, k3⟩ := h.ks.2
  unfold wp_X12_takes
  rw [h.r.gG]
  rcases h.tk.2.2.2 with ⟨s1, q1, g1, g2⟩ | ⟨s3, g⟩ | ⟨s1, s3, g⟩
  · rw [g1, if_neg (by simp), h.r.gG, g1, k1]
    simp only [wnn]
    refine ⟨g2.ob, x_strEq g2 k2 (by omega) (by decide) ?_⟩
    have e0 : (if tkE (aT A) (zA A) i - tkF (aT A) (zA A) i = 1 ∧ ∀ j, j < tkE (aT A) (zA A) i - tkF (aT A) (zA A) i → aT A (tkF (aT A) (zA A) i + j) = 59 then (1 : Int32) else 0) = 0 := if_neg (by
      rintro ⟨e1, e2⟩
      have hL : isLt (aT A (tkF (aT A) (zA A) i + 0)) := srtA_1 ((tk_in (T := aT A) (z := zA A) (i := i) (by omega) (by omega) (Or.inl s1)).trans s1)
      rw [e2 0 (by omega)] at hL
      exact absurd hL.1 (by decide))
    rw [e0, if_pos rfl]
    exact h0 (by omega)
  · rw [g, k1, if_neg (by simp), h.r.gG, g, k1]
    simp only [wnn]
    refine ⟨k2.ob, x_strEq k2 k2 (by decide) (by decide) ?_⟩
    have e1 : (if 1 = 1 ∧ ∀ j : Nat, j < 1 → (59 : Int32) = 59 then (1 : Int32) else 0) = 1 := if_pos ⟨rfl, fun _ _ => rfl⟩
    rw [e1, if_neg (by decide)]
    exact ⟨h.r.ob, x_nxt h hT hz63 (by omega) (fun w1 a1 a2 => h1 s3 w1 a1 a2)⟩
  · rw [g, if_pos rfl]
    exact h0 s3
/-- what is done with what was read -/
def iR (w0 : Wd) (b : Nat) (A : Ab) (N : Nw) (X : Nat → Wd → Prop) (k : Int32 → Wd → Prop) (r : Nat × PR) : Prop := match r.2.2 with
  | some N' => ∀ w' e, okN N' → (∀ k, 97 ≤ k → N' k = N k) → pe N ≤ pe N' → rdI w0 w' b A N' e → k (Int32.ofNat r.1) w'
  | none => xF w0 X r.2.1
theorem x_rdL (hT : okT A) (hz : zA A ≤ 63) {N0 : Nw} {X : Nat → Wd → Prop} {k : Int32 → Wd → Prop} :
    ∀ (d fu n i : Nat) (N : Nw), zA A < i + d → i ≤ zA A → n + d ≤ 64 → zA A < i + 1 + 2 * fu → okN N → (∀ j, 97 ≤ j → N j = N0 j) → pe N0 ≤ pe N → iR w0 b A N0 X k (stL (aT A) (zA A) d n N i) → iK w0 b A X (fun w2 => wl_X12_read_10 X k fu w2 (wz w0) (Int32.ofNat (n + 1))) (stF (aT A) (zA A) N i) := by
  obtain ⟨z1, z2⟩ := hT.z
  intro d
  induction d with
  | zero =>
    intro fu n i N hzi hi
    omega
  | succ d ih =>
    intro fu n i N hzi hi hn hfu hN h97 hpe hk
    have hW := stF_W (T := aT A) hN hi
    have hU := stF_U (T := aT A) hN hi
    have es : stL (aT A) (zA A) (d + 1) n N i = match stF (aT A) (zA A) N i with
      | (p, none) => (n, p, none)
      | (e, some N') => if tkS (aT A) (zA A) e = 0 then (n + 1, e, some N') else if tkS (aT A) (zA A) e = 3 then stL (aT A) (zA A) d (n + 1) N' (tkE (aT A) (zA A) e) else (n + 1, tkF (aT A) (zA A) e, none) := rfl
    rw [es] at hk
    clear es
    generalize stF (aT A) (zA A) N i = r at *
    obtain ⟨e, N'⟩ := r
    cases N' with
    | none => exact hk
    | some N' =>
      obtain ⟨hN', h97', hie, hez⟩ := hW N' rfl
      have hpe' := hU N' rfl
      have h97'' : ∀ j, 97 ≤ j → N' j = N0 j := fun j hj => (h97' j hj).trans (h97 j hj)
      have hpe'' : pe N0 ≤ pe N' := Nat.le_trans hpe hpe'
      obtain ⟨fu, rfl⟩ : ∃ g, fu = g + 1 := ⟨fu - 1, by dsimp only at hie hez; omega⟩
      dsimp only at hie hez hk
      intro w2 h2
      replace h2 : rdI w0 w2 b A N' e := h2
      have hF := tkF_b (T := aT A) hez
      have hE := tkE_b (T := aT A) hez
      rw [wl_X12_read_10_s]
      unfold wb_X12_read_10
      rw [h2.r.gF, h2.tk.2.1, h2.r.gF, h2.r.2.2.1]
      by_cases s0 : tkS (aT A) (zA A) e = 0
      · rw [if_pos s0] at hk
        have : zA A ≤ tkF (aT A) (zA A) e := srtA_0.1 s0
        rw [if_pos (by rw [i_le, i_ti (by omega), z2]; omega)]
        exact hk w2 e hN' h97'' hpe'' h2
      · rw [if_neg s0] at hk
        have hlt := tkE_lt (T := aT A) hez s0
        rw [if_neg (by rw [i_le, i_ti (by omega), z2]; omega)]
        refine ⟨h2.r.ob, x_takes h2 hT hz (fun s3 => ?_) (fun s3 w3 h3 hh3 => ?_)⟩
        · rw [if_neg s3] at hk
          rw [if_pos rfl]
          exact ⟨h2.r.ob, x_wrong h2 hk⟩
        · rw [if_pos s3] at hk
          rw [if_neg (by decide), i_ofS]
          exact ⟨h3.r.ob, x_item h3 hN' hT hz hh3 (ih fu (n + 1) (tkE (aT A) (zA A) e) N' (by omega) hE.2 (by omega) (by omega) hN' h97'' hpe'' hk)⟩
theorem x_island {j0 : Nat} {o : Option Nat} (h : XX w b j0 o A) (hN : okN (aN A)) (hT : okT A) (hz63 : zA A ≤ 63) (hks : kst w b) {k : Int32 → Wd → Prop} (hk : ∀ i' w', XX w' b i' o (F_island A).2 → fr (xQ b) w w' → k (F_island A).1 w') : wp_X0_island w b k := by
  obtain ⟨z1, z2⟩ := hT.z
  have hz := h.sh.z
  have hiz := h.is.z
  have h8 := hN.pe8
  unfold wp_X0_island wnew
  have hf1 : fr x0 w (nw w (32, 7, true)) := (fr.refl _ _).nw
  have h1 := h.sc0 hf1
  have t1 : wT (nw w (32, 7, true)) (wz w) = some (32, 7, true) := by rw [wT_nw, if_pos rfl]
  have u1 : wF (nw w (32, 7, true)) (wz w) 1203 = 0 := by rw [wF_nw, if_pos rfl]
  have hz1 : wz (nw w (32, 7, true)) = wz w + 1 := rfl
  dsimp only
  generalize nw w (32, 7, true) = w1 at *
  rw [h1.sh.G9, h1.sh.gF, h1.Z, h1.sh.G0, h1.g0]
  simp only [wnn]
  refine ⟨by rw [h1.is.ob]; trivial, x_copied h1.is h8 (by omega) (fun w2 hf2 hi2 hz2 => ?_)⟩
  rw [hz1] at hi2 hz2 ⊢
  have hf02 := hf1.trans hf2
  have h2 := h.sc0 hf02
  have t2 : wT w2 (wz w) = some (32, 7, true) := hf2.T (by omega) t1
  have u2 : wF w2 (wz w) 1203 = 0 := (hf2.F (by omega) (fun q => q)).trans u1
  have hp0 : ∀ {P : Nat → Nat → Prop} {w3 : Wd}, fr P w2 w3 → (∀ x q, P x q → wz w ≤ x) → fr x0 w w3 := fun hf hP => x0_n hf02 hf hP
  have ow : ∀ w3 : Wd, wT w3 = wT w2 → wobw w3 (wz w) [32] := fun w3 e => by unfold wobw; rw [e, t2]; simp
  have init : ∀ K : Wd → Prop, wp_X12_init w2 (wz w) (some (b + 15)) (aZ A) (some (wz w + 1)) K = K (sG (sF (sG w2 (wz w) 1200 (some (b + 15))) (wz w) 1201 (aZ A)) (wz w) 1202 (some (wz w + 1))) := fun K => propext ⟨fun e => e.2.2.2, fun e => ⟨ow _ rfl, ow _ rfl, ow _ rfl, e⟩⟩
  rw [init]
  have hf3 : fr (fun x q => x = wz w ∧ 1200 ≤ q) w2 (sG (sF (sG w2 (wz w) 1200 (some (b + 15))) (wz w) 1201 (aZ A)) (wz w) 1202 (some (wz w + 1))) := (((fr.refl _ _).sG (fun _ => ⟨rfl, by decide⟩)).sF (fun _ => ⟨rfl, by decide⟩)).sG (fun _ => ⟨rfl, by decide⟩)
  have r3 : rdS (sG (sF (sG w2 (wz w) 1200 (some (b + 15))) (wz w) 1201 (aZ A)) (wz w) 1202 (some (wz w + 1))) b (wz w) (wz w + 1) A := by
    refine ⟨⟨t2, by show wz w < wz w2; omega⟩, ?_, ?_, ?_, ⟨?_, by omega⟩, fun q hq => h2.Tt q hq⟩
    · rw [wG_sG, if_neg (by omega), wG_sF, wG_sG, if_pos ⟨rfl, rfl⟩]
    · rw [wF_sG, wF_sF, if_pos ⟨rfl, rfl⟩]
    · rw [wG_sG, if_pos ⟨rfl, rfl⟩]
    · exact h2.sh.2.1 15 (by decide) (Or.inr (by decide))
  have u3 : wF (sG (sF (sG w2 (wz w) 1200 (some (b + 15))) (wz w) 1201 (aZ A)) (wz w) 1202 (some (wz w + 1))) (wz w) 1203 = Int32.ofNat 0 := by
    rw [wF_sG, wF_sF, if_neg (by omega), wF_sG]; exact u2
  generalize sG (sF (sG w2 (wz w) 1200 (some (b + 15))) (wz w) 1201 (aZ A)) (wz w) 1202 (some (wz w + 1)) = w3 at *
  have f03 : fr x0 w w3 := hp0 hf3 (fun x q e => by omega)
  have i3 : isl w3 b (wz w + 1) (aN A) := hi2.sc hf3 (fun x q a1 a2 e => by omega) (fun v q hv e => by
    obtain ⟨-, -, c, hc, -⟩ := hv
    rw [e.1, t2] at hc
    simp only [Option.some.injEq, Prod.mk.injEq] at hc
    exact absurd hc.2.1 (by decide))
  have z3 := hf3.z
  have hk3 := hks.sc f03 (by omega) (fun x q _ e => e)
  refine ⟨r3.ob, ?_⟩
  unfold wp_X12_read
  refine ⟨r3.ob, x_next r3 hT hz63 (lo := wz w + 8) (i := 0) (by omega) u3 (by omega) (fun w4 hf4 tk4 hh4 => ?_)⟩
  have r4 := r3.sc hf4 (fun q e => e.2) (fun e => by unfold rnP at e; omega)
  have z4 := hf4.z
  have h4 : rdI w w4 b A (aN A) 0 := by
    refine ⟨⟨r4, i3.sc hf4 (fun x q a1 a2 e => by unfold rnP at e; omega) (fun v q hv e => ?_), tk4⟩, hk3.sc hf4 (by omega) (fun x q hx e => by unfold rnP at e; omega), x0_n f03 hf4 (fun x q e => by unfold rnP at e; omega), ⟨hz, by omega⟩, Nat.zero_le _⟩
    obtain ⟨-, -, c, hc, -⟩ := hv
    have := e.1
    rw [this, r3.1.1] at hc
    simp only [Option.some.injEq, Prod.mk.injEq] at hc
    exact absurd hc.2.1 (by decide)
  refine ⟨r4.ob, x_item h4 hN hT hz63 hh4 ?_⟩
  refine x_rdL hT hz63 (N0 := aN A) 64 34 0 0 (aN A) (by omega) (by omega) (by omega) (by omega) hN (fun _ _ => rfl) (Nat.le_refl _) ?_
  have eF : F_island A = F_islR A (stL (aT A) (zA A) 64 0 (aN A) 0) := rfl
  rw [eF] at hk
  unfold F_islR at hk
  unfold iR
  generalize stL (aT A) (zA A) 64 0 (aN A) 0 = r at *
  obtain ⟨n, e, N'⟩ := r
  cases N' with
  | none =>
    dsimp only at hk ⊢
    intro q w5 hf5 tq hq1 hq2 e506
    have h5 := h.sc0 hf5
    have z5 := hf5.z
    unfold wb_X0_island_45
    refine ⟨by rw [h5.sh.ob]; trivial, ?_⟩
    unfold wp_X0_no
    have e3 := h5.R 2 (by decide)
    have v2 : vp_in (2 : Int32) 7 := vp_iff.2 (by decide)
    simp only [h5.sh.G11, h5.sh.r16, h5.sh.w16, show (-(-2) : Int32) = 2 from rfl, show (2 : Int32).toInt.toNat = 2 from rfl, e3, v2, true_and]
    have h6 := h5.zR 2 (aR A 2 + 1) (by decide)
    have tq6 : wT (sI w5 (b + 16) 2 (aR A 2 + 1)) q = some (33, 7, true) := tq
    have e6 : wF (sI w5 (b + 16) 2 (aR A 2 + 1)) q 506 = Int32.ofNat e := e506
    have hf6 : fr (xQ b) w (sI w5 (b + 16) 2 (aR A 2 + 1)) := (x0_P hf5).trans ((fr.refl _ _).sI (fun _ => by unfold xQ; omega))
    generalize sI w5 (b + 16) 2 (aR A 2 + 1) = w6 at *
    show wob w6 q [33] ∧ _
    refine ⟨by unfold wob; rw [tq6]; simp, ?_⟩
    dsimp only
    rw [e6, h6.sh.pF]
    have h7 := h6.putZ 0
    exact hk j0 _ h7.1 (hf6.trans h7.2)
  | some N' =>
    dsimp only at hk ⊢
    intro w5 e' hN' h97 hpe h5
    have hx5 := h.sc0 h5.f0
    rw [h5.r.gG, h5.r.2.2.2.1]
    refine ⟨by rw [hx5.sh.ob]; trivial, x_becomesI hx5 hN hN' h5.is (fun w6 hf hT6 hQ hb0 hs => ?_)⟩
    have zz := h5.zz
    have hjz : ∀ j', o = some j' → j' + 7 ≤ wz w := h.hb.2
    have hlt : ∀ (t q : Nat), t < 8 → wG w5 (b + 17 + t) 300 = some q → q < wz w := fun t q ht hg => h.lt ht (by rw [← h5.f0.G (show b + 17 + t < wz w by omega) (fun hp => hp)]; exact hg)
    have eH : ∀ s, s < 8 → bkH (zK A N') 8 s = aH A s := by
      intro s hs8
      show (if s < 8 then (if (aH A s).toInt < 10 + (N' 89).toInt then aH A s else -1) else aH A s) = _
      rw [if_pos hs8]
      have hI := hN'.peI
      rcases hx5.sf s hs8 with ⟨a1, a2⟩ | ⟨v, p, a1, a2, a3, a4⟩ | ⟨q, a1, a2⟩
      · rw [a2]
        split <;> rfl
      · rw [if_pos]
        rw [a4, i_ti (by omega), hI]
        omega
      · rw [if_pos]
        have := a2.2.1
        omega
    have hi : ∀ j' M, isl w5 b j' M → isl w6 b j' M := fun j' M hj' => hj'.sc hf (fun q k a1 a2 hp => by have := hj'.z; unfold bkP at hp; omega) (fun v k hv hp => by have := hv.1; unfold bkP at hp; omega)
    have h6 : XX w6 b (wz w + 1) o (zN A N') := by
      refine ⟨hx5.sh.sc hf (fun q k hp => by unfold bkP at hp; omega), hi _ _ h5.is, hb0, (hf.G (by omega) (fun hp => by unfold bkP at hp; omega)).trans hx5.g1, fun k hk' => (congrFun (hf.I (by omega) (fun hp => by unfold bkP at hp; omega)) k).trans (hx5.Tt k hk'), (hf.F (by omega) (fun hp => by unfold bkP at hp; omega)).trans hx5.Z, fun k hk' => (congrFun (hf.I (by omega) (fun hp => by unfold bkP at hp; omega)) k).trans (hx5.R k hk'), hx5.im, fun j' hj' => ⟨hi j' _ (hx5.ik j' hj').1, Or.inr (by have := hjz j' hj'; omega)⟩, fun s hs8 => ?_, fun s t q hs8 ht8 a3 a4 a5 => ?_⟩
      · rcases hs s hs8 with ⟨a1, a2⟩ | ⟨v, p, a1, a2, a3, a4⟩ | ⟨q, a1, a2, a3, a4⟩
        · exact Or.inl ⟨a1, (eH s hs8).symm.trans a2⟩
        · exact Or.inr (Or.inl ⟨v, p, a1, a2, by rw [hQ]; exact a3, (eH s hs8).symm.trans a4⟩)
        · have hq := hlt s q hs8 a2
          have := a3.sc hf (fun hp => by have := a3.1; unfold bkP at hp; omega)
          obtain ⟨b1, b2, b3, b4, b5, b6, b7⟩ := this
          refine Or.inr (Or.inr ⟨q, a1, ?_⟩)
          exact ⟨b1, b2, b3, b4, by omega, b6, b7⟩
      · have row : ∀ s, s < 8 → wG w6 (b + 17 + s) 300 = some q → wG w5 (b + 17 + s) 300 = some q := by
          intro s hs8 hg
          rcases hs s hs8 with ⟨a1, a2⟩ | ⟨v, p, a1, a2, a3, a4⟩ | ⟨q', a1, a2, a3, a4⟩
          · rw [a1] at hg; cases hg
          · rw [a1] at hg; cases hg
            obtain ⟨-, -, -, v', y1, y2⟩ := h5.is.pr p a2
            rw [y1] at a3; cases a3
            rw [hT6] at a5
            exact absurd a5 (vot_ne y2)
          · rw [a1] at hg; cases hg
            exact a2
        rw [hT6] at a5
        exact hx5.dj s t q hs8 ht8 (row s hs8 a3) (row t ht8 a4) a5
    have hf6 : fr (xQ b) w w6 := (x0_P h5.f0).trans (hf.mono (fun q k hq hp => by unfold bkP at hp; unfold xQ; omega))
    rw [h6.sh.pF]
    have h7 := h6.putZ 0
    exact hk _ _ h7.1 (hf6.trans h7.2)
end XISL
