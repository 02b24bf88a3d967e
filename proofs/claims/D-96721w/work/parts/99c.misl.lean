/-! ===== the reference's texts: the island ===== -/
section MIS
variable {w : Wd} {m : Nat} {A : Ab}
theorem mvN_eq {N M : Nw} (h : ∀ k, 97 ≤ k → M k = N k) (K : Nw) : mvN (mvN N K) M = N := funext fun k => by
  unfold mvN
  by_cases c : k < 97
  · rw [if_pos c, if_pos c]
  · rw [if_neg c, h k (by omega)]
/-- it fails: all as it was -/
theorem m_islF (h : MM w m A) {N K0 : Nw} {B : Ab} (hB : zN A N = B) (hN : ∀ k, 97 ≤ k → aN A k = N k) (h4 : wI w (m + 4) = mvN N K0) {p : Nat} (e8 : wF w m 408 = Int32.ofNat p) {n : Int32} {k : Int32 → Wd → Prop} {L : Wd → Nat → Int32 → Int32 → Prop} (hk : ∀ w', MM w' m (bump (zZ B 0) (-2)) → fr (mQ m) w w' → k (-20 - Int32.ofNat p) w') : wb_X4_island_23 k L w m n 0 := by
  unfold wb_X4_island_23
  rw [if_pos rfl]
  simp only [h.sh.G403, h.sh.G401]
  refine m_mv 4 2 (h.sh.t 4 (by decide)) (h.sh.t 2 (by decide)) (by decide) (fun w2 _ hw2 => ?_)
  subst hw2
  have h2 := h.wNc (mvN (wI w (m + 4)) (wI w (m + 2)))
  rw [h4, h.N, mvN_eq hN, hB] at h2
  have hf2 : fr (mQ m) w (sIc w (m + 2) (mvN (mvN N K0) (aN A))) := frC (fr.refl _ _) (by omega)
  have e82 : wF (sIc w (m + 2) (mvN (mvN N K0) (aN A))) m 408 = Int32.ofNat p := e8
  rw [h4, h.N]
  rw [mvN_eq hN] at hf2 e82 ⊢
  generalize sIc w (m + 2) N = w2 at *
  rw [h2.sh.pF]
  have h3 := h2.wZ 0
  have hf3 : fr (mQ m) w (sF w2 m 406 0) := hf2.sF (fun _ => by unfold mQ; omega)
  have e83 : wF (sF w2 m 406 0) m 408 = Int32.ofNat p := by rw [wF_sF, if_neg (by omega)]; exact e82
  generalize sF w2 m 406 0 = w3 at *
  refine ⟨by rw [h3.sh.ob]; trivial, ?_⟩
  unfold wp_X4_refuse
  have e1 : (-(-2 : Int32)).toInt = 2 := rfl
  have e2 : vp_in (-(-2 : Int32)) 7 := vp_iff.2 (by rw [e1]; decide)
  simp only [h3.sh.G400, h3.sh.r1, h3.sh.w1, h3.R, e2, true_and]
  have h5 := h3.wR (-(-2 : Int32)).toInt.toNat (aR (zZ B 0) (-(-2 : Int32)).toInt.toNat + 1)
  rw [h5.sh.gF]
  have e85 : wF (sI w3 (m + 1) (-(-2 : Int32)).toInt.toNat (aR (zZ B 0) (-(-2 : Int32)).toInt.toNat + 1)) m 408 = Int32.ofNat p := e83
  rw [e85]
  exact hk _ h5 (frR hf3 (by omega))
theorem m_islL (hT : okT A) (hz : zA A ≤ 63) {N0 K0 : Nw} (hN0 : aN A = N0) {k : Int32 → Wd → Prop} {w0 : Wd} :
    ∀ (d fu n i : Nat) (N : Nw) (w : Wd), d < fu → zA A < i + d → i ≤ zA A → n + d ≤ 64 → MM w m (zN A N) → okN N → (∀ j, 97 ≤ j → N j = N0 j) → wI w (m + 4) = mvN N0 K0 → fr (mQ m) w0 w → mR w0 m (F_islR A (stL (aT A) (zA A) d n N i)).2 (k (F_islR A (stL (aT A) (zA A) d n N i)).1) → mPK w m (zN A N) (fun v w' => wl_X4_island_23 k fu w' m (Int32.ofNat n) v) (stF (aT A) (zA A) N i) := by
  intro d
  induction d with
  | zero =>
    intro fu n i N w hfu hzi hi
    omega
  | succ d ih =>
    intro fu n i N w hfu hzi hi hn h hN h97 h4 hf0 hk
    obtain ⟨fu, rfl⟩ : ∃ g, fu = g + 1 := ⟨fu - 1, by omega⟩
    have hW := stF_W (T := aT A) hN hi
    have es : stL (aT A) (zA A) (d + 1) n N i = match stF (aT A) (zA A) N i with
      | (p, none) => (n, p, none)
      | (e, some N') => if tkS (aT A) (zA A) e = 0 then (n + 1, e, some N') else if tkS (aT A) (zA A) e = 3 then stL (aT A) (zA A) d (n + 1) N' (tkE (aT A) (zA A) e) else (n + 1, tkF (aT A) (zA A) e, none) := rfl
    rw [es] at hk
    clear es
    have fail : ∀ (w1 : Wd) (M : Nw) (p fl : Nat) (l1 : Int32), MM w1 m (zN A M) → (∀ j, 97 ≤ j → M j = N0 j) → wI w1 (m + 4) = mvN N0 K0 → fr (mQ m) w0 w1 → wF w1 m 408 = Int32.ofNat p → mR w0 m (bump (zZ A 0) (-2)) (k (-20 - Int32.ofNat p)) → wl_X4_island_23 k (fl + 1) w1 m l1 0 := by
      intro w1 M p fl l1 h1 hM h14 hf1 e8 hk1
      rw [wl_X4_island_23_s]
      exact m_islF h1 (B := A) (N := N0) (by rw [zN_zN, ← hN0, zN_a]) hM h14 e8 (fun w' h' hf' => hk1 w' h' (hf1.trans hf'))
    generalize stF (aT A) (zA A) N i = r at *
    obtain ⟨e, N'⟩ := r
    cases N' with
    | none =>
      intro w1 h1 hf1 e8
      have hz1 := h.sh.z
      exact fail w1 N e fu _ h1 h97 (by rw [hf1.I (by omega) (by unfold pfP; omega)]; exact h4) (hf0.trans (pfP_Q hf1)) e8 hk
    | some N' =>
      intro w1 h1 hf1 e7
      obtain ⟨hN', h97', hie, hez⟩ := hW N' rfl
      have hie : i < e := hie
      have hez : e ≤ zA A := hez
      have hz1 := h.sh.z
      rw [zN_zN] at h1
      have h14 : wI w1 (m + 4) = mvN N0 K0 := by rw [hf1.I (by omega) (by unfold pfP; omega)]; exact h4
      have hf01 := hf0.trans (pfP_Q hf1)
      have h97'' : ∀ j, 97 ≤ j → N' j = N0 j := fun j hj => (h97' j hj).trans (h97 j hj)
      show wl_X4_island_23 k (fu + 1) w1 m (Int32.ofNat n) 1
      rw [wl_X4_island_23_s]
      unfold wb_X4_island_23
      rw [if_neg (by decide)]
      refine ⟨by rw [h1.sh.ob]; trivial, m_next h1 hT hez e7 (fun w2 h2 hf2 e27 e28 e29 => ?_)⟩
      have hz2 := h1.sh.z
      have h24 : wI w2 (m + 4) = mvN N0 K0 := by rw [hf2.I (by omega) (by unfold tkP; omega)]; exact h14
      have hf02 := hf01.trans (mP_Q (tkP_P hf2))
      have hs4 : tkS (aT A) (zA A) e ≤ 4 := srtA_4 _ _ _
      rw [h2.sh.gF, show wF w2 m 409 = Int32.ofNat (tkS (aT A) (zA A) e) from e29]
      by_cases s0 : tkS (aT A) (zA A) e = 0
      · rw [if_pos (by rw [s0]; rfl), h2.sh.pF, i_ofS]
        have hk' : mR w0 m (F_islR A (n + 1, e, some N')).2 (k (F_islR A (n + 1, e, some N')).1) := by
          have := hk
          dsimp only at this
          rwa [if_pos s0] at this
        exact hk' _ (h2.wZ 0) (hf02.sF (fun _ => by unfold mQ; omega))
      · rw [if_neg (by rw [show (0 : Int32) = Int32.ofNat 0 from rfl, ofN_inj (by omega) (by omega)]; exact s0), h2.sh.gF, show wF w2 m 409 = Int32.ofNat (tkS (aT A) (zA A) e) from e29]
        by_cases s3 : tkS (aT A) (zA A) e = 3
        · rw [if_pos (by rw [s3]; rfl), i_ofS]
          have hlt := tkE_lt (T := aT A) hez s0
          have hFe := tkF_b (T := aT A) hez
          have hEe := tkE_b (T := aT A) hez
          have hk' : mR w0 m (F_islR A (stL (aT A) (zA A) d (n + 1) N' (tkE (aT A) (zA A) e))).2 (k (F_islR A (stL (aT A) (zA A) d (n + 1) N' (tkE (aT A) (zA A) e))).1) := by
            have := hk
            dsimp only at this
            rwa [if_neg s0, if_pos s3] at this
          refine ⟨by rw [h2.sh.ob]; trivial, m_stat h2 hN' hT hEe.2 e27 (mPK_m (ih fu (n + 1) (tkE (aT A) (zA A) e) N' w2 (by omega) (by omega) hEe.2 (by omega) h2 hN' h97'' h24 hf02 hk') (fun w' q => ?_) (fun w' q => ?_))⟩
          · rw [if_pos rfl]; exact q
          · rw [if_neg (by decide)]; exact q
        · rw [if_neg (by rw [show (3 : Int32) = Int32.ofNat 3 from rfl, ofN_inj (by omega) (by omega)]; exact s3)]
          have hk' : mR w0 m (F_islR A (n + 1, tkF (aT A) (zA A) e, none)).2 (k (F_islR A (n + 1, tkF (aT A) (zA A) e, none)).1) := by
            have := hk
            dsimp only at this
            rwa [if_neg s0, if_neg s3] at this
          obtain ⟨fl, rfl⟩ : ∃ g, fu = g + 1 := ⟨fu - 1, by omega⟩
          exact fail w2 N' _ fl _ h2 h97'' h24 hf02 e28 hk'
theorem m_island (h : MM w m A) (hN : okN (aN A)) (hT : okT A) (hz : zA A ≤ 63) {k : Int32 → Wd → Prop} (hk : mR w m (F_island A).2 (k (F_island A).1)) : wp_X4_island w m k := by
  unfold wp_X4_island
  simp only [h.sh.G403, h.sh.G401]
  refine m_mv 2 4 (h.sh.t 2 (by decide)) (h.sh.t 4 (by decide)) (by decide) (fun w2 _ hw2 => ?_)
  have hz0 := h.sh.z
  have hf2 : fr (mQ m) w w2 := by rw [hw2]; exact frC (fr.refl _ _) (by omega)
  have h24 : wI w2 (m + 4) = mvN (aN A) (wI w (m + 4)) := by
    rw [hw2, ← h.N]
    exact funext fun j => if_pos rfl
  have h2 : MM w2 m A := by
    refine h.sc ?_
    rw [hw2]
    exact ⟨⟨Nat.le_refl _, rfl⟩, fun q hq => ⟨rfl, fun _ _ => ⟨rfl, rfl⟩, fun hp => ⟨funext fun j => if_neg (fun e => hp (by unfold mP; omega)), rfl, rfl⟩⟩⟩
  clear hw2
  rw [h2.sh.pF]
  have hf3 : fr (mQ m) w (sF w2 m 407 0) := hf2.sF (fun _ => by unfold mQ; omega)
  have h3 : MM (sF w2 m 407 0) m A := h2.sc ((fr.refl _ _).sF (fun _ => by unfold mP; omega))
  have h34 : wI (sF w2 m 407 0) (m + 4) = mvN (aN A) (wI w (m + 4)) := h24
  have e37 : wF (sF w2 m 407 0) m 407 = Int32.ofNat 0 := by rw [wF_sF, if_pos ⟨rfl, rfl⟩]; rfl
  generalize sF w2 m 407 0 = w3 at *
  have h3' : MM w3 m (zN A (aN A)) := by rw [zN_a]; exact h3
  have key := m_islL hT hz rfl (k := k) (w0 := w) 64 FU 0 0 (aN A) w3 (by unfold FU; omega) (by omega) (by omega) (by omega) h3' hN (fun _ _ => rfl) h34 hf3 hk
  rw [zN_a] at key
  exact ⟨by rw [h3.sh.ob]; trivial, m_stat h3 hN hT (by omega) e37 key⟩
end MIS
