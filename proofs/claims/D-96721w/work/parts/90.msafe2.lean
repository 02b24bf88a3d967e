section MSF2
variable {w : Wd} {m : Nat} {A : Ab}
theorem m_safe55 (h : MM w m A) (hN : okN (aN A)) {p : Int32} (hp : isP (aN A) p) {cell what at' : Int32} (hw : what = 0 ∨ what = 1) (hat : -1 ≤ at'.toInt) {n : Nat} (hn : n ≤ 6) {k : Int32 → Wd → Prop} {L45 : Wd → Nat → Int32 → Int32 → Int32 → Int32 → Int32 → Int32 → Prop} {r : Option (Nat × Nat)} (hk : mR w m (safA A at' (match fstO (safP (aN A) p.toInt.toNat cell what n) (3 ^ n) 0 with | some c => some (n, c) | none => r)).2 (k (safA A at' (match fstO (safP (aN A) p.toInt.toNat cell what n) (3 ^ n) 0 with | some c => some (n, c) | none => r)).1)) (hL : ∀ w', MM w' m A → fr (mQ m) w w' → mR w m (safA A at' r).2 (k (safA A at' r).1) → L45 w' m p cell what at' (Int32.ofNat (3 ^ n * 3)) (Int32.ofNat (n + 1))) : wl_X4_safe_55 k L45 FU w m p cell what at' (Int32.ofNat (3 ^ n)) (Int32.ofNat n) 0 := by
  have hpw := pow3 hn
  have hlf : aN A 91 = 0 ∨ aN A 91 = 1 := hN.2.2.1
  have hlf' : 1 - aN A 91 = 0 ∨ 1 - aN A 91 = 1 := by rcases hlf with e | e <;> rw [e] <;> decide
  have key : ∀ d fu c w2, c + d = 3 ^ n → d < fu → MM w2 m A → fr (mQ m) w w2 → mR w m (safA A at' (match fstO (safP (aN A) p.toInt.toNat cell what n) d c with | some c => some (n, c) | none => r)).2 (k (safA A at' (match fstO (safP (aN A) p.toInt.toNat cell what n) d c with | some c => some (n, c) | none => r)).1) → wl_X4_safe_55 k L45 fu w2 m p cell what at' (Int32.ofNat (3 ^ n)) (Int32.ofNat n) (Int32.ofNat c) := by
    intro d
    induction d with
    | zero =>
      intro fu c w2 hc hfu h2 hf2 he
      obtain ⟨fu, rfl⟩ : ∃ g, fu = g + 1 := ⟨fu - 1, by omega⟩
      rw [wl_X4_safe_55_s]
      unfold wb_X4_safe_55
      rw [if_pos (by rw [i_le, i_ti (by omega), i_ti (by omega)]; omega), i_ofS, show Int32.ofNat (3 ^ n) * 3 = Int32.ofNat (3 ^ n * 3) from (Int32.ofNat_mul _ _).symm]
      exact hL w2 h2 hf2 he
    | succ d ih =>
      intro fu c w2 hc hfu h2 hf2 he
      obtain ⟨fu, rfl⟩ : ∃ g, fu = g + 1 := ⟨fu - 1, by omega⟩
      rw [wl_X4_safe_55_s]
      unfold wb_X4_safe_55
      rw [if_neg (by rw [i_le, i_ti (by omega), i_ti (by omega)]; omega)]
      refine ⟨by rw [h2.sh.ob]; trivial, m_spell h2 hn (by omega) (fun w3 hf3 hT3 => ?_)⟩
      have h3 := h2.sc (mPt_P hf3)
      have hf03 := hf2.trans (mPt_Q hf3)
      simp only [h3.sh.G401, h3.sh.r2, h3.N, v91, true_and, show (91 : Int32).toInt.toNat = 91 from rfl]
      have next : ¬ safP (aN A) p.toInt.toNat cell what n c → ∀ w4, MM w4 m A → fr (mQ m) w w4 → wl_X4_safe_55 k L45 fu w4 m p cell what at' (Int32.ofNat (3 ^ n)) (Int32.ofNat n) (Int32.ofNat c + 1) := by
        intro hno w4 h4 hf4
        rw [i_ofS]
        refine ih fu (c + 1) w4 (by omega) (by omega) h4 hf4 ?_
        unfold fstO at he
        rwa [if_neg hno] at he
      have found : safP (aN A) p.toInt.toNat cell what n c → ∀ w4, MM w4 m A → fr (mQ m) w w4 → (∀ j < n, wI w4 (m + 13) j = wrdN c n j) → wb_X4_safe_113 k w4 m at' (Int32.ofNat n) := by
        intro hyes w4 h4 hf4 hT4
        refine m_safe113 h4 hat hn hT4 (fun w5 h5 hf5 => ?_)
        unfold fstO at he
        rw [if_pos hyes] at he
        exact he w5 h5 (hf4.trans hf5)
      refine ⟨by rw [h3.sh.ob]; trivial, m_brings h3 hN hp (by omega) hT3 (fun j _ => wrdN_c c n j) cell hlf (fun w4 h4 hf4 hT4 => ?_)⟩
      have hf04 := hf03.trans hf4
      by_cases c1 : brgP (aN A) p.toInt.toNat (aN A 91) (wrdN c n) n cell
      · rw [if_pos c1, if_neg (by decide)]
        by_cases c2 : what = 1
        · rw [if_pos c2]
          exact found ⟨c1, Or.inl c2⟩ w4 h4 hf04 hT4
        · rw [if_neg c2]
          simp only [h4.sh.G401, h4.sh.r2, h4.N, v91, true_and, show (91 : Int32).toInt.toNat = 91 from rfl]
          refine ⟨by rw [h4.sh.ob]; trivial, m_brings h4 hN hp (by omega) hT4 (fun j _ => wrdN_c c n j) cell hlf' (fun w5 h5 hf5 hT5 => ?_)⟩
          by_cases c3 : brgP (aN A) p.toInt.toNat (1 - aN A 91) (wrdN c n) n cell
          · rw [if_pos c3, if_neg (by decide)]
            exact found ⟨c1, Or.inr c3⟩ w5 h5 (hf04.trans hf5) hT5
          · rw [if_neg c3, if_pos rfl]
            exact next (fun q => q.2.elim c2 c3) w5 h5 (hf04.trans hf5)
      · rw [if_neg c1, if_pos rfl]
        exact next (fun q => c1 q.1) w4 h4 hf04
  exact key (3 ^ n) FU 0 w (by omega) (by unfold FU; omega) h (fr.refl _ _) hk
end MSF2
