section MSF3
variable {w : Wd} {m : Nat} {A : Ab}
theorem m_safe (h : MM w m A) (hN : okN (aN A)) (p cell what at' : Int32) {k : Int32 → Wd → Prop} (hk : mR w m (F_safe A p cell what at').2 (k (F_safe A p cell what at').1)) : wp_X4_safe w m p cell what at' k := by
  unfold wp_X4_safe
  unfold F_safe at hk
  refine ⟨by rw [h.sh.ob]; trivial, ?_⟩
  rw [m_isPerson h hN]
  by_cases c1 : isP (aN A) p
  · rw [if_pos c1, if_neg (by decide)]
    refine ⟨by rw [h.sh.ob]; trivial, ?_⟩
    rw [m_isCell h]
    by_cases c2 : isC (aN A 90) cell
    · rw [if_pos c2, if_neg (by decide)]
      simp only [m_isIn, lg_lit, ie_m6_m5, ie_m6_m4, ie_m6_m3, ie_m6_m2, ie_m6_m1, ie_m6_0, ie_m6_1, ie_m6_2, ie_m6_3, ie_m6_4, ie_m6_5, ie_m6_6, ie_m5_m6, ie_m5_m4, ie_m5_m3, ie_m5_m2, ie_m5_m1, ie_m5_0, ie_m5_1, ie_m5_2, ie_m5_3, ie_m5_4, ie_m5_5, ie_m5_6, ie_m4_m6, ie_m4_m5, ie_m4_m3, ie_m4_m2, ie_m4_m1, ie_m4_0, ie_m4_1, ie_m4_2, ie_m4_3, ie_m4_4, ie_m4_5, ie_m4_6, ie_m3_m6, ie_m3_m5, ie_m3_m4, ie_m3_m2, ie_m3_m1, ie_m3_0, ie_m3_1, ie_m3_2, ie_m3_3, ie_m3_4, ie_m3_5, ie_m3_6, ie_m2_m6, ie_m2_m5, ie_m2_m4, ie_m2_m3, ie_m2_m1, ie_m2_0, ie_m2_1, ie_m2_2, ie_m2_3, ie_m2_4, ie_m2_5, ie_m2_6, ie_m1_m6, ie_m1_m5, ie_m1_m4, ie_m1_m3, ie_m1_m2, ie_m1_0, ie_m1_1, ie_m1_2, ie_m1_3, ie_m1_4, ie_m1_5, ie_m1_6, ie_0_m6, ie_0_m5, ie_0_m4, ie_0_m3, ie_0_m2, ie_0_m1, ie_0_1, ie_0_2, ie_0_3, ie_0_4, ie_0_5, ie_0_6, ie_1_m6, ie_1_m5, ie_1_m4, ie_1_m3, ie_1_m2, ie_1_m1, ie_1_0, ie_1_2, ie_1_3, ie_1_4, ie_1_5, ie_1_6, ie_2_m6, ie_2_m5, ie_2_m4, ie_2_m3, ie_2_m2, ie_2_m1, ie_2_0, ie_2_1, ie_2_3, ie_2_4, ie_2_5, ie_2_6, ie_3_m6, ie_3_m5, ie_3_m4, ie_3_m3, ie_3_m2, ie_3_m1, ie_3_0, ie_3_1, ie_3_2, ie_3_4, ie_3_5, ie_3_6, ie_4_m6, ie_4_m5, ie_4_m4, ie_4_m3, ie_4_m2, ie_4_m1, ie_4_0, ie_4_1, ie_4_2, ie_4_3, ie_4_5, ie_4_6, ie_5_m6, ie_5_m5, ie_5_m4, ie_5_m3, ie_5_m2, ie_5_m1, ie_5_0, ie_5_1, ie_5_2, ie_5_3, ie_5_4, ie_5_6, ie_6_m6, ie_6_m5, ie_6_m4, ie_6_m3, ie_6_m2, ie_6_m1, ie_6_0, ie_6_1, ie_6_2, ie_6_3, ie_6_4, ie_6_5, Int32.reduceToInt, Int64.reduceToInt, Int.reduceToNat, Int32.reduceAdd, Int32.reduceSub, Int32.reduceMul, Int32.reduceDiv, Int32.reduceLT, Int32.reduceLE, Int.reduceLE, Int.reduceLT, Int.reduceNeg, Int.reduceAdd, Int.reduceSub, Int.reduceMul, Int.reduceEq, Nat.reduceAdd, Nat.reduceMul, Nat.reduceLT, Nat.reduceEqDiff, true_and, and_true, and_self, false_and, and_false, if_true, if_false, ite_true, ite_false, ↓reduceIte, not_true_eq_false, not_false_eq_true, true_or, or_true, or_false, false_or, Int.cast_ofNat_Int, Int.reduceNatCast]
      by_cases c3 : 0 ≤ what.toInt ∧ what.toInt ≤ 1
      · rw [if_pos c3]
        by_cases c4 : -1 ≤ at'.toInt
        · rw [if_pos (by rw [i_le, i_m1]; exact c4)]
          rw [if_pos ⟨c1, c2, c3, c4⟩] at hk
          have hw : what = 0 ∨ what = 1 := by
            rcases (show what.toInt = 0 ∨ what.toInt = 1 by omega) with e | e
            · exact Or.inl (Int32.toInt_inj.1 e)
            · exact Or.inr (Int32.toInt_inj.1 e)
          have key : ∀ d fu n w2, n + d = 7 → d < fu → MM w2 m A → mR w2 m (safA A at' (fstW (safP (aN A) p.toInt.toNat cell what) d n)).2 (k (safA A at' (fstW (safP (aN A) p.toInt.toNat cell what) d n)).1) → wl_X4_safe_45 k fu w2 m p cell what at' (Int32.ofNat (3 ^ n)) (Int32.ofNat n) := by
            intro d
            induction d with
            | zero =>
              intro fu n w2 hn hfu h2 he
              obtain ⟨fu, rfl⟩ : ∃ g, fu = g + 1 := ⟨fu - 1, by omega⟩
              obtain rfl : n = 7 := by omega
              rw [wl_X4_safe_45_s]
              unfold wb_X4_safe_45
              rw [if_pos (by decide)]
              unfold fstW safA at he
              dsimp only at he
              by_cases e : at' = -1
              · rw [if_pos e] at he ⊢
                exact he.self h2
              · rw [if_neg e] at he ⊢
                exact ⟨by rw [h2.sh.ob]; trivial, m_refuse h2 (by decide) he⟩
            | succ d ih =>
              intro fu n w2 hn hfu h2 he
              obtain ⟨fu, rfl⟩ : ∃ g, fu = g + 1 := ⟨fu - 1, by omega⟩
              rw [wl_X4_safe_45_s]
              unfold wb_X4_safe_45
              rw [if_neg (by rw [i_lt, i_ti (by omega)]; show ¬ (6 : Int) < n; omega)]
              refine m_safe55 h2 hN c1 hw c4 (show n ≤ 6 by omega) (r := fstW (safP (aN A) p.toInt.toNat cell what) d (n + 1)) he (fun w3 h3 hf3 hr => ?_)
              rw [← Nat.pow_succ]
              refine ih fu (n + 1) w3 (by omega) (by omega) h3 (fun w' a b => hr w' a (hf3.trans b))
          exact key 7 FU 0 w (by omega) (by unfold FU; omega) h hk
        · rw [if_neg (by rw [i_le, i_m1]; exact c4)]
          rw [if_neg (fun q => c4 q.2.2.2)] at hk
          exact ⟨by rw [h.sh.ob]; trivial, m_refuse h (by decide) hk⟩
      · rw [if_neg c3]
        rw [if_neg (fun q => c3 q.2.2.1)] at hk
        exact ⟨by rw [h.sh.ob]; trivial, m_refuse h (by decide) hk⟩
    · rw [if_neg c2, if_pos rfl]
      rw [if_neg (fun q => c2 q.2.1)] at hk
      exact ⟨by rw [h.sh.ob]; trivial, m_refuse h (by decide) hk⟩
  · rw [if_neg c1, if_pos rfl]
    rw [if_neg (fun q => c1 q.1)] at hk
    exact ⟨by rw [h.sh.ob]; trivial, m_refuse h (by decide) hk⟩
end MSF3
