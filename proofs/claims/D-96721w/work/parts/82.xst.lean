/-! ===== status, of the class ===== -/
theorem bc_row {a : Nat} (ha : a < 128) : wp_bc (rowA a) = Int32.ofNat (a / 2 ^ 0 % 2) + Int32.ofNat (a / 2 ^ 1 % 2) + Int32.ofNat (a / 2 ^ 2 % 2) + Int32.ofNat (a / 2 ^ 3 % 2) + Int32.ofNat (a / 2 ^ 4 % 2) + Int32.ofNat (a / 2 ^ 5 % 2) + Int32.ofNat (a / 2 ^ 6 % 2) := (show ∀ a : Fin 128, wp_bc (rowA a.val) = Int32.ofNat (a.val / 2 ^ 0 % 2) + Int32.ofNat (a.val / 2 ^ 1 % 2) + Int32.ofNat (a.val / 2 ^ 2 % 2) + Int32.ofNat (a.val / 2 ^ 3 % 2) + Int32.ofNat (a.val / 2 ^ 4 % 2) + Int32.ofNat (a.val / 2 ^ 5 % 2) + Int32.ofNat (a.val / 2 ^ 6 % 2) by decide +kernel) ⟨a, ha⟩
def psum (N : Nw) (r : Nat) : Int32 := foldP (fun k a => a + N (40 + k)) 0 (7 * r)
theorem psum_s {N : Nw} (hN : okN N) {r : Nat} (hr : r < 7) : psum N (r + 1) = psum N r + wp_bc (row7 N r) := by
  obtain ⟨a, ha, e1, e2⟩ := row7_a (okN_bits hN hr)
  rw [e1, bc_row ha, ← e2 0 (by decide), ← e2 1 (by decide), ← e2 2 (by decide), ← e2 3 (by decide), ← e2 4 (by decide), ← e2 5 (by decide), ← e2 6 (by decide)]
  show ((((((psum N r + N (40 + 7 * r)) + N (40 + (7 * r + 1))) + N (40 + (7 * r + 2))) + N (40 + (7 * r + 3))) + N (40 + (7 * r + 4))) + N (40 + (7 * r + 5))) + N (40 + (7 * r + 6)) = _
  simp only [← Nat.add_assoc, Nat.add_zero]
  ac_rfl
section XST
variable {w w' : Wd} {b i : Nat} {o : Option Nat} {A : Ab}
theorem x_manyPonds (h : XX w b i o A) (hN : okN (aN A)) {k : Int32 → Wd → Prop} (hk : k (psum (aN A) 7) w) : wp_X1_manyPonds w i k := by
  unfold wp_X1_manyPonds
  rw [h.is.G100]
  show (match wT w (i + 1) with
    | some t => t.1 < 20 ∧ wl_X1_manyPonds_13 k FU w 0 (some (i + 1)) (Int32.ofNat t.2.1) 0
    | none => False)
  rw [h.is.t1]
  refine ⟨(by decide : 0 < 20), ?_⟩
  refine loopN (n := 7) (I := fun j w2 => w2 = w) (L := fun fu j w2 => wl_X1_manyPonds_13 k fu w2 (psum (aN A) j) (some (i + 1)) 7 (Int32.ofNat j)) ?_ ?_ 7 FU 0 w (by omega) (by unfold FU; omega) rfl
  · rintro fu j w2 hj rfl ih
    have hv : vp_in (Int32.ofNat j) 7 := vp_iff.2 (by rw [i_ti (by omega)]; omega)
    rw [wl_X1_manyPonds_13_s]
    unfold wb_X1_manyPonds_13
    rw [if_neg (by rw [i_le, i_ti (by omega)]; show ¬ (7 : Int) ≤ j; omega), h.is.r1, i_tt (by omega), h.is.po j hj, i_ofS]
    have := ih _ rfl
    rw [psum_s hN hj] at this
    exact ⟨hv, this⟩
  · rintro fu w2 rfl
    rw [wl_X1_manyPonds_13_s]
    unfold wb_X1_manyPonds_13
    rw [if_pos (by decide)]
    exact hk
theorem x_shelved (h : XX w b i o A) (hN : okN (aN A)) {k : Int32 → Wd → Prop} (hk : k (foldP (fun s a => a + (if aH A s = -1 then 0 else 1)) 0 8) w) : wp_X0_shelved w b k := by
  have h8 := hN.pe8
  unfold wp_X0_shelved
  refine loopN (n := 8) (I := fun j w2 => w2 = w) (L := fun fu j w2 => wl_X0_shelved_4 k fu w2 b (foldP (fun s a => a + (if aH A s = -1 then 0 else 1)) 0 j) (Int32.ofNat j)) ?_ ?_ 8 FU 0 w (by omega) (by unfold FU; omega) rfl
  · rintro fu j w2 hj rfl ih
    have hs : isS (Int32.ofNat j) := ⟨by rw [i_ti (by omega)]; omega, by rw [i_ti (by omega)]; omega⟩
    have hv : vp_in (Int32.ofNat j) 8 := vp_iff.2 (by rw [i_ti (by omega)]; omega)
    rw [wl_X0_shelved_4_s]
    unfold wb_X0_shelved_4
    rw [if_neg (by rw [i_le, i_ti (by omega)]; show ¬ (8 : Int) ≤ j; omega), h.sh.G8, x_shG h hs, i_tt (by omega), x_held h hj, i_ofS]
    have ih' := ih _ rfl
    simp only [foldP] at ih'
    rcases h.sf j hj with ⟨a1, a2⟩ | ⟨v, p, a1, a2, a3, a4⟩ | ⟨q, a1, a2⟩
    · rw [a1, if_pos rfl]
      rwa [if_pos a2] at ih'
    · rw [a1, if_neg (by simp)]
      rwa [if_neg (by rw [a4, i_eq, i_ti (by omega), i_m1]; omega)] at ih'
    · rw [a1, if_neg (by simp)]
      rwa [if_neg (fun e => by have := a2.2.1; rw [e] at this; exact absurd this.1 (by decide))] at ih'
  · rintro fu w2 rfl
    rw [wl_X0_shelved_4_s]
    unfold wb_X0_shelved_4
    rw [if_pos (by decide)]
    exact hk
theorem x_status (h : XX w b i o A) (hN : okN (aN A)) (x : Int32) {k : Int32 → Wd → Prop} (hk : k (F_status A x) w) : wp_X0_status w b x k := by
  unfold wp_X0_status
  unfold F_status at hk
  simp only [x_isIn, show (12 : Int32).toInt = 12 from rfl, show (16 : Int32).toInt = 16 from rfl]
  by_cases c : 12 ≤ x.toInt ∧ x.toInt ≤ 16
  · rw [if_pos c] at hk ⊢
    rw [if_neg (by decide)]
    have e1 : (x - 10).toInt = x.toInt - 10 := by rw [i_sub (by show _ ≤ x.toInt - 10 ∧ x.toInt - 10 < _; omega)]; rfl
    have hv : vp_in (x - 10) 7 := vp_iff.2 (by omega)
    rw [h.sh.G11, h.sh.r16, h.R _ (by omega), show (x - 10).toInt.toNat = x.toInt.toNat - 10 by omega]
    exact ⟨hv, hk⟩
  · rw [if_neg c] at hk ⊢
    rw [if_pos trivial]
    have v0 : vp_in 0 3 := vp_iff.2 (by decide)
    have v1 : vp_in 1 3 := vp_iff.2 (by decide)
    have v2 : vp_in 2 3 := vp_iff.2 (by decide)
    by_cases c0 : x = 0
    · rw [if_pos c0] at hk ⊢
      rw [h.G0, h.is.F107]; exact hk
    · rw [if_neg c0] at hk ⊢
      by_cases c1 : x = 1
      · rw [if_pos c1] at hk ⊢
        rw [h.G0, h.is.F106]; exact hk
      · rw [if_neg c1] at hk ⊢
        by_cases c2 : x = 2
        · rw [if_pos c2] at hk ⊢
          rw [h.G0, h.is.G105, c2, h.is.r6]
          exact ⟨v0, by rw [show ((2 : Int32) - 2).toInt.toNat = 0 from rfl, h.is.o0]; exact hk⟩
        · rw [if_neg c2] at hk ⊢
          by_cases c3 : x = 3
          · rw [if_pos c3] at hk ⊢
            rw [h.G0, h.is.G105, c3, h.is.r6]
            exact ⟨v1, by rw [show ((3 : Int32) - 2).toInt.toNat = 1 from rfl, h.is.o1]; exact hk⟩
          · rw [if_neg c3] at hk ⊢
            by_cases c4 : x = 4
            · rw [if_pos c4] at hk ⊢
              rw [h.G0, h.is.G105, c4, h.is.r6]
              exact ⟨v2, by rw [show ((4 : Int32) - 2).toInt.toNat = 2 from rfl, h.is.o2]; exact hk⟩
            · rw [if_neg c4] at hk ⊢
              by_cases c5 : x = 5
              · rw [if_pos c5] at hk ⊢
                rw [h.G0]
                show wob w i [21] ∧ _
                exact ⟨by rw [h.is.ob]; trivial, x_manyPonds h hN hk⟩
              · rw [if_neg c5] at hk ⊢
                by_cases c6 : x = 6
                · rw [if_pos c6] at hk ⊢
                  rw [h.G0, h.is.F108]; exact hk
                · rw [if_neg c6] at hk ⊢
                  by_cases c7 : x = 7
                  · rw [if_pos c7] at hk ⊢
                    rw [h.G0, h.is.F109]; exact hk
                  · rw [if_neg c7] at hk ⊢
                    by_cases d8 : x = 8
                    · rw [if_pos d8] at hk ⊢
                      rw [h.sh.gF, h.Z]; exact hk
                    · rw [if_neg d8] at hk ⊢
                      by_cases d9 : x = 9
                      · rw [if_pos d9] at hk ⊢
                        rw [h.G0, h.is.F110]; exact hk
                      · rw [if_neg d9] at hk ⊢
                        by_cases d10 : x = 10
                        · rw [if_pos d10] at hk ⊢
                          exact ⟨by rw [h.sh.ob]; trivial, x_shelved h hN hk⟩
                        · rw [if_neg d10] at hk ⊢
                          exact hk
end XST
