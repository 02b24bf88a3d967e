/-! ===== words spelt, of the reference ===== -/
/-- the k-th sign of word number c of n signs -/
def wrdN (c n : Nat) : Nat → Int32 := fun k => Int32.ofNat (c / 3 ^ (n - 1 - k) % 3)
theorem wrdN_c (c n k : Nat) : wrdN c n k = 0 ∨ wrdN c n k = 1 ∨ wrdN c n k = 2 ∨ wrdN c n k = 3 := by
  unfold wrdN
  have : c / 3 ^ (n - 1 - k) % 3 < 3 := Nat.mod_lt _ (by decide)
  rcases (show c / 3 ^ (n - 1 - k) % 3 = 0 ∨ c / 3 ^ (n - 1 - k) % 3 = 1 ∨ c / 3 ^ (n - 1 - k) % 3 = 2 by omega) with e | e | e <;> rw [e]
  · exact Or.inl rfl
  · exact Or.inr (Or.inl rfl)
  · exact Or.inr (Or.inr (Or.inl rfl))
section MSP
variable {w : Wd} {m : Nat} {A : Ab}
theorem i_d3 {a : Nat} (ha : a < 1000) : Int32.ofNat a / 3 = Int32.ofNat (a / 3) := by
  have e3 : (3 : Int32).toInt = 3 := rfl
  rw [i_eq, i_dv (by rw [i_ti (by omega)]; omega) (by rw [e3]; decide), i_ti (by omega), i_ti (by omega), e3]
  omega
theorem m_spell (h : MM w m A) {c n : Nat} (hn : n ≤ 6) (hc : c < 1000) {k : Wd → Prop} (hk : ∀ w', fr (mPt m) w w' → (∀ j, j < n → wI w' (m + 13) j = wrdN c n j) → k w') : wp_X4_spell w m (Int32.ofNat c) (Int32.ofNat n) k := by
  have hz := h.sh.z
  unfold wp_X4_spell
  have key : ∀ d fu t w2 (x : Int32), t + d = n → d < fu → x.toInt = (n : Int) - 1 - t → fr (mPt m) w w2 → (∀ j, n - t ≤ j → j < n → wI w2 (m + 13) j = wrdN c n j) → wl_X4_spell_7 k fu w2 m (Int32.ofNat (c / 3 ^ t)) x := by
    intro d
    induction d with
    | zero =>
      intro fu t w2 x ht hfu hx hf he
      obtain ⟨fu, rfl⟩ : ∃ g, fu = g + 1 := ⟨fu - 1, by omega⟩
      rw [wl_X4_spell_7_s]
      unfold wb_X4_spell_7
      rw [if_pos (by rw [i_lt, i_0]; omega)]
      exact hk w2 hf (fun j hj => he j (by omega) hj)
    | succ d ih =>
      intro fu t w2 x ht hfu hx hf he
      obtain ⟨fu, rfl⟩ : ∃ g, fu = g + 1 := ⟨fu - 1, by omega⟩
      have h2 := h.sc (mPt_P hf)
      have hv : vp_in x 40 := vp_iff.2 (by omega)
      have hct : c / 3 ^ t < 1000 := Nat.lt_of_le_of_lt (Nat.div_le_self _ _) hc
      have ex : x.toInt.toNat = n - 1 - t := by omega
      rw [wl_X4_spell_7_s]
      unfold wb_X4_spell_7
      rw [if_neg (by rw [i_lt, i_0]; omega)]
      simp only [h2.sh.G418, h2.sh.w13, hv, true_and]
      rw [i_mod hct (by decide) (by decide) (show (3 : Int32).toInt = ((3 : Nat) : Int) from rfl), i_d3 hct, Nat.div_div_eq_div_mul, ← Nat.pow_succ, ex]
      refine ih fu (t + 1) _ _ (by omega) (by omega) ?_ (hf.sI (fun _ => by unfold mPt; omega)) (fun j h1 h2 => ?_)
      · rw [i_addv hx (show (-1 : Int32).toInt = -1 from rfl) (by omega) (by omega)]
        omega
      · rw [wI_sI]
        by_cases e : j = n - 1 - t
        · rw [if_pos ⟨rfl, e⟩, e]
          unfold wrdN
          rw [show n - 1 - (n - 1 - t) = t by omega]
        · rw [if_neg (fun q => e q.2)]
          exact he j (by omega) h2
  have := key n FU 0 w (Int32.ofNat n - 1) (by omega) (by unfold FU; omega) (by rw [i_dec (by rw [i_ti (by omega)]; omega), i_ti (by omega)]; omega) (fr.refl _ _) (fun j h1 h2 => absurd h2 (by omega))
  rwa [show c / 3 ^ 0 = c by rw [Nat.pow_zero, Nat.div_one]] at this
end MSP
