/-! ===== safe, of the reference ===== -/
/-- the first c of j .. j + d - 1 -/
def fstO (Q : Nat → Prop) [DecidablePred Q] : Nat → Nat → Option Nat
  | 0, _ => none
  | d + 1, j => if Q j then some j else fstO Q d (j + 1)
/-- the first word: its signs, and its number -/
def fstW (Q : Nat → Nat → Prop) [∀ n, DecidablePred (Q n)] : Nat → Nat → Option (Nat × Nat)
  | 0, _ => none
  | d + 1, n => match fstO (Q n) (3 ^ n) 0 with
    | some c => some (n, c)
    | none => fstW Q d (n + 1)
abbrev safP (N : Nw) (p : Nat) (cell what : Int32) (n c : Nat) : Prop := brgP N p (N 91) (wrdN c n) n cell ∧ (what = 1 ∨ brgP N p (1 - N 91) (wrdN c n) n cell)
/-- what is answered of a word found -/
def safA (A : Ab) (at' : Int32) (r : Option (Nat × Nat)) : Int32 × Ab := match r with
  | none => if at' = -1 then (-1, A) else rf A (-5)
  | some (n, c) => if at' = -1 then (Int32.ofNat n, A) else if (n : Int) ≤ at'.toInt then rf A (-5) else (wrdN c n at'.toInt.toNat, A)
def F_safe (A : Ab) (p cell what at' : Int32) : Int32 × Ab := if isP (aN A) p ∧ isC (aN A 90) cell ∧ (0 ≤ what.toInt ∧ what.toInt ≤ 1) ∧ -1 ≤ at'.toInt then safA A at' (fstW (safP (aN A) p.toInt.toNat cell what) 7 0) else rf A (-2)
section MSF
variable {w : Wd} {m : Nat} {A : Ab}
theorem pow3 {n : Nat} (hn : n ≤ 6) : 3 ^ n ≤ 729 ∧ 0 < 3 ^ n := ⟨Nat.le_trans (Nat.pow_le_pow_right (by decide) hn) (by decide), Nat.pow_pos (by decide)⟩
theorem m_safe113 (h : MM w m A) {at' : Int32} (hat : -1 ≤ at'.toInt) {n c : Nat} (hn : n ≤ 6) (hT : ∀ j, j < n → wI w (m + 13) j = wrdN c n j) {k : Int32 → Wd → Prop} (hk : mR w m (safA A at' (some (n, c))).2 (k (safA A at' (some (n, c))).1)) : wb_X4_safe_113 k w m at' (Int32.ofNat n) := by
  unfold wb_X4_safe_113
  unfold safA at hk
  dsimp only at hk
  by_cases e : at' = -1
  · rw [if_pos e] at hk ⊢
    exact hk.self h
  · rw [if_neg e] at hk ⊢
    have e' : ¬ at'.toInt = -1 := fun q => e (by rw [i_eq]; exact q)
    by_cases c1 : (n : Int) ≤ at'.toInt
    · rw [if_pos c1] at hk
      rw [if_pos (by rw [i_le, i_ti (by omega)]; exact c1)]
      exact ⟨by rw [h.sh.ob]; trivial, m_refuse h (by decide) hk⟩
    · rw [if_neg c1] at hk
      rw [if_neg (by rw [i_le, i_ti (by omega)]; exact c1)]
      have hv : vp_in at' 40 := vp_iff.2 (by omega)
      simp only [h.sh.G418, h.sh.r13, hv, true_and, hT at'.toInt.toNat (by omega)]
      exact hk.self h
end MSF
