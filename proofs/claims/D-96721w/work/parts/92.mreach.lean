/-! ===== where one may come: bits of a long ===== -/
def lbit (x : Int64) (k : Nat) : Int32 := ((x >>> ((Int32.ofNat k).toInt64 &&& 63)) &&& 1).toInt32
theorem lsh {k : Nat} (hk : k < 49) : (((Int32.ofNat k).toInt64 &&& 63).toBitVec.smod 64).toNat = k := (show ∀ k : Fin 49, (((Int32.ofNat k.val).toInt64 &&& 63).toBitVec.smod 64).toNat = k.val by decide +kernel) ⟨k, hk⟩
theorem lbit_l (x : Int64) {k : Nat} (hk : k < 49) : lbit x k = if x.toBitVec.getLsbD k then 1 else 0 := by
  unfold lbit
  have e : (x >>> ((Int32.ofNat k).toInt64 &&& 63)) &&& 1 = if x.toBitVec.getLsbD k then 1 else 0 := by
    apply Int64.toBitVec_inj.1
    rw [Int64.toBitVec_and, Int64.toBitVec_shiftRight]
    show x.toBitVec.sshiftRight _ &&& 1#64 = _
    rw [lsh hk, BitVec.and_one_eq_setWidth_ofBool_getLsbD, BitVec.getLsbD_sshiftRight, Nat.add_zero]
    simp only [show ¬ 64 ≤ 0 by decide, decide_false, Bool.not_false, Bool.true_and, show k < 64 by omega, if_true]
    cases x.toBitVec.getLsbD k <;> rfl
  rw [e]
  cases x.toBitVec.getLsbD k <;> rfl
def lone (k : Nat) : Int64 := (1 : Int64) <<< ((Int32.ofNat k).toInt64 &&& 63)
theorem lone_l {j k : Nat} (hj : j < 49) (hk : k < 49) : (lone j).toBitVec.getLsbD k = decide (k = j) := (show ∀ j k : Fin 49, (lone j.val).toBitVec.getLsbD k.val = decide (k.val = j.val) by decide +kernel) ⟨j, hj⟩ ⟨k, hk⟩
theorem lbit_or (x : Int64) {j k : Nat} (hj : j < 49) (hk : k < 49) : lbit (x ||| lone j) k = if lbit x k = 1 ∨ k = j then 1 else 0 := by
  rw [lbit_l _ hk, lbit_l _ hk, Int64.toBitVec_or, BitVec.getLsbD_or, lone_l hj hk]
  by_cases e : k = j
  · rw [decide_eq_true e, Bool.or_true, if_pos rfl, if_pos (Or.inr e)]
  · rw [decide_eq_false e, Bool.or_false]
    cases x.toBitVec.getLsbD k
    · rw [if_neg (by decide), if_neg (fun q => q.elim (fun q => absurd q (by decide)) e)]
    · rw [if_pos rfl, if_pos (Or.inl rfl)]
