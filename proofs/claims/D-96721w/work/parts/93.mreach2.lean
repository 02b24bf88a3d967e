/-! ===== reach, of the reference ===== -/
/-- word c of n signs ends in the cell kept at place k, not fallen -/
abbrev hitP (N : Nw) (p : Nat) (k n c : Nat) : Prop := uL (brW N p (N 91) (wrdN c n) n) = -1 ∧ pat (uC (brW N p (N 91) (wrdN c n) n)) = 40 + k
def hitB (N : Nw) (p : Nat) (k n : Nat) : Nat → Bool
  | 0 => false
  | c + 1 => hitB N p k n c || decide (hitP N p k n c)
def hitL (N : Nw) (p : Nat) (k : Nat) : Nat → Bool
  | 0 => false
  | n + 1 => hitL N p k n || hitB N p k n (3 ^ n)
def rchF (N : Nw) (p len : Nat) : Int32 := foldP (fun k a => a + (if hitL N p k (len + 1) then 1 else 0)) 0 49
def F_reach (A : Ab) (p len : Int32) : Int32 × Ab := if isP (aN A) p ∧ 0 ≤ len.toInt ∧ len.toInt ≤ 6 then (rchF (aN A) p.toInt.toNat len.toInt.toNat, A) else rf A (-2)
