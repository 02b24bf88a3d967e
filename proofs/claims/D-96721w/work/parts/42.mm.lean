/-! ===== the reference in a world (printed by prog/gen_mm.py) ===== -/
/-- what the law sees: now, kept, tape, refused, holds, sizes, elements; whether an image is kept, the size of the tape -/
abbrev Ab : Type := Nw × Nw × Nw × Nw × Nw × Nw × (Nat → Int64) × Int32 × Int32
def aN (A : Ab) : Nw := A.1
def aK (A : Ab) : Nw := A.2.1
def aT (A : Ab) : Nw := A.2.2.1
def aR (A : Ab) : Nw := A.2.2.2.1
def aH (A : Ab) : Nw := A.2.2.2.2.1
def aS (A : Ab) : Nw := A.2.2.2.2.2.1
def aE (A : Ab) : (Nat → Int64) := A.2.2.2.2.2.2.1
def aX (A : Ab) : Int32 := A.2.2.2.2.2.2.2.1
def aZ (A : Ab) : Int32 := A.2.2.2.2.2.2.2.2
def zN (A : Ab) (v : Nw) : Ab := (v, aK A, aT A, aR A, aH A, aS A, aE A, aX A, aZ A)
def zK (A : Ab) (v : Nw) : Ab := (aN A, v, aT A, aR A, aH A, aS A, aE A, aX A, aZ A)
def zT (A : Ab) (v : Nw) : Ab := (aN A, aK A, v, aR A, aH A, aS A, aE A, aX A, aZ A)
def zR (A : Ab) (v : Nw) : Ab := (aN A, aK A, aT A, v, aH A, aS A, aE A, aX A, aZ A)
def zH (A : Ab) (v : Nw) : Ab := (aN A, aK A, aT A, aR A, v, aS A, aE A, aX A, aZ A)
def zS (A : Ab) (v : Nw) : Ab := (aN A, aK A, aT A, aR A, aH A, v, aE A, aX A, aZ A)
def zE (A : Ab) (v : (Nat → Int64)) : Ab := (aN A, aK A, aT A, aR A, aH A, aS A, v, aX A, aZ A)
def zX (A : Ab) (v : Int32) : Ab := (aN A, aK A, aT A, aR A, aH A, aS A, aE A, v, aZ A)
def zZ (A : Ab) (v : Int32) : Ab := (aN A, aK A, aT A, aR A, aH A, aS A, aE A, aX A, v)
theorem aN_zN (A : Ab) (v : Nw) : aN (zN A v) = v := rfl
theorem aK_zN (A : Ab) (v : Nw) : aK (zN A v) = aK A := rfl
theorem aT_zN (A : Ab) (v : Nw) : aT (zN A v) = aT A := rfl
theorem aR_zN (A : Ab) (v : Nw) : aR (zN A v) = aR A := rfl
theorem aH_zN (A : Ab) (v : Nw) : aH (zN A v) = aH A := rfl
theorem aS_zN (A : Ab) (v : Nw) : aS (zN A v) = aS A := rfl
theorem aE_zN (A : Ab) (v : Nw) : aE (zN A v) = aE A := rfl
theorem aX_zN (A : Ab) (v : Nw) : aX (zN A v) = aX A := rfl
theorem aZ_zN (A : Ab) (v : Nw) : aZ (zN A v) = aZ A := rfl
theorem aN_zK (A : Ab) (v : Nw) : aN (zK A v) = aN A := rfl
theorem aK_zK (A : Ab) (v : Nw) : aK (zK A v) = v := rfl
theorem aT_zK (A : Ab) (v : Nw) : aT (zK A v) = aT A := rfl
theorem aR_zK (A : Ab) (v : Nw) : aR (zK A v) = aR A := rfl
theorem aH_zK (A : Ab) (v : Nw) : aH (zK A v) = aH A := rfl
theorem aS_zK (A : Ab) (v : Nw) : aS (zK A v) = aS A := rfl
theorem aE_zK (A : Ab) (v : Nw) : aE (zK A v) = aE A := rfl
theorem aX_zK (A : Ab) (v : Nw) : aX (zK A v) = aX A := rfl
theorem aZ_zK (A : Ab) (v : Nw) : aZ (zK A v) = aZ A := rfl
theorem aN_zT (A : Ab) (v : Nw) : aN (zT A v) = aN A := rfl
theorem aK_zT (A : Ab) (v : Nw) : aK (zT A v) = aK A := rfl
theorem aT_zT (A : Ab) (v : Nw) : aT (zT A v) = v := rfl
theorem aR_zT (A : Ab) (v : Nw) : aR (zT A v) = aR A := rfl
theorem aH_zT (A : Ab) (v : Nw) : aH (zT A v) = aH A := rfl
theorem aS_zT (A : Ab) (v : Nw) : aS (zT A v) = aS A := rfl
theorem aE_zT (A : Ab) (v : Nw) : aE (zT A v) = aE A := rfl
theorem aX_zT (A : Ab) (v : Nw) : aX (zT A v) = aX A := rfl
theorem aZ_zT (A : Ab) (v : Nw) : aZ (zT A v) = aZ A := rfl
theorem aN_zR (A : Ab) (v : Nw) : aN (zR A v) = aN A := rfl
theorem aK_zR (A : Ab) (v : Nw) : aK (zR A v) = aK A := rfl
theorem aT_zR (A : Ab) (v : Nw) : aT (zR A v) = aT A := rfl
theorem aR_zR (A : Ab) (v : Nw) : aR (zR A v) = v := rfl
theorem aH_zR (A : Ab) (v : Nw) : aH (zR A v) = aH A := rfl
theorem aS_zR (A : Ab) (v : Nw) : aS (zR A v) = aS A := rfl
theorem aE_zR (A : Ab) (v : Nw) : aE (zR A v) = aE A := rfl
theorem aX_zR (A : Ab) (v : Nw) : aX (zR A v) = aX A := rfl
theorem aZ_zR (A : Ab) (v : Nw) : aZ (zR A v) = aZ A := rfl
theorem aN_zH (A : Ab) (v : Nw) : aN (zH A v) = aN A := rfl
theorem aK_zH (A : Ab) (v : Nw) : aK (zH A v) = aK A := rfl
theorem aT_zH (A : Ab) (v : Nw) : aT (zH A v) = aT A := rfl
theorem aR_zH (A : Ab) (v : Nw) : aR (zH A v) = aR A := rfl
theorem aH_zH (A : Ab) (v : Nw) : aH (zH A v) = v := rfl
theorem aS_zH (A : Ab) (v : Nw) : aS (zH A v) = aS A := rfl
theorem aE_zH (A : Ab) (v : Nw) : aE (zH A v) = aE A := rfl
theorem aX_zH (A : Ab) (v : Nw) : aX (zH A v) = aX A := rfl
theorem aZ_zH (A : Ab) (v : Nw) : aZ (zH A v) = aZ A := rfl
theorem aN_zS (A : Ab) (v : Nw) : aN (zS A v) = aN A := rfl
theorem aK_zS (A : Ab) (v : Nw) : aK (zS A v) = aK A := rfl
theorem aT_zS (A : Ab) (v : Nw) : aT (zS A v) = aT A := rfl
theorem aR_zS (A : Ab) (v : Nw) : aR (zS A v) = aR A := rfl
theorem aH_zS (A : Ab) (v : Nw) : aH (zS A v) = aH A := rfl
theorem aS_zS (A : Ab) (v : Nw) : aS (zS A v) = v := rfl
theorem aE_zS (A : Ab) (v : Nw) : aE (zS A v) = aE A := rfl
theorem aX_zS (A : Ab) (v : Nw) : aX (zS A v) = aX A := rfl
theorem aZ_zS (A : Ab) (v : Nw) : aZ (zS A v) = aZ A := rfl
theorem aN_zE (A : Ab) (v : (Nat → Int64)) : aN (zE A v) = aN A := rfl
theorem aK_zE (A : Ab) (v : (Nat → Int64)) : aK (zE A v) = aK A := rfl
theorem aT_zE (A : Ab) (v : (Nat → Int64)) : aT (zE A v) = aT A := rfl
theorem aR_zE (A : Ab) (v : (Nat → Int64)) : aR (zE A v) = aR A := rfl
theorem aH_zE (A : Ab) (v : (Nat → Int64)) : aH (zE A v) = aH A := rfl
theorem aS_zE (A : Ab) (v : (Nat → Int64)) : aS (zE A v) = aS A := rfl
theorem aE_zE (A : Ab) (v : (Nat → Int64)) : aE (zE A v) = v := rfl
theorem aX_zE (A : Ab) (v : (Nat → Int64)) : aX (zE A v) = aX A := rfl
theorem aZ_zE (A : Ab) (v : (Nat → Int64)) : aZ (zE A v) = aZ A := rfl
theorem aN_zX (A : Ab) (v : Int32) : aN (zX A v) = aN A := rfl
theorem aK_zX (A : Ab) (v : Int32) : aK (zX A v) = aK A := rfl
theorem aT_zX (A : Ab) (v : Int32) : aT (zX A v) = aT A := rfl
theorem aR_zX (A : Ab) (v : Int32) : aR (zX A v) = aR A := rfl
theorem aH_zX (A : Ab) (v : Int32) : aH (zX A v) = aH A := rfl
theorem aS_zX (A : Ab) (v : Int32) : aS (zX A v) = aS A := rfl
theorem aE_zX (A : Ab) (v : Int32) : aE (zX A v) = aE A := rfl
theorem aX_zX (A : Ab) (v : Int32) : aX (zX A v) = v := rfl
theorem aZ_zX (A : Ab) (v : Int32) : aZ (zX A v) = aZ A := rfl
theorem aN_zZ (A : Ab) (v : Int32) : aN (zZ A v) = aN A := rfl
theorem aK_zZ (A : Ab) (v : Int32) : aK (zZ A v) = aK A := rfl
theorem aT_zZ (A : Ab) (v : Int32) : aT (zZ A v) = aT A := rfl
theorem aR_zZ (A : Ab) (v : Int32) : aR (zZ A v) = aR A := rfl
theorem aH_zZ (A : Ab) (v : Int32) : aH (zZ A v) = aH A := rfl
theorem aS_zZ (A : Ab) (v : Int32) : aS (zZ A v) = aS A := rfl
theorem aE_zZ (A : Ab) (v : Int32) : aE (zZ A v) = aE A := rfl
theorem aX_zZ (A : Ab) (v : Int32) : aX (zZ A v) = aX A := rfl
theorem aZ_zZ (A : Ab) (v : Int32) : aZ (zZ A v) = v := rfl
theorem zN_zN (A : Ab) (v v' : Nw) : zN (zN A v) v' = zN A v' := rfl
theorem zN_a (A : Ab) : zN A (aN A) = A := rfl
theorem zK_zK (A : Ab) (v v' : Nw) : zK (zK A v) v' = zK A v' := rfl
theorem zK_a (A : Ab) : zK A (aK A) = A := rfl
theorem zT_zT (A : Ab) (v v' : Nw) : zT (zT A v) v' = zT A v' := rfl
theorem zT_a (A : Ab) : zT A (aT A) = A := rfl
theorem zR_zR (A : Ab) (v v' : Nw) : zR (zR A v) v' = zR A v' := rfl
theorem zR_a (A : Ab) : zR A (aR A) = A := rfl
theorem zH_zH (A : Ab) (v v' : Nw) : zH (zH A v) v' = zH A v' := rfl
theorem zH_a (A : Ab) : zH A (aH A) = A := rfl
theorem zS_zS (A : Ab) (v v' : Nw) : zS (zS A v) v' = zS A v' := rfl
theorem zS_a (A : Ab) : zS A (aS A) = A := rfl
theorem zE_zE (A : Ab) (v v' : (Nat → Int64)) : zE (zE A v) v' = zE A v' := rfl
theorem zE_a (A : Ab) : zE A (aE A) = A := rfl
theorem zX_zX (A : Ab) (v v' : Int32) : zX (zX A v) v' = zX A v' := rfl
theorem zX_a (A : Ab) : zX A (aX A) = A := rfl
theorem zZ_zZ (A : Ab) (v v' : Int32) : zZ (zZ A v) v' = zZ A v' := rfl
theorem zZ_a (A : Ab) : zZ A (aZ A) = A := rfl
def mTy (j : Nat) : Option wTy := match j with
  | 0 => some (24, 26, true)
  | 1 => some (0, 7, true)
  | 2 => some (0, 97, true)
  | 3 => some (0, 97, true)
  | 4 => some (0, 97, true)
  | 5 => some (0, 250, true)
  | 6 => some (3, 48, true)
  | 7 => some (0, 2, true)
  | 8 => some (0, 2, true)
  | 9 => some (0, 2, true)
  | 10 => some (0, 2, true)
  | 11 => some (0, 2, true)
  | 12 => some (0, 2, true)
  | 13 => some (0, 40, true)
  | 14 => some (0, 8, true)
  | 15 => some (0, 8, true)
  | 16 => some (5, 320, true)
  | 17 => some (5, 40, true)
  | 18 => some (0, 6, true)
  | 19 => some (0, 8, true)
  | 20 => some (0, 40, true)
  | _ => none
def wrdL : List Int32 := [115, 105, 100, 101, 0, 0, 112, 111, 110, 100, 0, 0, 100, 114, 121, 0, 0, 0, 112, 101, 114, 115, 111, 110, 105, 115, 0, 0, 0, 0, 108, 101, 102, 116, 0, 0, 111, 108, 100, 0, 0, 0, 100, 111, 117, 98, 116, 0]
def wrd (j : Nat) : Int32 := wrdL.getD j 0
def abvL : List Int32 := [-1, 0, 0, 1, 2, 0]
def abv (j : Nat) : Int32 := abvL.getD j 0
def mSh (w : Wd) (m : Nat) : Prop := (m + 21 ≤ wz w) ∧ (∀ j : Nat, j < 21 → wT w (m + j) = mTy j) ∧ wG w m 400 = some (m + 1) ∧ wG w m 401 = some (m + 2) ∧ wG w m 402 = some (m + 3) ∧ wG w m 403 = some (m + 4) ∧ wG w m 405 = some (m + 5) ∧ wG w m 410 = some (m + 6) ∧ wG w m 411 = some (m + 7) ∧ wG w m 412 = some (m + 8) ∧ wG w m 413 = some (m + 9) ∧ wG w m 414 = some (m + 10) ∧ wG w m 415 = some (m + 11) ∧ wG w m 416 = some (m + 12) ∧ wG w m 418 = some (m + 13) ∧ wG w m 419 = some (m + 14) ∧ wG w m 420 = some (m + 15) ∧ wG w m 421 = some (m + 16) ∧ wG w m 422 = some (m + 17) ∧ wG w m 423 = some (m + 18) ∧ wG w m 424 = some (m + 19) ∧ wG w m 425 = some (m + 20) ∧ (∀ j : Nat, j < 48 → wI w (m + 6) j = wrd j) ∧ (∀ j : Nat, j < 6 → wI w (m + 18) j = abv j)
/-- the reference stands at m and says A -/
def MM (w : Wd) (m : Nat) (A : Ab) : Prop := mSh w m ∧ wI w (m + 1) = aR A ∧ wI w (m + 2) = aN A ∧ wI w (m + 3) = aK A ∧ wI w (m + 5) = aT A ∧ wI w (m + 14) = aH A ∧ wI w (m + 15) = aS A ∧ wL w (m + 16) = aE A ∧ wF w m 404 = aX A ∧ wF w m 406 = aZ A
/-- the reference's scratch: thought rows, walkers, tokens -/
def mP (m : Nat) : Nat → Nat → Prop := fun q k => (k = 9999 ∧ (q = m + 4 ∨ (m + 7 ≤ q ∧ q ≤ m + 13) ∨ q = m + 17 ∨ q = m + 19 ∨ q = m + 20)) ∨ (q = m ∧ (k = 407 ∨ k = 408 ∨ k = 409 ∨ k = 417))
/-- anything of the reference -/
def mQ (m : Nat) : Nat → Nat → Prop := fun q _ => m ≤ q ∧ q < m + 21
theorem mSh.z {w : Wd} {m : Nat} (h : mSh w m) : m + 21 ≤ wz w := h.1
theorem mSh.t {w : Wd} {m : Nat} (h : mSh w m) (j : Nat) (hj : j < 21) : wT w (m + j) = mTy j := h.2.1 j hj
theorem mSh.t0 {w : Wd} {m : Nat} (h : mSh w m) : wT w m = some (24, 26, true) := h.2.1 0 (by decide)
theorem mSh.t1 {w : Wd} {m : Nat} (h : mSh w m) : wT w (m + 1) = some (0, 7, true) := h.2.1 1 (by decide)
theorem mSh.g400 {w : Wd} {m : Nat} (h : mSh w m) : wG w m 400 = some (m + 1) := h.2.2.1
theorem mSh.t2 {w : Wd} {m : Nat} (h : mSh w m) : wT w (m + 2) = some (0, 97, true) := h.2.1 2 (by decide)
theorem mSh.g401 {w : Wd} {m : Nat} (h : mSh w m) : wG w m 401 = some (m + 2) := h.2.2.2.1
theorem mSh.t3 {w : Wd} {m : Nat} (h : mSh w m) : wT w (m + 3) = some (0, 97, true) := h.2.1 3 (by decide)
theorem mSh.g402 {w : Wd} {m : Nat} (h : mSh w m) : wG w m 402 = some (m + 3) := h.2.2.2.2.1
theorem mSh.t4 {w : Wd} {m : Nat} (h : mSh w m) : wT w (m + 4) = some (0, 97, true) := h.2.1 4 (by decide)
theorem mSh.g403 {w : Wd} {m : Nat} (h : mSh w m) : wG w m 403 = some (m + 4) := h.2.2.2.2.2.1
theorem mSh.t5 {w : Wd} {m : Nat} (h : mSh w m) : wT w (m + 5) = some (0, 250, true) := h.2.1 5 (by decide)
theorem mSh.g405 {w : Wd} {m : Nat} (h : mSh w m) : wG w m 405 = some (m + 5) := h.2.2.2.2.2.2.1
theorem mSh.t6 {w : Wd} {m : Nat} (h : mSh w m) : wT w (m + 6) = some (3, 48, true) := h.2.1 6 (by decide)
theorem mSh.g410 {w : Wd} {m : Nat} (h : mSh w m) : wG w m 410 = some (m + 6) := h.2.2.2.2.2.2.2.1
theorem mSh.t7 {w : Wd} {m : Nat} (h : mSh w m) : wT w (m + 7) = some (0, 2, true) := h.2.1 7 (by decide)
theorem mSh.g411 {w : Wd} {m : Nat} (h : mSh w m) : wG w m 411 = some (m + 7) := h.2.2.2.2.2.2.2.2.1
theorem mSh.t8 {w : Wd} {m : Nat} (h : mSh w m) : wT w (m + 8) = some (0, 2, true) := h.2.1 8 (by decide)
theorem mSh.g412 {w : Wd} {m : Nat} (h : mSh w m) : wG w m 412 = some (m + 8) := h.2.2.2.2.2.2.2.2.2.1
theorem mSh.t9 {w : Wd} {m : Nat} (h : mSh w m) : wT w (m + 9) = some (0, 2, true) := h.2.1 9 (by decide)
theorem mSh.g413 {w : Wd} {m : Nat} (h : mSh w m) : wG w m 413 = some (m + 9) := h.2.2.2.2.2.2.2.2.2.2.1
theorem mSh.t10 {w : Wd} {m : Nat} (h : mSh w m) : wT w (m + 10) = some (0, 2, true) := h.2.1 10 (by decide)
theorem mSh.g414 {w : Wd} {m : Nat} (h : mSh w m) : wG w m 414 = some (m + 10) := h.2.2.2.2.2.2.2.2.2.2.2.1
theorem mSh.t11 {w : Wd} {m : Nat} (h : mSh w m) : wT w (m + 11) = some (0, 2, true) := h.2.1 11 (by decide)
theorem mSh.g415 {w : Wd} {m : Nat} (h : mSh w m) : wG w m 415 = some (m + 11) := h.2.2.2.2.2.2.2.2.2.2.2.2.1
theorem mSh.t12 {w : Wd} {m : Nat} (h : mSh w m) : wT w (m + 12) = some (0, 2, true) := h.2.1 12 (by decide)
theorem mSh.g416 {w : Wd} {m : Nat} (h : mSh w m) : wG w m 416 = some (m + 12) := h.2.2.2.2.2.2.2.2.2.2.2.2.2.1
theorem mSh.t13 {w : Wd} {m : Nat} (h : mSh w m) : wT w (m + 13) = some (0, 40, true) := h.2.1 13 (by decide)
theorem mSh.g418 {w : Wd} {m : Nat} (h : mSh w m) : wG w m 418 = some (m + 13) := h.2.2.2.2.2.2.2.2.2.2.2.2.2.2.1
theorem mSh.t14 {w : Wd} {m : Nat} (h : mSh w m) : wT w (m + 14) = some (0, 8, true) := h.2.1 14 (by decide)
theorem mSh.g419 {w : Wd} {m : Nat} (h : mSh w m) : wG w m 419 = some (m + 14) := h.2.2.2.2.2.2.2.2.2.2.2.2.2.2.2.1
theorem mSh.t15 {w : Wd} {m : Nat} (h : mSh w m) : wT w (m + 15) = some (0, 8, true) := h.2.1 15 (by decide)
theorem mSh.g420 {w : Wd} {m : Nat} (h : mSh w m) : wG w m 420 = some (m + 15) := h.2.2.2.2.2.2.2.2.2.2.2.2.2.2.2.2.1
theorem mSh.t16 {w : Wd} {m : Nat} (h : mSh w m) : wT w (m + 16) = some (5, 320, true) := h.2.1 16 (by decide)
theorem mSh.g421 {w : Wd} {m : Nat} (h : mSh w m) : wG w m 421 = some (m + 16) := h.2.2.2.2.2.2.2.2.2.2.2.2.2.2.2.2.2.1
theorem mSh.t17 {w : Wd} {m : Nat} (h : mSh w m) : wT w (m + 17) = some (5, 40, true) := h.2.1 17 (by decide)
theorem mSh.g422 {w : Wd} {m : Nat} (h : mSh w m) : wG w m 422 = some (m + 17) := h.2.2.2.2.2.2.2.2.2.2.2.2.2.2.2.2.2.2.1
theorem mSh.t18 {w : Wd} {m : Nat} (h : mSh w m) : wT w (m + 18) = some (0, 6, true) := h.2.1 18 (by decide)
theorem mSh.g423 {w : Wd} {m : Nat} (h : mSh w m) : wG w m 423 = some (m + 18) := h.2.2.2.2.2.2.2.2.2.2.2.2.2.2.2.2.2.2.2.1
theorem mSh.t19 {w : Wd} {m : Nat} (h : mSh w m) : wT w (m + 19) = some (0, 8, true) := h.2.1 19 (by decide)
theorem mSh.g424 {w : Wd} {m : Nat} (h : mSh w m) : wG w m 424 = some (m + 19) := h.2.2.2.2.2.2.2.2.2.2.2.2.2.2.2.2.2.2.2.2.1
theorem mSh.t20 {w : Wd} {m : Nat} (h : mSh w m) : wT w (m + 20) = some (0, 40, true) := h.2.1 20 (by decide)
theorem mSh.g425 {w : Wd} {m : Nat} (h : mSh w m) : wG w m 425 = some (m + 20) := h.2.2.2.2.2.2.2.2.2.2.2.2.2.2.2.2.2.2.2.2.2.1
theorem mSh.wr {w : Wd} {m : Nat} (h : mSh w m) (j : Nat) (hj : j < 48) : wI w (m + 6) j = wrd j := h.2.2.2.2.2.2.2.2.2.2.2.2.2.2.2.2.2.2.2.2.2.2.1 j hj
theorem mSh.ab {w : Wd} {m : Nat} (h : mSh w m) (j : Nat) (hj : j < 6) : wI w (m + 18) j = abv j := h.2.2.2.2.2.2.2.2.2.2.2.2.2.2.2.2.2.2.2.2.2.2.2 j hj
theorem mSh.ob {w : Wd} {m : Nat} (h : mSh w m) (a : List Nat) : wob w m (24 :: a) = True := by unfold wob; rw [h.t0]; simp
theorem mSh.gF {w : Wd} {m : Nat} (h : mSh w m) (k : Nat) (K : Int32 → Prop) : wgF w (some m) [24] k K = K (wF w m k) := by show (wob w m [24] ∧ _) = _; rw [h.ob]; simp
theorem mSh.pF {w : Wd} {m : Nat} (h : mSh w m) (k : Nat) (v : Int32) (K : Wd → Prop) : wpF w (some m) [24] k v K = K (sF w m k v) := by show (wobw w m [24] ∧ _) = _; unfold wobw; rw [h.t0]; simp
theorem mSh.G400 {w : Wd} {m : Nat} (h : mSh w m) (K : Option Nat → Prop) : wgG w (some m) [24] 400 K = K (some (m + 1)) := by show (wob w m [24] ∧ K (wG w m 400)) = _; rw [h.ob, h.g400]; simp
theorem mSh.r1 {w : Wd} {m : Nat} (h : mSh w m) (i : Int32) (K : Int32 → Prop) : wld w (some (m + 1)) 0 i K = (vp_in i 7 ∧ K (wI w (m + 1) i.toInt.toNat)) := by show (warr w (m + 1) 0 i ∧ _) = _; unfold warr; rw [h.t1]; simp only [i_nat, true_and, and_true]
theorem mSh.w1 {w : Wd} {m : Nat} (h : mSh w m) (i x : Int32) (K : Wd → Prop) : wst w (some (m + 1)) 0 i x K = (vp_in i 7 ∧ K (sI w (m + 1) i.toInt.toNat x)) := by show (warw w (m + 1) 0 i ∧ _) = _; unfold warw; rw [h.t1]; simp only [i_nat, true_and, and_true]
theorem mSh.G401 {w : Wd} {m : Nat} (h : mSh w m) (K : Option Nat → Prop) : wgG w (some m) [24] 401 K = K (some (m + 2)) := by show (wob w m [24] ∧ K (wG w m 401)) = _; rw [h.ob, h.g401]; simp
theorem mSh.r2 {w : Wd} {m : Nat} (h : mSh w m) (i : Int32) (K : Int32 → Prop) : wld w (some (m + 2)) 0 i K = (vp_in i 97 ∧ K (wI w (m + 2) i.toInt.toNat)) := by show (warr w (m + 2) 0 i ∧ _) = _; unfold warr; rw [h.t2]; simp only [i_nat, true_and, and_true]
theorem mSh.w2 {w : Wd} {m : Nat} (h : mSh w m) (i x : Int32) (K : Wd → Prop) : wst w (some (m + 2)) 0 i x K = (vp_in i 97 ∧ K (sI w (m + 2) i.toInt.toNat x)) := by show (warw w (m + 2) 0 i ∧ _) = _; unfold warw; rw [h.t2]; simp only [i_nat, true_and, and_true]
theorem mSh.G402 {w : Wd} {m : Nat} (h : mSh w m) (K : Option Nat → Prop) : wgG w (some m) [24] 402 K = K (some (m + 3)) := by show (wob w m [24] ∧ K (wG w m 402)) = _; rw [h.ob, h.g402]; simp
theorem mSh.r3 {w : Wd} {m : Nat} (h : mSh w m) (i : Int32) (K : Int32 → Prop) : wld w (some (m + 3)) 0 i K = (vp_in i 97 ∧ K (wI w (m + 3) i.toInt.toNat)) := by show (warr w (m + 3) 0 i ∧ _) = _; unfold warr; rw [h.t3]; simp only [i_nat, true_and, and_true]
theorem mSh.w3 {w : Wd} {m : Nat} (h : mSh w m) (i x : Int32) (K : Wd → Prop) : wst w (some (m + 3)) 0 i x K = (vp_in i 97 ∧ K (sI w (m + 3) i.toInt.toNat x)) := by show (warw w (m + 3) 0 i ∧ _) = _; unfold warw; rw [h.t3]; simp only [i_nat, true_and, and_true]
theorem mSh.G403 {w : Wd} {m : Nat} (h : mSh w m) (K : Option Nat → Prop) : wgG w (some m) [24] 403 K = K (some (m + 4)) := by show (wob w m [24] ∧ K (wG w m 403)) = _; rw [h.ob, h.g403]; simp
theorem mSh.r4 {w : Wd} {m : Nat} (h : mSh w m) (i : Int32) (K : Int32 → Prop) : wld w (some (m + 4)) 0 i K = (vp_in i 97 ∧ K (wI w (m + 4) i.toInt.toNat)) := by show (warr w (m + 4) 0 i ∧ _) = _; unfold warr; rw [h.t4]; simp only [i_nat, true_and, and_true]
theorem mSh.w4 {w : Wd} {m : Nat} (h : mSh w m) (i x : Int32) (K : Wd → Prop) : wst w (some (m + 4)) 0 i x K = (vp_in i 97 ∧ K (sI w (m + 4) i.toInt.toNat x)) := by show (warw w (m + 4) 0 i ∧ _) = _; unfold warw; rw [h.t4]; simp only [i_nat, true_and, and_true]
theorem mSh.G405 {w : Wd} {m : Nat} (h : mSh w m) (K : Option Nat → Prop) : wgG w (some m) [24] 405 K = K (some (m + 5)) := by show (wob w m [24] ∧ K (wG w m 405)) = _; rw [h.ob, h.g405]; simp
theorem mSh.r5 {w : Wd} {m : Nat} (h : mSh w m) (i : Int32) (K : Int32 → Prop) : wld w (some (m + 5)) 0 i K = (vp_in i 250 ∧ K (wI w (m + 5) i.toInt.toNat)) := by show (warr w (m + 5) 0 i ∧ _) = _; unfold warr; rw [h.t5]; simp only [i_nat, true_and, and_true]
theorem mSh.w5 {w : Wd} {m : Nat} (h : mSh w m) (i x : Int32) (K : Wd → Prop) : wst w (some (m + 5)) 0 i x K = (vp_in i 250 ∧ K (sI w (m + 5) i.toInt.toNat x)) := by show (warw w (m + 5) 0 i ∧ _) = _; unfold warw; rw [h.t5]; simp only [i_nat, true_and, and_true]
theorem mSh.G410 {w : Wd} {m : Nat} (h : mSh w m) (K : Option Nat → Prop) : wgG w (some m) [24] 410 K = K (some (m + 6)) := by show (wob w m [24] ∧ K (wG w m 410)) = _; rw [h.ob, h.g410]; simp
theorem mSh.r6 {w : Wd} {m : Nat} (h : mSh w m) (i : Int32) (K : Int32 → Prop) : wld w (some (m + 6)) 3 i K = (vp_in i 48 ∧ K (wI w (m + 6) i.toInt.toNat)) := by show (warr w (m + 6) 3 i ∧ _) = _; unfold warr; rw [h.t6]; simp only [i_nat, true_and, and_true]
theorem mSh.w6 {w : Wd} {m : Nat} (h : mSh w m) (i x : Int32) (K : Wd → Prop) : wst w (some (m + 6)) 3 i x K = (vp_in i 48 ∧ K (sI w (m + 6) i.toInt.toNat x)) := by show (warw w (m + 6) 3 i ∧ _) = _; unfold warw; rw [h.t6]; simp only [i_nat, true_and, and_true]
theorem mSh.G411 {w : Wd} {m : Nat} (h : mSh w m) (K : Option Nat → Prop) : wgG w (some m) [24] 411 K = K (some (m + 7)) := by show (wob w m [24] ∧ K (wG w m 411)) = _; rw [h.ob, h.g411]; simp
theorem mSh.r7 {w : Wd} {m : Nat} (h : mSh w m) (i : Int32) (K : Int32 → Prop) : wld w (some (m + 7)) 0 i K = (vp_in i 2 ∧ K (wI w (m + 7) i.toInt.toNat)) := by show (warr w (m + 7) 0 i ∧ _) = _; unfold warr; rw [h.t7]; simp only [i_nat, true_and, and_true]
theorem mSh.w7 {w : Wd} {m : Nat} (h : mSh w m) (i x : Int32) (K : Wd → Prop) : wst w (some (m + 7)) 0 i x K = (vp_in i 2 ∧ K (sI w (m + 7) i.toInt.toNat x)) := by show (warw w (m + 7) 0 i ∧ _) = _; unfold warw; rw [h.t7]; simp only [i_nat, true_and, and_true]
theorem mSh.G412 {w : Wd} {m : Nat} (h : mSh w m) (K : Option Nat → Prop) : wgG w (some m) [24] 412 K = K (some (m + 8)) := by show (wob w m [24] ∧ K (wG w m 412)) = _; rw [h.ob, h.g412]; simp
theorem mSh.r8 {w : Wd} {m : Nat} (h : mSh w m) (i : Int32) (K : Int32 → Prop) : wld w (some (m + 8)) 0 i K = (vp_in i 2 ∧ K (wI w (m + 8) i.toInt.toNat)) := by show (warr w (m + 8) 0 i ∧ _) = _; unfold warr; rw [h.t8]; simp only [i_nat, true_and, and_true]
theorem mSh.w8 {w : Wd} {m : Nat} (h : mSh w m) (i x : Int32) (K : Wd → Prop) : wst w (some (m + 8)) 0 i x K = (vp_in i 2 ∧ K (sI w (m + 8) i.toInt.toNat x)) := by show (warw w (m + 8) 0 i ∧ _) = _; unfold warw; rw [h.t8]; simp only [i_nat, true_and, and_true]
theorem mSh.G413 {w : Wd} {m : Nat} (h : mSh w m) (K : Option Nat → Prop) : wgG w (some m) [24] 413 K = K (some (m + 9)) := by show (wob w m [24] ∧ K (wG w m 413)) = _; rw [h.ob, h.g413]; simp
theorem mSh.r9 {w : Wd} {m : Nat} (h : mSh w m) (i : Int32) (K : Int32 → Prop) : wld w (some (m + 9)) 0 i K = (vp_in i 2 ∧ K (wI w (m + 9) i.toInt.toNat)) := by show (warr w (m + 9) 0 i ∧ _) = _; unfold warr; rw [h.t9]; simp only [i_nat, true_and, and_true]
theorem mSh.w9 {w : Wd} {m : Nat} (h : mSh w m) (i x : Int32) (K : Wd → Prop) : wst w (some (m + 9)) 0 i x K = (vp_in i 2 ∧ K (sI w (m + 9) i.toInt.toNat x)) := by show (warw w (m + 9) 0 i ∧ _) = _; unfold warw; rw [h.t9]; simp only [i_nat, true_and, and_true]
theorem mSh.G414 {w : Wd} {m : Nat} (h : mSh w m) (K : Option Nat → Prop) : wgG w (some m) [24] 414 K = K (some (m + 10)) := by show (wob w m [24] ∧ K (wG w m 414)) = _; rw [h.ob, h.g414]; simp
theorem mSh.r10 {w : Wd} {m : Nat} (h : mSh w m) (i : Int32) (K : Int32 → Prop) : wld w (some (m + 10)) 0 i K = (vp_in i 2 ∧ K (wI w (m + 10) i.toInt.toNat)) := by show (warr w (m + 10) 0 i ∧ _) = _; unfold warr; rw [h.t10]; simp only [i_nat, true_and, and_true]
theorem mSh.w10 {w : Wd} {m : Nat} (h : mSh w m) (i x : Int32) (K : Wd → Prop) : wst w (some (m + 10)) 0 i x K = (vp_in i 2 ∧ K (sI w (m + 10) i.toInt.toNat x)) := by show (warw w (m + 10) 0 i ∧ _) = _; unfold warw; rw [h.t10]; simp only [i_nat, true_and, and_true]
theorem mSh.G415 {w : Wd} {m : Nat} (h : mSh w m) (K : Option Nat → Prop) : wgG w (some m) [24] 415 K = K (some (m + 11)) := by show (wob w m [24] ∧ K (wG w m 415)) = _; rw [h.ob, h.g415]; simp
theorem mSh.r11 {w : Wd} {m : Nat} (h : mSh w m) (i : Int32) (K : Int32 → Prop) : wld w (some (m + 11)) 0 i K = (vp_in i 2 ∧ K (wI w (m + 11) i.toInt.toNat)) := by show (warr w (m + 11) 0 i ∧ _) = _; unfold warr; rw [h.t11]; simp only [i_nat, true_and, and_true]
theorem mSh.w11 {w : Wd} {m : Nat} (h : mSh w m) (i x : Int32) (K : Wd → Prop) : wst w (some (m + 11)) 0 i x K = (vp_in i 2 ∧ K (sI w (m + 11) i.toInt.toNat x)) := by show (warw w (m + 11) 0 i ∧ _) = _; unfold warw; rw [h.t11]; simp only [i_nat, true_and, and_true]
theorem mSh.G416 {w : Wd} {m : Nat} (h : mSh w m) (K : Option Nat → Prop) : wgG w (some m) [24] 416 K = K (some (m + 12)) := by show (wob w m [24] ∧ K (wG w m 416)) = _; rw [h.ob, h.g416]; simp
theorem mSh.r12 {w : Wd} {m : Nat} (h : mSh w m) (i : Int32) (K : Int32 → Prop) : wld w (some (m + 12)) 0 i K = (vp_in i 2 ∧ K (wI w (m + 12) i.toInt.toNat)) := by show (warr w (m + 12) 0 i ∧ _) = _; unfold warr; rw [h.t12]; simp only [i_nat, true_and, and_true]
theorem mSh.w12 {w : Wd} {m : Nat} (h : mSh w m) (i x : Int32) (K : Wd → Prop) : wst w (some (m + 12)) 0 i x K = (vp_in i 2 ∧ K (sI w (m + 12) i.toInt.toNat x)) := by show (warw w (m + 12) 0 i ∧ _) = _; unfold warw; rw [h.t12]; simp only [i_nat, true_and, and_true]
theorem mSh.G418 {w : Wd} {m : Nat} (h : mSh w m) (K : Option Nat → Prop) : wgG w (some m) [24] 418 K = K (some (m + 13)) := by show (wob w m [24] ∧ K (wG w m 418)) = _; rw [h.ob, h.g418]; simp
theorem mSh.r13 {w : Wd} {m : Nat} (h : mSh w m) (i : Int32) (K : Int32 → Prop) : wld w (some (m + 13)) 0 i K = (vp_in i 40 ∧ K (wI w (m + 13) i.toInt.toNat)) := by show (warr w (m + 13) 0 i ∧ _) = _; unfold warr; rw [h.t13]; simp only [i_nat, true_and, and_true]
theorem mSh.w13 {w : Wd} {m : Nat} (h : mSh w m) (i x : Int32) (K : Wd → Prop) : wst w (some (m + 13)) 0 i x K = (vp_in i 40 ∧ K (sI w (m + 13) i.toInt.toNat x)) := by show (warw w (m + 13) 0 i ∧ _) = _; unfold warw; rw [h.t13]; simp only [i_nat, true_and, and_true]
theorem mSh.G419 {w : Wd} {m : Nat} (h : mSh w m) (K : Option Nat → Prop) : wgG w (some m) [24] 419 K = K (some (m + 14)) := by show (wob w m [24] ∧ K (wG w m 419)) = _; rw [h.ob, h.g419]; simp
theorem mSh.r14 {w : Wd} {m : Nat} (h : mSh w m) (i : Int32) (K : Int32 → Prop) : wld w (some (m + 14)) 0 i K = (vp_in i 8 ∧ K (wI w (m + 14) i.toInt.toNat)) := by show (warr w (m + 14) 0 i ∧ _) = _; unfold warr; rw [h.t14]; simp only [i_nat, true_and, and_true]
theorem mSh.w14 {w : Wd} {m : Nat} (h : mSh w m) (i x : Int32) (K : Wd → Prop) : wst w (some (m + 14)) 0 i x K = (vp_in i 8 ∧ K (sI w (m + 14) i.toInt.toNat x)) := by show (warw w (m + 14) 0 i ∧ _) = _; unfold warw; rw [h.t14]; simp only [i_nat, true_and, and_true]
theorem mSh.G420 {w : Wd} {m : Nat} (h : mSh w m) (K : Option Nat → Prop) : wgG w (some m) [24] 420 K = K (some (m + 15)) := by show (wob w m [24] ∧ K (wG w m 420)) = _; rw [h.ob, h.g420]; simp
theorem mSh.r15 {w : Wd} {m : Nat} (h : mSh w m) (i : Int32) (K : Int32 → Prop) : wld w (some (m + 15)) 0 i K = (vp_in i 8 ∧ K (wI w (m + 15) i.toInt.toNat)) := by show (warr w (m + 15) 0 i ∧ _) = _; unfold warr; rw [h.t15]; simp only [i_nat, true_and, and_true]
theorem mSh.w15 {w : Wd} {m : Nat} (h : mSh w m) (i x : Int32) (K : Wd → Prop) : wst w (some (m + 15)) 0 i x K = (vp_in i 8 ∧ K (sI w (m + 15) i.toInt.toNat x)) := by show (warw w (m + 15) 0 i ∧ _) = _; unfold warw; rw [h.t15]; simp only [i_nat, true_and, and_true]
theorem mSh.G421 {w : Wd} {m : Nat} (h : mSh w m) (K : Option Nat → Prop) : wgG w (some m) [24] 421 K = K (some (m + 16)) := by show (wob w m [24] ∧ K (wG w m 421)) = _; rw [h.ob, h.g421]; simp
theorem mSh.r16 {w : Wd} {m : Nat} (h : mSh w m) (i : Int32) (K : Int64 → Prop) : wldL w (some (m + 16)) i K = (vp_in i 320 ∧ K (wL w (m + 16) i.toInt.toNat)) := by show (warr w (m + 16) 5 i ∧ _) = _; unfold warr; rw [h.t16]; simp only [i_nat, true_and, and_true]
theorem mSh.w16 {w : Wd} {m : Nat} (h : mSh w m) (i : Int32) (x : Int64) (K : Wd → Prop) : wstL w (some (m + 16)) i x K = (vp_in i 320 ∧ K (sL w (m + 16) i.toInt.toNat x)) := by show (warw w (m + 16) 5 i ∧ _) = _; unfold warw; rw [h.t16]; simp only [i_nat, true_and, and_true]
theorem mSh.G422 {w : Wd} {m : Nat} (h : mSh w m) (K : Option Nat → Prop) : wgG w (some m) [24] 422 K = K (some (m + 17)) := by show (wob w m [24] ∧ K (wG w m 422)) = _; rw [h.ob, h.g422]; simp
theorem mSh.r17 {w : Wd} {m : Nat} (h : mSh w m) (i : Int32) (K : Int64 → Prop) : wldL w (some (m + 17)) i K = (vp_in i 40 ∧ K (wL w (m + 17) i.toInt.toNat)) := by show (warr w (m + 17) 5 i ∧ _) = _; unfold warr; rw [h.t17]; simp only [i_nat, true_and, and_true]
theorem mSh.w17 {w : Wd} {m : Nat} (h : mSh w m) (i : Int32) (x : Int64) (K : Wd → Prop) : wstL w (some (m + 17)) i x K = (vp_in i 40 ∧ K (sL w (m + 17) i.toInt.toNat x)) := by show (warw w (m + 17) 5 i ∧ _) = _; unfold warw; rw [h.t17]; simp only [i_nat, true_and, and_true]
theorem mSh.G423 {w : Wd} {m : Nat} (h : mSh w m) (K : Option Nat → Prop) : wgG w (some m) [24] 423 K = K (some (m + 18)) := by show (wob w m [24] ∧ K (wG w m 423)) = _; rw [h.ob, h.g423]; simp
theorem mSh.r18 {w : Wd} {m : Nat} (h : mSh w m) (i : Int32) (K : Int32 → Prop) : wld w (some (m + 18)) 0 i K = (vp_in i 6 ∧ K (wI w (m + 18) i.toInt.toNat)) := by show (warr w (m + 18) 0 i ∧ _) = _; unfold warr; rw [h.t18]; simp only [i_nat, true_and, and_true]
theorem mSh.w18 {w : Wd} {m : Nat} (h : mSh w m) (i x : Int32) (K : Wd → Prop) : wst w (some (m + 18)) 0 i x K = (vp_in i 6 ∧ K (sI w (m + 18) i.toInt.toNat x)) := by show (warw w (m + 18) 0 i ∧ _) = _; unfold warw; rw [h.t18]; simp only [i_nat, true_and, and_true]
theorem mSh.G424 {w : Wd} {m : Nat} (h : mSh w m) (K : Option Nat → Prop) : wgG w (some m) [24] 424 K = K (some (m + 19)) := by show (wob w m [24] ∧ K (wG w m 424)) = _; rw [h.ob, h.g424]; simp
theorem mSh.r19 {w : Wd} {m : Nat} (h : mSh w m) (i : Int32) (K : Int32 → Prop) : wld w (some (m + 19)) 0 i K = (vp_in i 8 ∧ K (wI w (m + 19) i.toInt.toNat)) := by show (warr w (m + 19) 0 i ∧ _) = _; unfold warr; rw [h.t19]; simp only [i_nat, true_and, and_true]
theorem mSh.w19 {w : Wd} {m : Nat} (h : mSh w m) (i x : Int32) (K : Wd → Prop) : wst w (some (m + 19)) 0 i x K = (vp_in i 8 ∧ K (sI w (m + 19) i.toInt.toNat x)) := by show (warw w (m + 19) 0 i ∧ _) = _; unfold warw; rw [h.t19]; simp only [i_nat, true_and, and_true]
theorem mSh.G425 {w : Wd} {m : Nat} (h : mSh w m) (K : Option Nat → Prop) : wgG w (some m) [24] 425 K = K (some (m + 20)) := by show (wob w m [24] ∧ K (wG w m 425)) = _; rw [h.ob, h.g425]; simp
theorem mSh.r20 {w : Wd} {m : Nat} (h : mSh w m) (i : Int32) (K : Int32 → Prop) : wld w (some (m + 20)) 0 i K = (vp_in i 40 ∧ K (wI w (m + 20) i.toInt.toNat)) := by show (warr w (m + 20) 0 i ∧ _) = _; unfold warr; rw [h.t20]; simp only [i_nat, true_and, and_true]
theorem mSh.w20 {w : Wd} {m : Nat} (h : mSh w m) (i x : Int32) (K : Wd → Prop) : wst w (some (m + 20)) 0 i x K = (vp_in i 40 ∧ K (sI w (m + 20) i.toInt.toNat x)) := by show (warw w (m + 20) 0 i ∧ _) = _; unfold warw; rw [h.t20]; simp only [i_nat, true_and, and_true]
theorem mSh.sc {w w' : Wd} {m : Nat} {P : Nat → Nat → Prop} (h : mSh w m) (hf : fr P w w') (hP : ∀ k, P m k → k = 404 ∨ k = 406 ∨ k = 407 ∨ k = 408 ∨ k = 409 ∨ k = 417) (h6 : ¬ P (m + 6) 9999 ∧ ¬ P (m + 18) 9999) : mSh w' m := by
  have hz := h.z
  have hz2 := hf.z
  have hg : ∀ k, 400 ≤ k → k < 404 ∨ k = 405 ∨ (410 ≤ k ∧ k ≤ 416) ∨ 418 ≤ k → wG w' m k = wG w m k := fun k _ hk => hf.G (by omega) (fun hp => by have := hP k hp; omega)
  refine ⟨by omega, fun j hj => (hf.2 _ (by omega)).1.trans (h.t j hj), (hg 400 (by decide) (by decide)).trans h.g400, (hg 401 (by decide) (by decide)).trans h.g401, (hg 402 (by decide) (by decide)).trans h.g402, (hg 403 (by decide) (by decide)).trans h.g403, (hg 405 (by decide) (by decide)).trans h.g405, (hg 410 (by decide) (by decide)).trans h.g410, (hg 411 (by decide) (by decide)).trans h.g411, (hg 412 (by decide) (by decide)).trans h.g412, (hg 413 (by decide) (by decide)).trans h.g413, (hg 414 (by decide) (by decide)).trans h.g414, (hg 415 (by decide) (by decide)).trans h.g415, (hg 416 (by decide) (by decide)).trans h.g416, (hg 418 (by decide) (by decide)).trans h.g418, (hg 419 (by decide) (by decide)).trans h.g419, (hg 420 (by decide) (by decide)).trans h.g420, (hg 421 (by decide) (by decide)).trans h.g421, (hg 422 (by decide) (by decide)).trans h.g422, (hg 423 (by decide) (by decide)).trans h.g423, (hg 424 (by decide) (by decide)).trans h.g424, (hg 425 (by decide) (by decide)).trans h.g425, fun j hj => ?_, fun j hj => ?_⟩
  · rw [hf.I (by omega) h6.1]; exact h.wr j hj
  · rw [hf.I (by omega) h6.2]; exact h.ab j hj
theorem MM.sh {w : Wd} {m : Nat} {A : Ab} (h : MM w m A) : mSh w m := h.1
theorem MM.R {w : Wd} {m : Nat} {A : Ab} (h : MM w m A) : wI w (m + 1) = aR A := h.2.1
theorem MM.N {w : Wd} {m : Nat} {A : Ab} (h : MM w m A) : wI w (m + 2) = aN A := h.2.2.1
theorem MM.K {w : Wd} {m : Nat} {A : Ab} (h : MM w m A) : wI w (m + 3) = aK A := h.2.2.2.1
theorem MM.T {w : Wd} {m : Nat} {A : Ab} (h : MM w m A) : wI w (m + 5) = aT A := h.2.2.2.2.1
theorem MM.H {w : Wd} {m : Nat} {A : Ab} (h : MM w m A) : wI w (m + 14) = aH A := h.2.2.2.2.2.1
theorem MM.S {w : Wd} {m : Nat} {A : Ab} (h : MM w m A) : wI w (m + 15) = aS A := h.2.2.2.2.2.2.1
theorem MM.E {w : Wd} {m : Nat} {A : Ab} (h : MM w m A) : wL w (m + 16) = aE A := h.2.2.2.2.2.2.2.1
theorem MM.X {w : Wd} {m : Nat} {A : Ab} (h : MM w m A) : wF w m 404 = aX A := h.2.2.2.2.2.2.2.2.1
theorem MM.Z {w : Wd} {m : Nat} {A : Ab} (h : MM w m A) : wF w m 406 = aZ A := h.2.2.2.2.2.2.2.2.2
/-- scratch written -/
theorem MM.sc {w w' : Wd} {m : Nat} {A : Ab} (h : MM w m A) (hf : fr (mP m) w w') : MM w' m A := by
  have hz := h.sh.z
  have hn : ∀ j, j < 21 → ¬ (j = 4 ∨ (7 ≤ j ∧ j ≤ 13) ∨ j = 17 ∨ j = 19 ∨ j = 20) → ¬ mP m (m + j) 9999 := fun j hj hk hp => by unfold mP at hp; omega
  refine ⟨h.sh.sc hf (fun k hp => by unfold mP at hp; omega) ⟨hn 6 (by decide) (by decide), hn 18 (by decide) (by decide)⟩, (hf.I (by omega) (hn 1 (by decide) (by decide))).trans h.R, (hf.I (by omega) (hn 2 (by decide) (by decide))).trans h.N, (hf.I (by omega) (hn 3 (by decide) (by decide))).trans h.K, (hf.I (by omega) (hn 5 (by decide) (by decide))).trans h.T, (hf.I (by omega) (hn 14 (by decide) (by decide))).trans h.H, (hf.I (by omega) (hn 15 (by decide) (by decide))).trans h.S, (hf.L (by omega) (hn 16 (by decide) (by decide))).trans h.E, (hf.F (by omega) (fun hp => by unfold mP at hp; omega)).trans h.X, (hf.F (by omega) (fun hp => by unfold mP at hp; omega)).trans h.Z⟩
/-- others' cells written -/
theorem MM.out {w w' : Wd} {m : Nat} {A : Ab} {P : Nat → Nat → Prop} (h : MM w m A) (hf : fr P w w') (hP : ∀ q k, m ≤ q → q < m + 21 → ¬ P q k) : MM w' m A := by
  have hz := h.sh.z
  have hn : ∀ j k, j < 21 → ¬ P (m + j) k := fun j k hj => hP _ k (by omega) (by omega)
  refine ⟨h.sh.sc hf (fun k hp => absurd hp (hn 0 k (by decide))) ⟨hn 6 _ (by decide), hn 18 _ (by decide)⟩, (hf.I (by omega) (hn 1 _ (by decide))).trans h.R, (hf.I (by omega) (hn 2 _ (by decide))).trans h.N, (hf.I (by omega) (hn 3 _ (by decide))).trans h.K, (hf.I (by omega) (hn 5 _ (by decide))).trans h.T, (hf.I (by omega) (hn 14 _ (by decide))).trans h.H, (hf.I (by omega) (hn 15 _ (by decide))).trans h.S, (hf.L (by omega) (hn 16 _ (by decide))).trans h.E, (hf.F (by omega) (hn 0 _ (by decide))).trans h.X, (hf.F (by omega) (hn 0 _ (by decide))).trans h.Z⟩
theorem MM.wR {w : Wd} {m : Nat} {A : Ab} (h : MM w m A) (k : Nat) (v : Int32) : MM (sI w (m + 1) k v) m (zR A (up1 (aR A) k v)) := by
  exact ⟨⟨h.sh.z, h.sh.t, h.sh.g400, h.sh.g401, h.sh.g402, h.sh.g403, h.sh.g405, h.sh.g410, h.sh.g411, h.sh.g412, h.sh.g413, h.sh.g414, h.sh.g415, h.sh.g416, h.sh.g418, h.sh.g419, h.sh.g420, h.sh.g421, h.sh.g422, h.sh.g423, h.sh.g424, h.sh.g425, fun j hj => (if_neg (by omega)).trans (h.sh.wr j hj), fun j hj => (if_neg (by omega)).trans (h.sh.ab j hj)⟩, (up2_row _ _ _ _).trans (congrArg (fun f => up1 f k v) h.R), (up2_ne _ _ _ _ (by omega)).trans h.N, (up2_ne _ _ _ _ (by omega)).trans h.K, (up2_ne _ _ _ _ (by omega)).trans h.T, (up2_ne _ _ _ _ (by omega)).trans h.H, (up2_ne _ _ _ _ (by omega)).trans h.S, h.E, h.X, h.Z⟩
theorem MM.wN {w : Wd} {m : Nat} {A : Ab} (h : MM w m A) (k : Nat) (v : Int32) : MM (sI w (m + 2) k v) m (zN A (up1 (aN A) k v)) := by
  exact ⟨⟨h.sh.z, h.sh.t, h.sh.g400, h.sh.g401, h.sh.g402, h.sh.g403, h.sh.g405, h.sh.g410, h.sh.g411, h.sh.g412, h.sh.g413, h.sh.g414, h.sh.g415, h.sh.g416, h.sh.g418, h.sh.g419, h.sh.g420, h.sh.g421, h.sh.g422, h.sh.g423, h.sh.g424, h.sh.g425, fun j hj => (if_neg (by omega)).trans (h.sh.wr j hj), fun j hj => (if_neg (by omega)).trans (h.sh.ab j hj)⟩, (up2_ne _ _ _ _ (by omega)).trans h.R, (up2_row _ _ _ _).trans (congrArg (fun f => up1 f k v) h.N), (up2_ne _ _ _ _ (by omega)).trans h.K, (up2_ne _ _ _ _ (by omega)).trans h.T, (up2_ne _ _ _ _ (by omega)).trans h.H, (up2_ne _ _ _ _ (by omega)).trans h.S, h.E, h.X, h.Z⟩
theorem MM.wK {w : Wd} {m : Nat} {A : Ab} (h : MM w m A) (k : Nat) (v : Int32) : MM (sI w (m + 3) k v) m (zK A (up1 (aK A) k v)) := by
  exact ⟨⟨h.sh.z, h.sh.t, h.sh.g400, h.sh.g401, h.sh.g402, h.sh.g403, h.sh.g405, h.sh.g410, h.sh.g411, h.sh.g412, h.sh.g413, h.sh.g414, h.sh.g415, h.sh.g416, h.sh.g418, h.sh.g419, h.sh.g420, h.sh.g421, h.sh.g422, h.sh.g423, h.sh.g424, h.sh.g425, fun j hj => (if_neg (by omega)).trans (h.sh.wr j hj), fun j hj => (if_neg (by omega)).trans (h.sh.ab j hj)⟩, (up2_ne _ _ _ _ (by omega)).trans h.R, (up2_ne _ _ _ _ (by omega)).trans h.N, (up2_row _ _ _ _).trans (congrArg (fun f => up1 f k v) h.K), (up2_ne _ _ _ _ (by omega)).trans h.T, (up2_ne _ _ _ _ (by omega)).trans h.H, (up2_ne _ _ _ _ (by omega)).trans h.S, h.E, h.X, h.Z⟩
theorem MM.wT {w : Wd} {m : Nat} {A : Ab} (h : MM w m A) (k : Nat) (v : Int32) : MM (sI w (m + 5) k v) m (zT A (up1 (aT A) k v)) := by
  exact ⟨⟨h.sh.z, h.sh.t, h.sh.g400, h.sh.g401, h.sh.g402, h.sh.g403, h.sh.g405, h.sh.g410, h.sh.g411, h.sh.g412, h.sh.g413, h.sh.g414, h.sh.g415, h.sh.g416, h.sh.g418, h.sh.g419, h.sh.g420, h.sh.g421, h.sh.g422, h.sh.g423, h.sh.g424, h.sh.g425, fun j hj => (if_neg (by omega)).trans (h.sh.wr j hj), fun j hj => (if_neg (by omega)).trans (h.sh.ab j hj)⟩, (up2_ne _ _ _ _ (by omega)).trans h.R, (up2_ne _ _ _ _ (by omega)).trans h.N, (up2_ne _ _ _ _ (by omega)).trans h.K, (up2_row _ _ _ _).trans (congrArg (fun f => up1 f k v) h.T), (up2_ne _ _ _ _ (by omega)).trans h.H, (up2_ne _ _ _ _ (by omega)).trans h.S, h.E, h.X, h.Z⟩
theorem MM.wH {w : Wd} {m : Nat} {A : Ab} (h : MM w m A) (k : Nat) (v : Int32) : MM (sI w (m + 14) k v) m (zH A (up1 (aH A) k v)) := by
  exact ⟨⟨h.sh.z, h.sh.t, h.sh.g400, h.sh.g401, h.sh.g402, h.sh.g403, h.sh.g405, h.sh.g410, h.sh.g411, h.sh.g412, h.sh.g413, h.sh.g414, h.sh.g415, h.sh.g416, h.sh.g418, h.sh.g419, h.sh.g420, h.sh.g421, h.sh.g422, h.sh.g423, h.sh.g424, h.sh.g425, fun j hj => (if_neg (by omega)).trans (h.sh.wr j hj), fun j hj => (if_neg (by omega)).trans (h.sh.ab j hj)⟩, (up2_ne _ _ _ _ (by omega)).trans h.R, (up2_ne _ _ _ _ (by omega)).trans h.N, (up2_ne _ _ _ _ (by omega)).trans h.K, (up2_ne _ _ _ _ (by omega)).trans h.T, (up2_row _ _ _ _).trans (congrArg (fun f => up1 f k v) h.H), (up2_ne _ _ _ _ (by omega)).trans h.S, h.E, h.X, h.Z⟩
theorem MM.wS {w : Wd} {m : Nat} {A : Ab} (h : MM w m A) (k : Nat) (v : Int32) : MM (sI w (m + 15) k v) m (zS A (up1 (aS A) k v)) := by
  exact ⟨⟨h.sh.z, h.sh.t, h.sh.g400, h.sh.g401, h.sh.g402, h.sh.g403, h.sh.g405, h.sh.g410, h.sh.g411, h.sh.g412, h.sh.g413, h.sh.g414, h.sh.g415, h.sh.g416, h.sh.g418, h.sh.g419, h.sh.g420, h.sh.g421, h.sh.g422, h.sh.g423, h.sh.g424, h.sh.g425, fun j hj => (if_neg (by omega)).trans (h.sh.wr j hj), fun j hj => (if_neg (by omega)).trans (h.sh.ab j hj)⟩, (up2_ne _ _ _ _ (by omega)).trans h.R, (up2_ne _ _ _ _ (by omega)).trans h.N, (up2_ne _ _ _ _ (by omega)).trans h.K, (up2_ne _ _ _ _ (by omega)).trans h.T, (up2_ne _ _ _ _ (by omega)).trans h.H, (up2_row _ _ _ _).trans (congrArg (fun f => up1 f k v) h.S), h.E, h.X, h.Z⟩
theorem MM.wE {w : Wd} {m : Nat} {A : Ab} (h : MM w m A) (k : Nat) (v : Int64) : MM (sL w (m + 16) k v) m (zE A (up1 (aE A) k v)) := by
  exact ⟨⟨h.sh.z, h.sh.t, h.sh.g400, h.sh.g401, h.sh.g402, h.sh.g403, h.sh.g405, h.sh.g410, h.sh.g411, h.sh.g412, h.sh.g413, h.sh.g414, h.sh.g415, h.sh.g416, h.sh.g418, h.sh.g419, h.sh.g420, h.sh.g421, h.sh.g422, h.sh.g423, h.sh.g424, h.sh.g425, h.sh.wr, h.sh.ab⟩, h.R, h.N, h.K, h.T, h.H, h.S, (up2_row _ _ _ _).trans (congrArg (fun f => up1 f k v) h.E), h.X, h.Z⟩
theorem MM.wX {w : Wd} {m : Nat} {A : Ab} (h : MM w m A) (v : Int32) : MM (sF w m 404 v) m (zX A v) := by
  exact ⟨⟨h.sh.z, h.sh.t, h.sh.g400, h.sh.g401, h.sh.g402, h.sh.g403, h.sh.g405, h.sh.g410, h.sh.g411, h.sh.g412, h.sh.g413, h.sh.g414, h.sh.g415, h.sh.g416, h.sh.g418, h.sh.g419, h.sh.g420, h.sh.g421, h.sh.g422, h.sh.g423, h.sh.g424, h.sh.g425, h.sh.wr, h.sh.ab⟩, h.R, h.N, h.K, h.T, h.H, h.S, h.E, if_pos ⟨rfl, rfl⟩, (if_neg (by omega)).trans h.Z⟩
theorem MM.wZ {w : Wd} {m : Nat} {A : Ab} (h : MM w m A) (v : Int32) : MM (sF w m 406 v) m (zZ A v) := by
  exact ⟨⟨h.sh.z, h.sh.t, h.sh.g400, h.sh.g401, h.sh.g402, h.sh.g403, h.sh.g405, h.sh.g410, h.sh.g411, h.sh.g412, h.sh.g413, h.sh.g414, h.sh.g415, h.sh.g416, h.sh.g418, h.sh.g419, h.sh.g420, h.sh.g421, h.sh.g422, h.sh.g423, h.sh.g424, h.sh.g425, h.sh.wr, h.sh.ab⟩, h.R, h.N, h.K, h.T, h.H, h.S, h.E, (if_neg (by omega)).trans h.X, if_pos ⟨rfl, rfl⟩⟩
