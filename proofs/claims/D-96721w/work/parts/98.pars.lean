/-! ===== the tape's texts, plain ===== -/
abbrev isLt (v : Int32) : Prop := 97 ≤ v.toInt ∧ v.toInt ≤ 122
abbrev isDg (v : Int32) : Prop := 48 ≤ v.toInt ∧ v.toInt ≤ 57
/-- a token's sort by its first sign: 0 the end, 1 a word, 2 a number, 3 the sign, 4 none -/
def srtA (T : Nw) (z i : Nat) : Nat := if z ≤ i then 0 else if isLt (T i) then 1 else if isDg (T i) then 2 else if T i = 59 then 3 else 4
def skR (T : Nw) : Nat → Nat → Nat
  | 0, i => i
  | d + 1, i => if T i = 32 then skR T d (i + 1) else i
def rnR (T : Nw) (z s : Nat) : Nat → Nat → Nat
  | 0, i => i
  | d + 1, i => if srtA T z i = s then rnR T z s d (i + 1) else i
/-- where the next token begins, its sort, where it ends -/
def tkF (T : Nw) (z i : Nat) : Nat := skR T (z - i) i
def tkS (T : Nw) (z i : Nat) : Nat := srtA T z (tkF T z i)
def tkE (T : Nw) (z i : Nat) : Nat := if tkS T z i = 0 then tkF T z i else if tkS T z i < 3 then rnR T z (tkS T z i) (z - (tkF T z i + 1)) (tkF T z i + 1) else tkF T z i + 1
theorem skR_b (T : Nw) : ∀ d i, i ≤ skR T d i ∧ skR T d i ≤ i + d
  | 0, i => ⟨Nat.le_refl _, Nat.le_refl _⟩
  | d + 1, i => by
    show i ≤ (if T i = 32 then skR T d (i + 1) else i) ∧ (if T i = 32 then skR T d (i + 1) else i) ≤ i + (d + 1)
    have := skR_b T d (i + 1)
    split <;> omega
theorem rnR_b (T : Nw) (z s : Nat) : ∀ d i, i ≤ rnR T z s d i ∧ rnR T z s d i ≤ i + d
  | 0, i => ⟨Nat.le_refl _, Nat.le_refl _⟩
  | d + 1, i => by
    show i ≤ (if srtA T z i = s then rnR T z s d (i + 1) else i) ∧ (if srtA T z i = s then rnR T z s d (i + 1) else i) ≤ i + (d + 1)
    have := rnR_b T z s d (i + 1)
    split <;> omega
theorem tkF_b {T : Nw} {z i : Nat} (hi : i ≤ z) : i ≤ tkF T z i ∧ tkF T z i ≤ z := by
  have := skR_b T (z - i) i
  unfold tkF
  omega
theorem srtA_lt {T : Nw} {z i : Nat} (h : ¬ srtA T z i = 0) : i < z := by
  unfold srtA at h
  by_cases c : z ≤ i
  · rw [if_pos c] at h; exact absurd rfl h
  · omega
theorem srtA_0 {T : Nw} {z i : Nat} : srtA T z i = 0 ↔ z ≤ i := by
  unfold srtA
  constructor
  · intro h
    by_cases c : z ≤ i
    · exact c
    · rw [if_neg c] at h
      split at h
      · cases h
      · split at h
        · cases h
        · split at h <;> cases h
  · intro h
    rw [if_pos h]
theorem tkE_b {T : Nw} {z i : Nat} (hi : i ≤ z) : tkF T z i ≤ tkE T z i ∧ tkE T z i ≤ z := by
  have h1 := tkF_b (T := T) hi
  unfold tkE
  split
  · omega
  · rename_i h0
    have h2 : tkF T z i < z := srtA_lt h0
    split
    · have := rnR_b T z (tkS T z i) (z - (tkF T z i + 1)) (tkF T z i + 1)
      omega
    · omega
theorem tkE_lt {T : Nw} {z i : Nat} (hi : i ≤ z) (h : ¬ tkS T z i = 0) : tkF T z i < tkE T z i := by
  have h2 : tkF T z i < z := srtA_lt h
  unfold tkE
  rw [if_neg h]
  split
  · have := rnR_b T z (tkS T z i) (z - (tkF T z i + 1)) (tkF T z i + 1)
    omega
  · omega
theorem rnR_in (T : Nw) (z s : Nat) : ∀ d i x, i ≤ x → x < rnR T z s d i → srtA T z x = s
  | 0, i, x, h1, h2 => absurd h2 (by show ¬ x < i; omega)
  | d + 1, i, x, h1, h2 => by
    have e : rnR T z s (d + 1) i = if srtA T z i = s then rnR T z s d (i + 1) else i := rfl
    rw [e] at h2
    by_cases c : srtA T z i = s
    · rw [if_pos c] at h2
      by_cases ex : x = i
      · rw [ex]; exact c
      · exact rnR_in T z s d (i + 1) x (by omega) h2
    · rw [if_neg c] at h2
      omega
/-- a word's or a number's signs are all of its sort -/
theorem tk_in {T : Nw} {z i x : Nat} (h1 : tkF T z i ≤ x) (h2 : x < tkE T z i) (hs : tkS T z i = 1 ∨ tkS T z i = 2) : srtA T z x = tkS T z i := by
  unfold tkE at h2
  rw [if_neg (by omega), if_pos (by omega)] at h2
  by_cases ex : x = tkF T z i
  · rw [ex]; rfl
  · exact rnR_in T z _ _ _ x (by omega) h2
theorem srtA_1 {T : Nw} {z x : Nat} (h : srtA T z x = 1) : isLt (T x) := by
  unfold srtA at h
  split at h
  · cases h
  · split at h
    · assumption
    · split at h
      · cases h
      · split at h <;> cases h
theorem srtA_2 {T : Nw} {z x : Nat} (h : srtA T z x = 2) : isDg (T x) := by
  unfold srtA at h
  split at h
  · cases h
  · split at h
    · cases h
    · split at h
      · assumption
      · split at h <;> cases h
/-- what a number's first j signs say -/
def nmJ (T : Nw) (f : Nat) : Nat → Int32
  | 0 => 0
  | j + 1 => 10 * nmJ T f j + T (f + j) - 48
def tkV (T : Nw) (z i : Nat) : Int32 := nmJ T (tkF T z i) (tkE T z i - tkF T z i)
theorem nmJ_1 {T : Nw} {f : Nat} (h : isDg (T f)) : (nmJ T f 1).toInt = (T f).toInt - 48 := by
  have h' := h
  unfold isDg at h'
  show (10 * 0 + T (f + 0) - 48 : Int32).toInt = _
  rw [Nat.add_zero, show (10 * 0 : Int32) = 0 from rfl, Int32.zero_add, i_sub (by rw [show (48 : Int32).toInt = 48 from rfl]; omega)]
  rfl
theorem nmJ_2 {T : Nw} {f : Nat} (h : isDg (T f)) (h2 : isDg (T (f + 1))) : (nmJ T f 2).toInt = 10 * ((T f).toInt - 48) + ((T (f + 1)).toInt - 48) := by
  have h' := h
  have h2' := h2
  unfold isDg at h' h2'
  have e1 := nmJ_1 h
  have e48 : (48 : Int32).toInt = 48 := rfl
  have e2 : (10 * nmJ T f 1).toInt = 10 * ((T f).toInt - 48) := i_mulv rfl e1 rfl (by omega)
  show (10 * nmJ T f 1 + T (f + 1) - 48).toInt = _
  have e3 : (10 * nmJ T f 1 + T (f + 1)).toInt = 10 * ((T f).toInt - 48) + (T (f + 1)).toInt := i_addv e2 rfl (by omega) (by omega)
  rw [i_sub (by rw [e3, e48]; omega), e3, e48]
  omega
theorem tkV_b {T : Nw} {z i : Nat} (hi : i ≤ z) (h : tkS T z i = 2) (hl : tkE T z i - tkF T z i ≤ 2) : 0 ≤ (tkV T z i).toInt ∧ (tkV T z i).toInt ≤ 99 := by
  have h1 := tkE_lt hi (show ¬ tkS T z i = 0 by omega)
  have d0 : isDg (T (tkF T z i)) := srtA_2 ((tk_in (Nat.le_refl _) h1 (Or.inr h)).trans h)
  unfold tkV
  rcases (show tkE T z i - tkF T z i = 1 ∨ tkE T z i - tkF T z i = 2 by omega) with e | e
  · rw [e, nmJ_1 d0]
    unfold isDg at d0
    omega
  · have d1 : isDg (T (tkF T z i + 1)) := srtA_2 ((tk_in (Nat.le_succ _) (by omega) (Or.inr h)).trans h)
    rw [e, nmJ_2 d0 d1]
    unfold isDg at d0 d1
    omega
/-- whether a token is word number k -/
abbrev wdP (T : Nw) (f e k : Nat) : Prop := ∀ i, i < 6 → (if f + i < e then T (f + i) else 0) = wrd (6 * k + i)
/-- which word the next token is; none -/
def whJ (T : Nw) (z i : Nat) : Nat → Int32
  | 0 => -1
  | k + 1 => if tkS T z i = 1 ∧ tkE T z i - tkF T z i ≤ 6 ∧ wdP T (tkF T z i) (tkE T z i) k then Int32.ofNat k else whJ T z i k
def wch (T : Nw) (z i : Nat) : Int32 := whJ T z i 8
/-- where one stands behind; what the island is, or none: it fails there -/
abbrev PR : Type := Nat × Option Nw
/-- a number that may stand here -/
def pN (T : Nw) (z : Nat) (P : Int32 → Prop) [DecidablePred P] (i : Nat) (k : Int32 → Nat → PR) : PR := if tkS T z i = 2 ∧ tkE T z i - tkF T z i ≤ 2 ∧ P (tkV T z i) then k (tkV T z i) (tkE T z i) else (tkF T z i, none)
abbrev rngP (lo hi : Int32) (v : Int32) : Prop := lo.toInt ≤ v.toInt ∧ v.toInt ≤ hi.toInt
abbrev clP (N : Nw) (v : Int32) : Prop := isC (N 90) v ∧ True
abbrev dcP (N : Nw) (v : Int32) : Prop := isC (N 90) v ∧ ¬ smb N v
abbrev dyP (N : Nw) (v : Int32) : Prop := isC (N 90) v ∧ ¬ pnd N v = 1
def stP (T : Nw) (z : Nat) (N : Nw) (e : Nat) : PR := pN T z (rngP 0 5) e (fun kd e1 => pN T z (rngP 0 9) e1 (fun a e2 => pN T z (dyP N) e2 (fun c e3 => pN T z (rngP 0 3) e3 (fun f e4 => (e4, some (addN N kd a c f))))))
/-- a statement -/
def stF (T : Nw) (z : Nat) (N : Nw) (i : Nat) : PR :=
  if wch T z i = -1 then (tkF T z i, none)
  else if wch T z i = 3 then (if pe N = 8 then (tkF T z i, none) else stP T z N (tkE T z i))
  else if wch T z i = 1 then pN T z (dcP N) (tkE T z i) (fun c e => (e, some (up1 N (pat c) 1)))
  else if wch T z i = 2 then pN T z (clP N) (tkE T z i) (fun c e => (e, some (up1 N (pat c) 0)))
  else if wch T z i = 0 then pN T z (rngP (N 90) 7) (tkE T z i) (fun v e => (e, some (up1 N 90 v)))
  else if wch T z i = 4 then pN T z (rngP 0 (N 89 - 1)) (tkE T z i) (fun x e => pN T z (rngP 0 1) e (fun v e' => (e', some (up1 N (5 * x.toInt.toNat + 4) v))))
  else pN T z (rngP 0 (if wch T z i = 7 then 12 else 1)) (tkE T z i) (fun v e => (e, some (up1 N (91 + (wch T z i - 5).toInt.toNat) v)))
/-- the statements, one by one, of d at most: how many, and where -/
def stL (T : Nw) (z : Nat) : Nat → Nat → Nw → Nat → Nat × PR
  | 0, n, _, i => (n, i, none)
  | d + 1, n, N, i => match stF T z N i with
    | (p, none) => (n, p, none)
    | (e, some N') => if tkS T z e = 0 then (n + 1, e, some N') else if tkS T z e = 3 then stL T z d (n + 1) N' (tkE T z e) else (n + 1, tkF T z e, none)
def F_islR (A : Ab) (r : Nat × PR) : Int32 × Ab := match r.2.2 with
  | some N' => (Int32.ofNat r.1, zZ (zN A N') 0)
  | none => (-20 - Int32.ofNat r.2.1, bump (zZ A 0) (-2))
def F_island (A : Ab) : Int32 × Ab := F_islR A (stL (aT A) (aZ A).toInt.toNat 64 0 (aN A) 0)
