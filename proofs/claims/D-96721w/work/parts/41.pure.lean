/-! ===== the plain law: ints ===== -/
abbrev Nw : Type := Nat → Int32
def up1 {α : Type} (f : Nat → α) (k : Nat) (v : α) : Nat → α := fun j => if j = k then v else f j
theorem up1_at {α : Type} (f : Nat → α) (k : Nat) (v : α) (j : Nat) : up1 f k v j = if j = k then v else f j := rfl
theorem up1_upd {α : Type} (f : Nat → α) (k : Nat) (v v' : α) : up1 (up1 f k v) k v' = up1 f k v' := funext fun j => by unfold up1; split <;> rfl
theorem up1_self {α : Type} (f : Nat → α) (k : Nat) : up1 f k (f k) = f := funext fun j => by unfold up1; split <;> simp_all
theorem up2_row {α : Type} (f : Nat → Nat → α) (a k : Nat) (v : α) : up2 f a k v a = up1 (f a) k v := funext fun j => by unfold up2 up1; simp
theorem up2_ne {α : Type} (f : Nat → Nat → α) (a k : Nat) (v : α) {q : Nat} (h : ¬ q = a) : up2 f a k v q = f q := funext fun j => by unfold up2; simp [h]
theorem i_lo (x : Int32) : -2147483648 ≤ x.toInt := x.le_toInt
theorem i_hi (x : Int32) : x.toInt < 2147483648 := x.toInt_lt
theorem i_nat (x : Int32) : x.toNatClampNeg = x.toInt.toNat := rfl
theorem i_of {x : Int32} (h : 0 ≤ x.toInt) : Int32.ofNat x.toInt.toNat = x := Int32.ofNat_toNatClampNeg x (by rw [Int32.le_iff_toInt_le]; exact h)
theorem i_tn {n : Nat} (h : n < 2147483648) : (Int32.ofNat n).toNatClampNeg = n := Int32.toNatClampNeg_ofNat_of_lt h
theorem i_ti {n : Nat} (h : n < 2147483648) : (Int32.ofNat n).toInt = n := Int32.toInt_ofNat_of_lt h
theorem i_lt {a b : Int32} : a < b ↔ a.toInt < b.toInt := Int32.lt_iff_toInt_lt
theorem i_le {a b : Int32} : a ≤ b ↔ a.toInt ≤ b.toInt := Int32.le_iff_toInt_le
theorem i_eq {a b : Int32} : a = b ↔ a.toInt = b.toInt := Int32.toInt_inj.symm
theorem l_lt {a b : Int64} : a < b ↔ a.toInt < b.toInt := Int64.lt_iff_toInt_lt
theorem l_eq {a b : Int64} : a = b ↔ a.toInt = b.toInt := Int64.toInt_inj.symm
theorem i_add {a b : Int32} (h : -2147483648 ≤ a.toInt + b.toInt ∧ a.toInt + b.toInt < 2147483648) : (a + b).toInt = a.toInt + b.toInt := (Int32.toInt_add a b).trans (Int.bmod_eq_of_le (by omega) (by omega))
theorem i_sub {a b : Int32} (h : -2147483648 ≤ a.toInt - b.toInt ∧ a.toInt - b.toInt < 2147483648) : (a - b).toInt = a.toInt - b.toInt := (Int32.toInt_sub a b).trans (Int.bmod_eq_of_le (by omega) (by omega))
theorem i_mul {a b : Int32} (h : -2147483648 ≤ a.toInt * b.toInt ∧ a.toInt * b.toInt < 2147483648) : (a * b).toInt = a.toInt * b.toInt := (Int32.toInt_mul a b).trans (Int.bmod_eq_of_le (by omega) (by omega))
theorem i_neg {a : Int32} (h : -2147483648 < a.toInt) : (-a).toInt = -a.toInt := by
  have h1 := i_hi a
  exact (Int32.toInt_neg a).trans (Int.bmod_eq_of_le (by omega) (by omega))
theorem i_dv {x d : Int32} (h : 0 ≤ x.toInt) (hd : 0 < d.toInt) : (x / d).toInt = x.toInt / d.toInt := by
  have hne : d ≠ -1 := fun e => by rw [e] at hd; exact absurd hd (by decide)
  rw [Int32.toInt_div_of_ne_right x d hne, Int.tdiv_eq_ediv_of_nonneg h]
theorem i_d10 {x : Int32} (h : 0 ≤ x.toInt) : (x / 10).toInt = x.toInt / 10 := i_dv h (by decide)
theorem i_m10 {x : Int32} (h : 0 ≤ x.toInt) : (x - x / 10 * 10).toInt = x.toInt % 10 := by
  have e1 := i_d10 h
  have e0 : (10 : Int32).toInt = 10 := rfl
  have h1 := i_hi x
  have e2 : (x / 10 * 10).toInt = x.toInt / 10 * 10 := by rw [i_mul (by rw [e1, e0]; omega), e1, e0]
  rw [i_sub (by rw [e2]; omega), e2]
  omega
theorem i_inc {x : Int32} (h : x.toInt < 2147483647) : (x + 1).toInt = x.toInt + 1 := by
  have e0 : (1 : Int32).toInt = 1 := rfl
  have h1 := i_lo x
  rw [i_add (by rw [e0]; omega), e0]
theorem i_dec {x : Int32} (h : -2147483648 < x.toInt) : (x - 1).toInt = x.toInt - 1 := by
  have e0 : (1 : Int32).toInt = 1 := rfl
  have h1 := i_hi x
  rw [i_sub (by rw [e0]; omega), e0]
theorem i_ofS {n : Nat} : Int32.ofNat n + 1 = Int32.ofNat (n + 1) := (Int32.ofNat_add n 1).symm
theorem i_0 : (0 : Int32).toInt = 0 := rfl
theorem i_m1 : (-1 : Int32).toInt = -1 := rfl
theorem vp_iff {i : Int32} {n : Nat} : vp_in i n ↔ 0 ≤ i.toInt ∧ i.toInt < n := by
  unfold vp_in
  rw [i_lt, i_nat, i_0]
  omega
/-- a number times 5, and a bit -/
theorem i_5 {p d : Int32} (h : 0 ≤ p.toInt ∧ p.toInt < 1000) (hd : 0 ≤ d.toInt ∧ d.toInt < 1000) : (5 * p + d).toInt = 5 * p.toInt + d.toInt := by
  have e0 : (5 : Int32).toInt = 5 := rfl
  have e1 : (5 * p).toInt = 5 * p.toInt := by rw [i_mul (by rw [e0]; omega), e0]
  rw [i_add (by rw [e1]; omega), e1]
theorem i_5z {p : Int32} (h : 0 ≤ p.toInt ∧ p.toInt < 1000) : (5 * p).toInt = 5 * p.toInt := by
  have e0 : (5 : Int32).toInt = 5 := rfl
  rw [i_mul (by rw [e0]; omega), e0]
/-! ===== the island: what the reference's row of numbers says ===== -/
abbrev isC (sd c : Int32) : Prop := 0 ≤ c.toInt ∧ c.toInt / 10 < sd.toInt ∧ c.toInt % 10 < sd.toInt
abbrev okF (f : Int32) : Prop := 0 ≤ f.toInt ∧ f.toInt < 4
theorem okF_c {f : Int32} (h : okF f) : f = 0 ∨ f = 1 ∨ f = 2 ∨ f = 3 := by
  have h1 : f.toInt = 0 ∨ f.toInt = 1 ∨ f.toInt = 2 ∨ f.toInt = 3 := by unfold okF at h; omega
  rcases h1 with h1 | h1 | h1 | h1
  · exact Or.inl (Int32.toInt_inj.1 h1)
  · exact Or.inr (Or.inl (Int32.toInt_inj.1 h1))
  · exact Or.inr (Or.inr (Or.inl (Int32.toInt_inj.1 h1)))
  · exact Or.inr (Or.inr (Or.inr (Int32.toInt_inj.1 h1)))
def dnF (f : Int32) : Int := if f = 0 then -1 else if f = 2 then 1 else 0
def acF (f : Int32) : Int := if f = 3 then -1 else if f = 1 then 1 else 0
theorem dnF_b (f : Int32) : -1 ≤ dnF f ∧ dnF f ≤ 1 := by unfold dnF; split <;> (try split) <;> omega
theorem acF_b (f : Int32) : -1 ≤ acF f ∧ acF f ≤ 1 := by unfold acF; split <;> (try split) <;> omega
/-- the cell beside one -/
def bes (sd c f : Int32) : Int32 := if 0 ≤ c.toInt / 10 + dnF f ∧ c.toInt / 10 + dnF f < sd.toInt ∧ 0 ≤ c.toInt % 10 + acF f ∧ c.toInt % 10 + acF f < sd.toInt then Int32.ofInt (10 * (c.toInt / 10 + dnF f) + (c.toInt % 10 + acF f)) else -1
theorem i_ofInt {n : Int} (h : -2147483648 ≤ n ∧ n < 2147483648) : (Int32.ofInt n).toInt = n := Int32.toInt_ofInt_of_le h.1 h.2
theorem bes_ok {sd c f : Int32} (hs : sd.toInt ≤ 7) (hc : isC sd c) : bes sd c f = -1 ∨ isC sd (bes sd c f) := by
  unfold bes
  split
  · rename_i h
    right
    unfold isC at hc ⊢
    rw [i_ofInt (by omega)]
    omega
  · exact Or.inl rfl
theorem bes_ne {sd c f : Int32} (hs : sd.toInt ≤ 7) (hc : isC sd c) (h : ¬ bes sd c f = -1) : isC sd (bes sd c f) := (bes_ok hs hc).resolve_left h
theorem isC_ne {sd c : Int32} (hc : isC sd c) : ¬ c = -1 := fun e => by rw [e] at hc; exact absurd hc.1 (by decide)
theorem isC_b {sd c : Int32} (hs : sd.toInt ≤ 7) (hc : isC sd c) : c.toInt < 67 := by unfold isC at hc; omega
/-- where the row keeps whether a cell is a pond -/
def pat (c : Int32) : Nat := 40 + 7 * (c.toInt / 10).toNat + (c.toInt % 10).toNat
def pnd (N : Nw) (c : Int32) : Int32 := N (pat c)
theorem pat_b {sd c : Int32} (hs : sd.toInt ≤ 7) (hc : isC sd c) : 40 ≤ pat c ∧ pat c < 89 := by unfold isC at hc; unfold pat; omega
theorem pat_inj {sd c d : Int32} (hs : sd.toInt ≤ 7) (hc : isC sd c) (hd : isC sd d) (h : pat c = pat d) : c = d := by
  unfold isC at hc hd
  unfold pat at h
  exact Int32.toInt_inj.1 (by omega)
theorem i_pat {sd c : Int32} (hs : sd.toInt ≤ 7) (hc : isC sd c) : ((40 + (7 * (c / 10))) + (c - c / 10 * 10)).toInt = pat c := by
  have hc' := hc
  unfold isC at hc'
  have e7 : (7 : Int32).toInt = 7 := rfl
  have e40 : (40 : Int32).toInt = 40 := rfl
  have e1 := i_d10 hc'.1
  have e2 := i_m10 hc'.1
  have e3 : (7 * (c / 10)).toInt = 7 * (c.toInt / 10) := by rw [i_mul (by rw [e7, e1]; omega), e7, e1]
  have e4 : (40 + 7 * (c / 10)).toInt = 40 + 7 * (c.toInt / 10) := by rw [i_add (by rw [e40, e3]; omega), e40, e3]
  rw [i_add (by rw [e4, e2]; omega), e4, e2]
  unfold pat
  omega
/-- whether the cell ahead, that way, is a pond -/
abbrev shb (N : Nw) (c f : Int32) : Prop := ¬ bes (N 90) c f = -1 ∧ pnd N (bes (N 90) c f) = 1
abbrev shr (N : Nw) (c : Int32) : Prop := ((shb N c 0 ∨ shb N c 1) ∨ shb N c 2) ∨ shb N c 3
def pe (N : Nw) : Nat := (N 89).toInt.toNat
def okN (N : Nw) : Prop := (0 ≤ (N 89).toInt ∧ (N 89).toInt ≤ 8) ∧ (5 ≤ (N 90).toInt ∧ (N 90).toInt ≤ 7) ∧ (N 91 = 0 ∨ N 91 = 1) ∧ (∀ k : Nat, k < 49 → N (40 + k) = 0 ∨ N (40 + k) = 1) ∧ ∀ p : Nat, p < pe N → (0 ≤ (N (5 * p)).toInt ∧ (N (5 * p)).toInt < 6) ∧ isC (N 90) (N (5 * p + 2)) ∧ okF (N (5 * p + 3)) ∧ (N (5 * p + 4) = 0 ∨ N (5 * p + 4) = 1) ∧ ¬ pnd N (N (5 * p + 2)) = 1
theorem okN.pe8 {N : Nw} (h : okN N) : pe N ≤ 8 := by have := h.1; unfold pe; omega
theorem okN.peI {N : Nw} (h : okN N) : (N 89).toInt = pe N := by have := h.1; unfold pe; omega
theorem okN.side {N : Nw} (h : okN N) : (N 90).toInt ≤ 7 := h.2.1.2
theorem okN.pnd {N : Nw} (h : okN N) {c : Int32} (hc : isC (N 90) c) : pnd N c = 0 ∨ pnd N c = 1 := by
  have hb := pat_b h.side hc
  have := h.2.2.2.1 (pat c - 40) (by omega)
  rwa [show 40 + (pat c - 40) = pat c by omega] at this
/-- who is a person -/
abbrev isP (N : Nw) (p : Int32) : Prop := 0 ≤ p.toInt ∧ p.toInt < (N 89).toInt
theorem isP_nat {N : Nw} {p : Int32} (h : isP N p) : p.toInt.toNat < pe N := by unfold isP at h; unfold pe; omega
/-! ===== walkers: cell, faces, turns, the latest turn's sign, what it went by, by which sign one fell ===== -/
abbrev Wk : Type := Int32 × Int32 × Nat × Int32 × Int32 × Int32
def uC (u : Wk) : Int32 := u.1
def uF (u : Wk) : Int32 := u.2.1
def uT (u : Wk) : Nat := u.2.2.1
def uS (u : Wk) : Int32 := u.2.2.2.1
def uB (u : Wk) : Int32 := u.2.2.2.2.1
def uL (u : Wk) : Int32 := u.2.2.2.2.2
def by1 (N : Nw) (kd lf : Int32) (p : Nat) (u : Wk) (sg : Int32) : Int32 :=
  if kd = 0 then lf else if kd = 1 then N 92 else if kd = 2 then (if uT u % 2 = 1 then 1 - lf else lf) else if kd = 3 then N (5 * p + 4) else if kd = 4 then (if shr N (uC u) then 1 - lf else lf) else if uT u = 0 then lf else if uS u = sg then 1 - uB u else uB u
def trn (f sg b : Int32) : Int32 := if (b = 1 ↔ sg = 1) then (f + 1) - (f + 1) / 4 * 4 else (f + 3) - (f + 3) / 4 * 4
theorem trn_ok {f sg b : Int32} (h : okF f) : okF (trn f sg b) := by
  unfold trn
  rcases okF_c h with rfl | rfl | rfl | rfl <;> split <;> decide
def onW (N : Nw) (u : Wk) (n : Int32) : Wk := if bes (N 90) (uC u) (uF u) = -1 then u else (bes (N 90) (uC u) (uF u), uF u, uT u, uS u, uB u, if pnd N (bes (N 90) (uC u) (uF u)) = 1 then n else -1)
def tnW (N : Nw) (kd lf : Int32) (p : Nat) (u : Wk) (sg : Int32) : Wk := (uC u, trn (uF u) sg (by1 N kd lf p u sg), uT u + 1, sg, by1 N kd lf p u sg, -1)
/-- a walker behind a sign -/
def stp (N : Nw) (kd lf : Int32) (p : Nat) (u : Wk) (sg n : Int32) : Wk :=
  if uL u = -1 then (if sg = 0 then onW N u n else if sg = 1 ∨ sg = 2 then tnW N kd lf p u sg else u) else u
def beg (c f : Int32) : Wk := (c, f, 0, -1, 0, -1)
def runW (N : Nw) (kd lf : Int32) (p : Nat) (T : Nat → Int32) (u : Wk) : Nat → Wk
  | 0 => u
  | n + 1 => stp N kd lf p (runW N kd lf p T u n) (T n) (Int32.ofNat n)
def okU (N : Nw) (u : Wk) : Prop := isC (N 90) (uC u) ∧ okF (uF u) ∧ (uL u = -1 → ¬ pnd N (uC u) = 1)
theorem stp_ok {N : Nw} {kd lf : Int32} {p : Nat} {u : Wk} {sg n : Int32} (hN : okN N) (hn : ¬ n = -1) (h : okU N u) : okU N (stp N kd lf p u sg n) := by
  unfold stp
  split
  · rename_i hu
    split
    · unfold onW
      split
      · exact h
      · rename_i hb
        refine ⟨bes_ne hN.side h.1 hb, h.2.1, ?_⟩
        intro hl
        show ¬ pnd N (bes (N 90) (uC u) (uF u)) = 1
        intro hp
        have e : (if pnd N (bes (N 90) (uC u) (uF u)) = 1 then n else -1) = n := if_pos hp
        exact hn (e.symm.trans hl)
    · split
      · exact ⟨h.1, trn_ok h.2.1, fun _ => h.2.2 hu⟩
      · exact h
  · exact h
theorem stp_T (N : Nw) (kd lf : Int32) (p : Nat) (u : Wk) (sg n : Int32) : uT (stp N kd lf p u sg n) ≤ uT u + 1 := by
  unfold stp onW tnW
  split <;> (try split) <;> (try split) <;> simp [uT]
/-! literals that differ (printed) -/
theorem ie_m6_m5 : ((-6 : Int32) = (-5)) = False := eq_false (by decide)
theorem ie_m6_m4 : ((-6 : Int32) = (-4)) = False := eq_false (by decide)
theorem ie_m6_m3 : ((-6 : Int32) = (-3)) = False := eq_false (by decide)
theorem ie_m6_m2 : ((-6 : Int32) = (-2)) = False := eq_false (by decide)
theorem ie_m6_m1 : ((-6 : Int32) = (-1)) = False := eq_false (by decide)
theorem ie_m6_0 : ((-6 : Int32) = 0) = False := eq_false (by decide)
theorem ie_m6_1 : ((-6 : Int32) = 1) = False := eq_false (by decide)
theorem ie_m6_2 : ((-6 : Int32) = 2) = False := eq_false (by decide)
theorem ie_m6_3 : ((-6 : Int32) = 3) = False := eq_false (by decide)
theorem ie_m6_4 : ((-6 : Int32) = 4) = False := eq_false (by decide)
theorem ie_m6_5 : ((-6 : Int32) = 5) = False := eq_false (by decide)
theorem ie_m6_6 : ((-6 : Int32) = 6) = False := eq_false (by decide)
theorem ie_m5_m6 : ((-5 : Int32) = (-6)) = False := eq_false (by decide)
theorem ie_m5_m4 : ((-5 : Int32) = (-4)) = False := eq_false (by decide)
theorem ie_m5_m3 : ((-5 : Int32) = (-3)) = False := eq_false (by decide)
theorem ie_m5_m2 : ((-5 : Int32) = (-2)) = False := eq_false (by decide)
theorem ie_m5_m1 : ((-5 : Int32) = (-1)) = False := eq_false (by decide)
theorem ie_m5_0 : ((-5 : Int32) = 0) = False := eq_false (by decide)
theorem ie_m5_1 : ((-5 : Int32) = 1) = False := eq_false (by decide)
theorem ie_m5_2 : ((-5 : Int32) = 2) = False := eq_false (by decide)
theorem ie_m5_3 : ((-5 : Int32) = 3) = False := eq_false (by decide)
theorem ie_m5_4 : ((-5 : Int32) = 4) = False := eq_false (by decide)
theorem ie_m5_5 : ((-5 : Int32) = 5) = False := eq_false (by decide)
theorem ie_m5_6 : ((-5 : Int32) = 6) = False := eq_false (by decide)
theorem ie_m4_m6 : ((-4 : Int32) = (-6)) = False := eq_false (by decide)
theorem ie_m4_m5 : ((-4 : Int32) = (-5)) = False := eq_false (by decide)
theorem ie_m4_m3 : ((-4 : Int32) = (-3)) = False := eq_false (by decide)
theorem ie_m4_m2 : ((-4 : Int32) = (-2)) = False := eq_false (by decide)
theorem ie_m4_m1 : ((-4 : Int32) = (-1)) = False := eq_false (by decide)
theorem ie_m4_0 : ((-4 : Int32) = 0) = False := eq_false (by decide)
theorem ie_m4_1 : ((-4 : Int32) = 1) = False := eq_false (by decide)
theorem ie_m4_2 : ((-4 : Int32) = 2) = False := eq_false (by decide)
theorem ie_m4_3 : ((-4 : Int32) = 3) = False := eq_false (by decide)
theorem ie_m4_4 : ((-4 : Int32) = 4) = False := eq_false (by decide)
theorem ie_m4_5 : ((-4 : Int32) = 5) = False := eq_false (by decide)
theorem ie_m4_6 : ((-4 : Int32) = 6) = False := eq_false (by decide)
theorem ie_m3_m6 : ((-3 : Int32) = (-6)) = False := eq_false (by decide)
theorem ie_m3_m5 : ((-3 : Int32) = (-5)) = False := eq_false (by decide)
theorem ie_m3_m4 : ((-3 : Int32) = (-4)) = False := eq_false (by decide)
theorem ie_m3_m2 : ((-3 : Int32) = (-2)) = False := eq_false (by decide)
theorem ie_m3_m1 : ((-3 : Int32) = (-1)) = False := eq_false (by decide)
theorem ie_m3_0 : ((-3 : Int32) = 0) = False := eq_false (by decide)
theorem ie_m3_1 : ((-3 : Int32) = 1) = False := eq_false (by decide)
theorem ie_m3_2 : ((-3 : Int32) = 2) = False := eq_false (by decide)
theorem ie_m3_3 : ((-3 : Int32) = 3) = False := eq_false (by decide)
theorem ie_m3_4 : ((-3 : Int32) = 4) = False := eq_false (by decide)
theorem ie_m3_5 : ((-3 : Int32) = 5) = False := eq_false (by decide)
theorem ie_m3_6 : ((-3 : Int32) = 6) = False := eq_false (by decide)
theorem ie_m2_m6 : ((-2 : Int32) = (-6)) = False := eq_false (by decide)
theorem ie_m2_m5 : ((-2 : Int32) = (-5)) = False := eq_false (by decide)
theorem ie_m2_m4 : ((-2 : Int32) = (-4)) = False := eq_false (by decide)
theorem ie_m2_m3 : ((-2 : Int32) = (-3)) = False := eq_false (by decide)
theorem ie_m2_m1 : ((-2 : Int32) = (-1)) = False := eq_false (by decide)
theorem ie_m2_0 : ((-2 : Int32) = 0) = False := eq_false (by decide)
theorem ie_m2_1 : ((-2 : Int32) = 1) = False := eq_false (by decide)
theorem ie_m2_2 : ((-2 : Int32) = 2) = False := eq_false (by decide)
theorem ie_m2_3 : ((-2 : Int32) = 3) = False := eq_false (by decide)
theorem ie_m2_4 : ((-2 : Int32) = 4) = False := eq_false (by decide)
theorem ie_m2_5 : ((-2 : Int32) = 5) = False := eq_false (by decide)
theorem ie_m2_6 : ((-2 : Int32) = 6) = False := eq_false (by decide)
theorem ie_m1_m6 : ((-1 : Int32) = (-6)) = False := eq_false (by decide)
theorem ie_m1_m5 : ((-1 : Int32) = (-5)) = False := eq_false (by decide)
theorem ie_m1_m4 : ((-1 : Int32) = (-4)) = False := eq_false (by decide)
theorem ie_m1_m3 : ((-1 : Int32) = (-3)) = False := eq_false (by decide)
theorem ie_m1_m2 : ((-1 : Int32) = (-2)) = False := eq_false (by decide)
theorem ie_m1_0 : ((-1 : Int32) = 0) = False := eq_false (by decide)
theorem ie_m1_1 : ((-1 : Int32) = 1) = False := eq_false (by decide)
theorem ie_m1_2 : ((-1 : Int32) = 2) = False := eq_false (by decide)
theorem ie_m1_3 : ((-1 : Int32) = 3) = False := eq_false (by decide)
theorem ie_m1_4 : ((-1 : Int32) = 4) = False := eq_false (by decide)
theorem ie_m1_5 : ((-1 : Int32) = 5) = False := eq_false (by decide)
theorem ie_m1_6 : ((-1 : Int32) = 6) = False := eq_false (by decide)
theorem ie_0_m6 : ((0 : Int32) = (-6)) = False := eq_false (by decide)
theorem ie_0_m5 : ((0 : Int32) = (-5)) = False := eq_false (by decide)
theorem ie_0_m4 : ((0 : Int32) = (-4)) = False := eq_false (by decide)
theorem ie_0_m3 : ((0 : Int32) = (-3)) = False := eq_false (by decide)
theorem ie_0_m2 : ((0 : Int32) = (-2)) = False := eq_false (by decide)
theorem ie_0_m1 : ((0 : Int32) = (-1)) = False := eq_false (by decide)
theorem ie_0_1 : ((0 : Int32) = 1) = False := eq_false (by decide)
theorem ie_0_2 : ((0 : Int32) = 2) = False := eq_false (by decide)
theorem ie_0_3 : ((0 : Int32) = 3) = False := eq_false (by decide)
theorem ie_0_4 : ((0 : Int32) = 4) = False := eq_false (by decide)
theorem ie_0_5 : ((0 : Int32) = 5) = False := eq_false (by decide)
theorem ie_0_6 : ((0 : Int32) = 6) = False := eq_false (by decide)
theorem ie_1_m6 : ((1 : Int32) = (-6)) = False := eq_false (by decide)
theorem ie_1_m5 : ((1 : Int32) = (-5)) = False := eq_false (by decide)
theorem ie_1_m4 : ((1 : Int32) = (-4)) = False := eq_false (by decide)
theorem ie_1_m3 : ((1 : Int32) = (-3)) = False := eq_false (by decide)
theorem ie_1_m2 : ((1 : Int32) = (-2)) = False := eq_false (by decide)
theorem ie_1_m1 : ((1 : Int32) = (-1)) = False := eq_false (by decide)
theorem ie_1_0 : ((1 : Int32) = 0) = False := eq_false (by decide)
theorem ie_1_2 : ((1 : Int32) = 2) = False := eq_false (by decide)
theorem ie_1_3 : ((1 : Int32) = 3) = False := eq_false (by decide)
theorem ie_1_4 : ((1 : Int32) = 4) = False := eq_false (by decide)
theorem ie_1_5 : ((1 : Int32) = 5) = False := eq_false (by decide)
theorem ie_1_6 : ((1 : Int32) = 6) = False := eq_false (by decide)
theorem ie_2_m6 : ((2 : Int32) = (-6)) = False := eq_false (by decide)
theorem ie_2_m5 : ((2 : Int32) = (-5)) = False := eq_false (by decide)
theorem ie_2_m4 : ((2 : Int32) = (-4)) = False := eq_false (by decide)
theorem ie_2_m3 : ((2 : Int32) = (-3)) = False := eq_false (by decide)
theorem ie_2_m2 : ((2 : Int32) = (-2)) = False := eq_false (by decide)
theorem ie_2_m1 : ((2 : Int32) = (-1)) = False := eq_false (by decide)
theorem ie_2_0 : ((2 : Int32) = 0) = False := eq_false (by decide)
theorem ie_2_1 : ((2 : Int32) = 1) = False := eq_false (by decide)
theorem ie_2_3 : ((2 : Int32) = 3) = False := eq_false (by decide)
theorem ie_2_4 : ((2 : Int32) = 4) = False := eq_false (by decide)
theorem ie_2_5 : ((2 : Int32) = 5) = False := eq_false (by decide)
theorem ie_2_6 : ((2 : Int32) = 6) = False := eq_false (by decide)
theorem ie_3_m6 : ((3 : Int32) = (-6)) = False := eq_false (by decide)
theorem ie_3_m5 : ((3 : Int32) = (-5)) = False := eq_false (by decide)
theorem ie_3_m4 : ((3 : Int32) = (-4)) = False := eq_false (by decide)
theorem ie_3_m3 : ((3 : Int32) = (-3)) = False := eq_false (by decide)
theorem ie_3_m2 : ((3 : Int32) = (-2)) = False := eq_false (by decide)
theorem ie_3_m1 : ((3 : Int32) = (-1)) = False := eq_false (by decide)
theorem ie_3_0 : ((3 : Int32) = 0) = False := eq_false (by decide)
theorem ie_3_1 : ((3 : Int32) = 1) = False := eq_false (by decide)
theorem ie_3_2 : ((3 : Int32) = 2) = False := eq_false (by decide)
theorem ie_3_4 : ((3 : Int32) = 4) = False := eq_false (by decide)
theorem ie_3_5 : ((3 : Int32) = 5) = False := eq_false (by decide)
theorem ie_3_6 : ((3 : Int32) = 6) = False := eq_false (by decide)
theorem ie_4_m6 : ((4 : Int32) = (-6)) = False := eq_false (by decide)
theorem ie_4_m5 : ((4 : Int32) = (-5)) = False := eq_false (by decide)
theorem ie_4_m4 : ((4 : Int32) = (-4)) = False := eq_false (by decide)
theorem ie_4_m3 : ((4 : Int32) = (-3)) = False := eq_false (by decide)
theorem ie_4_m2 : ((4 : Int32) = (-2)) = False := eq_false (by decide)
theorem ie_4_m1 : ((4 : Int32) = (-1)) = False := eq_false (by decide)
theorem ie_4_0 : ((4 : Int32) = 0) = False := eq_false (by decide)
theorem ie_4_1 : ((4 : Int32) = 1) = False := eq_false (by decide)
theorem ie_4_2 : ((4 : Int32) = 2) = False := eq_false (by decide)
theorem ie_4_3 : ((4 : Int32) = 3) = False := eq_false (by decide)
theorem ie_4_5 : ((4 : Int32) = 5) = False := eq_false (by decide)
theorem ie_4_6 : ((4 : Int32) = 6) = False := eq_false (by decide)
theorem ie_5_m6 : ((5 : Int32) = (-6)) = False := eq_false (by decide)
theorem ie_5_m5 : ((5 : Int32) = (-5)) = False := eq_false (by decide)
theorem ie_5_m4 : ((5 : Int32) = (-4)) = False := eq_false (by decide)
theorem ie_5_m3 : ((5 : Int32) = (-3)) = False := eq_false (by decide)
theorem ie_5_m2 : ((5 : Int32) = (-2)) = False := eq_false (by decide)
theorem ie_5_m1 : ((5 : Int32) = (-1)) = False := eq_false (by decide)
theorem ie_5_0 : ((5 : Int32) = 0) = False := eq_false (by decide)
theorem ie_5_1 : ((5 : Int32) = 1) = False := eq_false (by decide)
theorem ie_5_2 : ((5 : Int32) = 2) = False := eq_false (by decide)
theorem ie_5_3 : ((5 : Int32) = 3) = False := eq_false (by decide)
theorem ie_5_4 : ((5 : Int32) = 4) = False := eq_false (by decide)
theorem ie_5_6 : ((5 : Int32) = 6) = False := eq_false (by decide)
theorem ie_6_m6 : ((6 : Int32) = (-6)) = False := eq_false (by decide)
theorem ie_6_m5 : ((6 : Int32) = (-5)) = False := eq_false (by decide)
theorem ie_6_m4 : ((6 : Int32) = (-4)) = False := eq_false (by decide)
theorem ie_6_m3 : ((6 : Int32) = (-3)) = False := eq_false (by decide)
theorem ie_6_m2 : ((6 : Int32) = (-2)) = False := eq_false (by decide)
theorem ie_6_m1 : ((6 : Int32) = (-1)) = False := eq_false (by decide)
theorem ie_6_0 : ((6 : Int32) = 0) = False := eq_false (by decide)
theorem ie_6_1 : ((6 : Int32) = 1) = False := eq_false (by decide)
theorem ie_6_2 : ((6 : Int32) = 2) = False := eq_false (by decide)
theorem ie_6_3 : ((6 : Int32) = 3) = False := eq_false (by decide)
theorem ie_6_4 : ((6 : Int32) = 4) = False := eq_false (by decide)
theorem ie_6_5 : ((6 : Int32) = 5) = False := eq_false (by decide)
