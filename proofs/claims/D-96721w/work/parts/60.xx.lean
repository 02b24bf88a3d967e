/-! ===== the class in a world (printed by prog/gen_xx.py) ===== -/
def xTy (j : Nat) : Option wTy := if j = 0 then some (20, 12, true) else if j ≤ 7 then none else if j ≤ 9 then some (22, 8, true) else if j ≤ 11 then some (7, 7, true) else if j = 12 then some (0, 6, true) else if j = 13 then some (0, 70, true) else if j = 14 then some (8, 8, true) else if j = 15 then some (0, 250, true) else if j = 16 then some (0, 7, true) else if j ≤ 24 then some (23, 1, true) else some (22, 8, true)
/-- the constants -/
def kSh (w : Wd) (b : Nat) : Prop := ∃ d e : Nat, (wk w 0 = some d ∧ wk w 1 = some e) ∧ (d < b ∧ e < b ∧ b ≤ wz w) ∧ (wT w d = some (0, 4, false) ∧ wT w e = some (0, 4, false)) ∧ (wI w d 0 = -1 ∧ wI w d 1 = 0 ∧ wI w d 2 = 1 ∧ wI w d 3 = 0) ∧ (wI w e 0 = 0 ∧ wI w e 1 = 1 ∧ wI w e 2 = 0 ∧ wI w e 3 = -1)
theorem kSh.sc {w w' : Wd} {b : Nat} {P : Nat → Nat → Prop} (h : kSh w b) (hf : fr P w w') (hP : ∀ q k, q < b → ¬ P q k) : kSh w' b := by
  obtain ⟨d, e, ⟨h1, h2⟩, ⟨h3, h4, h5⟩, ⟨h6, h7⟩, h8, h9⟩ := h
  refine ⟨d, e, ⟨(congrFun hf.1.2 0).trans h1, (congrFun hf.1.2 1).trans h2⟩, ⟨h3, h4, Nat.le_trans h5 hf.z⟩, ⟨hf.T (by omega) h6, hf.T (by omega) h7⟩, ?_, ?_⟩
  · rw [hf.I (by omega) (hP d _ h3)]; exact h8
  · rw [hf.I (by omega) (hP e _ h4)]; exact h9
def xSh (w : Wd) (b : Nat) : Prop := b + 60 ≤ wz w ∧ (∀ j : Nat, j < 39 → j = 0 ∨ 8 ≤ j → wT w (b + j) = xTy j) ∧ wG w b 2 = some (b + 8) ∧ wG w b 3 = some (b + 9) ∧ wG w b 4 = some (b + 10) ∧ wG w b 5 = some (b + 11) ∧ wG w b 6 = some (b + 12) ∧ wG w b 7 = some (b + 13) ∧ wG w b 8 = some (b + 14) ∧ wG w b 9 = some (b + 15) ∧ wG w b 11 = some (b + 16) ∧ (∀ k : Nat, k < 7 → wQ w (b + 10) k = some (b + 25 + 2 * k) ∧ wQ w (b + 11) k = some (b + 26 + 2 * k)) ∧ (∀ s : Nat, s < 8 → wQ w (b + 14) s = some (b + 17 + s)) ∧ kSh w b
theorem xSh.z {w : Wd} {b : Nat} (h : xSh w b) : b + 60 ≤ wz w := h.1
theorem xSh.t0 {w : Wd} {b : Nat} (h : xSh w b) : wT w b = some (20, 12, true) := h.2.1 0 (by decide) (by decide)
theorem xSh.t8 {w : Wd} {b : Nat} (h : xSh w b) : wT w (b + 8) = some (22, 8, true) := h.2.1 8 (by decide) (by decide)
theorem xSh.t9 {w : Wd} {b : Nat} (h : xSh w b) : wT w (b + 9) = some (22, 8, true) := h.2.1 9 (by decide) (by decide)
theorem xSh.t10 {w : Wd} {b : Nat} (h : xSh w b) : wT w (b + 10) = some (7, 7, true) := h.2.1 10 (by decide) (by decide)
theorem xSh.t11 {w : Wd} {b : Nat} (h : xSh w b) : wT w (b + 11) = some (7, 7, true) := h.2.1 11 (by decide) (by decide)
theorem xSh.t12 {w : Wd} {b : Nat} (h : xSh w b) : wT w (b + 12) = some (0, 6, true) := h.2.1 12 (by decide) (by decide)
theorem xSh.t13 {w : Wd} {b : Nat} (h : xSh w b) : wT w (b + 13) = some (0, 70, true) := h.2.1 13 (by decide) (by decide)
theorem xSh.t14 {w : Wd} {b : Nat} (h : xSh w b) : wT w (b + 14) = some (8, 8, true) := h.2.1 14 (by decide) (by decide)
theorem xSh.t15 {w : Wd} {b : Nat} (h : xSh w b) : wT w (b + 15) = some (0, 250, true) := h.2.1 15 (by decide) (by decide)
theorem xSh.t16 {w : Wd} {b : Nat} (h : xSh w b) : wT w (b + 16) = some (0, 7, true) := h.2.1 16 (by decide) (by decide)
theorem xSh.tS {w : Wd} {b : Nat} (h : xSh w b) (s : Nat) (hs : s < 8) : wT w (b + 17 + s) = some (23, 1, true) := by
  rw [Nat.add_assoc, h.2.1 (17 + s) (by omega) (by omega)]
  unfold xTy
  rw [if_neg (by omega), if_neg (by omega), if_neg (by omega), if_neg (by omega), if_neg (by omega), if_neg (by omega), if_neg (by omega), if_neg (by omega), if_neg (by omega), if_pos (by omega)]
theorem xSh.tW {w : Wd} {b : Nat} (h : xSh w b) (s : Nat) (hs : s < 14) : wT w (b + 25 + s) = some (22, 8, true) := by
  rw [Nat.add_assoc, h.2.1 (25 + s) (by omega) (by omega)]
  unfold xTy
  rw [if_neg (by omega), if_neg (by omega), if_neg (by omega), if_neg (by omega), if_neg (by omega), if_neg (by omega), if_neg (by omega), if_neg (by omega), if_neg (by omega), if_neg (by omega)]
theorem xSh.g2 {w : Wd} {b : Nat} (h : xSh w b) : wG w b 2 = some (b + 8) := h.2.2.1
theorem xSh.g3 {w : Wd} {b : Nat} (h : xSh w b) : wG w b 3 = some (b + 9) := h.2.2.2.1
theorem xSh.g4 {w : Wd} {b : Nat} (h : xSh w b) : wG w b 4 = some (b + 10) := h.2.2.2.2.1
theorem xSh.g5 {w : Wd} {b : Nat} (h : xSh w b) : wG w b 5 = some (b + 11) := h.2.2.2.2.2.1
theorem xSh.g6 {w : Wd} {b : Nat} (h : xSh w b) : wG w b 6 = some (b + 12) := h.2.2.2.2.2.2.1
theorem xSh.g7 {w : Wd} {b : Nat} (h : xSh w b) : wG w b 7 = some (b + 13) := h.2.2.2.2.2.2.2.1
theorem xSh.g8 {w : Wd} {b : Nat} (h : xSh w b) : wG w b 8 = some (b + 14) := h.2.2.2.2.2.2.2.2.1
theorem xSh.g9 {w : Wd} {b : Nat} (h : xSh w b) : wG w b 9 = some (b + 15) := h.2.2.2.2.2.2.2.2.2.1
theorem xSh.g11 {w : Wd} {b : Nat} (h : xSh w b) : wG w b 11 = some (b + 16) := h.2.2.2.2.2.2.2.2.2.2.1
theorem xSh.q1 {w : Wd} {b : Nat} (h : xSh w b) (k : Nat) (hk : k < 7) : wQ w (b + 10) k = some (b + 25 + 2 * k) := (h.2.2.2.2.2.2.2.2.2.2.2.1 k hk).1
theorem xSh.q2 {w : Wd} {b : Nat} (h : xSh w b) (k : Nat) (hk : k < 7) : wQ w (b + 11) k = some (b + 26 + 2 * k) := (h.2.2.2.2.2.2.2.2.2.2.2.1 k hk).2
theorem xSh.qs {w : Wd} {b : Nat} (h : xSh w b) (s : Nat) (hs : s < 8) : wQ w (b + 14) s = some (b + 17 + s) := h.2.2.2.2.2.2.2.2.2.2.2.2.1 s hs
theorem xSh.k {w : Wd} {b : Nat} (h : xSh w b) : kSh w b := h.2.2.2.2.2.2.2.2.2.2.2.2.2
theorem xSh.ob {w : Wd} {b : Nat} (h : xSh w b) (a : List Nat) : wob w b (20 :: a) = True := by unfold wob; rw [h.t0]; simp
theorem xSh.gF {w : Wd} {b : Nat} (h : xSh w b) (k : Nat) (K : Int32 → Prop) : wgF w (some b) [20] k K = K (wF w b k) := by show (wob w b [20] ∧ _) = _; rw [h.ob]; simp
theorem xSh.pF {w : Wd} {b : Nat} (h : xSh w b) (k : Nat) (v : Int32) (K : Wd → Prop) : wpF w (some b) [20] k v K = K (sF w b k v) := by show (wobw w b [20] ∧ _) = _; unfold wobw; rw [h.t0]; simp
theorem xSh.G0 {w : Wd} {b : Nat} (h : xSh w b) (K : Option Nat → Prop) : wgG w (some b) [20] 0 K = K (wG w b 0) := by show (wob w b [20] ∧ _) = _; rw [h.ob]; simp
theorem xSh.G1 {w : Wd} {b : Nat} (h : xSh w b) (K : Option Nat → Prop) : wgG w (some b) [20] 1 K = K (wG w b 1) := by show (wob w b [20] ∧ _) = _; rw [h.ob]; simp
theorem xSh.pG {w : Wd} {b : Nat} (h : xSh w b) (k : Nat) (v : Option Nat) (K : Wd → Prop) : wpG w (some b) [20] k v K = K (sG w b k v) := by show (wobw w b [20] ∧ _) = _; unfold wobw; rw [h.t0]; simp
theorem xSh.G2 {w : Wd} {b : Nat} (h : xSh w b) (K : Option Nat → Prop) : wgG w (some b) [20] 2 K = K (some (b + 8)) := by show (wob w b [20] ∧ K (wG w b 2)) = _; rw [h.ob, h.g2]; simp
theorem xSh.G3 {w : Wd} {b : Nat} (h : xSh w b) (K : Option Nat → Prop) : wgG w (some b) [20] 3 K = K (some (b + 9)) := by show (wob w b [20] ∧ K (wG w b 3)) = _; rw [h.ob, h.g3]; simp
theorem xSh.G4 {w : Wd} {b : Nat} (h : xSh w b) (K : Option Nat → Prop) : wgG w (some b) [20] 4 K = K (some (b + 10)) := by show (wob w b [20] ∧ K (wG w b 4)) = _; rw [h.ob, h.g4]; simp
theorem xSh.G5 {w : Wd} {b : Nat} (h : xSh w b) (K : Option Nat → Prop) : wgG w (some b) [20] 5 K = K (some (b + 11)) := by show (wob w b [20] ∧ K (wG w b 5)) = _; rw [h.ob, h.g5]; simp
theorem xSh.G6 {w : Wd} {b : Nat} (h : xSh w b) (K : Option Nat → Prop) : wgG w (some b) [20] 6 K = K (some (b + 12)) := by show (wob w b [20] ∧ K (wG w b 6)) = _; rw [h.ob, h.g6]; simp
theorem xSh.G7 {w : Wd} {b : Nat} (h : xSh w b) (K : Option Nat → Prop) : wgG w (some b) [20] 7 K = K (some (b + 13)) := by show (wob w b [20] ∧ K (wG w b 7)) = _; rw [h.ob, h.g7]; simp
theorem xSh.G8 {w : Wd} {b : Nat} (h : xSh w b) (K : Option Nat → Prop) : wgG w (some b) [20] 8 K = K (some (b + 14)) := by show (wob w b [20] ∧ K (wG w b 8)) = _; rw [h.ob, h.g8]; simp
theorem xSh.G9 {w : Wd} {b : Nat} (h : xSh w b) (K : Option Nat → Prop) : wgG w (some b) [20] 9 K = K (some (b + 15)) := by show (wob w b [20] ∧ K (wG w b 9)) = _; rw [h.ob, h.g9]; simp
theorem xSh.G11 {w : Wd} {b : Nat} (h : xSh w b) (K : Option Nat → Prop) : wgG w (some b) [20] 11 K = K (some (b + 16)) := by show (wob w b [20] ∧ K (wG w b 11)) = _; rw [h.ob, h.g11]; simp
theorem xSh.r12 {w : Wd} {b : Nat} (h : xSh w b) (i : Int32) (K : Int32 → Prop) : wld w (some (b + 12)) 0 i K = (vp_in i 6 ∧ K (wI w (b + 12) i.toInt.toNat)) := by show (warr w (b + 12) 0 i ∧ _) = _; unfold warr; rw [h.t12]; simp only [i_nat, true_and, and_true]
theorem xSh.w12 {w : Wd} {b : Nat} (h : xSh w b) (i x : Int32) (K : Wd → Prop) : wst w (some (b + 12)) 0 i x K = (vp_in i 6 ∧ K (sI w (b + 12) i.toInt.toNat x)) := by show (warw w (b + 12) 0 i ∧ _) = _; unfold warw; rw [h.t12]; simp only [i_nat, true_and, and_true]
theorem xSh.r13 {w : Wd} {b : Nat} (h : xSh w b) (i : Int32) (K : Int32 → Prop) : wld w (some (b + 13)) 0 i K = (vp_in i 70 ∧ K (wI w (b + 13) i.toInt.toNat)) := by show (warr w (b + 13) 0 i ∧ _) = _; unfold warr; rw [h.t13]; simp only [i_nat, true_and, and_true]
theorem xSh.w13 {w : Wd} {b : Nat} (h : xSh w b) (i x : Int32) (K : Wd → Prop) : wst w (some (b + 13)) 0 i x K = (vp_in i 70 ∧ K (sI w (b + 13) i.toInt.toNat x)) := by show (warw w (b + 13) 0 i ∧ _) = _; unfold warw; rw [h.t13]; simp only [i_nat, true_and, and_true]
theorem xSh.r15 {w : Wd} {b : Nat} (h : xSh w b) (i : Int32) (K : Int32 → Prop) : wld w (some (b + 15)) 0 i K = (vp_in i 250 ∧ K (wI w (b + 15) i.toInt.toNat)) := by show (warr w (b + 15) 0 i ∧ _) = _; unfold warr; rw [h.t15]; simp only [i_nat, true_and, and_true]
theorem xSh.w15 {w : Wd} {b : Nat} (h : xSh w b) (i x : Int32) (K : Wd → Prop) : wst w (some (b + 15)) 0 i x K = (vp_in i 250 ∧ K (sI w (b + 15) i.toInt.toNat x)) := by show (warw w (b + 15) 0 i ∧ _) = _; unfold warw; rw [h.t15]; simp only [i_nat, true_and, and_true]
theorem xSh.r16 {w : Wd} {b : Nat} (h : xSh w b) (i : Int32) (K : Int32 → Prop) : wld w (some (b + 16)) 0 i K = (vp_in i 7 ∧ K (wI w (b + 16) i.toInt.toNat)) := by show (warr w (b + 16) 0 i ∧ _) = _; unfold warr; rw [h.t16]; simp only [i_nat, true_and, and_true]
theorem xSh.w16 {w : Wd} {b : Nat} (h : xSh w b) (i x : Int32) (K : Wd → Prop) : wst w (some (b + 16)) 0 i x K = (vp_in i 7 ∧ K (sI w (b + 16) i.toInt.toNat x)) := by show (warw w (b + 16) 0 i ∧ _) = _; unfold warw; rw [h.t16]; simp only [i_nat, true_and, and_true]
theorem xSh.r10 {w : Wd} {b : Nat} (h : xSh w b) (i : Int32) (K : Option Nat → Prop) : wldQ w (some (b + 10)) 7 i K = (vp_in i 7 ∧ K (wQ w (b + 10) i.toInt.toNat)) := by show (warr w (b + 10) 7 i ∧ _) = _; unfold warr; rw [h.t10]; simp only [i_nat, true_and, and_true]
theorem xSh.r11 {w : Wd} {b : Nat} (h : xSh w b) (i : Int32) (K : Option Nat → Prop) : wldQ w (some (b + 11)) 7 i K = (vp_in i 7 ∧ K (wQ w (b + 11) i.toInt.toNat)) := by show (warr w (b + 11) 7 i ∧ _) = _; unfold warr; rw [h.t11]; simp only [i_nat, true_and, and_true]
theorem xSh.r14 {w : Wd} {b : Nat} (h : xSh w b) (i : Int32) (K : Option Nat → Prop) : wldQ w (some (b + 14)) 8 i K = (vp_in i 8 ∧ K (wQ w (b + 14) i.toInt.toNat)) := by show (warr w (b + 14) 8 i ∧ _) = _; unfold warr; rw [h.t14]; simp only [i_nat, true_and, and_true]
theorem xSh.obW8 {w : Wd} {b : Nat} (h : xSh w b) (a : List Nat) : wob w (b + 8) (22 :: a) = True := by unfold wob; rw [h.t8]; simp
theorem xSh.obW9 {w : Wd} {b : Nat} (h : xSh w b) (a : List Nat) : wob w (b + 9) (22 :: a) = True := by unfold wob; rw [h.t9]; simp
theorem xSh.sc {w w' : Wd} {b : Nat} {P : Nat → Nat → Prop} (h : xSh w b) (hf : fr P w w') (hP : ∀ q k, P q k → ¬ q < b ∧ ¬ (q = b ∧ 2 ≤ k ∧ ¬ k = 10) ∧ ¬ q = b + 10 ∧ ¬ q = b + 11 ∧ ¬ q = b + 14) : xSh w' b := by
  have hz := h.z
  have hz2 := hf.z
  have hg : ∀ k, 2 ≤ k → ¬ k = 10 → wG w' b k = wG w b k := fun k h1 h2 => hf.G (by omega) (fun hp => by have := hP b k hp; omega)
  have hq : ∀ j, j = 10 ∨ j = 11 ∨ j = 14 → wQ w' (b + j) = wQ w (b + j) := fun j hj => hf.Q (by omega) (fun hp => by have := hP _ _ hp; omega)
  refine ⟨by omega, fun j hj h2 => (hf.2 _ (by omega)).1.trans (h.2.1 j hj h2), (hg 2 (by decide) (by decide)).trans h.g2, (hg 3 (by decide) (by decide)).trans h.g3, (hg 4 (by decide) (by decide)).trans h.g4, (hg 5 (by decide) (by decide)).trans h.g5, (hg 6 (by decide) (by decide)).trans h.g6, (hg 7 (by decide) (by decide)).trans h.g7, (hg 8 (by decide) (by decide)).trans h.g8, (hg 9 (by decide) (by decide)).trans h.g9, (hg 11 (by decide) (by decide)).trans h.g11, fun k hk => ⟨?_, ?_⟩, fun s hs => ?_, h.k.sc hf (fun q k hq hp => by have := hP q k hp; omega)⟩
  · rw [hq 10 (by decide)]; exact h.q1 k hk
  · rw [hq 11 (by decide)]; exact h.q2 k hk
  · rw [hq 14 (by decide)]; exact h.qs s hs
/-- what a query may write: the class's scratch -/
def xP (b : Nat) : Nat → Nat → Prop := fun q _ => q = b + 8 ∨ q = b + 9 ∨ q = b + 12 ∨ q = b + 13 ∨ (b + 25 ≤ q ∧ q < b + 39)
/-- anything of the class; the reference lies at b + 39 .. b + 59 -/
def xQ (b : Nat) : Nat → Nat → Prop := fun q _ => b ≤ q ∧ (q < b + 39 ∨ b + 60 ≤ q)
/-- a voter -/
def vot (w : Wd) (b v : Nat) (kd : Int32) (p : Nat) (a : Int32) : Prop := (b + 60 ≤ v ∧ v < wz w) ∧ wT w v = some (26 + kd.toInt.toNat, 2, true) ∧ (0 ≤ kd.toInt ∧ kd.toInt < 6) ∧ wF w v 600 = Int32.ofNat p ∧ wF w v 601 = a
/-- a row of ponds -/
def row7 (N : Nw) (r : Nat) : Int32 := N (40 + 7 * r) + 2 * N (40 + 7 * r + 1) + 4 * N (40 + 7 * r + 2) + 8 * N (40 + 7 * r + 3) + 16 * N (40 + 7 * r + 4) + 32 * N (40 + 7 * r + 5) + 64 * N (40 + 7 * r + 6)
def prs (w : Wd) (b i : Nat) (N : Nw) (p : Nat) : Prop := wI w (i + 3) p = N (5 * p + 2) ∧ wI w (i + 4) p = N (5 * p + 3) ∧ wI w (i + 5) p = N (5 * p + 4) ∧ ∃ v : Nat, wQ w (i + 2) p = some v ∧ vot w b v (N (5 * p)) p (N (5 * p + 1))
/-- an island -/
def isl (w : Wd) (b i : Nat) (N : Nw) : Prop := ((i = b + 1 ∨ b + 60 ≤ i) ∧ i + 7 ≤ wz w) ∧ wT w i = some (21, 11, true) ∧ wT w (i + 1) = some (0, 7, true) ∧ wT w (i + 2) = some (6, 8, true) ∧ wT w (i + 3) = some (0, 8, true) ∧ wT w (i + 4) = some (0, 8, true) ∧ wT w (i + 5) = some (0, 8, true) ∧ wT w (i + 6) = some (0, 3, true) ∧ wG w i 100 = some (i + 1) ∧ wG w i 101 = some (i + 2) ∧ wG w i 102 = some (i + 3) ∧ wG w i 103 = some (i + 4) ∧ wG w i 104 = some (i + 5) ∧ wG w i 105 = some (i + 6) ∧ wF w i 106 = N 90 ∧ wF w i 107 = N 89 ∧ wF w i 108 = N 94 ∧ wF w i 109 = N 95 ∧ wF w i 110 = N 96 ∧ wI w (i + 6) 0 = N 91 ∧ wI w (i + 6) 1 = N 92 ∧ wI w (i + 6) 2 = N 93 ∧ (∀ r : Nat, r < 7 → wI w (i + 1) r = row7 N r) ∧ (∀ p : Nat, p < pe N → prs w b i N p) ∧ ∀ p : Nat, pe N ≤ p → p < 8 → wQ w (i + 2) p = none
theorem isl.z {w : Wd} {b i : Nat} {N : Nw} (h : isl w b i N) : (i = b + 1 ∨ b + 60 ≤ i) ∧ i + 7 ≤ wz w := h.1
theorem isl.t0 {w : Wd} {b i : Nat} {N : Nw} (h : isl w b i N) : wT w i = some (21, 11, true) := h.2.1
theorem isl.t1 {w : Wd} {b i : Nat} {N : Nw} (h : isl w b i N) : wT w (i + 1) = some (0, 7, true) := h.2.2.1
theorem isl.t2 {w : Wd} {b i : Nat} {N : Nw} (h : isl w b i N) : wT w (i + 2) = some (6, 8, true) := h.2.2.2.1
theorem isl.t3 {w : Wd} {b i : Nat} {N : Nw} (h : isl w b i N) : wT w (i + 3) = some (0, 8, true) := h.2.2.2.2.1
theorem isl.t4 {w : Wd} {b i : Nat} {N : Nw} (h : isl w b i N) : wT w (i + 4) = some (0, 8, true) := h.2.2.2.2.2.1
theorem isl.t5 {w : Wd} {b i : Nat} {N : Nw} (h : isl w b i N) : wT w (i + 5) = some (0, 8, true) := h.2.2.2.2.2.2.1
theorem isl.t6 {w : Wd} {b i : Nat} {N : Nw} (h : isl w b i N) : wT w (i + 6) = some (0, 3, true) := h.2.2.2.2.2.2.2.1
theorem isl.g100 {w : Wd} {b i : Nat} {N : Nw} (h : isl w b i N) : wG w i 100 = some (i + 1) := h.2.2.2.2.2.2.2.2.1
theorem isl.g101 {w : Wd} {b i : Nat} {N : Nw} (h : isl w b i N) : wG w i 101 = some (i + 2) := h.2.2.2.2.2.2.2.2.2.1
theorem isl.g102 {w : Wd} {b i : Nat} {N : Nw} (h : isl w b i N) : wG w i 102 = some (i + 3) := h.2.2.2.2.2.2.2.2.2.2.1
theorem isl.g103 {w : Wd} {b i : Nat} {N : Nw} (h : isl w b i N) : wG w i 103 = some (i + 4) := h.2.2.2.2.2.2.2.2.2.2.2.1
theorem isl.g104 {w : Wd} {b i : Nat} {N : Nw} (h : isl w b i N) : wG w i 104 = some (i + 5) := h.2.2.2.2.2.2.2.2.2.2.2.2.1
theorem isl.g105 {w : Wd} {b i : Nat} {N : Nw} (h : isl w b i N) : wG w i 105 = some (i + 6) := h.2.2.2.2.2.2.2.2.2.2.2.2.2.1
theorem isl.f106 {w : Wd} {b i : Nat} {N : Nw} (h : isl w b i N) : wF w i 106 = N 90 := h.2.2.2.2.2.2.2.2.2.2.2.2.2.2.1
theorem isl.f107 {w : Wd} {b i : Nat} {N : Nw} (h : isl w b i N) : wF w i 107 = N 89 := h.2.2.2.2.2.2.2.2.2.2.2.2.2.2.2.1
theorem isl.f108 {w : Wd} {b i : Nat} {N : Nw} (h : isl w b i N) : wF w i 108 = N 94 := h.2.2.2.2.2.2.2.2.2.2.2.2.2.2.2.2.1
theorem isl.f109 {w : Wd} {b i : Nat} {N : Nw} (h : isl w b i N) : wF w i 109 = N 95 := h.2.2.2.2.2.2.2.2.2.2.2.2.2.2.2.2.2.1
theorem isl.f110 {w : Wd} {b i : Nat} {N : Nw} (h : isl w b i N) : wF w i 110 = N 96 := h.2.2.2.2.2.2.2.2.2.2.2.2.2.2.2.2.2.2.1
theorem isl.o0 {w : Wd} {b i : Nat} {N : Nw} (h : isl w b i N) : wI w (i + 6) 0 = N 91 := h.2.2.2.2.2.2.2.2.2.2.2.2.2.2.2.2.2.2.2.1
theorem isl.o1 {w : Wd} {b i : Nat} {N : Nw} (h : isl w b i N) : wI w (i + 6) 1 = N 92 := h.2.2.2.2.2.2.2.2.2.2.2.2.2.2.2.2.2.2.2.2.1
theorem isl.o2 {w : Wd} {b i : Nat} {N : Nw} (h : isl w b i N) : wI w (i + 6) 2 = N 93 := h.2.2.2.2.2.2.2.2.2.2.2.2.2.2.2.2.2.2.2.2.2.1
theorem isl.po {w : Wd} {b i : Nat} {N : Nw} (h : isl w b i N) (r : Nat) (hr : r < 7) : wI w (i + 1) r = row7 N r := h.2.2.2.2.2.2.2.2.2.2.2.2.2.2.2.2.2.2.2.2.2.2.1 r hr
theorem isl.pr {w : Wd} {b i : Nat} {N : Nw} (h : isl w b i N) (p : Nat) (hp : p < pe N) : prs w b i N p := h.2.2.2.2.2.2.2.2.2.2.2.2.2.2.2.2.2.2.2.2.2.2.2.1 p hp
theorem isl.no {w : Wd} {b i : Nat} {N : Nw} (h : isl w b i N) (p : Nat) (hp : pe N ≤ p) (h8 : p < 8) : wQ w (i + 2) p = none := h.2.2.2.2.2.2.2.2.2.2.2.2.2.2.2.2.2.2.2.2.2.2.2.2 p hp h8
theorem isl.ob {w : Wd} {b i : Nat} {N : Nw} (h : isl w b i N) (a : List Nat) : wob w i (21 :: a) = True := by unfold wob; rw [h.t0]; simp
theorem isl.pF {w : Wd} {b i : Nat} {N : Nw} (h : isl w b i N) (k : Nat) (v : Int32) (K : Wd → Prop) : wpF w (some i) [21] k v K = K (sF w i k v) := by show (wobw w i [21] ∧ _) = _; unfold wobw; rw [h.t0]; simp
theorem isl.F106 {w : Wd} {b i : Nat} {N : Nw} (h : isl w b i N) (K : Int32 → Prop) : wgF w (some i) [21] 106 K = K (N 90) := by show (wob w i [21] ∧ K (wF w i 106)) = _; rw [h.ob, h.f106]; simp
theorem isl.F107 {w : Wd} {b i : Nat} {N : Nw} (h : isl w b i N) (K : Int32 → Prop) : wgF w (some i) [21] 107 K = K (N 89) := by show (wob w i [21] ∧ K (wF w i 107)) = _; rw [h.ob, h.f107]; simp
theorem isl.F108 {w : Wd} {b i : Nat} {N : Nw} (h : isl w b i N) (K : Int32 → Prop) : wgF w (some i) [21] 108 K = K (N 94) := by show (wob w i [21] ∧ K (wF w i 108)) = _; rw [h.ob, h.f108]; simp
theorem isl.F109 {w : Wd} {b i : Nat} {N : Nw} (h : isl w b i N) (K : Int32 → Prop) : wgF w (some i) [21] 109 K = K (N 95) := by show (wob w i [21] ∧ K (wF w i 109)) = _; rw [h.ob, h.f109]; simp
theorem isl.F110 {w : Wd} {b i : Nat} {N : Nw} (h : isl w b i N) (K : Int32 → Prop) : wgF w (some i) [21] 110 K = K (N 96) := by show (wob w i [21] ∧ K (wF w i 110)) = _; rw [h.ob, h.f110]; simp
theorem isl.G100 {w : Wd} {b i : Nat} {N : Nw} (h : isl w b i N) (K : Option Nat → Prop) : wgG w (some i) [21] 100 K = K (some (i + 1)) := by show (wob w i [21] ∧ K (wG w i 100)) = _; rw [h.ob, h.g100]; simp
theorem isl.G101 {w : Wd} {b i : Nat} {N : Nw} (h : isl w b i N) (K : Option Nat → Prop) : wgG w (some i) [21] 101 K = K (some (i + 2)) := by show (wob w i [21] ∧ K (wG w i 101)) = _; rw [h.ob, h.g101]; simp
theorem isl.G102 {w : Wd} {b i : Nat} {N : Nw} (h : isl w b i N) (K : Option Nat → Prop) : wgG w (some i) [21] 102 K = K (some (i + 3)) := by show (wob w i [21] ∧ K (wG w i 102)) = _; rw [h.ob, h.g102]; simp
theorem isl.G103 {w : Wd} {b i : Nat} {N : Nw} (h : isl w b i N) (K : Option Nat → Prop) : wgG w (some i) [21] 103 K = K (some (i + 4)) := by show (wob w i [21] ∧ K (wG w i 103)) = _; rw [h.ob, h.g103]; simp
theorem isl.G104 {w : Wd} {b i : Nat} {N : Nw} (h : isl w b i N) (K : Option Nat → Prop) : wgG w (some i) [21] 104 K = K (some (i + 5)) := by show (wob w i [21] ∧ K (wG w i 104)) = _; rw [h.ob, h.g104]; simp
theorem isl.G105 {w : Wd} {b i : Nat} {N : Nw} (h : isl w b i N) (K : Option Nat → Prop) : wgG w (some i) [21] 105 K = K (some (i + 6)) := by show (wob w i [21] ∧ K (wG w i 105)) = _; rw [h.ob, h.g105]; simp
theorem isl.r1 {w : Wd} {b i : Nat} {N : Nw} (h : isl w b i N) (x : Int32) (K : Int32 → Prop) : wld w (some (i + 1)) 0 x K = (vp_in x 7 ∧ K (wI w (i + 1) x.toInt.toNat)) := by show (warr w (i + 1) 0 x ∧ _) = _; unfold warr; rw [h.t1]; simp only [i_nat, true_and, and_true]
theorem isl.w1 {w : Wd} {b i : Nat} {N : Nw} (h : isl w b i N) (x v : Int32) (K : Wd → Prop) : wst w (some (i + 1)) 0 x v K = (vp_in x 7 ∧ K (sI w (i + 1) x.toInt.toNat v)) := by show (warw w (i + 1) 0 x ∧ _) = _; unfold warw; rw [h.t1]; simp only [i_nat, true_and, and_true]
theorem isl.r3 {w : Wd} {b i : Nat} {N : Nw} (h : isl w b i N) (x : Int32) (K : Int32 → Prop) : wld w (some (i + 3)) 0 x K = (vp_in x 8 ∧ K (wI w (i + 3) x.toInt.toNat)) := by show (warr w (i + 3) 0 x ∧ _) = _; unfold warr; rw [h.t3]; simp only [i_nat, true_and, and_true]
theorem isl.w3 {w : Wd} {b i : Nat} {N : Nw} (h : isl w b i N) (x v : Int32) (K : Wd → Prop) : wst w (some (i + 3)) 0 x v K = (vp_in x 8 ∧ K (sI w (i + 3) x.toInt.toNat v)) := by show (warw w (i + 3) 0 x ∧ _) = _; unfold warw; rw [h.t3]; simp only [i_nat, true_and, and_true]
theorem isl.r4 {w : Wd} {b i : Nat} {N : Nw} (h : isl w b i N) (x : Int32) (K : Int32 → Prop) : wld w (some (i + 4)) 0 x K = (vp_in x 8 ∧ K (wI w (i + 4) x.toInt.toNat)) := by show (warr w (i + 4) 0 x ∧ _) = _; unfold warr; rw [h.t4]; simp only [i_nat, true_and, and_true]
theorem isl.w4 {w : Wd} {b i : Nat} {N : Nw} (h : isl w b i N) (x v : Int32) (K : Wd → Prop) : wst w (some (i + 4)) 0 x v K = (vp_in x 8 ∧ K (sI w (i + 4) x.toInt.toNat v)) := by show (warw w (i + 4) 0 x ∧ _) = _; unfold warw; rw [h.t4]; simp only [i_nat, true_and, and_true]
theorem isl.r5 {w : Wd} {b i : Nat} {N : Nw} (h : isl w b i N) (x : Int32) (K : Int32 → Prop) : wld w (some (i + 5)) 0 x K = (vp_in x 8 ∧ K (wI w (i + 5) x.toInt.toNat)) := by show (warr w (i + 5) 0 x ∧ _) = _; unfold warr; rw [h.t5]; simp only [i_nat, true_and, and_true]
theorem isl.w5 {w : Wd} {b i : Nat} {N : Nw} (h : isl w b i N) (x v : Int32) (K : Wd → Prop) : wst w (some (i + 5)) 0 x v K = (vp_in x 8 ∧ K (sI w (i + 5) x.toInt.toNat v)) := by show (warw w (i + 5) 0 x ∧ _) = _; unfold warw; rw [h.t5]; simp only [i_nat, true_and, and_true]
theorem isl.r6 {w : Wd} {b i : Nat} {N : Nw} (h : isl w b i N) (x : Int32) (K : Int32 → Prop) : wld w (some (i + 6)) 0 x K = (vp_in x 3 ∧ K (wI w (i + 6) x.toInt.toNat)) := by show (warr w (i + 6) 0 x ∧ _) = _; unfold warr; rw [h.t6]; simp only [i_nat, true_and, and_true]
theorem isl.w6 {w : Wd} {b i : Nat} {N : Nw} (h : isl w b i N) (x v : Int32) (K : Wd → Prop) : wst w (some (i + 6)) 0 x v K = (vp_in x 3 ∧ K (sI w (i + 6) x.toInt.toNat v)) := by show (warw w (i + 6) 0 x ∧ _) = _; unfold warw; rw [h.t6]; simp only [i_nat, true_and, and_true]
theorem isl.r2 {w : Wd} {b i : Nat} {N : Nw} (h : isl w b i N) (x : Int32) (K : Option Nat → Prop) : wldQ w (some (i + 2)) 6 x K = (vp_in x 8 ∧ K (wQ w (i + 2) x.toInt.toNat)) := by show (warr w (i + 2) 6 x ∧ _) = _; unfold warr; rw [h.t2]; simp only [i_nat, true_and, and_true]
theorem vot.sc {w w' : Wd} {b v p : Nat} {kd a : Int32} {P : Nat → Nat → Prop} (h : vot w b v kd p a) (hf : fr P w w') (hP : ∀ k, ¬ P v k) : vot w' b v kd p a := by
  have hz := hf.z
  obtain ⟨⟨h1, h2⟩, h3, h4, h5, h6⟩ := h
  exact ⟨⟨h1, by omega⟩, hf.T h2 h3, h4, (hf.F h2 (hP _)).trans h5, (hf.F h2 (hP _)).trans h6⟩
/-- a voter's cell -/
def isV (w : Wd) (b v : Nat) : Prop := b + 60 ≤ v ∧ v < wz w ∧ ∃ c : Nat, wT w v = some (c, 2, true) ∧ 26 ≤ c
theorem vot.isV {w : Wd} {b v p : Nat} {kd a : Int32} (h : vot w b v kd p a) : isV w b v := ⟨h.1.1, h.1.2, _, h.2.1, Nat.le_add_right _ _⟩
theorem isl.sc {w w' : Wd} {b i : Nat} {N : Nw} {P : Nat → Nat → Prop} (h : isl w b i N) (hf : fr P w w') (h1 : ∀ q k, i ≤ q → q < i + 7 → ¬ P q k) (h2 : ∀ v k, isV w b v → ¬ P v k) : isl w' b i N := by
  have hz := h.z
  have hz2 := hf.z
  have hn : ∀ j k, j < 7 → ¬ P (i + j) k := fun j k hj => h1 _ k (by omega) (by omega)
  have hF : ∀ k, wF w' i k = wF w i k := fun k => hf.F (by omega) (hn 0 k (by decide))
  have hG : ∀ k, wG w' i k = wG w i k := fun k => hf.G (by omega) (hn 0 k (by decide))
  have hI : ∀ j, j < 7 → wI w' (i + j) = wI w (i + j) := fun j hj => hf.I (by omega) (hn j _ hj)
  have hQ : ∀ j, j < 7 → wQ w' (i + j) = wQ w (i + j) := fun j hj => hf.Q (by omega) (hn j _ hj)
  refine ⟨⟨hz.1, by omega⟩, hf.T (by omega) h.t0, hf.T (by omega) h.t1, hf.T (by omega) h.t2, hf.T (by omega) h.t3, hf.T (by omega) h.t4, hf.T (by omega) h.t5, hf.T (by omega) h.t6, (hG _).trans h.g100, (hG _).trans h.g101, (hG _).trans h.g102, (hG _).trans h.g103, (hG _).trans h.g104, (hG _).trans h.g105, (hF _).trans h.f106, (hF _).trans h.f107, (hF _).trans h.f108, (hF _).trans h.f109, (hF _).trans h.f110, (congrFun (hI 6 (by decide)) _).trans h.o0, (congrFun (hI 6 (by decide)) _).trans h.o1, (congrFun (hI 6 (by decide)) _).trans h.o2, fun r hr => (congrFun (hI 1 (by decide)) _).trans (h.po r hr), fun p hp => ?_, fun p hp h8 => (congrFun (hQ 2 (by decide)) _).trans (h.no p hp h8)⟩
  obtain ⟨a1, a2, a3, v, a4, a5⟩ := h.pr p hp
  exact ⟨(congrFun (hI 3 (by decide)) _).trans a1, (congrFun (hI 4 (by decide)) _).trans a2, (congrFun (hI 5 (by decide)) _).trans a3, v, (congrFun (hQ 2 (by decide)) _).trans a4, a5.sc hf (fun k => h2 v k a5.isV)⟩
/-- the code of a row's sort -/
def srt (h : Int32) : Nat := if h = 0 then 1 else if h = 1 then 2 else if h = 2 then 0 else if h = 3 then 5 else 4
/-- a row's element as a long -/
def elm (w : Wd) (q c k : Nat) : Int64 := if c = 5 then wL w q k else if c = 4 then (if wI w q k = 0 then 0 else 1) else (wI w q k).toInt64
/-- a row on a shelf -/
def rwS (w : Wd) (b i : Nat) (o : Option Nat) (q : Nat) (hs sz : Int32) (E : Nat → Int64) : Prop := (b + 60 ≤ q ∧ q < wz w) ∧ (0 ≤ hs.toInt ∧ hs.toInt ≤ 4) ∧ (0 ≤ sz.toInt ∧ sz.toInt ≤ 40) ∧ wT w q = some (srt hs, sz.toInt.toNat, true) ∧ ¬ (i ≤ q ∧ q < i + 7) ∧ (∀ j, o = some j → ¬ (j ≤ q ∧ q < j + 7)) ∧ ∀ k : Nat, k < sz.toInt.toNat → elm w q (srt hs) k = E k ∧ fits (waty (srt hs)) (wav w q (srt hs) k) = true
/-- what a shelf holds -/
def shf (w : Wd) (b i : Nat) (o : Option Nat) (A : Ab) (s : Nat) : Prop := (wG w (b + 17 + s) 300 = none ∧ aH A s = -1) ∨ (∃ v p : Nat, wG w (b + 17 + s) 300 = some v ∧ p < pe (aN A) ∧ wQ w (i + 2) p = some v ∧ aH A s = Int32.ofNat (10 + p)) ∨ ∃ q : Nat, wG w (b + 17 + s) 300 = some q ∧ rwS w b i o q (aH A s) (aS A s) (fun k => aE A (40 * s + k))
/-- the class stands at b, its island at i, its image at o, and says A -/
def XX (w : Wd) (b i : Nat) (o : Option Nat) (A : Ab) : Prop := xSh w b ∧ isl w b i (aN A) ∧ wG w b 0 = some i ∧ wG w b 1 = o ∧ (∀ k : Nat, k < 250 → wI w (b + 15) k = aT A k) ∧ wF w b 10 = aZ A ∧ (∀ k : Nat, k < 7 → wI w (b + 16) k = aR A k) ∧ (o = none ↔ aX A = 0) ∧ (∀ j, o = some j → isl w b j (aK A) ∧ (i + 7 ≤ j ∨ j + 7 ≤ i)) ∧ (∀ s : Nat, s < 8 → shf w b i o A s) ∧ ∀ s t q : Nat, s < 8 → t < 8 → wG w (b + 17 + s) 300 = some q → wG w (b + 17 + t) 300 = some q → (∃ c n, wT w q = some (c, n, true) ∧ c < 20) → s = t
theorem XX.sh {w : Wd} {b i : Nat} {o : Option Nat} {A : Ab} (h : XX w b i o A) : xSh w b := h.1
theorem XX.is {w : Wd} {b i : Nat} {o : Option Nat} {A : Ab} (h : XX w b i o A) : isl w b i (aN A) := h.2.1
theorem XX.g0 {w : Wd} {b i : Nat} {o : Option Nat} {A : Ab} (h : XX w b i o A) : wG w b 0 = some i := h.2.2.1
theorem XX.g1 {w : Wd} {b i : Nat} {o : Option Nat} {A : Ab} (h : XX w b i o A) : wG w b 1 = o := h.2.2.2.1
theorem XX.Tt {w : Wd} {b i : Nat} {o : Option Nat} {A : Ab} (h : XX w b i o A) : ∀ k : Nat, k < 250 → wI w (b + 15) k = aT A k := h.2.2.2.2.1
theorem XX.Z {w : Wd} {b i : Nat} {o : Option Nat} {A : Ab} (h : XX w b i o A) : wF w b 10 = aZ A := h.2.2.2.2.2.1
theorem XX.R {w : Wd} {b i : Nat} {o : Option Nat} {A : Ab} (h : XX w b i o A) : ∀ k : Nat, k < 7 → wI w (b + 16) k = aR A k := h.2.2.2.2.2.2.1
theorem XX.im {w : Wd} {b i : Nat} {o : Option Nat} {A : Ab} (h : XX w b i o A) : o = none ↔ aX A = 0 := h.2.2.2.2.2.2.2.1
theorem XX.ik {w : Wd} {b i : Nat} {o : Option Nat} {A : Ab} (h : XX w b i o A) : ∀ j, o = some j → isl w b j (aK A) ∧ (i + 7 ≤ j ∨ j + 7 ≤ i) := h.2.2.2.2.2.2.2.2.1
theorem XX.sf {w : Wd} {b i : Nat} {o : Option Nat} {A : Ab} (h : XX w b i o A) : ∀ s : Nat, s < 8 → shf w b i o A s := h.2.2.2.2.2.2.2.2.2.1
theorem XX.dj {w : Wd} {b i : Nat} {o : Option Nat} {A : Ab} (h : XX w b i o A) : ∀ s t q : Nat, s < 8 → t < 8 → wG w (b + 17 + s) 300 = some q → wG w (b + 17 + t) 300 = some q → (∃ c n, wT w q = some (c, n, true) ∧ c < 20) → s = t := h.2.2.2.2.2.2.2.2.2.2
theorem XX.G0 {w : Wd} {b i : Nat} {o : Option Nat} {A : Ab} (h : XX w b i o A) (K : Option Nat → Prop) : wgG w (some b) [20] 0 K = K (some i) := by rw [h.sh.G0, h.g0]
theorem rwS.sc {w w' : Wd} {b i q : Nat} {o : Option Nat} {hs sz : Int32} {E : Nat → Int64} {P : Nat → Nat → Prop} (h : rwS w b i o q hs sz E) (hf : fr P w w') (hP : ¬ P q 9999) : rwS w' b i o q hs sz E := by
  have hz := hf.z
  obtain ⟨⟨h1, h2⟩, h3, h4, h5, h6, h7, h8⟩ := h
  refine ⟨⟨h1, by omega⟩, h3, h4, hf.T h2 h5, h6, h7, fun k hk => ?_⟩
  rw [← (h8 k hk).1]
  have e := (h8 k hk).2
  unfold elm wav at *
  rw [hf.I h2 hP, hf.L h2 hP, hf.Q h2 hP]
  exact ⟨rfl, e⟩
/-- what isn't the class's own, or its scratch, written -/
theorem XX.sc {w : Wd} {b i : Nat} {o : Option Nat} {A : Ab} (h : XX w b i o A) {w' : Wd} {P : Nat → Nat → Prop} (hf : fr P w w') (hP : ∀ q k, q < wz w → P q k → xP b q k ∨ (b + 39 ≤ q ∧ q < b + 60)) : XX w' b i o A := by
  replace hf : fr (fun q k => xP b q k ∨ (b + 39 ≤ q ∧ q < b + 60)) w w' := hf.mono hP
  have hz := h.sh.z
  have hz2 := hf.z
  have hiz := h.is.z
  have hn : ∀ q k, (q = b ∨ q = b + 15 ∨ q = b + 16 ∨ (b + 17 ≤ q ∧ q < b + 25) ∨ (b + 1 ≤ q ∧ q < b + 8) ∨ q = b + 10 ∨ q = b + 11 ∨ q = b + 14 ∨ q < b ∨ b + 60 ≤ q) → ¬ (xP b q k ∨ (b + 39 ≤ q ∧ q < b + 60)) := fun q k hc hp => by unfold xP at hp; omega
  have hi : ∀ j (N : Nw), isl w b j N → isl w' b j N := fun j N hj => hj.sc hf (fun q k h1 h2 => hn q k (by have := hj.z; omega)) (fun v k hv => hn v k (by have := hv.1; omega))
  have hS : ∀ s, s < 8 → wG w' (b + 17 + s) 300 = wG w (b + 17 + s) 300 := fun s hs => hf.G (by omega) (hn _ _ (by omega))
  refine ⟨h.sh.sc hf (fun q k hp => by unfold xP at hp; omega), hi i _ h.is, (hf.G (by omega) (hn _ _ (by omega))).trans h.g0, (hf.G (by omega) (hn _ _ (by omega))).trans h.g1, fun k hk => (congrFun (hf.I (by omega) (hn _ _ (by omega))) k).trans (h.Tt k hk), (hf.F (by omega) (hn _ _ (by omega))).trans h.Z, fun k hk => (congrFun (hf.I (by omega) (hn _ _ (by omega))) k).trans (h.R k hk), h.im, fun j hj => ⟨hi j _ (h.ik j hj).1, (h.ik j hj).2⟩, fun s hs => ?_, fun s t q h1 h2 h3 h4 h5 => ?_⟩
  · rcases h.sf s hs with ⟨a1, a2⟩ | ⟨v, p, a1, a2, a3, a4⟩ | ⟨q, a1, a2⟩
    · exact Or.inl ⟨(hS s hs).trans a1, a2⟩
    · refine Or.inr (Or.inl ⟨v, p, (hS s hs).trans a1, a2, (congrFun (hf.Q (by omega) (hn _ _ (by omega))) p).trans a3, a4⟩)
    · exact Or.inr (Or.inr ⟨q, (hS s hs).trans a1, a2.sc hf (hn _ _ (by have := a2.1; omega))⟩)
  · rw [hS s h1] at h3
    rw [hS t h2] at h4
    have hqz : q < wz w := by
      rcases h.sf s h1 with ⟨a1, a2⟩ | ⟨v, p, a1, a2, a3, a4⟩ | ⟨q', a1, a2⟩
      · rw [a1] at h3; cases h3
      · rw [a1] at h3; cases h3
        obtain ⟨-, -, -, v', b1, b2⟩ := h.is.pr p a2
        rw [b1] at a3; cases a3
        exact b2.1.2
      · rw [a1] at h3; cases h3
        exact a2.1.2
    obtain ⟨c, n, h5, h6⟩ := h5
    rw [(hf.2 q hqz).1] at h5
    exact h.dj s t q h1 h2 h3 h4 ⟨c, n, h5, h6⟩
