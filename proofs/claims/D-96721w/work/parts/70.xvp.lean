/-! ===== votes: sets of bits ===== -/
theorem sh31 {q : Nat} (hq : q < 32) : Int32.ofNat q &&& 31 = Int32.ofNat q := (show ∀ q : Fin 32, Int32.ofNat q.val &&& 31 = Int32.ofNat q.val by decide +kernel) ⟨q, hq⟩
theorem sh_n {q : Nat} (hq : q < 32) : ((Int32.ofNat q).toBitVec.smod 32).toNat = q := (show ∀ q : Fin 32, ((Int32.ofNat q.val).toBitVec.smod 32).toNat = q.val by decide +kernel) ⟨q, hq⟩
theorem sbit_l (x : Int32) {q : Nat} (hq : q < 32) : sbit x q = if x.toBitVec.getLsbD q then 1 else 0 := by
  unfold sbit
  rw [sh31 hq]
  apply Int32.toBitVec_inj.1
  rw [Int32.toBitVec_and, Int32.toBitVec_shiftRight]
  show x.toBitVec.sshiftRight _ &&& 1#32 = _
  rw [sh_n hq, BitVec.and_one_eq_setWidth_ofBool_getLsbD, BitVec.getLsbD_sshiftRight]
  rw [Nat.add_zero]
  simp only [show ¬ 32 ≤ 0 by decide, decide_false, Bool.not_false, Bool.true_and, hq, if_true]
  cases x.toBitVec.getLsbD q <;> rfl
theorem bit1_l {p q : Nat} (hp : p < 32) (hq : q < 32) : (bit1 p).toBitVec.getLsbD q = decide (q = p) := (show ∀ p q : Fin 32, (bit1 p.val).toBitVec.getLsbD q.val = decide (q.val = p.val) by decide +kernel) ⟨p, hp⟩ ⟨q, hq⟩
theorem sbit_or (x y : Int32) {q : Nat} (hq : q < 32) : sbit (x ||| y) q = if sbit x q = 1 ∨ sbit y q = 1 then 1 else 0 := by
  rw [sbit_l _ hq, sbit_l _ hq, sbit_l _ hq, Int32.toBitVec_or, BitVec.getLsbD_or]
  cases x.toBitVec.getLsbD q <;> cases y.toBitVec.getLsbD q <;> rfl
theorem sbit_xor (x y : Int32) {q : Nat} (hq : q < 32) : sbit (x ^^^ y) q = sbit x q ^^^ sbit y q := by
  rw [sbit_l _ hq, sbit_l _ hq, sbit_l _ hq, Int32.toBitVec_xor, BitVec.getLsbD_xor]
  cases x.toBitVec.getLsbD q <;> cases y.toBitVec.getLsbD q <;> rfl
theorem sbit_1 {p q : Nat} (hp : p < 32) (hq : q < 32) : sbit (bit1 p) q = if q = p then 1 else 0 := by
  rw [sbit_l _ hq, bit1_l hp hq]
  by_cases e : q = p
  · rw [if_pos e, if_pos (decide_eq_true e)]
  · rw [if_neg e, decide_eq_false e]; rfl
theorem sbit_0 (q : Nat) (hq : q < 32) : sbit 0 q = 0 := by
  rw [sbit_l _ hq]
  simp
theorem sbit_all {n q : Nat} (hn : n ≤ 8) (hq : q < n) : sbit ((1 <<< (Int32.ofNat n &&& 31)) - 1) q = 1 := (show ∀ n : Fin 9, ∀ q : Fin 8, q.val < n.val → sbit ((1 <<< (Int32.ofNat n.val &&& 31)) - 1) q.val = 1 by decide +kernel) ⟨n, by omega⟩ ⟨q, by omega⟩ hq
theorem all_i {n : Nat} (hn : n ≤ 8) : (((1 : Int32) <<< (Int32.ofNat n &&& 31)) - 1).toInt = ((2 ^ n : Nat) : Int) - 1 := (show ∀ n : Fin 9, (((1 : Int32) <<< (Int32.ofNat n.val &&& 31)) - 1).toInt = ((2 ^ n.val : Nat) : Int) - 1 by decide +kernel) ⟨n, by omega⟩
theorem foldP_c {α : Type} {f g : Nat → α → α} {a : α} : ∀ {n : Nat}, (∀ q, q < n → ∀ x, f q x = g q x) → foldP f a n = foldP g a n
  | 0, _ => rfl
  | n + 1, h => by
    show f n (foldP f a n) = g n (foldP g a n)
    rw [foldP_c (fun q hq => h q (by omega)), h n (by omega)]
/-- the set of those for one, of the first n -/
def forA (N : Nw) (n : Nat) : Int32 := foldP (fun q a => a ||| (if N (5 * q + 4) = 1 then bit1 q else 0)) 0 n
theorem forA_s (N : Nw) : ∀ {n : Nat}, n ≤ 8 → ∀ {q : Nat}, q < 8 → sbit (forA N n) q = if q < n ∧ N (5 * q + 4) = 1 then 1 else 0
  | 0, _, q, hq => by
    rw [if_neg (by omega)]
    exact sbit_0 q (by omega)
  | n + 1, hn, q, hq => by
    show sbit (forA N n ||| _) q = _
    rw [sbit_or _ _ (by omega), forA_s N (by omega) hq]
    have e1 : sbit (if N (5 * n + 4) = 1 then bit1 n else 0) q = if q = n ∧ N (5 * n + 4) = 1 then 1 else 0 := by
      by_cases e : N (5 * n + 4) = 1
      · rw [if_pos e, sbit_1 (by omega) (by omega)]
        by_cases e' : q = n
        · rw [if_pos e', if_pos ⟨e', e⟩]
        · rw [if_neg e', if_neg (fun x => e' x.1)]
      · rw [if_neg e, sbit_0 q (by omega), if_neg (fun x => e x.2)]
    rw [e1]
    by_cases h1 : q < n ∧ N (5 * q + 4) = 1
    · rw [if_pos h1, if_pos (Or.inl rfl), if_pos ⟨by omega, h1.2⟩]
    · rw [if_neg h1]
      by_cases h2 : q = n ∧ N (5 * n + 4) = 1
      · rw [if_pos h2, if_pos (Or.inr rfl), if_pos ⟨by omega, by rw [h2.1]; exact h2.2⟩]
      · rw [if_neg h2, if_neg (by decide), if_neg]
        intro h3
        by_cases e : q = n
        · exact h2 ⟨e, by rw [← e]; exact h3.2⟩
        · exact h1 ⟨by omega, h3.2⟩
/-- the weight of all -/
def totF (N : Nw) (n : Nat) : Int32 := foldP (fun q a => a + N (5 * q + 1)) 0 n
theorem wsF_all {N : Nw} (hP : okP N) : wsF N ((1 <<< (N 89 &&& 31)) - 1) = totF N (pe N) := by
  have hpe : N 89 = Int32.ofNat (pe N) := by rw [i_eq, hP.1, i_ti (by have := hP.2; omega)]
  rw [hpe]
  unfold wsF totF
  exact foldP_c (fun q hq x => by rw [sbit_all hP.2 hq, Int32.one_mul])
theorem tot_w {N : Nw} (hN : okN N) : ∀ {n : Nat}, n ≤ pe N → foldP (fun p a => a + (if N (5 * p + 4) = 0 then N (5 * p + 1) else 0)) 0 n + foldP (fun p a => a + (if N (5 * p + 4) = 1 then N (5 * p + 1) else 0)) 0 n = totF N n
  | 0, _ => rfl
  | n + 1, h => by
    have ih := tot_w hN (n := n) (by omega)
    show (_ + _) + (_ + _) = totF N n + N (5 * n + 1)
    rw [← ih]
    rcases (hN.2.2.2.2 n (by omega)).2.2.2.1 with e | e
    · rw [if_pos e, if_neg (by rw [e]; decide), Int32.add_zero]
      ac_rfl
    · rw [if_neg (by rw [e]; decide), if_pos e, Int32.add_zero]
      ac_rfl
theorem tot_wgh {N : Nw} (hN : okN N) : wghF N 0 + wghF N 1 = totF N (pe N) := tot_w hN (Nat.le_refl _)
theorem chJ_ok {N : Nw} (hN : okN N) (set : Int32) {j : Nat} (hj : j ≤ 8) : okN (chJ N set j) := by
  have h40 : ∀ k, 40 ≤ k → chJ N set j k = N k := fun k hk => chJ_hi N set hj hk
  refine ⟨by rw [h40 89 (by decide)]; exact hN.1, by rw [h40 90 (by decide)]; exact hN.2.1, by rw [h40 91 (by decide)]; exact hN.2.2.1, fun k hk => by rw [h40 _ (by omega)]; exact hN.2.2.2.1 k hk, fun p hp => ?_⟩
  rw [chJ_pe N set hj] at hp
  have h8 := hN.pe8
  have hq := hN.2.2.2.2 p hp
  have e : ∀ d, d < 4 → chJ N set j (5 * p + d) = N (5 * p + d) := fun d hd => if_neg (by omega)
  have e0 : chJ N set j (5 * p) = N (5 * p) := e 0 (by decide)
  rw [e0, e 2 (by decide), e 3 (by decide), h40 90 (by decide)]
  refine ⟨hq.1, hq.2.1, hq.2.2.1, ?_, ?_⟩
  · unfold chJ
    by_cases c : (5 * p + 4) % 5 = 4 ∧ (5 * p + 4) / 5 < j
    · rw [if_pos c]
      rcases hq.2.2.2.1 with e1 | e1 <;> rcases sbit_c set ((5 * p + 4) / 5) with e2 | e2 <;> rw [e1, e2] <;> decide
    · rw [if_neg c]
      exact hq.2.2.2.1
  · have := hq.2.2.2.2
    unfold pnd at this ⊢
    have hb := pat_b hN.side hq.2.1
    rwa [h40 _ hb.1]
theorem chJ_tot {N : Nw} (set : Int32) {j : Nat} (hj : j ≤ 8) (n : Nat) : totF (chJ N set j) n = totF N n := by
  unfold totF
  refine foldP_c (fun q hq x => ?_)
  rw [show chJ N set j (5 * q + 1) = N (5 * q + 1) from if_neg (by omega)]
theorem chJ_z {N : Nw} {j : Nat} (hj : j ≤ 8) : chJ N 0 j = N := funext fun k => by
  unfold chJ
  by_cases c : k % 5 = 4 ∧ k / 5 < j
  · rw [if_pos c, sbit_0 _ (by omega), Int32.xor_zero]
  · rw [if_neg c]
/-- the weight of a set of those for one, some changed -/
theorem wsF_for {N : Nw} (hN : okN N) (set : Int32) : wsF N (forA N (pe N) ^^^ set) = wghF (chJ N set (pe N)) 1 := by
  have h8 := hN.pe8
  unfold wsF wghF
  rw [chJ_pe N set h8]
  refine foldP_c (fun q hq x => ?_)
  rw [sbit_xor _ _ (by omega), forA_s N h8 (by omega)]
  have e1 : chJ N set (pe N) (5 * q + 1) = N (5 * q + 1) := if_neg (by omega)
  have e4 : chJ N set (pe N) (5 * q + 4) = N (5 * q + 4) ^^^ sbit set q := by
    unfold chJ
    rw [if_pos (by omega), show (5 * q + 4) / 5 = q by omega]
  rw [e1, e4]
  rcases (hN.2.2.2.2 q hq).2.2.2.1 with e | e <;> rcases sbit_c set q with e2 | e2 <;> rw [e, e2]
  · rw [if_neg (by rw [show ((0 : Int32) = 1) = False from eq_false (by decide)]; exact fun h => h.2), show ((0 : Int32) ^^^ 0) = 0 from rfl, Int32.zero_mul, if_neg (by decide)]
  · rw [if_neg (fun h => absurd h.2 (by decide)), show ((0 : Int32) ^^^ 1) = 1 from rfl, Int32.one_mul, if_pos rfl]
  · rw [if_pos ⟨hq, rfl⟩, show ((1 : Int32) ^^^ 0) = 1 from rfl, Int32.one_mul, if_pos rfl]
  · rw [if_pos ⟨hq, rfl⟩, show ((1 : Int32) ^^^ 1) = 0 from rfl, Int32.zero_mul, if_neg (by decide)]
theorem two_w (a b : Int32) : 2 * b - (a + b) = b - a := by
  rw [show (2 : Int32) = 1 + 1 from rfl, Int32.add_mul, Int32.one_mul, Int32.sub_eq_add_neg, Int32.sub_eq_add_neg, Int32.neg_add, Int32.sub_eq_add_neg]
  rw [show b + b + (-a + -b) = (b + -a) + (b + -b) by ac_rfl, ← Int32.sub_eq_add_neg b b, Int32.sub_self, Int32.add_zero]
theorem wsF_or {N : Nw} (c : Int32) {p : Nat} (hp : p < 8) (h0 : sbit c p = 0) : ∀ n, n ≤ 8 → foldP (fun q a => a + sbit (c ||| bit1 p) q * N (5 * q + 1)) 0 n = foldP (fun q a => a + sbit c q * N (5 * q + 1)) 0 n + (if p < n then N (5 * p + 1) else 0)
  | 0, _ => by rw [if_neg (by omega)]; rfl
  | n + 1, h => by
    show _ + _ = (_ + _) + _
    rw [wsF_or c hp h0 n (by omega), sbit_or _ _ (by omega), sbit_1 (by omega) (by omega)]
    by_cases e : n = p
    · subst e
      rw [h0, if_neg (by omega), if_pos (Or.inr (if_pos rfl)), if_pos (by omega), Int32.one_mul, Int32.zero_mul, Int32.add_zero]
    · rw [if_neg e]
      have e3 : (if sbit c n = 1 ∨ (0 : Int32) = 1 then (1 : Int32) else 0) = sbit c n := by
        rcases sbit_c c n with e2 | e2 <;> rw [e2] <;> decide
      rw [e3]
      have e4 : (if p < n + 1 then N (5 * p + 1) else 0) = if p < n then N (5 * p + 1) else 0 := by
        by_cases e5 : p < n
        · rw [if_pos e5, if_pos (by omega)]
        · rw [if_neg e5, if_neg (by omega)]
      rw [e4]
      ac_rfl
/-- the bits of a number, counted the way of the library -/
def wp_bc (a0 : Int32) : Int32 := ((((((((a0 - (((a0.toUInt32 >>> ((1 : Int32).toUInt32 &&& Int32.toUInt32 31)).toInt32) &&& 1431655765)) &&& 858993459) + ((((a0 - (((a0.toUInt32 >>> ((1 : Int32).toUInt32 &&& Int32.toUInt32 31)).toInt32) &&& 1431655765)).toUInt32 >>> ((2 : Int32).toUInt32 &&& Int32.toUInt32 31)).toInt32) &&& 858993459)) + (((((a0 - (((a0.toUInt32 >>> ((1 : Int32).toUInt32 &&& Int32.toUInt32 31)).toInt32) &&& 1431655765)) &&& 858993459) + ((((a0 - (((a0.toUInt32 >>> ((1 : Int32).toUInt32 &&& Int32.toUInt32 31)).toInt32) &&& 1431655765)).toUInt32 >>> ((2 : Int32).toUInt32 &&& Int32.toUInt32 31)).toInt32) &&& 858993459)).toUInt32 >>> ((4 : Int32).toUInt32 &&& Int32.toUInt32 31)).toInt32)) &&& 252645135) + (((((((a0 - (((a0.toUInt32 >>> ((1 : Int32).toUInt32 &&& Int32.toUInt32 31)).toInt32) &&& 1431655765)) &&& 858993459) + ((((a0 - (((a0.toUInt32 >>> ((1 : Int32).toUInt32 &&& Int32.toUInt32 31)).toInt32) &&& 1431655765)).toUInt32 >>> ((2 : Int32).toUInt32 &&& Int32.toUInt32 31)).toInt32) &&& 858993459)) + (((((a0 - (((a0.toUInt32 >>> ((1 : Int32).toUInt32 &&& Int32.toUInt32 31)).toInt32) &&& 1431655765)) &&& 858993459) + ((((a0 - (((a0.toUInt32 >>> ((1 : Int32).toUInt32 &&& Int32.toUInt32 31)).toInt32) &&& 1431655765)).toUInt32 >>> ((2 : Int32).toUInt32 &&& Int32.toUInt32 31)).toInt32) &&& 858993459)).toUInt32 >>> ((4 : Int32).toUInt32 &&& Int32.toUInt32 31)).toInt32)) &&& 252645135).toUInt32 >>> ((8 : Int32).toUInt32 &&& Int32.toUInt32 31)).toInt32)) + ((((((((a0 - (((a0.toUInt32 >>> ((1 : Int32).toUInt32 &&& Int32.toUInt32 31)).toInt32) &&& 1431655765)) &&& 858993459) + ((((a0 - (((a0.toUInt32 >>> ((1 : Int32).toUInt32 &&& Int32.toUInt32 31)).toInt32) &&& 1431655765)).toUInt32 >>> ((2 : Int32).toUInt32 &&& Int32.toUInt32 31)).toInt32) &&& 858993459)) + (((((a0 - (((a0.toUInt32 >>> ((1 : Int32).toUInt32 &&& Int32.toUInt32 31)).toInt32) &&& 1431655765)) &&& 858993459) + ((((a0 - (((a0.toUInt32 >>> ((1 : Int32).toUInt32 &&& Int32.toUInt32 31)).toInt32) &&& 1431655765)).toUInt32 >>> ((2 : Int32).toUInt32 &&& Int32.toUInt32 31)).toInt32) &&& 858993459)).toUInt32 >>> ((4 : Int32).toUInt32 &&& Int32.toUInt32 31)).toInt32)) &&& 252645135) + (((((((a0 - (((a0.toUInt32 >>> ((1 : Int32).toUInt32 &&& Int32.toUInt32 31)).toInt32) &&& 1431655765)) &&& 858993459) + ((((a0 - (((a0.toUInt32 >>> ((1 : Int32).toUInt32 &&& Int32.toUInt32 31)).toInt32) &&& 1431655765)).toUInt32 >>> ((2 : Int32).toUInt32 &&& Int32.toUInt32 31)).toInt32) &&& 858993459)) + (((((a0 - (((a0.toUInt32 >>> ((1 : Int32).toUInt32 &&& Int32.toUInt32 31)).toInt32) &&& 1431655765)) &&& 858993459) + ((((a0 - (((a0.toUInt32 >>> ((1 : Int32).toUInt32 &&& Int32.toUInt32 31)).toInt32) &&& 1431655765)).toUInt32 >>> ((2 : Int32).toUInt32 &&& Int32.toUInt32 31)).toInt32) &&& 858993459)).toUInt32 >>> ((4 : Int32).toUInt32 &&& Int32.toUInt32 31)).toInt32)) &&& 252645135).toUInt32 >>> ((8 : Int32).toUInt32 &&& Int32.toUInt32 31)).toInt32)).toUInt32 >>> ((16 : Int32).toUInt32 &&& Int32.toUInt32 31)).toInt32)) &&& 63)
theorem ones_c {w : Wd} {c : Nat} (hc : c < 256) (k : Int32 → Wd → Prop) : wp_J18_bitCount w (Int32.ofNat c) k = k (oneF (Int32.ofNat c)) w := by
  unfold wp_J18_bitCount
  exact congrArg (fun v => k v w) ((show ∀ c : Fin 256, wp_bc (Int32.ofNat c.val) = oneF (Int32.ofNat c.val) by decide +kernel) ⟨c, hc⟩)
