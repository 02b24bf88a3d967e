/-! ===== the class's Reader: tokens ===== -/
/-- the Reader at rd reads the tape for the island at j -/
def rdS (w : Wd) (b rd j : Nat) (A : Ab) : Prop := (wT w rd = some (32, 7, true) ∧ rd < wz w) ∧ wG w rd 1200 = some (b + 15) ∧ wF w rd 1201 = aZ A ∧ wG w rd 1202 = some j ∧ (wT w (b + 15) = some (0, 250, true) ∧ b + 15 < rd) ∧ ∀ k, k < 250 → wI w (b + 15) k = aT A k
def rnP (rd : Nat) : Nat → Nat → Prop := fun x k => x = rd ∧ 1203 ≤ k ∧ k ≤ 1206
def nmC (T : Nw) (z i : Nat) : Int32 := if tkS T z i = 2 then (if tkE T z i - tkF T z i ≤ 2 then tkV T z i else 100) else -1
/-- the current token is the one behind i -/
def tkn (w : Wd) (rd lo : Nat) (T : Nw) (z i : Nat) : Prop := wF w rd 1203 = Int32.ofNat (if tkS T z i = 4 then tkF T z i else tkE T z i) ∧ wF w rd 1204 = Int32.ofNat (tkF T z i) ∧ wF w rd 1206 = nmC T z i ∧ ((tkS T z i = 1 ∧ ∃ q, wG w rd 1205 = some q ∧ strA w lo (wz w) q true (fun j => T (tkF T z i + j)) (tkE T z i - tkF T z i)) ∨ (tkS T z i = 3 ∧ wG w rd 1205 = wk w 10) ∨ (¬ tkS T z i = 1 ∧ ¬ tkS T z i = 3 ∧ wG w rd 1205 = none))
/-- a word's hash isn't known yet -/
def hsh0 (w : Wd) (rd s : Nat) : Prop := ∀ q, s = 1 → wG w rd 1205 = some q → wF w q 1402 = 0 ∧ wF w q 1403 = 0
theorem rnR_end {T : Nw} {z s : Nat} (hs : ¬ s = 0) : ∀ d i, i + d = z → ¬ srtA T z (rnR T z s d i) = s
  | 0, i, h => by
    show ¬ srtA T z i = s
    rw [srtA_0.2 (by omega)]
    omega
  | d + 1, i, h => by
    have e : rnR T z s (d + 1) i = if srtA T z i = s then rnR T z s d (i + 1) else i := rfl
    rw [e]
    by_cases c : srtA T z i = s
    · rw [if_pos c]
      exact rnR_end hs d (i + 1) (by omega)
    · rw [if_neg c]
      exact c
theorem tk_end {T : Nw} {z i : Nat} (hs : tkS T z i = 1 ∨ tkS T z i = 2) : ¬ srtA T z (tkE T z i) = tkS T z i := by
  have h0 : ¬ tkS T z i = 0 := by omega
  have h2 : tkF T z i < z := srtA_lt h0
  unfold tkE
  rw [if_neg h0, if_pos (by omega)]
  exact rnR_end h0 _ _ (by omega)
theorem strA.lo {w : Wd} {lo lo' hi q n : Nat} {fl : Bool} {C : Nat → Int32} (h : strA w lo' hi q fl C n) (hl : lo ≤ lo') : strA w lo hi q fl C n := by
  obtain ⟨v, hb, e⟩ := h
  exact ⟨v, by omega, e⟩
theorem strA.cg {w : Wd} {lo hi q n : Nat} {fl : Bool} {C C' : Nat → Int32} (h : strA w lo hi q fl C n) (hC : ∀ j, j < n → C j = C' j) : strA w lo hi q fl C' n := by
  obtain ⟨v, hb, t1, f1, g1, t2, e⟩ := h
  exact ⟨v, hb, t1, f1, g1, t2, fun j hj => (e j hj).trans (hC j hj)⟩
section XNX
variable {w : Wd} {b rd j : Nat} {A : Ab}
theorem rdS.ob (h : rdS w b rd j A) : wob w rd [32] := by
  unfold wob
  rw [h.1.1]
  exact List.mem_singleton.2 rfl
theorem rdS.gF (h : rdS w b rd j A) (k : Nat) (K : Int32 → Prop) : wgF w (some rd) [32] k K = K (wF w rd k) := propext ⟨fun e => e.2, fun e => ⟨h.ob, e⟩⟩
theorem rdS.gG (h : rdS w b rd j A) (k : Nat) (K : Option Nat → Prop) : wgG w (some rd) [32] k K = K (wG w rd k) := propext ⟨fun e => e.2, fun e => ⟨h.ob, e⟩⟩
theorem rdS.obw (h : rdS w b rd j A) : wobw w rd [32] := by
  unfold wobw
  rw [h.1.1]
  exact ⟨List.mem_singleton.2 rfl, rfl⟩
theorem rdS.pF (h : rdS w b rd j A) (k : Nat) (v : Int32) (K : Wd → Prop) : wpF w (some rd) [32] k v K = K (sF w rd k v) := propext ⟨fun e => e.2, fun e => ⟨h.obw, e⟩⟩
theorem rdS.pG (h : rdS w b rd j A) (k : Nat) (v : Option Nat) (K : Wd → Prop) : wpG w (some rd) [32] k v K = K (sG w rd k v) := propext ⟨fun e => e.2, fun e => ⟨h.obw, e⟩⟩
theorem rdS.sc {w' : Wd} {P : Nat → Nat → Prop} (h : rdS w b rd j A) (hf : fr P w w') (h1 : ∀ k, P rd k → 1203 ≤ k ∧ k ≤ 1206) (h2 : ¬ P (b + 15) 9999) : rdS w' b rd j A := by
  have hz := hf.z
  obtain ⟨⟨a1, a2⟩, a3, a4, a5, ⟨a6, a7⟩, a8⟩ := h
  have hb : b + 15 < wz w := by omega
  refine ⟨⟨hf.T a2 a1, by omega⟩, (hf.G a2 (fun p => by have := h1 _ p; omega)).trans a3, (hf.F a2 (fun p => by have := h1 _ p; omega)).trans a4, (hf.G a2 (fun p => by have := h1 _ p; omega)).trans a5, ⟨hf.T hb a6, a7⟩, fun k hk => ?_⟩
  rw [hf.I hb h2]
  exact a8 k hk
theorem rdS.tp (h : rdS w b rd j A) {i : Nat} (hi : i < 250) (K : Int32 → Prop) : wld w (some (b + 15)) 0 (Int32.ofNat i) K = K (aT A i) := by
  rw [bld h.2.2.2.2.1.1 hi (by omega), h.2.2.2.2.2 i hi]
theorem x_rIsIn (h : rdS w b rd j A) (hT : okT A) {i : Nat} (hi : i ≤ 250) (e3 : wF w rd 1203 = Int32.ofNat i) (l u : Int32) (K : Int32 → Wd → Prop) : wp_X12_isIn w rd l u K = if i < zA A ∧ l.toInt ≤ (aT A i).toInt ∧ (aT A i).toInt ≤ u.toInt then K 1 w else K 0 w := by
  obtain ⟨z1, z2⟩ := hT.z
  unfold wp_X12_isIn
  rw [h.gF, h.gF, e3, h.2.2.1]
  by_cases c : i < zA A
  · rw [if_neg (by rw [i_le, i_ti (by omega), z2]; omega), h.gG, h.2.1, h.gF, e3, h.tp (by omega)]
    by_cases c1 : aT A i < l
    · rw [if_pos c1, if_neg (fun q => by have := i_lt.1 c1; omega)]
    · have c1' : l.toInt ≤ (aT A i).toInt := Int.not_lt.1 (fun q => c1 (i_lt.2 q))
      rw [if_neg c1, h.gG, h.2.1, h.gF, e3, h.tp (by omega)]
      by_cases c2 : u < aT A i
      · rw [if_pos c2, if_neg (fun q => by have := i_lt.1 c2; omega)]
      · have c2' : (aT A i).toInt ≤ u.toInt := Int.not_lt.1 (fun q => c2 (i_lt.2 q))
        rw [if_neg c2, if_pos ⟨c, c1', c2'⟩]
  · rw [if_pos (by rw [i_le, i_ti (by omega), z2]; omega), if_neg (fun q => c q.1)]
theorem x_isLet (h : rdS w b rd j A) (hT : okT A) {i : Nat} (hi : i ≤ 250) (e3 : wF w rd 1203 = Int32.ofNat i) (K : Int32 → Wd → Prop) : wp_X12_isIn w rd 97 122 K = if srtA (aT A) (zA A) i = 1 then K 1 w else K 0 w := by
  rw [x_rIsIn h hT hi e3]
  have e : (i < zA A ∧ (97 : Int32).toInt ≤ (aT A i).toInt ∧ (aT A i).toInt ≤ (122 : Int32).toInt) ↔ srtA (aT A) (zA A) i = 1 := by
    constructor
    · rintro ⟨h1, h2, h3⟩
      unfold srtA
      rw [if_neg (by omega), if_pos ⟨h2, h3⟩]
    · intro h1
      exact ⟨srtA_lt (T := aT A) (by omega), srtA_1 h1⟩
  by_cases c : srtA (aT A) (zA A) i = 1
  · rw [if_pos c, if_pos (e.2 c)]
  · rw [if_neg c, if_neg (fun q => c (e.1 q))]
theorem x_isDig (h : rdS w b rd j A) (hT : okT A) {i : Nat} (hi : i ≤ 250) (e3 : wF w rd 1203 = Int32.ofNat i) (K : Int32 → Wd → Prop) : wp_X12_isIn w rd 48 57 K = if srtA (aT A) (zA A) i = 2 then K 1 w else K 0 w := by
  rw [x_rIsIn h hT hi e3]
  have e : (i < zA A ∧ (48 : Int32).toInt ≤ (aT A i).toInt ∧ (aT A i).toInt ≤ (57 : Int32).toInt) ↔ srtA (aT A) (zA A) i = 2 := by
    constructor
    · rintro ⟨h1, h2, h3⟩
      have h2' : (48 : Int) ≤ (aT A i).toInt := h2
      have h3' : (aT A i).toInt ≤ 57 := h3
      unfold srtA
      rw [if_neg (by omega), if_neg (fun q => by have := q.1; omega), if_pos ⟨h2', h3'⟩]
    · intro h1
      exact ⟨srtA_lt (T := aT A) (by omega), srtA_2 h1⟩
  by_cases c : srtA (aT A) (zA A) i = 2
  · rw [if_pos c, if_pos (e.2 c)]
  · rw [if_neg c, if_neg (fun q => c (e.1 q))]
theorem x_isSig (h : rdS w b rd j A) (hT : okT A) {i : Nat} (hi : i ≤ 250) (e3 : wF w rd 1203 = Int32.ofNat i) (K : Int32 → Wd → Prop) : wp_X12_isIn w rd 59 59 K = if srtA (aT A) (zA A) i = 3 then K 1 w else K 0 w := by
  rw [x_rIsIn h hT hi e3]
  have e : (i < zA A ∧ (59 : Int32).toInt ≤ (aT A i).toInt ∧ (aT A i).toInt ≤ (59 : Int32).toInt) ↔ srtA (aT A) (zA A) i = 3 := by
    constructor
    · rintro ⟨h1, h2, h3⟩
      have h2' : (59 : Int) ≤ (aT A i).toInt := h2
      have h3' : (aT A i).toInt ≤ 59 := h3
      unfold srtA
      rw [if_neg (by omega), if_neg (fun q => by have := q.1; omega), if_neg (fun q => by have := q.2; omega), if_pos (by rw [i_eq, show (59 : Int32).toInt = 59 from rfl]; omega)]
    · intro h1
      have hlt : i < zA A := srtA_lt (T := aT A) (by omega)
      unfold srtA at h1
      rw [if_neg (by omega)] at h1
      split at h1
      · cases h1
      · split at h1
        · cases h1
        · split at h1
          · rename_i q
            rw [q]
            exact ⟨hlt, Int.le_refl _, Int.le_refl _⟩
          · cases h1
  by_cases c : srtA (aT A) (zA A) i = 3
  · rw [if_pos c, if_pos (e.2 c)]
  · rw [if_neg c, if_neg (fun q => c (e.1 q))]
/-- what next may write -/
def nxP (rd lo : Nat) : Nat → Nat → Prop := fun x k => rnP rd x k ∨ lo ≤ x
theorem nxP_n {w0 w1 : Wd} {rd : Nat} (h : fr (nxP rd (wz w0)) w0 w1) : fr (rnP rd) w0 w1 := h.mono (fun x k hx hp => hp.resolve_right (by omega))
/-- a word's rest -/
theorem x_nxW (hT : okT A) (hz : zA A ≤ 63) {w0 : Wd} (hr0 : rdS w0 b rd j A) {f len : Nat} (hlen : f + len ≤ zA A) (hin : ∀ x, x < len → srtA (aT A) (zA A) (f + x) = 1) (hend : ¬ srtA (aT A) (zA A) (f + len) = 1) {sb : Nat} {k : Wd → Prop} (hk : ∀ w' q, fr (rnP rd) w0 w' → wF w' rd 1203 = Int32.ofNat (f + len) → wF w' rd 1204 = Int32.ofNat f → wF w' rd 1206 = -1 → wG w' rd 1205 = some q → strA w' (wz w0) (wz w') q true (fun x => aT A (f + x)) len → wF w' q 1402 = 0 → wF w' q 1403 = 0 → k w') :
    ∀ (d fu n cap gg : Nat) (w2 : Wd), n + d = len → d < fu → (cap = 16 ∧ gg = 2) ∨ (cap = 34 ∧ gg = 1) ∨ (cap = 70 ∧ gg = 0) → fr (nxP rd (wz w0)) w0 w2 → sbA w2 (wz w0) sb (fun x => aT A (f + x)) n cap → wF w2 rd 1203 = Int32.ofNat (f + n) → wF w2 rd 1204 = Int32.ofNat f → wF w2 rd 1206 = -1 → wl_X12_next_61 k fu gg w2 rd (some sb) := by
  obtain ⟨z1, z2⟩ := hT.z
  have hrlt := hr0.1.2
  have hL : ∀ x, x < len → isLt (aT A (f + x)) := fun x hx => srtA_1 (hin x hx)
  intro d
  induction d with
  | zero =>
    intro fu n cap gg w2 hn hfu hcg hf2 hs e3 e4 e6
    obtain ⟨fu, rfl⟩ : ∃ g, fu = g + 1 := ⟨fu - 1, by omega⟩
    obtain rfl : n = len := by omega
    have hr2 := hr0.sc hf2 (fun q hq => by have := hq; unfold nxP rnP at this; omega) (fun hq => by have := hr0.2.2.2.2.1.2; unfold nxP rnP at hq; omega)
    have hz2 := hf2.z
    rw [wl_X12_next_61_s]
    unfold wb_X12_next_61
    refine ⟨hr2.ob, ?_⟩
    rw [x_isLet hr2 hT (by omega) e3, if_neg hend, if_pos rfl]
    unfold wb_X12_next_100
    simp only [wnn]
    have hs' := hs
    obtain ⟨v, hb, t1, -⟩ := hs'
    refine ⟨ob35 t1, x_toStr hs (by omega) hz2 hL (fun q w3 hf3 hstr hq h2 h3 => ?_)⟩
    have hr3 := hr2.sc hf3 (fun _ hq => hq.elim) (fun hq => hq)
    rw [hr3.pG]
    have hf03 : fr (nxP rd (wz w0)) w0 w3 := hf2.trans (x0_P hf3)
    have hrz : rd < wz w2 := by omega
    refine hk _ q (nxP_n (hf03.sG (fun _ => Or.inl ⟨rfl, by decide, by decide⟩))) ?_ ?_ ?_ ?_ (hstr.sc ((fr.refl (fun x k => x = rd) w3).sG (fun _ => rfl)) (Nat.le_refl _) (fun x k h1 h2 h3 => by omega)) h2 h3
    · rw [wF_sG, hf3.F hrz (fun q => q)]; exact e3
    · rw [wF_sG, hf3.F hrz (fun q => q)]; exact e4
    · rw [wF_sG, hf3.F hrz (fun q => q)]; exact e6
    · rw [wG_sG, if_pos ⟨rfl, rfl⟩]
  | succ d ih =>
    intro fu n cap gg w2 hn hfu hcg hf2 hs e3 e4 e6
    obtain ⟨fu, rfl⟩ : ∃ g, fu = g + 1 := ⟨fu - 1, by omega⟩
    have hr2 := hr0.sc hf2 (fun q hq => by have := hq; unfold nxP rnP at this; omega) (fun hq => by have := hr0.2.2.2.2.1.2; unfold nxP rnP at hq; omega)
    have hz2 := hf2.z
    have hle : n ≤ cap := hs.choose_spec.2.2.2.2.2.2.2
    have hb := hs.choose_spec.1
    have t1 := hs.choose_spec.2.1
    rw [wl_X12_next_61_s]
    unfold wb_X12_next_61
    refine ⟨hr2.ob, ?_⟩
    rw [x_isLet hr2 hT (by omega) e3, if_pos (hin n (by omega)), if_neg (by decide), hr2.gG, hr2.2.1, hr2.gF, e3, hr2.tp (by omega), (lt_ch (hL n (by omega))).1]
    simp only [wnn]
    have go : ∀ (cap' gg' : Nat) (w3 : Wd), (cap' = 16 ∧ gg' = 2) ∨ (cap' = 34 ∧ gg' = 1) ∨ (cap' = 70 ∧ gg' = 0) → fr (loP (wz w0)) w2 w3 → sbA w3 (wz w0) sb (fun x => aT A (f + x)) (n + 1) cap' → wgF w3 (some rd) [32] 1203 (fun v44 => wpF w3 (some rd) [32] 1203 (v44 + 1) (fun w45 => wl_X12_next_61 k fu gg' w45 rd (some sb))) := by
      intro cap' gg' w3 hcg' hf3 hs3
      have hf03 : fr (nxP rd (wz w0)) w0 w3 := hf2.trans (hf3.mono (fun x k _ hp => Or.inr hp))
      have hr3 := hr0.sc hf03 (fun q hq => by have := hq; unfold nxP rnP at this; omega) (fun hq => by have := hr0.2.2.2.2.1.2; unfold nxP rnP at hq; omega)
      have hrz : rd < wz w2 := by omega
      have hnl : ∀ q, ¬ loP (wz w0) rd q := fun q hq => by unfold loP at hq; omega
      have e33 : wF w3 rd 1203 = Int32.ofNat (f + n) := (hf3.F hrz (hnl _)).trans e3
      rw [hr3.gF, hr3.pF, e33, i_ofS]
      refine ih fu (n + 1) cap' gg' _ (by omega) (by omega) hcg' (hf03.sF (fun _ => Or.inl ⟨rfl, by decide, by decide⟩)) ?_ ?_ ?_ ?_
      · obtain ⟨v, b1, b2, b3, b4, b5, b6, b7, b8⟩ := hs3
        refine ⟨v, b1, b2, ?_, ?_, b5, b6, b7, b8⟩
        · rw [wF_sF, if_neg (by omega)]; exact b3
        · rw [wF_sF, if_neg (by omega)]; exact b4
      · rw [wF_sF, if_pos ⟨rfl, rfl⟩]; rfl
      · rw [wF_sF, if_neg (by omega), hf3.F hrz (hnl _)]; exact e4
      · rw [wF_sF, if_neg (by omega), hf3.F hrz (hnl _)]; exact e6
    by_cases c : n < cap
    · left
      exact ⟨ob35 t1, x_appN (C := fun x => aT A (f + x)) hs c (by omega) (hL n (by omega)) (fun w3 hf3 hs3 => go cap gg w3 hcg hf3 hs3)⟩
    · right
      refine ⟨by omega, ob35 t1, x_appG (C := fun x => aT A (f + x)) hs (by omega) (by omega) hz2 (fun x hx => hL x (by omega)) (fun w3 hf3 hs3 => go (2 * cap + 2) (gg - 1) w3 (by omega) hf3 hs3)⟩
/-- a number's rest -/
theorem x_nxN (hT : okT A) {w0 : Wd} (hr0 : rdS w0 b rd j A) {f len : Nat} (hlen : f + len ≤ zA A) (hin : ∀ x, x < len → srtA (aT A) (zA A) (f + x) = 2) (hend : ¬ srtA (aT A) (zA A) (f + len) = 2) {k : Wd → Prop} (hk : ∀ w', fr (rnP rd) w0 w' → wF w' rd 1203 = Int32.ofNat (f + len) → wF w' rd 1204 = Int32.ofNat f → wF w' rd 1206 = (if len ≤ 2 then nmJ (aT A) f len else 100) → wG w' rd 1205 = none → k w') :
    ∀ (d fu n : Nat) (l1 : Int32) (w2 : Wd), n + d = len → d < fu → (n ≤ 2 → l1 = nmJ (aT A) f n) → fr (rnP rd) w0 w2 → wF w2 rd 1203 = Int32.ofNat (f + n) → wF w2 rd 1204 = Int32.ofNat f → wG w2 rd 1205 = none → wl_X12_next_124 k fu w2 rd l1 := by
  obtain ⟨z1, z2⟩ := hT.z
  intro d
  induction d with
  | zero =>
    intro fu n l1 w2 hn hfu hl hf2 e3 e4 e5
    obtain ⟨fu, rfl⟩ : ∃ g, fu = g + 1 := ⟨fu - 1, by omega⟩
    obtain rfl : n = len := by omega
    have hr2 := hr0.sc hf2 (fun q hq => hq.2) (fun hq => by have := hr0.2.2.2.2.1.2; unfold rnP at hq; omega)
    have esub : (Int32.ofNat (f + n) - Int32.ofNat f).toInt = (n : Int) := by
      rw [i_sub (by rw [i_ti (by omega), i_ti (by omega)]; omega), i_ti (by omega), i_ti (by omega)]
      omega
    rw [wl_X12_next_124_s]
    unfold wb_X12_next_124
    refine ⟨hr2.ob, ?_⟩
    rw [x_isDig hr2 hT (by omega) e3, if_neg hend, if_pos rfl, hr2.gF, hr2.gF, e3, e4]
    by_cases c : n ≤ 2
    · rw [if_pos (by rw [i_le, esub]; show (n : Int) ≤ 2; omega), hr2.pF]
      rw [if_pos c] at hk
      refine hk _ (hf2.sF (fun _ => ⟨rfl, by decide, by decide⟩)) ?_ ?_ ?_ e5
      · rw [wF_sF, if_neg (by omega)]; exact e3
      · rw [wF_sF, if_neg (by omega)]; exact e4
      · rw [wF_sF, if_pos ⟨rfl, rfl⟩]; exact hl c
    · rw [if_neg (by rw [i_le, esub]; show ¬ (n : Int) ≤ 2; omega), hr2.pF]
      rw [if_neg c] at hk
      refine hk _ (hf2.sF (fun _ => ⟨rfl, by decide, by decide⟩)) ?_ ?_ ?_ e5
      · rw [wF_sF, if_neg (by omega)]; exact e3
      · rw [wF_sF, if_neg (by omega)]; exact e4
      · rw [wF_sF, if_pos ⟨rfl, rfl⟩]
  | succ d ih =>
    intro fu n l1 w2 hn hfu hl hf2 e3 e4 e5
    obtain ⟨fu, rfl⟩ : ∃ g, fu = g + 1 := ⟨fu - 1, by omega⟩
    have hr2 := hr0.sc hf2 (fun q hq => hq.2) (fun hq => by have := hr0.2.2.2.2.1.2; unfold rnP at hq; omega)
    rw [wl_X12_next_124_s]
    unfold wb_X12_next_124
    refine ⟨hr2.ob, ?_⟩
    rw [x_isDig hr2 hT (by omega) e3, if_pos (hin n (by omega)), if_neg (by decide), hr2.gG, hr2.2.1, hr2.gF, e3, hr2.tp (by omega)]
    have go : ∀ l2 : Int32, (n + 1 ≤ 2 → l2 = nmJ (aT A) f (n + 1)) → wgF w2 (some rd) [32] 1203 (fun v27 => wpF w2 (some rd) [32] 1203 (v27 + 1) (fun w28 => wl_X12_next_124 k fu w28 rd l2)) := by
      intro l2 hl2
      rw [hr2.gF, hr2.pF, e3, i_ofS]
      refine ih fu (n + 1) l2 _ (by omega) (by omega) hl2 (hf2.sF (fun _ => ⟨rfl, by decide, by decide⟩)) ?_ ?_ e5
      · rw [wF_sF, if_pos ⟨rfl, rfl⟩]; rfl
      · rw [wF_sF, if_neg (by omega)]; exact e4
    unfold wp_J14_min
    by_cases c : n + 1 ≤ 2
    · have d0 : isDg (aT A f) := srtA_2 (hin 0 (by omega))
      have hb : (nmJ (aT A) f (n + 1)).toInt ≤ 99 := by
        rcases (show n = 0 ∨ n = 1 by omega) with rfl | rfl
        · rw [nmJ_1 d0]
          have d0' := d0
          unfold isDg at d0'
          omega
        · have d1 : isDg (aT A (f + 1)) := srtA_2 (hin 1 (by omega))
          rw [nmJ_2 d0 d1]
          have d0' := d0
          have d1' := d1
          unfold isDg at d0' d1'
          omega
      have el : 10 * l1 + aT A (f + n) - 48 = nmJ (aT A) f (n + 1) := by rw [hl (by omega)]; rfl
      rw [el, if_pos (by rw [i_lt]; show _ < (100 : Int); omega)]
      exact go _ (fun _ => rfl)
    · split
      · exact go _ (fun q => absurd q c)
      · exact go _ (fun q => absurd q c)
theorem x_next (h : rdS w b rd j A) (hT : okT A) (hz : zA A ≤ 63) {i lo : Nat} (hi : i ≤ zA A) (hat : wF w rd 1203 = Int32.ofNat i) (hlo : lo ≤ wz w) {k : Wd → Prop} (hk : ∀ w', fr (rnP rd) w w' → tkn w' rd lo (aT A) (zA A) i → hsh0 w' rd (tkS (aT A) (zA A) i) → k w') : wp_X12_next w rd k := by
  obtain ⟨z1, z2⟩ := hT.z
  have hF := tkF_b (T := aT A) hi
  have hE := tkE_b (T := aT A) hi
  have hsF : srtA (aT A) (zA A) (tkF (aT A) (zA A) i) = tkS (aT A) (zA A) i := rfl
  have hs4 := srtA_4 (aT A) (zA A) (tkF (aT A) (zA A) i)
  have hrlt := h.1.2
  have hb15 := h.2.2.2.2.1.2
  have tail : ∀ w2, fr (rnP rd) w w2 → wF w2 rd 1203 = Int32.ofNat (tkF (aT A) (zA A) i) → wgF w2 (some rd) [32] 1203 (fun v3 => wpF w2 (some rd) [32] 1204 v3 (fun w4 => wpG w4 (some rd) [32] 1205 none (fun w5 => wpF w5 (some rd) [32] 1206 (-1) (fun w6 => wob w6 rd [32] ∧ wp_X12_isIn w6 rd 97 122 (fun v7 w8 => if v7 = 0 then (wob w8 rd [32] ∧ wp_X12_isIn w8 rd 48 57 (fun v9 w10 => if v9 = 0 then (wob w10 rd [32] ∧ wp_X12_isIn w10 rd 59 59 (fun v11 w12 => if v11 = 0 then k w12 else wpG w12 (some rd) [32] 1205 (wk w12 10) (fun w13 => wgF w13 (some rd) [32] 1203 (fun v14 => wpF w13 (some rd) [32] 1203 (v14 + 1) (fun w15 => k w15))))) else wl_X12_next_124 k FU w10 rd 0)) else wnew w8 35 4 (fun n29 w30 => wp_J11_init w30 n29 (fun w31 => wl_X12_next_61 k FU 2 w31 rd (some n29)))))))) := by
    intro w2 hf2 e3
    have hsc : ∀ w', fr (rnP rd) w w' → rdS w' b rd j A := fun w' hf => h.sc hf (fun q hq => hq.2) (fun hq => by unfold rnP at hq; omega)
    have hr2 := hsc w2 hf2
    rw [hr2.gF, hr2.pF, e3]
    have hf3 : fr (rnP rd) w (sF w2 rd 1204 (Int32.ofNat (tkF (aT A) (zA A) i))) := hf2.sF (fun _ => ⟨rfl, by decide, by decide⟩)
    have a3 : wF (sF w2 rd 1204 (Int32.ofNat (tkF (aT A) (zA A) i))) rd 1203 = Int32.ofNat (tkF (aT A) (zA A) i) := by rw [wF_sF, if_neg (by omega)]; exact e3
    have a4 : wF (sF w2 rd 1204 (Int32.ofNat (tkF (aT A) (zA A) i))) rd 1204 = Int32.ofNat (tkF (aT A) (zA A) i) := by rw [wF_sF, if_pos ⟨rfl, rfl⟩]
    generalize sF w2 rd 1204 (Int32.ofNat (tkF (aT A) (zA A) i)) = w3 at *
    rw [(hsc w3 hf3).pG]
    have hf4 : fr (rnP rd) w (sG w3 rd 1205 none) := hf3.sG (fun _ => ⟨rfl, by decide, by decide⟩)
    have b3 : wF (sG w3 rd 1205 none) rd 1203 = Int32.ofNat (tkF (aT A) (zA A) i) := a3
    have b4 : wF (sG w3 rd 1205 none) rd 1204 = Int32.ofNat (tkF (aT A) (zA A) i) := a4
    have b5 : wG (sG w3 rd 1205 none) rd 1205 = none := by rw [wG_sG, if_pos ⟨rfl, rfl⟩]
    generalize sG w3 rd 1205 none = w4 at *
    rw [(hsc w4 hf4).pF]
    have hf5 : fr (rnP rd) w (sF w4 rd 1206 (-1)) := hf4.sF (fun _ => ⟨rfl, by decide, by decide⟩)
    have c3 : wF (sF w4 rd 1206 (-1)) rd 1203 = Int32.ofNat (tkF (aT A) (zA A) i) := by rw [wF_sF, if_neg (by omega)]; exact b3
    have c4 : wF (sF w4 rd 1206 (-1)) rd 1204 = Int32.ofNat (tkF (aT A) (zA A) i) := by rw [wF_sF, if_neg (by omega)]; exact b4
    have c5 : wG (sF w4 rd 1206 (-1)) rd 1205 = none := b5
    have c6 : wF (sF w4 rd 1206 (-1)) rd 1206 = -1 := by rw [wF_sF, if_pos ⟨rfl, rfl⟩]
    generalize sF w4 rd 1206 (-1) = w5 at *
    have hr5 := hsc w5 hf5
    have hz5 := hf5.z
    refine ⟨hr5.ob, ?_⟩
    rw [x_isLet hr5 hT (by omega) c3, hsF]
    by_cases s1 : tkS (aT A) (zA A) i = 1
    · rw [if_pos s1, if_neg (by decide)]
      have hlt := tkE_lt (T := aT A) hi (by omega)
      refine x_sbNew (C := fun x => aT A (tkF (aT A) (zA A) i + x)) (Nat.le_refl _) (fun w6 hf6 hs6 => ?_)
      have hf56 : fr (nxP rd (wz w5)) w5 w6 := x0_P hf6
      have hrz : rd < wz w5 := by omega
      refine x_nxW hT hz hr5 (len := tkE (aT A) (zA A) i - tkF (aT A) (zA A) i) (by omega) (fun x hx => (tk_in (by omega) (by omega) (Or.inl s1)).trans s1) (by rw [show tkF (aT A) (zA A) i + (tkE (aT A) (zA A) i - tkF (aT A) (zA A) i) = tkE (aT A) (zA A) i by omega]; exact fun q => tk_end (Or.inl s1) (q.trans s1.symm)) (fun w7 q hf7 d3 d4 d6 d5 dS d8 d9 => ?_) (tkE (aT A) (zA A) i - tkF (aT A) (zA A) i) FU 0 16 2 w6 (by omega) (by unfold FU; omega) (Or.inl ⟨rfl, rfl⟩) hf56 hs6 ?_ ?_ ?_
      · refine hk w7 (hf5.trans hf7) ⟨?_, d4, ?_, Or.inl ⟨s1, q, d5, dS.lo (by omega)⟩⟩ (fun q' _ e' => by rw [d5] at e'; cases e'; exact ⟨d8, d9⟩)
        · rw [if_neg (by omega), d3]
          congr 1
          omega
        · unfold nmC
          rw [if_neg (by omega)]; exact d6
      · rw [hf6.F hrz (fun q => q)]; exact c3
      · rw [hf6.F hrz (fun q => q)]; exact c4
      · rw [hf6.F hrz (fun q => q)]; exact c6
    · rw [if_neg s1, if_pos rfl]
      refine ⟨hr5.ob, ?_⟩
      rw [x_isDig hr5 hT (by omega) c3, hsF]
      by_cases s2 : tkS (aT A) (zA A) i = 2
      · rw [if_pos s2, if_neg (by decide)]
        have hlt := tkE_lt (T := aT A) hi (by omega)
        refine x_nxN hT hr5 (f := tkF (aT A) (zA A) i) (len := tkE (aT A) (zA A) i - tkF (aT A) (zA A) i) (by omega) (fun x hx => (tk_in (by omega) (by omega) (Or.inr s2)).trans s2) (by rw [show tkF (aT A) (zA A) i + (tkE (aT A) (zA A) i - tkF (aT A) (zA A) i) = tkE (aT A) (zA A) i by omega]; exact fun q => tk_end (Or.inr s2) (q.trans s2.symm)) (fun w7 hf7 d3 d4 d6 d5 => ?_) (tkE (aT A) (zA A) i - tkF (aT A) (zA A) i) FU 0 0 w5 (by omega) (by unfold FU; omega) (fun _ => rfl) (fr.refl _ _) c3 c4 c5
        refine hk w7 (hf5.trans hf7) ⟨?_, d4, ?_, Or.inr (Or.inr ⟨s1, by omega, d5⟩)⟩ (fun _ e' => absurd e' s1)
        · rw [if_neg (by omega), d3]
          congr 1
          omega
        · unfold nmC tkV
          rw [if_pos s2]; exact d6
      · rw [if_neg s2, if_pos rfl]
        refine ⟨hr5.ob, ?_⟩
        rw [x_isSig hr5 hT (by omega) c3, hsF]
        by_cases s3 : tkS (aT A) (zA A) i = 3
        · rw [if_pos s3, if_neg (by decide), hr5.pG]
          have hf6 : fr (rnP rd) w (sG w5 rd 1205 (wk w5 10)) := hf5.sG (fun _ => ⟨rfl, by decide, by decide⟩)
          have hr6 := hsc _ hf6
          rw [hr6.gF, hr6.pF]
          have e63 : wF (sG w5 rd 1205 (wk w5 10)) rd 1203 = Int32.ofNat (tkF (aT A) (zA A) i) := c3
          rw [e63, i_ofS]
          have eE : tkE (aT A) (zA A) i = tkF (aT A) (zA A) i + 1 := by unfold tkE; rw [if_neg (by omega), if_neg (by omega)]
          refine hk _ (hf6.sF (fun _ => ⟨rfl, by decide, by decide⟩)) ⟨?_, ?_, ?_, Or.inr (Or.inl ⟨s3, ?_⟩)⟩ (fun _ e' => absurd e' s1)
          · rw [if_neg (by omega), eE, wF_sF, if_pos ⟨rfl, rfl⟩]
          · rw [wF_sF, if_neg (by omega)]; exact c4
          · rw [wF_sF, if_neg (by omega)]
            unfold nmC
            rw [if_neg s2]; exact c6
          · rw [wG_sF, wG_sG, if_pos ⟨rfl, rfl⟩]; rfl
        · rw [if_neg s3, if_pos rfl]
          refine hk w5 hf5 ⟨?_, c4, ?_, Or.inr (Or.inr ⟨s1, s3, c5⟩)⟩ (fun _ e' => absurd e' s1)
          · rw [c3]
            by_cases s4 : tkS (aT A) (zA A) i = 4
            · rw [if_pos s4]
            · rw [if_neg s4]
              unfold tkE
              rw [if_pos (by omega)]
          · unfold nmC
            rw [if_neg s2]; exact c6
  unfold wp_X12_next
  have key : ∀ d fu x w2, x + d = zA A → d < fu → fr (rnP rd) w w2 → wF w2 rd 1203 = Int32.ofNat x → tkF (aT A) (zA A) i = skR (aT A) d x → wl_X12_next_0 k fu w2 rd := by
    intro d
    induction d with
    | zero =>
      intro fu x w2 hx hfu hf2 e3 hsk
      obtain ⟨fu, rfl⟩ : ∃ g, fu = g + 1 := ⟨fu - 1, by omega⟩
      have hr2 := h.sc hf2 (fun q hq => hq.2) (fun hq => by unfold rnP at hq; omega)
      rw [wl_X12_next_0_s]
      unfold wb_X12_next_0
      refine ⟨hr2.ob, ?_⟩
      rw [x_rIsIn hr2 hT (by omega) e3, if_neg (fun q => by have := q.1; omega), if_pos rfl]
      exact tail w2 hf2 (by rw [hsk]; exact e3)
    | succ d ih =>
      intro fu x w2 hx hfu hf2 e3 hsk
      obtain ⟨fu, rfl⟩ : ∃ g, fu = g + 1 := ⟨fu - 1, by omega⟩
      have hr2 := h.sc hf2 (fun q hq => hq.2) (fun hq => by unfold rnP at hq; omega)
      have es : skR (aT A) (d + 1) x = if aT A x = 32 then skR (aT A) d (x + 1) else x := rfl
      rw [wl_X12_next_0_s]
      unfold wb_X12_next_0
      refine ⟨hr2.ob, ?_⟩
      rw [x_rIsIn hr2 hT (by omega) e3]
      by_cases c : aT A x = 32
      · rw [if_pos ⟨by omega, by rw [c]; exact Int.le_refl _, by rw [c]; exact Int.le_refl _⟩, if_neg (by decide), hr2.gF, hr2.pF, e3, i_ofS]
        rw [es, if_pos c] at hsk
        exact ih fu (x + 1) _ (by omega) (by omega) (hf2.sF (fun _ => ⟨rfl, by decide, by decide⟩)) (by rw [wF_sF, if_pos ⟨rfl, rfl⟩]) hsk
      · rw [if_neg (fun q => c (by rw [i_eq]; have h1 := q.2.1; have h2 := q.2.2; show (aT A x).toInt = (32 : Int32).toInt; omega)), if_pos rfl]
        rw [es, if_neg c] at hsk
        exact tail w2 hf2 (by rw [hsk]; exact e3)
  exact key (zA A - i) FU i w (by omega) (by unfold FU; omega) (fr.refl _ _) hat rfl
end XNX
