/-! ===== Strings, of the class's texts ===== -/
/-- a String between lo and hi, by its signs; whether it may be written -/
def strA (w : Wd) (lo hi q : Nat) (fl : Bool) (C : Nat → Int32) (n : Nat) : Prop := ∃ v : Nat, ((lo ≤ q ∧ q < hi) ∧ (lo ≤ v ∧ v < hi)) ∧ wT w q = some (34, 4, fl) ∧ wF w q 1401 = 0 ∧ wG w q 1400 = some v ∧ wT w v = some (1, n, fl) ∧ ∀ j, j < n → wI w v j = C j
def hsP (q : Nat) : Nat → Nat → Prop := fun x k => x = q ∧ (k = 1402 ∨ k = 1403)
def hshS (C : Nat → Int32) : Nat → Int32
  | 0 => 0
  | j + 1 => 31 * hshS C j + (C j &&& 255)
section XSTR
variable {w w' : Wd} {lo hi lo' hi' q q' n n' : Nat} {fl fl' : Bool} {C C' : Nat → Int32}
theorem strA.sc {P : Nat → Nat → Prop} (h : strA w lo hi q fl C n) (hf : fr P w w') (hh : hi ≤ wz w) (hP : ∀ x k, lo ≤ x → x < hi → P x k → k = 1402 ∨ k = 1403) : strA w' lo hi q fl C n := by
  obtain ⟨v, hb, t1, f1, g1, t2, e⟩ := h
  have a1 : q < wz w := by omega
  have a2 : v < wz w := by omega
  refine ⟨v, hb, hf.T a1 t1, (hf.F a1 (fun p => by have := hP _ _ hb.1.1 hb.1.2 p; omega)).trans f1, (hf.G a1 (fun p => by have := hP _ _ hb.1.1 hb.1.2 p; omega)).trans g1, hf.T a2 t2, fun j hj => ?_⟩
  rw [hf.I a2 (fun p => by have := hP _ _ hb.2.1 hb.2.2 p; omega)]
  exact e j hj
theorem strA.ob (h : strA w lo hi q fl C n) : wob w q [34] := by
  obtain ⟨v, hb, t1, -⟩ := h
  unfold wob
  rw [t1]
  exact List.mem_singleton.2 rfl
theorem ob34F (h : wob w q [34]) (k : Nat) (K : Int32 → Prop) : wgF w (some q) [34] k K = K (wF w q k) := propext ⟨fun e => e.2, fun e => ⟨h, e⟩⟩
theorem ob34G (h : wob w q [34]) (k : Nat) (K : Option Nat → Prop) : wgG w (some q) [34] k K = K (wG w q k) := propext ⟨fun e => e.2, fun e => ⟨h, e⟩⟩
theorem bln {v : Nat} {c : Nat} (h : wT w v = some (c, n, fl)) (hc : c < 20) (K : Int32 → Prop) : wln w (some v) K = K (Int32.ofNat n) := by
  show (match wT w v with
    | some t => t.1 < 20 ∧ K (Int32.ofNat t.2.1)
    | none => False) = _
  rw [h]
  exact propext ⟨fun e => e.2, fun e => ⟨hc, e⟩⟩
theorem bld {v j c : Nat} (h : wT w v = some (c, n, fl)) (hj : j < n) (hn : n < 1000000) (K : Int32 → Prop) : wld w (some v) c (Int32.ofNat j) K = K (wI w v j) := by
  have hv : vp_in (Int32.ofNat j) n := vp_iff.2 (by rw [i_ti (by omega)]; omega)
  show (warr w v c (Int32.ofNat j) ∧ K (wI w v (Int32.ofNat j).toNatClampNeg)) = _
  unfold warr
  rw [h, i_tn (by omega)]
  exact propext ⟨fun e => e.2, fun e => ⟨⟨rfl, hv⟩, e⟩⟩
theorem x_strEq (h : strA w lo hi q fl C n) (h' : strA w lo' hi' q' fl' C' n') (hn : n < 900) (hn' : n' < 900) {K : Int32 → Wd → Prop} (hk : K (if n = n' ∧ ∀ j, j < n → C j = C' j then 1 else 0) w) : wp_J4_equals w q (some q') K := by
  have o1 := h.ob
  have o2 := h'.ob
  obtain ⟨v, hb, t1, f1, g1, t2, e⟩ := h
  obtain ⟨v', hb', t1', f1', g1', t2', e'⟩ := h'
  unfold wp_J4_equals
  by_cases c : q = q'
  · subst c
    rw [if_pos rfl]
    rw [g1] at g1'
    cases g1'
    rw [t2] at t2'
    cases t2'
    rw [if_pos ⟨rfl, fun j hj => (e j hj).symm.trans (e' j hj)⟩] at hk
    exact hk
  · rw [if_neg (fun q => c (Option.some.inj q))]
    refine ⟨o2, ?_⟩
    try dsimp only
    try rw [if_neg (by decide)]
    refine ⟨o2, ?_⟩
    try dsimp only
    try rw [if_neg (by decide)]
    rw [ob34F o1, ob34F o2, f1, f1', if_pos rfl]
    unfold wb_J4_equals_36 wp_J16_equals
    rw [ob34G o1, ob34G o2, g1, g1', bln t2 (by decide), bln t2' (by decide)]
    by_cases cn : n = n'
    · subst cn
      rw [if_pos rfl]
      have key : ∀ d fu j, j + d = n → d < fu → (∀ x, x < j → C x = C' x) → wl_J16_equals_9 (fun v4 w5 => if v4 = 0 then K 0 w5 else K 1 w5) fu w (some v) (some v') (Int32.ofNat j) := by
        intro d
        induction d with
        | zero =>
          intro fu j hj hfu hm
          obtain ⟨fu, rfl⟩ : ∃ g, fu = g + 1 := ⟨fu - 1, by omega⟩
          obtain rfl : j = n := by omega
          rw [wl_J16_equals_9_s]
          unfold wb_J16_equals_9
          rw [bln t2 (by decide), if_pos (Int32.le_refl _)]
          try dsimp only
          rw [if_neg (by decide)]
          rwa [if_pos ⟨rfl, hm⟩] at hk
        | succ d ih =>
          intro fu j hj hfu hm
          obtain ⟨fu, rfl⟩ : ∃ g, fu = g + 1 := ⟨fu - 1, by omega⟩
          rw [wl_J16_equals_9_s]
          unfold wb_J16_equals_9
          rw [bln t2 (by decide), if_neg (by rw [i_le, i_ti (by omega), i_ti (by omega)]; omega), bld t2 (by omega) (by omega), bld t2' (by omega) (by omega), e j (by omega), e' j (by omega)]
          by_cases ce : C j = C' j
          · rw [if_pos ce, i_ofS]
            refine ih fu (j + 1) (by omega) (by omega) (fun x hx => ?_)
            by_cases ex : x = j
            · rw [ex]; exact ce
            · exact hm x (by omega)
          · rw [if_neg ce]
            try dsimp only
            rw [if_pos rfl]
            rwa [if_neg (fun q => ce (q.2 j (by omega)))] at hk
      exact key n FU 0 (by omega) (by unfold FU; omega) (fun x hx => absurd hx (Nat.not_lt_zero x))
    · rw [if_neg (by rw [ofN_inj (by omega) (by omega)]; exact cn)]
      try dsimp only
      rw [if_pos rfl]
      rwa [if_neg (fun q => cn q.1)] at hk
theorem x_hash (h : strA w lo hi q true C n) (h2 : wF w q 1402 = 0) (h3 : wF w q 1403 = 0) (hn : 1 ≤ n ∧ n < 900) {k : Int32 → Wd → Prop} (hk : ∀ w', fr (hsP q) w w' → k (hshS C n) w') : wp_J4_hashCode w q k := by
  have o1 := h.ob
  obtain ⟨v, hb, t1, f1, g1, t2, e⟩ := h
  have owr : wobw w q [34] := by unfold wobw; rw [t1]; exact ⟨List.mem_singleton.2 rfl, rfl⟩
  have g40 : wb_J4_hashCode_40 k w q (hshS C n) := by
    unfold wb_J4_hashCode_40
    split
    · exact ⟨owr, hk _ ((fr.refl _ _).sF (fun _ => ⟨rfl, Or.inr rfl⟩))⟩
    · exact ⟨owr, hk _ ((fr.refl _ _).sF (fun _ => ⟨rfl, Or.inl rfl⟩))⟩
  unfold wp_J4_hashCode
  rw [ob34F o1, h2, if_pos rfl, ob34F o1, h3, if_pos rfl]
  refine ⟨o1, ?_⟩
  unfold wp_J4_isLatin1
  rw [if_neg (by decide), ob34F o1, f1, if_pos rfl]
  try dsimp only
  rw [if_neg (by decide), ob34G o1, g1]
  try dsimp only
  unfold wp_J16_hashCode
  rw [bln t2 (by decide), if_neg (by rw [show (0 : Int32) = Int32.ofNat 0 from rfl, ofN_inj (by omega) (by omega)]; omega)]
  by_cases c1 : n = 1
  · subst c1
    rw [if_pos (by decide), show (0 : Int32) = Int32.ofNat 0 from rfl, bld t2 (by omega) (by omega), e 0 (by omega)]
    have : hshS C 1 = C 0 &&& 255 := by
      show 31 * 0 + (C 0 &&& 255) = _
      rw [show (31 * 0 : Int32) = 0 from rfl, Int32.zero_add]
    rwa [this] at g40
  · rw [if_neg (by rw [show (1 : Int32) = Int32.ofNat 1 from rfl, ofN_inj (by omega) (by omega)]; exact c1), bln t2 (by decide)]
    unfold wp_J13_vectorizedHashCode
    rw [if_pos rfl]
    show match wT w v with
      | none => False
      | some t => t.2.2 = true ∧ t.1 ∈ [1] ∧ _
    rw [t2]
    refine ⟨rfl, List.mem_singleton.2 rfl, ?_⟩
    unfold wp_J13_signedHashCode
    rw [Int32.zero_add]
    refine loopN (n := n) (I := fun _ w2 => w2 = w) (L := fun fu j w2 => wl_J13_signedHashCode_8 (fun v1 w2 => wb_J4_hashCode_40 k w2 q v1) fu w2 (hshS C j) (some v) (Int32.ofNat n) (Int32.ofNat j)) ?_ ?_ n FU 0 w (by omega) (by unfold FU; omega) rfl
    · rintro fu j w2 hj rfl ih
      rw [wl_J13_signedHashCode_8_s]
      unfold wb_J13_signedHashCode_8
      rw [if_neg (by rw [i_le, i_ti (by omega), i_ti (by omega)]; omega), bld t2 (by omega) (by omega), e j (by omega), i_ofS]
      exact ih _ rfl
    · rintro fu w2 rfl
      rw [wl_J13_signedHashCode_8_s]
      unfold wb_J13_signedHashCode_8
      rw [if_pos (Int32.le_refl _)]
      exact g40
end XSTR
/-! ===== StringBuilders ===== -/
/-- a StringBuilder by its signs, with room for cap -/
def sbA (w : Wd) (lo q : Nat) (C : Nat → Int32) (n cap : Nat) : Prop := ∃ v : Nat, ((lo ≤ q ∧ q < wz w) ∧ (lo ≤ v ∧ v < wz w) ∧ ¬ q = v) ∧ wT w q = some (35, 4, true) ∧ wF w q 1501 = 0 ∧ wF w q 1503 = Int32.ofNat n ∧ wG w q 1500 = some v ∧ wT w v = some (1, cap, true) ∧ (∀ j, j < n → wI w v j = C j) ∧ n ≤ cap
def loP (lo : Nat) : Nat → Nat → Prop := fun x _ => lo ≤ x
theorem lt26 {v : Int32} (h : isLt v) : ∃ c : Nat, c < 26 ∧ v = Int32.ofNat (97 + c) := by
  have h' := h
  unfold isLt at h'
  refine ⟨v.toInt.toNat - 97, by omega, ?_⟩
  rw [i_eq, i_ti (by omega)]
  omega
theorem lt_ch {v : Int32} (h : isLt v) : (v.toUInt32 % 65536).toInt32 = v ∧ vp_nar .byte (v.toInt8.toInt32) = v ∧ fits .byte (.int v) = true ∧ ¬ (255 : Int32) < v := by
  obtain ⟨c, hc, rfl⟩ := lt26 h
  exact (show ∀ c : Fin 26, ((Int32.ofNat (97 + c.val)).toUInt32 % 65536).toInt32 = Int32.ofNat (97 + c.val) ∧ vp_nar .byte ((Int32.ofNat (97 + c.val)).toInt8.toInt32) = Int32.ofNat (97 + c.val) ∧ fits .byte (.int (Int32.ofNat (97 + c.val))) = true ∧ ¬ (255 : Int32) < Int32.ofNat (97 + c.val) by decide +kernel) ⟨c, hc⟩
section XSB
variable {w w' : Wd} {lo q n cap : Nat} {C : Nat → Int32}
theorem ob35 (h : wT w q = some (35, 4, true)) : wob w q [35] := by
  unfold wob
  rw [h]
  exact List.mem_singleton.2 rfl
theorem ob35w (h : wT w q = some (35, 4, true)) : wobw w q [35] := by
  unfold wobw
  rw [h]
  exact ⟨List.mem_singleton.2 rfl, rfl⟩
theorem ob35F (h : wob w q [35]) (k : Nat) (K : Int32 → Prop) : wgF w (some q) [35] k K = K (wF w q k) := propext ⟨fun e => e.2, fun e => ⟨h, e⟩⟩
theorem ob35G (h : wob w q [35]) (k : Nat) (K : Option Nat → Prop) : wgG w (some q) [35] k K = K (wG w q k) := propext ⟨fun e => e.2, fun e => ⟨h, e⟩⟩
theorem ob35pF (h : wobw w q [35]) (k : Nat) (v : Int32) (K : Wd → Prop) : wpF w (some q) [35] k v K = K (sF w q k v) := propext ⟨fun e => e.2, fun e => ⟨h, e⟩⟩
theorem ob35pG (h : wobw w q [35]) (k : Nat) (v : Option Nat) (K : Wd → Prop) : wpG w (some q) [35] k v K = K (sG w q k v) := propext ⟨fun e => e.2, fun e => ⟨h, e⟩⟩
theorem x_sbNew (hlo : lo ≤ wz w) {k : Wd → Prop} (hk : ∀ w', fr x0 w w' → sbA w' lo (wz w) C 0 16 → k w') : wnew w 35 4 (fun n1 w2 => wp_J11_init w2 n1 (fun w3 => k w3)) := by
  unfold wnew wp_J11_init wp_J10_init
  try dsimp only
  rw [if_neg (by decide)]
  refine ⟨by decide, by decide, ?_⟩
  have hn16 : (16 : Int32).toNatClampNeg = 16 := rfl
  rw [hn16]
  have hz1 : wz (nw w (35, 4, true)) = wz w + 1 := rfl
  have t1 : wT (nw (nw w (35, 4, true)) (1, 16, true)) (wz w) = some (35, 4, true) := by
    rw [wT_nw, hz1, if_neg (by omega), wT_nw, if_pos rfl]
  try dsimp only
  rw [hz1]
  rw [ob35pG (ob35w t1), ob35pF (show wobw (sG (nw (nw w (35, 4, true)) (1, 16, true)) (wz w) 1500 (some (wz w + 1))) (wz w) [35] from ob35w t1)]
  refine hk _ ?_ ⟨wz w + 1, ⟨⟨hlo, ?_⟩, ⟨by omega, ?_⟩, by omega⟩, t1, ?_, ?_, ?_, ?_, fun j hj => absurd hj (Nat.not_lt_zero j), by decide⟩
  · exact fr.sF (fr.sG (fr.nw (fr.nw (fr.refl _ _))) (fun h => absurd h (Nat.lt_irrefl _))) (fun h => absurd h (Nat.lt_irrefl _))
  · show wz w < wz w + 1 + 1
    omega
  · show wz w + 1 < wz w + 1 + 1
    omega
  · rw [wF_sF, if_pos ⟨rfl, rfl⟩]
  · rw [wF_sF, if_neg (by omega), wF_sG, wF_nw, hz1, if_neg (by omega), wF_nw, if_pos rfl]; rfl
  · rw [wG_sF, wG_sG, if_pos ⟨rfl, rfl⟩]
  · rw [wT_sF, wT_sG, wT_nw, hz1, if_pos rfl]
/-- one sign put behind -/
theorem x_put1 (h : sbA w lo q C n cap) (hn : n < cap) (hc : cap ≤ 70) (hch : isLt (C n)) {k : Option Nat → Wd → Prop} (hk : ∀ w', fr (loP lo) w w' → sbA w' lo q C (n + 1) cap → k (some q) w') : wb_J10_append_45 k w q (C n) ∨ (wgG w (some q) [35] 1500 (fun v7 => wgF w (some q) [35] 1503 (fun v8 => wpF w (some q) [35] 1503 (v8 + 1) (fun w9 => wst w9 v7 1 v8 (vp_nar .byte ((C n).toInt8.toInt32)) (fun w10 => k (some q) w10))))) := by
  right
  obtain ⟨v, ⟨hb1, hb2, hqv⟩, t1, f1, f3, g1, t2, e, hle⟩ := h
  obtain ⟨c1, c2, c3, c4⟩ := lt_ch hch
  rw [ob35G (ob35 t1), ob35F (ob35 t1), ob35pF (ob35w t1), g1, f3, c2, i_ofS]
  have hv : vp_in (Int32.ofNat n) cap := vp_iff.2 (by rw [i_ti (by omega)]; omega)
  show warw (sF w q 1503 (Int32.ofNat (n + 1))) v 1 (Int32.ofNat n) ∧ _
  unfold warw
  rw [wT_sF, t2, i_tn (by omega)]
  refine ⟨⟨rfl, hv, rfl⟩, hk _ ?_ ⟨v, ⟨hb1, hb2, hqv⟩, t1, ?_, ?_, g1, t2, fun j hj => ?_, by omega⟩⟩
  · exact fr.sI (fr.sF (fr.refl _ _) (fun _ => (show loP lo q 1503 from hb1.1))) (fun _ => (show loP lo v 9999 from hb2.1))
  · rw [wF_sI, wF_sF, if_neg (by omega)]; exact f1
  · rw [wF_sI, wF_sF, if_pos ⟨rfl, rfl⟩]
  · rw [wI_sI]
    by_cases ej : j = n
    · rw [if_pos ⟨rfl, ej⟩, ej]
    · rw [if_neg (fun x => ej x.2)]
      exact e j (by omega)
theorem x_latin (h : wob w q [35]) (f : wF w q 1501 = 0) (k : Int32 → Wd → Prop) : wp_J10_isLatin1 w q k = k 1 w := by
  unfold wp_J10_isLatin1
  rw [if_neg (by decide), ob35F h, f, if_pos rfl]
theorem sh0 (x : Int32) : x >>> ((0 : Int32) &&& 31) = x ∧ x <<< ((0 : Int32) &&& 31) = x := by
  rw [show ((0 : Int32) &&& 31) = 0 from rfl]
  exact ⟨Int32.shiftRight_zero, Int32.shiftLeft_zero⟩
theorem x_appN (h : sbA w lo q C n cap) (hn : n < cap) (hc : cap ≤ 70) (hch : isLt (C n)) {k : Option Nat → Wd → Prop} (hk : ∀ w', fr (loP lo) w w' → sbA w' lo q C (n + 1) cap → k (some q) w') : wp_J11_appendng w q (C n) k := by
  have h' := h
  obtain ⟨v, ⟨hb1, hb2, hqv⟩, t1, f1, f3, g1, t2, e, hle⟩ := h'
  obtain ⟨c1, c2, c3, c4⟩ := lt_ch hch
  have o := ob35 t1
  unfold wp_J11_appendng wp_J10_appendng
  refine ⟨o, ?_⟩
  rw [ob35F o]
  refine ⟨o, ?_⟩
  unfold wp_J10_ensureCapacityInternalng
  rw [ob35G o, g1, bln t2 (by decide), ob35F o, f1, (sh0 _).1, f3, i_ofS, if_pos (by rw [i_le, i_sub (by rw [i_ti (by omega), i_ti (by omega)]; omega), i_ti (by omega), i_ti (by omega), i_0]; omega)]
  refine ⟨o, ?_⟩
  rw [x_latin o f1]
  try dsimp only
  rw [if_neg (by decide)]
  unfold wp_J16_canEncode
  rw [if_neg c4]
  try dsimp only
  rw [if_neg (by decide)]
  exact (x_put1 h hn hc hch (k := fun _ w2 => k (some q) w2) (fun w' a b => hk w' a b)).resolve_left (fun x => x)
theorem x_appG (h : sbA w lo q C n cap) (hn : n = cap) (hc : cap = 16 ∨ cap = 34) (hlo : lo ≤ wz w) (hC : ∀ j, j ≤ n → isLt (C j)) {k : Option Nat → Wd → Prop} (hk : ∀ w', fr (loP lo) w w' → sbA w' lo q C (n + 1) (2 * cap + 2) → k (some q) w') : wp_J11_append w q (C n) k := by
  have h' := h
  obtain ⟨v, ⟨hb1, hb2, hqv⟩, t1, f1, f3, g1, t2, e, hle⟩ := h'
  obtain ⟨c1, c2, c3, c4⟩ := lt_ch (hC n (Nat.le_refl _))
  have o := ob35 t1
  have h1 : ¬ Int32.ofNat (cap + 1) - Int32.ofNat cap ≤ 0 := by rcases hc with rfl | rfl <;> decide
  have h2 : ¬ (Int32.ofNat cap + (if Int32.ofNat (cap + 1) - Int32.ofNat cap ≤ Int32.ofNat cap + 2 then Int32.ofNat cap + 2 else Int32.ofNat (cap + 1) - Int32.ofNat cap)) ≤ 0 := by rcases hc with rfl | rfl <;> decide
  unfold wp_J11_append wp_J10_append
  refine ⟨o, ?_⟩
  rw [ob35F o]
  refine ⟨o, ?_⟩
  unfold wp_J10_ensureCapacityInternal
  rw [ob35G o, g1, bln t2 (by decide), ob35F o, f1, (sh0 _).1, f3, i_ofS, hn, if_neg h1, ob35G o, g1]
  refine ⟨o, ?_⟩
  unfold wp_J10_newCapacity
  rw [ob35G o, g1, bln t2 (by decide), ob35F o, ob35F o, f1, (sh0 _).2, (sh0 _).2]
  have hmax : ∀ K : Int32 → Wd → Prop, wp_J13_newLength w (Int32.ofNat cap) (Int32.ofNat (cap + 1) - Int32.ofNat cap) (Int32.ofNat cap + 2) K = K (Int32.ofNat (2 * cap + 2)) w := by
    intro K
    unfold wp_J13_newLength wp_J14_max
    rcases hc with rfl | rfl
    all_goals
      rw [if_pos (by decide)]
      try dsimp only
      rw [if_neg (by decide)]
      rfl
  rw [hmax, if_neg (by rcases hc with rfl | rfl <;> decide), ob35F o, f1, (sh0 _).1]
  try dsimp only
  rw [ob35F o, f1, (sh0 _).2]
  unfold wp_J15_copyOf
  rw [bln t2 (by decide), if_neg (by rcases hc with rfl | rfl <;> decide)]
  refine ⟨by rcases hc with rfl | rfl <;> decide, by rcases hc with rfl | rfl <;> decide, ?_⟩
  rw [i_tn (show 2 * cap + 2 < 2147483648 by omega)]
  have t2' : wT (nw w (1, 2 * cap + 2, true)) v = some (1, cap, true) := by rw [wT_nw, if_neg (by omega)]; exact t2
  have t3' : wT (nw w (1, 2 * cap + 2, true)) (wz w) = some (1, 2 * cap + 2, true) := by rw [wT_nw, if_pos rfl]
  have t1' : wT (nw w (1, 2 * cap + 2, true)) q = some (35, 4, true) := by rw [wT_nw, if_neg (by omega)]; exact t1
  try dsimp only
  rw [bln t2' (by decide)]
  unfold wp_J14_min
  rw [if_neg (by rcases hc with rfl | rfl <;> decide)]
  have hI : ∀ j, wI (nw w (1, 2 * cap + 2, true)) v j = wI w v j := fun j => by rw [wI_nw, if_neg (by omega)]
  show (match wT (nw w (1, 2 * cap + 2, true)) v, wT (nw w (1, 2 * cap + 2, true)) (wz w) with
    | some t, some u => (t.1 = 1 ∧ u.1 = 1 ∧ t.2.2 = true ∧ u.2.2 = true) ∧ (¬ (0 : Int32) < 0 ∧ ¬ (0 : Int32) < 0 ∧ ¬ Int32.ofNat cap < 0 ∧ (0 : Int32).toNatClampNeg + (Int32.ofNat cap).toNatClampNeg ≤ t.2.1 ∧ (0 : Int32).toNatClampNeg + (Int32.ofNat cap).toNatClampNeg ≤ u.2.1) ∧ wfit (nw w (1, 2 * cap + 2, true)) v 1 (0 : Int32).toNatClampNeg (Int32.ofNat cap).toNatClampNeg [] ∧ _
    | _, _ => False)
  rw [t2', t3', i_tn (show cap < 2147483648 by omega), show (0 : Int32).toNatClampNeg = 0 from rfl]
  refine ⟨⟨rfl, rfl, rfl, rfl⟩, ⟨by decide, by decide, by rw [i_lt, i_ti (by omega), i_0]; omega, by show 0 + cap ≤ cap; omega, by show 0 + cap ≤ 2 * cap + 2; omega⟩, fun j hj => ?_, ?_⟩
  · rw [if_pos (by decide)]
    show fits .byte (.int (wI (nw w (1, 2 * cap + 2, true)) v (0 + j))) = true
    rw [hI, Nat.zero_add, e j (by omega)]
    exact (lt_ch (hC j (by omega))).2.2.1
  · dsimp only
    rw [ob35pG (show wobw (sCp (nw w (1, 2 * cap + 2, true)) v (wz w) 0 0 cap) q [35] from ob35w (by rw [wT_sCp]; exact t1'))]
    have hS : sbA (sG (sCp (nw w (1, 2 * cap + 2, true)) v (wz w) 0 0 cap) q 1500 (some (wz w))) lo q C n (2 * cap + 2) := by
      refine ⟨wz w, ⟨⟨hb1.1, ?_⟩, ⟨hlo, ?_⟩, by omega⟩, ?_, ?_, ?_, ?_, ?_, fun j hj => ?_, by omega⟩
      · show q < wz w + 1
        omega
      · show wz w < wz w + 1
        omega
      · rw [wT_sG, wT_sCp]; exact t1'
      · rw [wF_sG, wF_sCp, wF_nw, if_neg (by omega)]; exact f1
      · rw [wF_sG, wF_sCp, wF_nw, if_neg (by omega)]; exact f3
      · rw [wG_sG, if_pos ⟨rfl, rfl⟩]
      · rw [wT_sG, wT_sCp]; exact t3'
      · rw [wI_sG, wI_sCp, if_pos rfl]
        unfold va_cpy
        rw [if_pos (by omega), hI, Nat.sub_zero, Nat.zero_add]
        exact e j hj
    have hf1 : fr (loP lo) w (sG (sCp (nw w (1, 2 * cap + 2, true)) v (wz w) 0 0 cap) q 1500 (some (wz w))) := fr.sG (fr.sCp (fr.nw (fr.refl _ _)) (fun _ => hlo)) (fun _ => hb1.1)
    generalize sG (sCp (nw w (1, 2 * cap + 2, true)) v (wz w) 0 0 cap) q 1500 (some (wz w)) = w2 at *
    have hS' := hS
    obtain ⟨v2, -, s1, s2, s3, s4, s5, -⟩ := hS'
    have o2 := ob35 s1
    refine ⟨o2, ?_⟩
    rw [x_latin o2 s2]
    try dsimp only
    rw [if_neg (by decide)]
    unfold wp_J16_canEncode
    have := (x_put1 hS (by omega) (by omega) (hC n (Nat.le_refl _)) (k := fun _ w2 => k (some q) w2) (fun w' a b => hk w' (hf1.trans a) b)).resolve_left (fun x => x)
    rw [hn] at c4 this
    rw [if_neg c4]
    try dsimp only
    rw [if_neg (by decide)]
    exact this
/-- a String made of it -/
theorem x_toStr (h : sbA w lo q C n cap) (hc : cap ≤ 70) (hlo : lo ≤ wz w) (hC : ∀ j, j < n → isLt (C j)) {k : Option Nat → Wd → Prop} (hk : ∀ q' w', fr x0 w w' → strA w' lo (wz w') q' true C n → wz w ≤ q' → wF w' q' 1402 = 0 → wF w' q' 1403 = 0 → k (some q') w') : wp_J11_toString w q k := by
  obtain ⟨v, ⟨hb1, hb2, hqv⟩, t1, f1, f3, g1, t2, e, hle⟩ := h
  unfold wp_J11_toString wnew wp_J4_init wp_J4_init_2
  simp only [wnn]
  have hz1 : wz (nw w (34, 4, true)) = wz w + 1 := rfl
  have t1' : wT (nw w (34, 4, true)) q = some (35, 4, true) := by rw [wT_nw, if_neg (by omega)]; exact t1
  have t2' : wT (nw w (34, 4, true)) v = some (1, cap, true) := by rw [wT_nw, if_neg (by omega)]; exact t2
  have ts : wT (nw w (34, 4, true)) (wz w) = some (34, 4, true) := by rw [wT_nw, if_pos rfl]
  have f1' : wF (nw w (34, 4, true)) q 1501 = 0 := by rw [wF_nw, if_neg (by omega)]; exact f1
  have f3' : wF (nw w (34, 4, true)) q 1503 = Int32.ofNat n := by rw [wF_nw, if_neg (by omega)]; exact f3
  have g1' : wG (nw w (34, 4, true)) q 1500 = some v := by rw [wG_nw, if_neg (by omega)]; exact g1
  have i1' : ∀ j, wI (nw w (34, 4, true)) v j = wI w v j := fun j => by rw [wI_nw, if_neg (by omega)]
  have z1' : wF (nw w (34, 4, true)) (wz w) 1402 = 0 ∧ wF (nw w (34, 4, true)) (wz w) 1403 = 0 := ⟨by rw [wF_nw, if_pos rfl], by rw [wF_nw, if_pos rfl]⟩
  have hfn : fr x0 w (nw w (34, 4, true)) := fr.nw (fr.refl _ _)
  generalize nw w (34, 4, true) = w1 at *
  have o := ob35 t1'
  refine ⟨o, ?_⟩
  unfold wp_J10_getValue
  rw [ob35G o, g1']
  refine ⟨o, ?_⟩
  unfold wp_J11_length wp_J10_length
  refine ⟨o, ?_⟩
  rw [ob35F o, f3']
  refine ⟨o, ?_⟩
  rw [x_latin o f1']
  try dsimp only
  rw [if_neg (by decide)]
  have ow : wobw w1 (wz w) [34] := by unfold wobw; rw [ts]; exact ⟨List.mem_singleton.2 rfl, rfl⟩
  show wobw w1 (wz w) [34] ∧ _
  refine ⟨ow, ?_⟩
  have hf2 : fr x0 w (sF w1 (wz w) 1401 0) := hfn.sF (fun hh => absurd hh (Nat.lt_irrefl _))
  have u1 : wF (sF w1 (wz w) 1401 0) (wz w) 1401 = 0 := by rw [wF_sF, if_pos ⟨rfl, rfl⟩]
  have u2 : wF (sF w1 (wz w) 1401 0) (wz w) 1402 = 0 := by rw [wF_sF, if_neg (by omega)]; exact z1'.1
  have u3 : wF (sF w1 (wz w) 1401 0) (wz w) 1403 = 0 := by rw [wF_sF, if_neg (by omega)]; exact z1'.2
  have t2'' : wT (sF w1 (wz w) 1401 0) v = some (1, cap, true) := t2'
  have ts'' : wT (sF w1 (wz w) 1401 0) (wz w) = some (34, 4, true) := ts
  have i1'' : ∀ j, wI (sF w1 (wz w) 1401 0) v j = wI w v j := i1'
  have hz2 : wz (sF w1 (wz w) 1401 0) = wz w + 1 := hz1
  generalize sF w1 (wz w) 1401 0 = w2 at *
  clear t1' t2' ts f1' f3' g1' i1' z1' hfn ow o hz1
  -- behind the copy
  have fin : ∀ w3 : Wd, wz w3 = wz w + 2 → fr x0 w w3 → wT w3 (wz w) = some (34, 4, true) → wF w3 (wz w) 1401 = 0 → wF w3 (wz w) 1402 = 0 → wF w3 (wz w) 1403 = 0 → wT w3 (wz w + 1) = some (1, n, true) → (∀ j, j < n → wI w3 (wz w + 1) j = C j) → wpG w3 (some (wz w)) [34] 1400 (some (wz w + 1)) (fun w11 => k (some (wz w)) w11) := by
    intro w3 a1 a2 a3 a4 a5 a6 a7 a8
    have ow3 : wobw w3 (wz w) [34] := by unfold wobw; rw [a3]; exact ⟨List.mem_singleton.2 rfl, rfl⟩
    refine ⟨ow3, hk (wz w) _ (a2.sG (fun hh => absurd hh (Nat.lt_irrefl _))) ⟨wz w + 1, ⟨⟨hlo, ?_⟩, by omega, ?_⟩, a3, a4, ?_, a7, a8⟩ (Nat.le_refl _) a5 a6⟩
    · show wz w < wz w3
      omega
    · show wz w + 1 < wz w3
      omega
    · rw [wG_sG, if_pos ⟨rfl, rfl⟩]
  unfold wp_J15_copyOfRange
  try dsimp only
  rw [if_pos rfl, bln t2'' (by decide)]
  by_cases cn : n = cap
  · rw [if_pos (by rw [cn])]
    show (match wT w2 v with
      | none => False
      | some t => t.1 = 1 ∧ t.2.2 = true ∧ t.2.1 ≤ 70 ∧ (∀ j, j < t.2.1 → fits .byte (.int (wI w2 v j)) = true) ∧ _)
    rw [t2'']
    refine ⟨rfl, rfl, hc, fun j hj => ?_, ?_⟩
    · rw [i1'', e j (by show j < n; rw [cn]; exact hj)]
      exact (lt_ch (hC j (by rw [cn]; exact hj))).2.2.1
    · have tn : wT (sIc (nw w2 (1, cap, true)) (wz w2) (fun j => wI w2 v j)) (wz w2) = some (1, cap, true) := by rw [wT_sIc, wT_nw, if_pos rfl]
      show (match wT (sIc (nw w2 (1, cap, true)) (wz w2) (fun j => wI w2 v j)) (wz w2) with
        | none => False
        | some t => t.2.2 = true ∧ t.1 ∈ [1] ∧ _)
      rw [tn]
      refine ⟨rfl, List.mem_singleton.2 rfl, ?_⟩
      rw [hz2]
      refine fin _ ?_ ?_ ?_ ?_ ?_ ?_ ?_ (fun j hj => ?_)
      · show wz w2 + 1 = _
        omega
      · refine ⟨⟨by show wz w ≤ wz w2 + 1; omega, hf2.1.2⟩, fun x hx => ?_⟩
        have a := hf2.2 x hx
        have hne : ¬ x = wz w2 := by omega
        have hne1 : ¬ x = wz w + 1 := by omega
        refine ⟨(if_neg hne).trans a.1, fun kk hkk => ⟨(if_neg hne).trans (a.2.1 kk hkk).1, (if_neg hne).trans (a.2.1 kk hkk).2⟩, fun hp => ⟨?_, ?_, ?_⟩⟩
        · refine (funext fun j => ?_).trans (a.2.2 hp).1
          rw [wI_sIc, if_neg hne1, wI_nw, if_neg hne]
        · refine (funext fun j => ?_).trans (a.2.2 hp).2.1
          rw [wL_sIc, wL_nw, if_neg hne]
        · refine (funext fun j => ?_).trans (a.2.2 hp).2.2
          rw [wQ_sIc, wQ_nw, if_neg hne]
      · rw [wT_sIc, wT_nw, if_neg (by omega)]; exact ts''
      · rw [wF_sIc, wF_nw, if_neg (by omega)]; exact u1
      · rw [wF_sIc, wF_nw, if_neg (by omega)]; exact u2
      · rw [wF_sIc, wF_nw, if_neg (by omega)]; exact u3
      · rw [wT_sIc, wT_nw, if_pos (by omega), cn]
      · rw [wI_sIc, if_pos rfl, i1'', e j hj]
  · rw [if_neg (by rw [ofN_inj (by omega) (by omega)]; exact cn)]
    unfold wp_J15_copyOfRangeByte wp_J15_checkLength
    rw [if_pos (by rw [i_le, i_0, i_ti (by omega)]; omega), Int32.sub_zero]
    refine ⟨by rw [i_lt, i_ti (by omega), i_0]; omega, by rw [i_tn (by omega)]; omega, ?_⟩
    rw [i_tn (by omega)]
    have t3 : wT (nw w2 (1, n, true)) v = some (1, cap, true) := by rw [wT_nw, if_neg (by omega)]; exact t2''
    have t4 : wT (nw w2 (1, n, true)) (wz w2) = some (1, n, true) := by rw [wT_nw, if_pos rfl]
    have i3 : ∀ j, wI (nw w2 (1, n, true)) v j = wI w v j := fun j => by rw [wI_nw, if_neg (by omega)]; exact i1'' j
    try dsimp only
    rw [bln t3 (by decide), Int32.sub_zero]
    unfold wp_J14_min
    rw [if_pos (by rw [i_lt, i_ti (by omega), i_ti (by omega)]; omega)]
    show (match wT (nw w2 (1, n, true)) v, wT (nw w2 (1, n, true)) (wz w2) with
      | some t, some u => (t.1 = 1 ∧ u.1 = 1 ∧ t.2.2 = true ∧ u.2.2 = true) ∧ (¬ (0 : Int32) < 0 ∧ ¬ (0 : Int32) < 0 ∧ ¬ Int32.ofNat n < 0 ∧ (0 : Int32).toNatClampNeg + (Int32.ofNat n).toNatClampNeg ≤ t.2.1 ∧ (0 : Int32).toNatClampNeg + (Int32.ofNat n).toNatClampNeg ≤ u.2.1) ∧ wfit (nw w2 (1, n, true)) v 1 (0 : Int32).toNatClampNeg (Int32.ofNat n).toNatClampNeg [] ∧ _
      | _, _ => False)
    rw [t3, t4, i_tn (show n < 2147483648 by omega), show (0 : Int32).toNatClampNeg = 0 from rfl]
    refine ⟨⟨rfl, rfl, rfl, rfl⟩, ⟨by decide, by decide, by rw [i_lt, i_ti (by omega), i_0]; omega, by show 0 + n ≤ cap; omega, by show 0 + n ≤ n; omega⟩, fun j hj => ?_, ?_⟩
    · rw [if_pos (by decide)]
      show fits .byte (.int (wI (nw w2 (1, n, true)) v (0 + j))) = true
      rw [i3, Nat.zero_add, e j hj]
      exact (lt_ch (hC j hj)).2.2.1
    · rw [hz2]
      refine fin _ ?_ ?_ ?_ ?_ ?_ ?_ ?_ (fun j hj => ?_)
      · show wz w2 + 1 = _
        omega
      · exact fr.sCp (fr.nw hf2) (fun hh => absurd hh (by omega))
      · rw [wT_sCp, wT_nw, if_neg (by omega)]; exact ts''
      · rw [wF_sCp, wF_nw, if_neg (by omega)]; exact u1
      · rw [wF_sCp, wF_nw, if_neg (by omega)]; exact u2
      · rw [wF_sCp, wF_nw, if_neg (by omega)]; exact u3
      · rw [wT_sCp, wT_nw, if_pos (by omega)]
      · rw [wI_sCp, if_pos rfl]
        unfold va_cpy
        rw [if_pos (by omega), i3, Nat.sub_zero, Nat.zero_add]
        exact e j hj
end XSB
