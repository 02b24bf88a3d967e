/-! ===== exceptions over typed worlds (printed by prog/gen_throws.py) ===== -/
/-- what the machine throws: an object somewhere, the heap grown -/
def wvm (w : Wd) (X : Nat → Wd → Prop) : Prop := ∀ z q : Nat, wz w ≤ z → X q (sZ w z)
/-- an array's element, or the machine's throw beyond its ends -/
def wX1 (w : Wd) (r : Option Nat) (c : Nat) (i : Int32) (X : Nat → Wd → Prop) (K : Nat → Prop) : Prop := match r with
  | none => False
  | some a => match wT w a with
    | none => False
    | some t => t.1 = c ∧ t.2.1 < 2147483648 ∧ t.2.2 = true ∧ (if i < 0 ∨ t.2.1 ≤ i.toNatClampNeg then wvm w X else K a)
def wldX (w : Wd) (r : Option Nat) (c : Nat) (i : Int32) (X : Nat → Wd → Prop) (K : Int32 → Prop) : Prop := wX1 w r c i X (fun a => K (wI w a i.toNatClampNeg))
def wldLX (w : Wd) (r : Option Nat) (i : Int32) (X : Nat → Wd → Prop) (K : Int64 → Prop) : Prop := wX1 w r 5 i X (fun a => K (wL w a i.toNatClampNeg))
def wstX (w : Wd) (r : Option Nat) (c : Nat) (i x : Int32) (X : Nat → Wd → Prop) (K : Wd → Prop) : Prop := wX1 w r c i X (fun a => K (sI w a i.toNatClampNeg x))
def wstLX (w : Wd) (r : Option Nat) (i : Int32) (x : Int64) (X : Nat → Wd → Prop) (K : Wd → Prop) : Prop := wX1 w r 5 i X (fun a => K (sL w a i.toNatClampNeg x))
def wnaX (w : Wd) (c : Nat) (n : Int32) (NB : Nat) (X : Nat → Wd → Prop) (K : Nat → Wd → Prop) : Prop := if n < 0 then wvm w X else wna w c n NB K
/-- an object that is thrown -/
def wthr (w : Wd) (r : Option Nat) (t : Nat) (K : Nat → Prop) : Prop := match r with
  | none => False
  | some a => match wT w a with
    | none => False
    | some u => u.1 = t ∧ u.2.2 = true ∧ K a
/-- what holds where a method has thrown an object of class E, at q -/
def wX (Z : wZ) (A : Nat → Prop) (E : String) (px : Nat → Wd → Prop) : String → Addr → State → State → Prop := fun E' q st t => E' = E ∧ (∃ w : Wd, px q w ∧ wP Z A t w t.heap ∧ wz w = t.heap.size ∧ wk w = Z.2.2) ∧ va_F A st t
/-- a method that may throw, or has handlers -/
def wMetX (l : Launch) (Z : wZ) (y : MethodName) (ws : List Cond) (fr lo mc ms : Nat) (av : List Value) (w : Wd) (post : Option Value → Wd → Prop) (E : String) (px : Nat → Wd → Prop) : Prop :=
  vx_Met l y ws ({ frames := fr, cells := mc, slots := ms, locals := lo } : Room) (wPc l Z av w) (wQc Z (wA w) post) (wX Z (wA w) E px) mc ms (wA w)
theorem wZq_of {C n d : String} {A : Nat → Prop} {U : State} {H : Heap} {v : Option Nat} (h : va_Z C n d (va_rf v) A U H) : va_Zq C n d A U H := by
  cases v with
  | none => exact Or.inl h
  | some t => exact Or.inr ⟨t, h⟩
/-- what the machine's throw of E asks of the tables -/
def x_ok (E : String) (ns : List String) : Prop := (Bundle.fit E = true ∧ (∀ n ∈ ns, Bundle.fit n = true) ∧ (E == "java/lang/StackOverflowError") = false ∧ (E == "java/lang/OutOfMemoryError") = false ∧ ns.length ≤ 3) ∧ (∀ w ∈ (vx_atM E ns).filter goodWord, w ∈ lw_all) ∧ (∀ w ∈ (vx_atM E ns).filter (fun w => !goodWord w), w ∈ wNx) ∧ ∀ w ∈ vx_atM E ns, vx_ot w = true
theorem wNx_tabs : ∀ w ∈ wNx, w.onTables = true := by decide +kernel
theorem x_okA : x_ok "java/lang/ArrayIndexOutOfBoundsException" ["java/lang/IndexOutOfBoundsException", "java/lang/RuntimeException", "java/lang/Exception"] := ⟨⟨by decide +kernel, by decide +kernel, by decide, by decide, by decide⟩, lw_in _ [72, 338, 278, 300, 303, 305, 339, 340, 107, 108, 272, 277, 301, 308, 332, 309, 333, 310, 334, 273, 275, 335, 270, 271, 307, 335, 370, 371, 372, 373, 373, 374, 375, 264, 264, 265, 266, 267, 267, 268, 269, 270, 76, 341, 342, 343, 345, 344, 346, 78, 369, 386, 282, 378, 379, 381, 377, 306, 336, 376] (by decide +kernel) (by decide +kernel), by decide +kernel, by decide +kernel⟩
theorem x_okN : x_ok "java/lang/NegativeArraySizeException" ["java/lang/RuntimeException", "java/lang/Exception"] := ⟨⟨by decide +kernel, by decide +kernel, by decide, by decide, by decide⟩, lw_in _ [72, 338, 278, 300, 303, 305, 339, 340, 107, 108, 272, 277, 301, 308, 332, 309, 333, 310, 334, 273, 275, 335, 270, 271, 307, 335, 261, 262, 263, 264, 264, 265, 266, 267, 267, 268, 269, 270, 76, 341, 342, 343, 345, 344, 346, 75, 260, 331, 285, 315, 317, 321, 313, 306, 336, 311] (by decide +kernel) (by decide +kernel), by decide +kernel, by decide +kernel⟩
theorem x_okC : x_ok "java/lang/ClassCastException" ["java/lang/RuntimeException", "java/lang/Exception"] := ⟨⟨by decide +kernel, by decide +kernel, by decide, by decide, by decide⟩, lw_in _ [72, 338, 278, 300, 303, 305, 339, 340, 107, 108, 272, 277, 301, 308, 332, 309, 333, 310, 334, 273, 275, 335, 270, 271, 307, 335, 502, 503, 504, 264, 264, 265, 266, 267, 267, 268, 269, 270, 76, 341, 342, 343, 345, 344, 346, 83, 501, 513, 284, 507, 508, 510, 506, 306, 336, 505] (by decide +kernel) (by decide +kernel), by decide +kernel, by decide +kernel⟩
theorem x_okS : x_ok "java/lang/ArrayStoreException" ["java/lang/RuntimeException", "java/lang/Exception"] := ⟨⟨by decide +kernel, by decide +kernel, by decide, by decide, by decide⟩, lw_in _ [72, 338, 278, 300, 303, 305, 339, 340, 107, 108, 272, 277, 301, 308, 332, 309, 333, 310, 334, 273, 275, 335, 270, 271, 307, 335, 460, 461, 462, 264, 264, 265, 266, 267, 267, 268, 269, 270, 76, 341, 342, 343, 345, 344, 346, 81, 459, 471, 283, 465, 466, 468, 464, 306, 336, 463] (by decide +kernel) (by decide +kernel), by decide +kernel, by decide +kernel⟩
section WTHR
variable {p : Program} {l : Launch} {e : Env} {R : Room} {s : State} {m : MethodId} {args : Array Value} {below : List Frame} {meth : Method} {c : Code} {H : Heap} {locs : List Loc} {cells slots : Nat} {Q : State → Prop}
variable {cc : ByteArray} {pc nL : Nat} {ls : Array Slot} {rest st0 : List Value} {Z : wZ} {A : Nat → Prop} {w : Wd} {r : Option Nat} {ret : Option FieldType} {own mnm : String}
theorem wS.grow {H1 : Heap} (hS : wS Z A s w H locs) (h1 : H.size ≤ H1.size) (h2 : ∀ q : Nat, q < H.size → H1[q]? = H[q]?) (h3 : va_S A s.heap H1 locs) : wS Z A s (sZ w H1.size) H1 locs :=
  ⟨⟨fun q t ht => (hS.1.1 q t ht).kept (h2 q (hS.1.1 q t ht).lt) (fun _ => rfl) (fun _ => rfl) (fun _ => rfl) (fun _ => rfl) (fun _ => rfl), hS.1.2⟩, ⟨rfl, hS.2.1.2⟩, h3⟩
theorem x_vm (C : wC p l s m args meth c cc nL ret own mnm Z A) (hS : wS Z A s w H locs) {E text : String} {ns : List String} {nb : Nat} (hok : x_ok E ns) (htext : (text == notModelled) = false) (hnb : (stringBytes (stringToUtf16 text)).size ≤ nb) (hnb1 : nb ≤ 1000) (hl : ls.size = nL) (hR : 8 ≤ R.frames ∧ 10260 ≤ R.locals) (hW : (rest.map fun v => v.category).sum ≤ 8) (hc : cells + 3 ≤ R.cells) (hs : slots + (nb + 10) ≤ R.slots)
    {X : Nat → Wd → Prop} (h : wvm w X) (kx : ∀ (q : Nat) (w' : Wd) (H : Heap) (ce : Cell), X q w' → wS Z A s w' H locs → H[q]? = some ce → ce.vm = .none → s.vm.findClass E = some ce.cls → vx_W p l e R s m args below meth c H locs (cells + 3) (slots + (nb + 10)) Q (F0 m pc ls rest) q) : vx_Note p l e R s m args below meth c H locs cells slots Q (F0 m pc ls rest) E text := by
  obtain ⟨⟨h1, h2, h3, h4, h5⟩, h6, h7, h8⟩ := hok
  have hat : ∀ w ∈ vx_atM E ns, w.before args s = true := vx_hat (fun w hw => C.hts w (h6 w hw)) h7 (fun w hw => va_Nw.use (wNx_tabs w hw) (C.hKS.2.1 w hw))
  refine vx_vm C.hx C.hfl (cls := E) (names := ns) (nb := nb) (A := A) h1 h2 h3 h4 hat h8 ⟨wZq_of C.hKS.1.2.2.1, C.hKS.1.2.2.2.2.1⟩ ⟨wZq_of C.hKS.1.2.2.2.1, C.hKS.1.2.2.2.2.2.1⟩ hS.2.2 (hl.trans C.ml.symm) htext hnb hnb1 (by omega) (by omega) (by omega) hc hs C.lk ?_
  intro H1 q ce g1 g2 g3 g4 g5 g6
  exact kx q (sZ w H1.size) H1 ce (h _ _ (by rw [hS.2.1.1]; exact g1)) (hS.grow g1 g2 g3) g4 g5 g6
theorem wX1_spec {c : Nat} {i : Int32} {X : Nat → Wd → Prop} {K : Nat → Prop} (h : wX1 w r c i X K) : ∃ a n, r = some a ∧ wT w a = some (c, n, true) ∧ n < 2147483648 ∧ ((¬ vp_in i n ∧ (i < 0 ∨ n ≤ i.toNatClampNeg) ∧ wvm w X) ∨ (vp_in i n ∧ K a)) := by
  unfold wX1 at h
  split at h
  · exact h.elim
  · rename_i a
    split at h
    · exact h.elim
    · rename_i t ht
      obtain ⟨c', n, b⟩ := t
      obtain ⟨h1, h2, h3, h4⟩ := h
      cases h1
      cases h3
      refine ⟨a, n, rfl, ht, h2, ?_⟩
      by_cases hb : i < 0 ∨ n ≤ i.toNatClampNeg
      · rw [if_pos hb] at h4
        exact Or.inl ⟨fun q => q hb, hb, h4⟩
      · rw [if_neg hb] at h4
        exact Or.inr ⟨hb, h4⟩
theorem r_ialdX (C : wC p l s m args meth c cc nL ret own mnm Z A) (hS : wS Z A s w H locs) {i : Int32} {X : Nat → Wd → Prop} {K : Int32 → Prop} (h : wldX w r 0 i X K) (hdg : decode cc pc = .ok (.iaload, 1)) (hl : ls.size = nL) (hR : 8 ≤ R.frames ∧ 10260 ≤ R.locals) (hW : (rest.map fun v => v.category).sum ≤ 8) (hc : cells + 3 ≤ R.cells) (hs : slots + 222 ≤ R.slots)
    (kx : ∀ (q : Nat) (w' : Wd) (H : Heap) (ce : Cell), X q w' → wS Z A s w' H locs → H[q]? = some ce → ce.vm = .none → s.vm.findClass "java/lang/ArrayIndexOutOfBoundsException" = some ce.cls → vx_W p l e R s m args below meth c H locs (cells + 3) (slots + 222) Q (F0 m pc ls rest) q)
    (kn : ∀ x : Int32, K x → W p l e R s m args below meth c H locs cells slots Q (F0 m (pc + 1) ls (.int x :: rest))) : W p l e R s m args below meth c H locs cells slots Q (F0 m pc ls (.int i :: va_rf r :: rest)) := by
  obtain ⟨a, n, rfl, ht, hn, hh⟩ := wX1_spec h
  rcases hh with ⟨hin, hout, hx⟩ | ⟨hin, hk⟩
  · obtain ⟨cell, h1, h2, h3, h4, h5, h6, h7⟩ := (hS.1.1 a _ ht).arr (show 0 < 20 by decide)
    have hz : cell.slots.size = n := (h7 rfl).2.2.1
    have hnote := x_vm C hS (pc := pc) (ls := ls) (rest := rest) (R := R) (Q := Q) x_okA (index_text_modelled i n) (index_text_bytes i (by omega)) (by decide) hl hR hW hc hs hx kx
    intro T hT X'
    obtain ⟨t, st, hq⟩ := hnote T hT X'
    refine ⟨t, ?_, hq⟩
    have h9 := X'.ialoadOut C.hx (by rw [hT]; exact h1) h2 (j := i) (by rw [hz]; exact hout) (g := F0 m pc ls (.int i :: .ref a :: rest)) rfl (rest := rest) rfl (by rw [C.hb]; exact hdg) t
    rw [hz] at h9
    exact h9 st
  · exact r_iald C hS (r := some a) ⟨by unfold warr; rw [ht]; exact ⟨rfl, hin⟩, hk⟩ hdg kn
theorem r_baldX (C : wC p l s m args meth c cc nL ret own mnm Z A) (hS : wS Z A s w H locs) {i : Int32} {X : Nat → Wd → Prop} {K : Int32 → Prop} (h : wldX w r 1 i X K) (hdg : decode cc pc = .ok (.baload, 1)) (hl : ls.size = nL) (hR : 8 ≤ R.frames ∧ 10260 ≤ R.locals) (hW : (rest.map fun v => v.category).sum ≤ 8) (hc : cells + 3 ≤ R.cells) (hs : slots + 222 ≤ R.slots)
    (kx : ∀ (q : Nat) (w' : Wd) (H : Heap) (ce : Cell), X q w' → wS Z A s w' H locs → H[q]? = some ce → ce.vm = .none → s.vm.findClass "java/lang/ArrayIndexOutOfBoundsException" = some ce.cls → vx_W p l e R s m args below meth c H locs (cells + 3) (slots + 222) Q (F0 m pc ls rest) q)
    (kn : ∀ x : Int32, K x → W p l e R s m args below meth c H locs cells slots Q (F0 m (pc + 1) ls (.int x :: rest))) : W p l e R s m args below meth c H locs cells slots Q (F0 m pc ls (.int i :: va_rf r :: rest)) := by
  obtain ⟨a, n, rfl, ht, hn, hh⟩ := wX1_spec h
  rcases hh with ⟨hin, hout, hx⟩ | ⟨hin, hk⟩
  · obtain ⟨cell, h1, h2, h3, h4, h5, h6, h7⟩ := (hS.1.1 a _ ht).arr (show 1 < 20 by decide)
    have hz : cell.slots.size = n := (h7 rfl).2.2.1
    have hnote := x_vm C hS (pc := pc) (ls := ls) (rest := rest) (R := R) (Q := Q) x_okA (index_text_modelled i n) (index_text_bytes i (by omega)) (by decide) hl hR hW hc hs hx kx
    intro T hT X'
    obtain ⟨t, st, hq⟩ := hnote T hT X'
    refine ⟨t, ?_, hq⟩
    have h9 := X'.baloadOut C.hx (by rw [hT]; exact h1) h2 (j := i) (by rw [hz]; exact hout) (g := F0 m pc ls (.int i :: .ref a :: rest)) rfl (rest := rest) rfl (by rw [C.hb]; exact hdg) t
    rw [hz] at h9
    exact h9 st
  · exact r_bald C hS (r := some a) ⟨by unfold warr; rw [ht]; exact ⟨rfl, hin⟩, hk⟩ hdg kn
theorem r_saldX (C : wC p l s m args meth c cc nL ret own mnm Z A) (hS : wS Z A s w H locs) {i : Int32} {X : Nat → Wd → Prop} {K : Int32 → Prop} (h : wldX w r 2 i X K) (hdg : decode cc pc = .ok (.saload, 1)) (hl : ls.size = nL) (hR : 8 ≤ R.frames ∧ 10260 ≤ R.locals) (hW : (rest.map fun v => v.category).sum ≤ 8) (hc : cells + 3 ≤ R.cells) (hs : slots + 222 ≤ R.slots)
    (kx : ∀ (q : Nat) (w' : Wd) (H : Heap) (ce : Cell), X q w' → wS Z A s w' H locs → H[q]? = some ce → ce.vm = .none → s.vm.findClass "java/lang/ArrayIndexOutOfBoundsException" = some ce.cls → vx_W p l e R s m args below meth c H locs (cells + 3) (slots + 222) Q (F0 m pc ls rest) q)
    (kn : ∀ x : Int32, K x → W p l e R s m args below meth c H locs cells slots Q (F0 m (pc + 1) ls (.int x :: rest))) : W p l e R s m args below meth c H locs cells slots Q (F0 m pc ls (.int i :: va_rf r :: rest)) := by
  obtain ⟨a, n, rfl, ht, hn, hh⟩ := wX1_spec h
  rcases hh with ⟨hin, hout, hx⟩ | ⟨hin, hk⟩
  · obtain ⟨cell, h1, h2, h3, h4, h5, h6, h7⟩ := (hS.1.1 a _ ht).arr (show 2 < 20 by decide)
    have hz : cell.slots.size = n := (h7 rfl).2.2.1
    have hnote := x_vm C hS (pc := pc) (ls := ls) (rest := rest) (R := R) (Q := Q) x_okA (index_text_modelled i n) (index_text_bytes i (by omega)) (by decide) hl hR hW hc hs hx kx
    intro T hT X'
    obtain ⟨t, st, hq⟩ := hnote T hT X'
    refine ⟨t, ?_, hq⟩
    have h9 := X'.saloadOut C.hx (by rw [hT]; exact h1) h2 (j := i) (by rw [hz]; exact hout) (g := F0 m pc ls (.int i :: .ref a :: rest)) rfl (rest := rest) rfl (by rw [C.hb]; exact hdg) t
    rw [hz] at h9
    exact h9 st
  · exact r_sald C hS (r := some a) ⟨by unfold warr; rw [ht]; exact ⟨rfl, hin⟩, hk⟩ hdg kn
theorem r_zaldX (C : wC p l s m args meth c cc nL ret own mnm Z A) (hS : wS Z A s w H locs) {i : Int32} {X : Nat → Wd → Prop} {K : Int32 → Prop} (h : wldX w r 4 i X K) (hdg : decode cc pc = .ok (.baload, 1)) (hl : ls.size = nL) (hR : 8 ≤ R.frames ∧ 10260 ≤ R.locals) (hW : (rest.map fun v => v.category).sum ≤ 8) (hc : cells + 3 ≤ R.cells) (hs : slots + 222 ≤ R.slots)
    (kx : ∀ (q : Nat) (w' : Wd) (H : Heap) (ce : Cell), X q w' → wS Z A s w' H locs → H[q]? = some ce → ce.vm = .none → s.vm.findClass "java/lang/ArrayIndexOutOfBoundsException" = some ce.cls → vx_W p l e R s m args below meth c H locs (cells + 3) (slots + 222) Q (F0 m pc ls rest) q)
    (kn : ∀ x : Int32, K x → W p l e R s m args below meth c H locs cells slots Q (F0 m (pc + 1) ls (.int x :: rest))) : W p l e R s m args below meth c H locs cells slots Q (F0 m pc ls (.int i :: va_rf r :: rest)) := by
  obtain ⟨a, n, rfl, ht, hn, hh⟩ := wX1_spec h
  rcases hh with ⟨hin, hout, hx⟩ | ⟨hin, hk⟩
  · obtain ⟨cell, h1, h2, h3, h4, h5, h6, h7⟩ := (hS.1.1 a _ ht).arr (show 4 < 20 by decide)
    have hz : cell.slots.size = n := (h7 rfl).2.2.1
    have hnote := x_vm C hS (pc := pc) (ls := ls) (rest := rest) (R := R) (Q := Q) x_okA (index_text_modelled i n) (index_text_bytes i (by omega)) (by decide) hl hR hW hc hs hx kx
    intro T hT X'
    obtain ⟨t, st, hq⟩ := hnote T hT X'
    refine ⟨t, ?_, hq⟩
    have h9 := X'.baloadOut C.hx (by rw [hT]; exact h1) h2 (j := i) (by rw [hz]; exact hout) (g := F0 m pc ls (.int i :: .ref a :: rest)) rfl (rest := rest) rfl (by rw [C.hb]; exact hdg) t
    rw [hz] at h9
    exact h9 st
  · exact r_zald C hS (r := some a) ⟨by unfold warr; rw [ht]; exact ⟨rfl, hin⟩, hk⟩ hdg kn
theorem r_laldX (C : wC p l s m args meth c cc nL ret own mnm Z A) (hS : wS Z A s w H locs) {i : Int32} {X : Nat → Wd → Prop} {K : Int64 → Prop} (h : wldLX w r i X K) (hdg : decode cc pc = .ok (.laload, 1)) (hl : ls.size = nL) (hR : 8 ≤ R.frames ∧ 10260 ≤ R.locals) (hW : (rest.map fun v => v.category).sum ≤ 8) (hc : cells + 3 ≤ R.cells) (hs : slots + 222 ≤ R.slots)
    (kx : ∀ (q : Nat) (w' : Wd) (H : Heap) (ce : Cell), X q w' → wS Z A s w' H locs → H[q]? = some ce → ce.vm = .none → s.vm.findClass "java/lang/ArrayIndexOutOfBoundsException" = some ce.cls → vx_W p l e R s m args below meth c H locs (cells + 3) (slots + 222) Q (F0 m pc ls rest) q)
    (kn : ∀ x : Int64, K x → W p l e R s m args below meth c H locs cells slots Q (F0 m (pc + 1) ls (.long x :: rest))) : W p l e R s m args below meth c H locs cells slots Q (F0 m pc ls (.int i :: va_rf r :: rest)) := by
  obtain ⟨a, n, rfl, ht, hn, hh⟩ := wX1_spec h
  rcases hh with ⟨hin, hout, hx⟩ | ⟨hin, hk⟩
  · obtain ⟨cell, h1, h2, h3, h4, h5, h6, h7⟩ := (hS.1.1 a _ ht).arr (show 5 < 20 by decide)
    have hz : cell.slots.size = n := (h7 rfl).2.2.1
    have hnote := x_vm C hS (pc := pc) (ls := ls) (rest := rest) (R := R) (Q := Q) x_okA (index_text_modelled i n) (index_text_bytes i (by omega)) (by decide) hl hR hW hc hs hx kx
    intro T hT X'
    obtain ⟨t, st, hq⟩ := hnote T hT X'
    refine ⟨t, ?_, hq⟩
    have h9 := X'.laloadOut C.hx (by rw [hT]; exact h1) h2 (j := i) (by rw [hz]; exact hout) (g := F0 m pc ls (.int i :: .ref a :: rest)) rfl (rest := rest) rfl (by rw [C.hb]; exact hdg) t
    rw [hz] at h9
    exact h9 st
  · exact r_lald C hS (r := some a) ⟨by unfold warr; rw [ht]; exact ⟨rfl, hin⟩, hk⟩ hdg kn
theorem r_iastX (C : wC p l s m args meth c cc nL ret own mnm Z A) (hS : wS Z A s w H locs) {i : Int32} {x : Int32} {X : Nat → Wd → Prop} {K : Wd → Prop} (h : wstX w r 0 i x X K) (hdg : decode cc pc = .ok (.iastore, 1)) (hl : ls.size = nL) (hR : 8 ≤ R.frames ∧ 10260 ≤ R.locals) (hW : (rest.map fun v => v.category).sum ≤ 8) (hc : cells + 3 ≤ R.cells) (hs : slots + 222 ≤ R.slots)
    (kx : ∀ (q : Nat) (w' : Wd) (H : Heap) (ce : Cell), X q w' → wS Z A s w' H locs → H[q]? = some ce → ce.vm = .none → s.vm.findClass "java/lang/ArrayIndexOutOfBoundsException" = some ce.cls → vx_W p l e R s m args below meth c H locs (cells + 3) (slots + 222) Q (F0 m pc ls rest) q)
    (kn : ∀ (w' : Wd) (H : Heap) (locs : List Loc), K w' → wS Z A s w' H locs → W p l e R s m args below meth c H locs cells slots Q (F0 m (pc + 1) ls rest)) : W p l e R s m args below meth c H locs cells slots Q (F0 m pc ls (.int x :: .int i :: va_rf r :: rest)) := by
  obtain ⟨a, n, rfl, ht, hn, hh⟩ := wX1_spec h
  rcases hh with ⟨hin, hout, hx⟩ | ⟨hin, hk⟩
  · obtain ⟨cell, h1, h2, h3, h4, h5, h6, h7⟩ := (hS.1.1 a _ ht).arr (show 0 < 20 by decide)
    have hz : cell.slots.size = n := (h7 rfl).2.2.1
    have hnote := x_vm C hS (pc := pc) (ls := ls) (rest := rest) (R := R) (Q := Q) x_okA (index_text_modelled i n) (index_text_bytes i (by omega)) (by decide) hl hR hW hc hs hx kx
    intro T hT X'
    obtain ⟨t, st, hq⟩ := hnote T hT X'
    refine ⟨t, ?_, hq⟩
    have h9 := X'.iastoreOut C.hx (by rw [hT]; exact h1) h2 (j := i) (by rw [hz]; exact hout) (g := F0 m pc ls (.int x :: .int i :: .ref a :: rest)) rfl (rest := rest) rfl (by rw [C.hb]; exact hdg) t
    rw [hz] at h9
    exact h9 st
  · exact r_iast C hS (r := some a) ⟨by unfold warw; rw [ht]; exact ⟨rfl, hin, rfl⟩, hk⟩ hdg kn
theorem r_bastX (C : wC p l s m args meth c cc nL ret own mnm Z A) (hS : wS Z A s w H locs) {i : Int32} {x : Int32} {X : Nat → Wd → Prop} {K : Wd → Prop} (h : wstX w r 1 i (vp_nar .byte x) X K) (hdg : decode cc pc = .ok (.bastore, 1)) (hl : ls.size = nL) (hR : 8 ≤ R.frames ∧ 10260 ≤ R.locals) (hW : (rest.map fun v => v.category).sum ≤ 8) (hc : cells + 3 ≤ R.cells) (hs : slots + 222 ≤ R.slots)
    (kx : ∀ (q : Nat) (w' : Wd) (H : Heap) (ce : Cell), X q w' → wS Z A s w' H locs → H[q]? = some ce → ce.vm = .none → s.vm.findClass "java/lang/ArrayIndexOutOfBoundsException" = some ce.cls → vx_W p l e R s m args below meth c H locs (cells + 3) (slots + 222) Q (F0 m pc ls rest) q)
    (kn : ∀ (w' : Wd) (H : Heap) (locs : List Loc), K w' → wS Z A s w' H locs → W p l e R s m args below meth c H locs cells slots Q (F0 m (pc + 1) ls rest)) : W p l e R s m args below meth c H locs cells slots Q (F0 m pc ls (.int x :: .int i :: va_rf r :: rest)) := by
  obtain ⟨a, n, rfl, ht, hn, hh⟩ := wX1_spec h
  rcases hh with ⟨hin, hout, hx⟩ | ⟨hin, hk⟩
  · obtain ⟨cell, h1, h2, h3, h4, h5, h6, h7⟩ := (hS.1.1 a _ ht).arr (show 1 < 20 by decide)
    have hz : cell.slots.size = n := (h7 rfl).2.2.1
    have hnote := x_vm C hS (pc := pc) (ls := ls) (rest := rest) (R := R) (Q := Q) x_okA (index_text_modelled i n) (index_text_bytes i (by omega)) (by decide) hl hR hW hc hs hx kx
    intro T hT X'
    obtain ⟨t, st, hq⟩ := hnote T hT X'
    refine ⟨t, ?_, hq⟩
    have h9 := X'.bastoreOut C.hx (by rw [hT]; exact h1) h2 (j := i) (by rw [hz]; exact hout) (g := F0 m pc ls (.int x :: .int i :: .ref a :: rest)) rfl (rest := rest) rfl (by rw [C.hb]; exact hdg) t
    rw [hz] at h9
    exact h9 st
  · exact r_bast C hS (r := some a) ⟨by unfold warw; rw [ht]; exact ⟨rfl, hin, rfl⟩, hk⟩ hdg kn
theorem r_sastX (C : wC p l s m args meth c cc nL ret own mnm Z A) (hS : wS Z A s w H locs) {i : Int32} {x : Int32} {X : Nat → Wd → Prop} {K : Wd → Prop} (h : wstX w r 2 i (vp_nar .short x) X K) (hdg : decode cc pc = .ok (.sastore, 1)) (hl : ls.size = nL) (hR : 8 ≤ R.frames ∧ 10260 ≤ R.locals) (hW : (rest.map fun v => v.category).sum ≤ 8) (hc : cells + 3 ≤ R.cells) (hs : slots + 222 ≤ R.slots)
    (kx : ∀ (q : Nat) (w' : Wd) (H : Heap) (ce : Cell), X q w' → wS Z A s w' H locs → H[q]? = some ce → ce.vm = .none → s.vm.findClass "java/lang/ArrayIndexOutOfBoundsException" = some ce.cls → vx_W p l e R s m args below meth c H locs (cells + 3) (slots + 222) Q (F0 m pc ls rest) q)
    (kn : ∀ (w' : Wd) (H : Heap) (locs : List Loc), K w' → wS Z A s w' H locs → W p l e R s m args below meth c H locs cells slots Q (F0 m (pc + 1) ls rest)) : W p l e R s m args below meth c H locs cells slots Q (F0 m pc ls (.int x :: .int i :: va_rf r :: rest)) := by
  obtain ⟨a, n, rfl, ht, hn, hh⟩ := wX1_spec h
  rcases hh with ⟨hin, hout, hx⟩ | ⟨hin, hk⟩
  · obtain ⟨cell, h1, h2, h3, h4, h5, h6, h7⟩ := (hS.1.1 a _ ht).arr (show 2 < 20 by decide)
    have hz : cell.slots.size = n := (h7 rfl).2.2.1
    have hnote := x_vm C hS (pc := pc) (ls := ls) (rest := rest) (R := R) (Q := Q) x_okA (index_text_modelled i n) (index_text_bytes i (by omega)) (by decide) hl hR hW hc hs hx kx
    intro T hT X'
    obtain ⟨t, st, hq⟩ := hnote T hT X'
    refine ⟨t, ?_, hq⟩
    have h9 := X'.sastoreOut C.hx (by rw [hT]; exact h1) h2 (j := i) (by rw [hz]; exact hout) (g := F0 m pc ls (.int x :: .int i :: .ref a :: rest)) rfl (rest := rest) rfl (by rw [C.hb]; exact hdg) t
    rw [hz] at h9
    exact h9 st
  · exact r_sast C hS (r := some a) ⟨by unfold warw; rw [ht]; exact ⟨rfl, hin, rfl⟩, hk⟩ hdg kn
theorem r_zastX (C : wC p l s m args meth c cc nL ret own mnm Z A) (hS : wS Z A s w H locs) {i : Int32} {x : Int32} {X : Nat → Wd → Prop} {K : Wd → Prop} (h : wstX w r 4 i (vp_nar .boolean x) X K) (hdg : decode cc pc = .ok (.bastore, 1)) (hl : ls.size = nL) (hR : 8 ≤ R.frames ∧ 10260 ≤ R.locals) (hW : (rest.map fun v => v.category).sum ≤ 8) (hc : cells + 3 ≤ R.cells) (hs : slots + 222 ≤ R.slots)
    (kx : ∀ (q : Nat) (w' : Wd) (H : Heap) (ce : Cell), X q w' → wS Z A s w' H locs → H[q]? = some ce → ce.vm = .none → s.vm.findClass "java/lang/ArrayIndexOutOfBoundsException" = some ce.cls → vx_W p l e R s m args below meth c H locs (cells + 3) (slots + 222) Q (F0 m pc ls rest) q)
    (kn : ∀ (w' : Wd) (H : Heap) (locs : List Loc), K w' → wS Z A s w' H locs → W p l e R s m args below meth c H locs cells slots Q (F0 m (pc + 1) ls rest)) : W p l e R s m args below meth c H locs cells slots Q (F0 m pc ls (.int x :: .int i :: va_rf r :: rest)) := by
  obtain ⟨a, n, rfl, ht, hn, hh⟩ := wX1_spec h
  rcases hh with ⟨hin, hout, hx⟩ | ⟨hin, hk⟩
  · obtain ⟨cell, h1, h2, h3, h4, h5, h6, h7⟩ := (hS.1.1 a _ ht).arr (show 4 < 20 by decide)
    have hz : cell.slots.size = n := (h7 rfl).2.2.1
    have hnote := x_vm C hS (pc := pc) (ls := ls) (rest := rest) (R := R) (Q := Q) x_okA (index_text_modelled i n) (index_text_bytes i (by omega)) (by decide) hl hR hW hc hs hx kx
    intro T hT X'
    obtain ⟨t, st, hq⟩ := hnote T hT X'
    refine ⟨t, ?_, hq⟩
    have h9 := X'.bastoreOut C.hx (by rw [hT]; exact h1) h2 (j := i) (by rw [hz]; exact hout) (g := F0 m pc ls (.int x :: .int i :: .ref a :: rest)) rfl (rest := rest) rfl (by rw [C.hb]; exact hdg) t
    rw [hz] at h9
    exact h9 st
  · exact r_zast C hS (r := some a) ⟨by unfold warw; rw [ht]; exact ⟨rfl, hin, rfl⟩, hk⟩ hdg kn
theorem r_lastX (C : wC p l s m args meth c cc nL ret own mnm Z A) (hS : wS Z A s w H locs) {i : Int32} {x : Int64} {X : Nat → Wd → Prop} {K : Wd → Prop} (h : wstLX w r i x X K) (hdg : decode cc pc = .ok (.lastore, 1)) (hl : ls.size = nL) (hR : 8 ≤ R.frames ∧ 10260 ≤ R.locals) (hW : (rest.map fun v => v.category).sum ≤ 8) (hc : cells + 3 ≤ R.cells) (hs : slots + 222 ≤ R.slots)
    (kx : ∀ (q : Nat) (w' : Wd) (H : Heap) (ce : Cell), X q w' → wS Z A s w' H locs → H[q]? = some ce → ce.vm = .none → s.vm.findClass "java/lang/ArrayIndexOutOfBoundsException" = some ce.cls → vx_W p l e R s m args below meth c H locs (cells + 3) (slots + 222) Q (F0 m pc ls rest) q)
    (kn : ∀ (w' : Wd) (H : Heap) (locs : List Loc), K w' → wS Z A s w' H locs → W p l e R s m args below meth c H locs cells slots Q (F0 m (pc + 1) ls rest)) : W p l e R s m args below meth c H locs cells slots Q (F0 m pc ls (.long x :: .int i :: va_rf r :: rest)) := by
  obtain ⟨a, n, rfl, ht, hn, hh⟩ := wX1_spec h
  rcases hh with ⟨hin, hout, hx⟩ | ⟨hin, hk⟩
  · obtain ⟨cell, h1, h2, h3, h4, h5, h6, h7⟩ := (hS.1.1 a _ ht).arr (show 5 < 20 by decide)
    have hz : cell.slots.size = n := (h7 rfl).2.2.1
    have hnote := x_vm C hS (pc := pc) (ls := ls) (rest := rest) (R := R) (Q := Q) x_okA (index_text_modelled i n) (index_text_bytes i (by omega)) (by decide) hl hR hW hc hs hx kx
    intro T hT X'
    obtain ⟨t, st, hq⟩ := hnote T hT X'
    refine ⟨t, ?_, hq⟩
    have h9 := X'.lastoreOut C.hx (by rw [hT]; exact h1) h2 (j := i) (by rw [hz]; exact hout) (g := F0 m pc ls (.long x :: .int i :: .ref a :: rest)) rfl (rest := rest) rfl (by rw [C.hb]; exact hdg) t
    rw [hz] at h9
    exact h9 st
  · exact r_last C hS (r := some a) ⟨by unfold warw; rw [ht]; exact ⟨rfl, hin, rfl⟩, hk⟩ hdg kn
theorem r_newaX_0 (C : wC p l s m args meth c cc nL ret own mnm Z A) (hS : wS Z A s w H locs) {X : Nat → Wd → Prop} {K : Nat → Wd → Prop} {n : Int32} {NB : Nat} (h : wnaX w 0 n NB X K) (hq : Cond.arrayClass .int ∈ lw_all) (hnb : NB ≤ 65536) (hc1 : cells + 1 ≤ R.cells) (hs1 : slots + NB ≤ R.slots) (hdg : decode cc pc = .ok (.newarray .int, 2)) (hl : ls.size = nL) (hR : 8 ≤ R.frames ∧ 10260 ≤ R.locals) (hW : (rest.map fun v => v.category).sum ≤ 8) (hc : cells + 3 ≤ R.cells) (hs : slots + 222 ≤ R.slots)
    (kx : ∀ (q : Nat) (w' : Wd) (H : Heap) (ce : Cell), X q w' → wS Z A s w' H locs → H[q]? = some ce → ce.vm = .none → s.vm.findClass "java/lang/NegativeArraySizeException" = some ce.cls → vx_W p l e R s m args below meth c H locs (cells + 3) (slots + 222) Q (F0 m pc ls rest) q)
    (kn : ∀ (q : Nat) (w' : Wd) (H : Heap), K q w' → wS Z A s w' H locs → W p l e R s m args below meth c H locs (cells + 1) (slots + NB) Q (F0 m (pc + 2) ls (.ref q :: rest))) : W p l e R s m args below meth c H locs cells slots Q (F0 m pc ls (.int n :: rest)) := by
  unfold wnaX at h
  by_cases hn : n < 0
  · rw [if_pos hn] at h
    refine vx_newarrayZ C.hx C.hb hn hdg fun tx e => ?_
    subst e
    exact x_vm C hS x_okN (negative_text_modelled hn) (Nat.le_trans (negative_text_bytes n) (by decide)) (by decide) hl hR hW hc hs h kx
  · rw [if_neg hn] at h
    exact r_newa_0 C hS h hq hnb hc1 hs1 hdg kn
theorem r_newaX_1 (C : wC p l s m args meth c cc nL ret own mnm Z A) (hS : wS Z A s w H locs) {X : Nat → Wd → Prop} {K : Nat → Wd → Prop} {n : Int32} {NB : Nat} (h : wnaX w 1 n NB X K) (hq : Cond.arrayClass .byte ∈ lw_all) (hnb : NB ≤ 65536) (hc1 : cells + 1 ≤ R.cells) (hs1 : slots + NB ≤ R.slots) (hdg : decode cc pc = .ok (.newarray .byte, 2)) (hl : ls.size = nL) (hR : 8 ≤ R.frames ∧ 10260 ≤ R.locals) (hW : (rest.map fun v => v.category).sum ≤ 8) (hc : cells + 3 ≤ R.cells) (hs : slots + 222 ≤ R.slots)
    (kx : ∀ (q : Nat) (w' : Wd) (H : Heap) (ce : Cell), X q w' → wS Z A s w' H locs → H[q]? = some ce → ce.vm = .none → s.vm.findClass "java/lang/NegativeArraySizeException" = some ce.cls → vx_W p l e R s m args below meth c H locs (cells + 3) (slots + 222) Q (F0 m pc ls rest) q)
    (kn : ∀ (q : Nat) (w' : Wd) (H : Heap), K q w' → wS Z A s w' H locs → W p l e R s m args below meth c H locs (cells + 1) (slots + NB) Q (F0 m (pc + 2) ls (.ref q :: rest))) : W p l e R s m args below meth c H locs cells slots Q (F0 m pc ls (.int n :: rest)) := by
  unfold wnaX at h
  by_cases hn : n < 0
  · rw [if_pos hn] at h
    refine vx_newarrayZ C.hx C.hb hn hdg fun tx e => ?_
    subst e
    exact x_vm C hS x_okN (negative_text_modelled hn) (Nat.le_trans (negative_text_bytes n) (by decide)) (by decide) hl hR hW hc hs h kx
  · rw [if_neg hn] at h
    exact r_newa_1 C hS h hq hnb hc1 hs1 hdg kn
theorem r_newaX_2 (C : wC p l s m args meth c cc nL ret own mnm Z A) (hS : wS Z A s w H locs) {X : Nat → Wd → Prop} {K : Nat → Wd → Prop} {n : Int32} {NB : Nat} (h : wnaX w 2 n NB X K) (hq : Cond.arrayClass .short ∈ lw_all) (hnb : NB ≤ 65536) (hc1 : cells + 1 ≤ R.cells) (hs1 : slots + NB ≤ R.slots) (hdg : decode cc pc = .ok (.newarray .short, 2)) (hl : ls.size = nL) (hR : 8 ≤ R.frames ∧ 10260 ≤ R.locals) (hW : (rest.map fun v => v.category).sum ≤ 8) (hc : cells + 3 ≤ R.cells) (hs : slots + 222 ≤ R.slots)
    (kx : ∀ (q : Nat) (w' : Wd) (H : Heap) (ce : Cell), X q w' → wS Z A s w' H locs → H[q]? = some ce → ce.vm = .none → s.vm.findClass "java/lang/NegativeArraySizeException" = some ce.cls → vx_W p l e R s m args below meth c H locs (cells + 3) (slots + 222) Q (F0 m pc ls rest) q)
    (kn : ∀ (q : Nat) (w' : Wd) (H : Heap), K q w' → wS Z A s w' H locs → W p l e R s m args below meth c H locs (cells + 1) (slots + NB) Q (F0 m (pc + 2) ls (.ref q :: rest))) : W p l e R s m args below meth c H locs cells slots Q (F0 m pc ls (.int n :: rest)) := by
  unfold wnaX at h
  by_cases hn : n < 0
  · rw [if_pos hn] at h
    refine vx_newarrayZ C.hx C.hb hn hdg fun tx e => ?_
    subst e
    exact x_vm C hS x_okN (negative_text_modelled hn) (Nat.le_trans (negative_text_bytes n) (by decide)) (by decide) hl hR hW hc hs h kx
  · rw [if_neg hn] at h
    exact r_newa_2 C hS h hq hnb hc1 hs1 hdg kn
theorem r_newaX_4 (C : wC p l s m args meth c cc nL ret own mnm Z A) (hS : wS Z A s w H locs) {X : Nat → Wd → Prop} {K : Nat → Wd → Prop} {n : Int32} {NB : Nat} (h : wnaX w 4 n NB X K) (hq : Cond.arrayClass .boolean ∈ lw_all) (hnb : NB ≤ 65536) (hc1 : cells + 1 ≤ R.cells) (hs1 : slots + NB ≤ R.slots) (hdg : decode cc pc = .ok (.newarray .boolean, 2)) (hl : ls.size = nL) (hR : 8 ≤ R.frames ∧ 10260 ≤ R.locals) (hW : (rest.map fun v => v.category).sum ≤ 8) (hc : cells + 3 ≤ R.cells) (hs : slots + 222 ≤ R.slots)
    (kx : ∀ (q : Nat) (w' : Wd) (H : Heap) (ce : Cell), X q w' → wS Z A s w' H locs → H[q]? = some ce → ce.vm = .none → s.vm.findClass "java/lang/NegativeArraySizeException" = some ce.cls → vx_W p l e R s m args below meth c H locs (cells + 3) (slots + 222) Q (F0 m pc ls rest) q)
    (kn : ∀ (q : Nat) (w' : Wd) (H : Heap), K q w' → wS Z A s w' H locs → W p l e R s m args below meth c H locs (cells + 1) (slots + NB) Q (F0 m (pc + 2) ls (.ref q :: rest))) : W p l e R s m args below meth c H locs cells slots Q (F0 m pc ls (.int n :: rest)) := by
  unfold wnaX at h
  by_cases hn : n < 0
  · rw [if_pos hn] at h
    refine vx_newarrayZ C.hx C.hb hn hdg fun tx e => ?_
    subst e
    exact x_vm C hS x_okN (negative_text_modelled hn) (Nat.le_trans (negative_text_bytes n) (by decide)) (by decide) hl hR hW hc hs h kx
  · rw [if_neg hn] at h
    exact r_newa_4 C hS h hq hnb hc1 hs1 hdg kn
theorem r_newaX_5 (C : wC p l s m args meth c cc nL ret own mnm Z A) (hS : wS Z A s w H locs) {X : Nat → Wd → Prop} {K : Nat → Wd → Prop} {n : Int32} {NB : Nat} (h : wnaX w 5 n NB X K) (hq : Cond.arrayClass .long ∈ lw_all) (hnb : NB ≤ 65536) (hc1 : cells + 1 ≤ R.cells) (hs1 : slots + NB ≤ R.slots) (hdg : decode cc pc = .ok (.newarray .long, 2)) (hl : ls.size = nL) (hR : 8 ≤ R.frames ∧ 10260 ≤ R.locals) (hW : (rest.map fun v => v.category).sum ≤ 8) (hc : cells + 3 ≤ R.cells) (hs : slots + 222 ≤ R.slots)
    (kx : ∀ (q : Nat) (w' : Wd) (H : Heap) (ce : Cell), X q w' → wS Z A s w' H locs → H[q]? = some ce → ce.vm = .none → s.vm.findClass "java/lang/NegativeArraySizeException" = some ce.cls → vx_W p l e R s m args below meth c H locs (cells + 3) (slots + 222) Q (F0 m pc ls rest) q)
    (kn : ∀ (q : Nat) (w' : Wd) (H : Heap), K q w' → wS Z A s w' H locs → W p l e R s m args below meth c H locs (cells + 1) (slots + NB) Q (F0 m (pc + 2) ls (.ref q :: rest))) : W p l e R s m args below meth c H locs cells slots Q (F0 m pc ls (.int n :: rest)) := by
  unfold wnaX at h
  by_cases hn : n < 0
  · rw [if_pos hn] at h
    refine vx_newarrayZ C.hx C.hb hn hdg fun tx e => ?_
    subst e
    exact x_vm C hS x_okN (negative_text_modelled hn) (Nat.le_trans (negative_text_bytes n) (by decide)) (by decide) hl hR hW hc hs h kx
  · rw [if_neg hn] at h
    exact r_newa_5 C hS h hq hnb hc1 hs1 hdg kn
/-- athrow of an object of the program's own -/
theorem x_throw (C : wC p l s m args meth c cc nL ret own mnm Z A) (hS : wS Z A s w H locs) {t : Nat} {E : String} {K : Nat → Prop} (h : wthr w r t K) (ht : 20 ≤ t ∧ (wcl[t - 20]?).map (·.1) = some E) (hdg : decode cc pc = .ok (.athrow, 1))
    (kk : ∀ (q : Nat) (ce : Cell), K q → H[q]? = some ce → ce.vm = .none → s.vm.findClass E = some ce.cls → vx_W p l e R s m args below meth c H locs cells slots Q (F0 m pc ls rest) q) : W p l e R s m args below meth c H locs cells slots Q (F0 m pc ls (va_rf r :: rest)) := by
  unfold wthr at h
  split at h
  · exact h.elim
  · rename_i a
    split at h
    · exact h.elim
    · rename_i u hu
      obtain ⟨h1, h2, h3⟩ := h
      obtain ⟨cell, r', hr', g1, g2, g3, g4, g5, g6⟩ := (hS.1.1 a u hu).obj (by omega)
      rw [h1] at hr' g4
      have hcl : r'.1 = E := by
        have := ht.2
        rw [hr'] at this
        exact Option.some.inj this
      subst hcl
      exact vx_athrow C.hx C.hb hdg (kk a cell h3 g1 (g5 h2) (by rw [g4]; exact (C.hK.1 _ _ hr').2.1))
/-- it goes on to the caller -/
theorem x_out (C : wC p l s m args meth c cc nL ret own mnm Z A) (hS : wS Z A s w H locs) {hh : List (Nat × Nat × Nat × Nat)} (hT : c.exceptionTable.toList = tableOf hh) {post : Option Value → Wd → Prop} {E : String} {px : Nat → Wd → Prop} {q mc ms : Nat} {ce : Cell} (h : px q w) (hout : ∀ x ∈ tableOf hh, covers x pc = false) (h1 : H[q]? = some ce) (h2 : ce.vm = .none) (h3 : s.vm.findClass E = some ce.cls) (hc : cells ≤ mc) (hs : slots ≤ ms) :
    vx_W p l e R s m args below meth c H locs cells slots (vx_MQ below (wQc Z A post) (wX Z A E px) args s mc ms A) (F0 m pc ls rest) q :=
  vx_out (by rw [hT]; exact hout) C.lk h1 h2 h3 (fun t ht hal => ⟨rfl, ⟨w, h, by rw [ht]; exact hS.1.moved hal, by rw [ht]; exact hS.2.1.1, hS.2.1.2⟩, hS.2.2.F ht⟩) hS.2.2.2.2 hc hs
/-- it is caught here -/
theorem x_catch (C : wC p l s m args meth c cc nL ret own mnm Z A) {hh : List (Nat × Nat × Nat × Nat)} (hT : c.exceptionTable.toList = tableOf hh) {E nm : String} {q : Nat} {ce : Cell} (i : Nat) {x : ExceptionTableEntry} (hi : (tableOf hh)[i]? = some x) (hpass : ∀ z ∈ (tableOf hh).take i, covers z pc = false ∨ (z.catchType ≠ 0 ∧ ∃ n : String, Cond.classLink own z.catchType n ∈ lw_all ∧ (E, n) ∈ wNo)) (hx : covers x pc = true) (h0 : x.catchType ≠ 0)
    (hlink : Cond.classLink own x.catchType nm ∈ lw_all) (hcast : Cond.castable E nm ∈ wNx) (h1 : H[q]? = some ce) (h2 : ce.vm = .none) (h3 : s.vm.findClass E = some ce.cls)
    (kk : W p l e R s m args below meth c H locs cells slots Q (F0 m x.handlerPc ls [.ref q])) : vx_W p l e R s m args below meth c H locs cells slots Q (F0 m pc ls rest) q := by
  have hlt : i < (tableOf hh).length := (List.getElem?_eq_some_iff.mp hi).1
  have hx0 : (tableOf hh)[i] = x := (List.getElem?_eq_some_iff.mp hi).2
  refine vx_catch C.ow ((tableOf hh).take i) x ((tableOf hh).drop (i + 1)) ?_ ?_ hx h0 (C.hts _ hlink) (va_Nw.use (wNx_tabs _ hcast) (C.hKS.2.1 _ hcast)) h1 h2 h3 kk
  · rw [hT, ← hx0, List.getElem_cons_drop, List.take_append_drop]
  · intro z hz
    rcases hpass z hz with h | ⟨g1, n, g2, g3⟩
    · exact Or.inl h
    · exact Or.inr ⟨g1, n, C.hts _ g2, C.hKS.2.2.2 _ g3⟩
/-- behind a call that may throw -/
theorem wx_after (C : wC p l s m args meth c cc nL ret own mnm Z A) (hS : wS Z A s w H locs) {mc ms : Nat} {post : Option Value → Wd → Prop} {E : String} {px : Nat → Wd → Prop} {a : Array Value} (hr : vx_Run p l e R s m args below meth c H locs cells slots mc ms (F0 m pc ls st0) rest (wQc Z (wA w) post a) (wX Z (wA w) E px) (wA w))
    (kx : ∀ (q : Nat) (w' : Wd) (H : Heap) (locs : List Loc) (ce : Cell), px q w' → wS Z A s w' H locs → H[q]? = some ce → ce.vm = .none → s.vm.findClass E = some ce.cls → vx_W p l e R s m args below meth c H locs (cells + mc) (slots + ms) Q (F0 m pc ls rest) q)
    (kk : ∀ (v : Option Value) (w' : Wd) (H : Heap) (locs : List Loc), post v w' → wS Z A s w' H locs → W p l e R s m args below meth c H locs (cells + mc) (slots + ms) Q (F0 m (pc + 3) ls (v.toList ++ rest))) : W p l e R s m args below meth c H locs cells slots Q (F0 m pc ls st0) := by
  have hsub := hS.sub C
  intro T hT X
  rcases hr T hT X with ⟨v, st₀, t, T', L, h0, X', hL, e1, e2, ⟨⟨v', w', hv, hp, hP, hz, hk⟩, hF⟩, st⟩ | ⟨q, st₀, t, T', L, E', ce, h0, X', hL, e1, e2, ⟨hE, ⟨w', hp, hP, hz, hk⟩, hF⟩, hce, hcv, hcl, st⟩
  · cases hv
    rw [va_F, h0] at hF
    have hal : t.vm.Alike s.vm := by rw [← e2]; exact X'.warmed.alike.symm
    obtain ⟨t2, a1, b1⟩ := kk v w' T'.heap (locs ++ L) hp
      ⟨⟨fun q tt ht => by rw [e1]; exact (hP.1 q tt ht).moved hal, fun q c n ht => hsub q (hP.2 q c n ht)⟩, ⟨by rw [e1]; exact hz, hk⟩,
        ⟨Nat.le_trans hS.2.2.1 (by rw [e1]; exact hF.1), fun q h1 h2 => by rw [e1, hF.2 q (Nat.lt_of_lt_of_le h1 hS.2.2.1) (fun z => h2 (hsub q z))]; exact hS.2.2.2.1 q h1 h2, fun q hq => by
          rcases List.mem_append.mp hq with h | h
          · exact hS.2.2.2.2 q h
          · exact hsub _ (hL q h)⟩⟩ T' rfl X'
    exact ⟨t2, st t2 a1, b1⟩
  · subst hE
    rw [va_F, h0] at hF
    have hal : t.vm.Alike s.vm := by rw [← e2]; exact X'.warmed.alike.symm
    obtain ⟨t2, a1, b1⟩ := kx q w' T'.heap (locs ++ L) ce hp
      ⟨⟨fun q tt ht => by rw [e1]; exact (hP.1 q tt ht).moved hal, fun q c n ht => hsub q (hP.2 q c n ht)⟩, ⟨by rw [e1]; exact hz, hk⟩,
        ⟨Nat.le_trans hS.2.2.1 (by rw [e1]; exact hF.1), fun q h1 h2 => by rw [e1, hF.2 q (Nat.lt_of_lt_of_le h1 hS.2.2.1) (fun z => h2 (hsub q z))]; exact hS.2.2.2.1 q h1 h2, fun q hq => by
          rcases List.mem_append.mp hq with h | h
          · exact hS.2.2.2.2 q h
          · exact hsub _ (hL q h)⟩⟩ (by rw [e1]; exact hce) hcv hcl T' rfl X'
    exact ⟨t2, st.trans a1, b1⟩
variable {y : MethodName} {bytes : ByteArray} {maxL fr lo mc ms idx b : Nat} {rt : Option FieldType} {As : List Value} {post : Option Value → Wd → Prop} {E : String} {px : Nat → Wd → Prop} {hh : List (Nat × Nat × Nat × Nat)}
theorem x_V (C : wC p l s m args meth c cc nL ret own mnm Z A) (hS : wS Z A s w H locs) (hM : wMetX l Z y (ws_ y bytes maxL rt) fr lo mc ms (.ref b :: As) w post E px) (n t : Nat) (hob : wob w b [t]) (ht : 20 ≤ t ∧ (wcl[t - 20]?).map (·.1) = some y.cls) (hG : GoodIn lw_all (wsV own idx y.cls y (ws_ y bytes maxL rt)))
    (hd : y.cls = y.cls ∧ y.cls ≠ "java/lang/invoke/MethodHandle" ∧ y.cls ≠ "java/lang/invoke/VarHandle" ∧ (parseMethodDescriptor y.desc).map (fun d => d.parameters.length) = some n) (hR : fr + 1 ≤ R.frames ∧ 8 + (maxL + 11) + lo ≤ R.locals)
    (hn : As.length = n) (hl : ls.size = nL) (hst : st0 = As.reverse ++ .ref b :: rest) (hW : (rest.map fun v => v.category).sum ≤ 8) (hdg : decode cc pc = .ok (.invokevirtual idx, 3)) (hf : cells + mc ≤ R.cells ∧ slots + ms ≤ R.slots)
    (kx : ∀ (q : Nat) (w' : Wd) (H : Heap) (locs : List Loc) (ce : Cell), px q w' → wS Z A s w' H locs → H[q]? = some ce → ce.vm = .none → s.vm.findClass E = some ce.cls → vx_W p l e R s m args below meth c H locs (cells + mc) (slots + ms) Q (F0 m pc ls rest) q)
    (kk : ∀ (v : Option Value) (w' : Wd) (H : Heap) (locs : List Loc), post v w' → wS Z A s w' H locs → W p l e R s m args below meth c H locs (cells + mc) (slots + ms) Q (F0 m (pc + 3) ls (v.toList ++ rest))) : W p l e R s m args below meth c H locs cells slots Q (F0 m pc ls st0) :=
  wx_after C hS (vx_runV C.fix hM (cwV n C.hts hG rfl rfl rfl hd hR) ⟨wPc_blind, hS.recv C hob ht.1 ht.2, fun U hU hW => hS.pre C hU hW⟩ rfl hn hl hst (lv_room hW) hdg hf) kx kk
theorem x_VW (C : wC p l s m args meth c cc nL ret own mnm Z A) (hS : wS Z A s w H locs) (hM : wMetX l Z y (wsW_ y bytes maxL rt hh) fr lo mc ms (.ref b :: As) w post E px) (n t : Nat) (hob : wob w b [t]) (ht : 20 ≤ t ∧ (wcl[t - 20]?).map (·.1) = some y.cls) (hG : GoodIn lw_all (wsV own idx y.cls y (wsW_ y bytes maxL rt hh)))
    (hd : y.cls = y.cls ∧ y.cls ≠ "java/lang/invoke/MethodHandle" ∧ y.cls ≠ "java/lang/invoke/VarHandle" ∧ (parseMethodDescriptor y.desc).map (fun d => d.parameters.length) = some n) (hR : fr + 1 ≤ R.frames ∧ 8 + (maxL + 11) + lo ≤ R.locals)
    (hn : As.length = n) (hl : ls.size = nL) (hst : st0 = As.reverse ++ .ref b :: rest) (hW : (rest.map fun v => v.category).sum ≤ 8) (hdg : decode cc pc = .ok (.invokevirtual idx, 3)) (hf : cells + mc ≤ R.cells ∧ slots + ms ≤ R.slots)
    (kx : ∀ (q : Nat) (w' : Wd) (H : Heap) (locs : List Loc) (ce : Cell), px q w' → wS Z A s w' H locs → H[q]? = some ce → ce.vm = .none → s.vm.findClass E = some ce.cls → vx_W p l e R s m args below meth c H locs (cells + mc) (slots + ms) Q (F0 m pc ls rest) q)
    (kk : ∀ (v : Option Value) (w' : Wd) (H : Heap) (locs : List Loc), post v w' → wS Z A s w' H locs → W p l e R s m args below meth c H locs (cells + mc) (slots + ms) Q (F0 m (pc + 3) ls (v.toList ++ rest))) : W p l e R s m args below meth c H locs cells slots Q (F0 m pc ls st0) :=
  wx_after C hS (vx_runVX C.fix hM (vx_cwVW n C.hts hG rfl rfl rfl hd hR) ⟨wPc_blind, hS.recv C hob ht.1 ht.2, fun U hU hW => hS.pre C hU hW⟩ rfl hn hl hst (lv_room hW) hdg hf) kx kk
theorem x_S (C : wC p l s m args meth c cc nL ret own mnm Z A) (hS : wS Z A s w H locs) (hM : wMetX l Z y (ws_ y bytes maxL rt) fr lo mc ms As w post E px) (n : Nat) (hG : GoodIn lw_all (va_wsS own idx y (ws_ y bytes maxL rt)))
    (hd : y.cls ≠ "java/lang/invoke/MethodHandle" ∧ y.cls ≠ "java/lang/invoke/VarHandle" ∧ (parseMethodDescriptor y.desc).map (fun d => d.parameters.length) = some n) (hR : fr + 1 ≤ R.frames ∧ 8 + (maxL + 11) + lo ≤ R.locals)
    (hn : As.length = n) (hl : ls.size = nL) (hst : st0 = As.reverse ++ rest) (hW : (rest.map fun v => v.category).sum ≤ 8) (hdg : decode cc pc = .ok (.invokestatic idx, 3)) (hf : cells + mc ≤ R.cells ∧ slots + ms ≤ R.slots)
    (kx : ∀ (q : Nat) (w' : Wd) (H : Heap) (locs : List Loc) (ce : Cell), px q w' → wS Z A s w' H locs → H[q]? = some ce → ce.vm = .none → s.vm.findClass E = some ce.cls → vx_W p l e R s m args below meth c H locs (cells + mc) (slots + ms) Q (F0 m pc ls rest) q)
    (kk : ∀ (v : Option Value) (w' : Wd) (H : Heap) (locs : List Loc), post v w' → wS Z A s w' H locs → W p l e R s m args below meth c H locs (cells + mc) (slots + ms) Q (F0 m (pc + 3) ls (v.toList ++ rest))) : W p l e R s m args below meth c H locs cells slots Q (F0 m pc ls st0) :=
  wx_after C hS (vx_runS C.fix hM (va_cwS n C.hts hG rfl rfl rfl hd hR) ⟨wPc_blind, fun U hU hW => hS.pre C hU hW⟩ rfl hn hl hst (lv_room hW) hdg hf) kx kk
theorem x_SW (C : wC p l s m args meth c cc nL ret own mnm Z A) (hS : wS Z A s w H locs) (hM : wMetX l Z y (wsW_ y bytes maxL rt hh) fr lo mc ms As w post E px) (n : Nat) (hG : GoodIn lw_all (va_wsS own idx y (wsW_ y bytes maxL rt hh)))
    (hd : y.cls ≠ "java/lang/invoke/MethodHandle" ∧ y.cls ≠ "java/lang/invoke/VarHandle" ∧ (parseMethodDescriptor y.desc).map (fun d => d.parameters.length) = some n) (hR : fr + 1 ≤ R.frames ∧ 8 + (maxL + 11) + lo ≤ R.locals)
    (hn : As.length = n) (hl : ls.size = nL) (hst : st0 = As.reverse ++ rest) (hW : (rest.map fun v => v.category).sum ≤ 8) (hdg : decode cc pc = .ok (.invokestatic idx, 3)) (hf : cells + mc ≤ R.cells ∧ slots + ms ≤ R.slots)
    (kx : ∀ (q : Nat) (w' : Wd) (H : Heap) (locs : List Loc) (ce : Cell), px q w' → wS Z A s w' H locs → H[q]? = some ce → ce.vm = .none → s.vm.findClass E = some ce.cls → vx_W p l e R s m args below meth c H locs (cells + mc) (slots + ms) Q (F0 m pc ls rest) q)
    (kk : ∀ (v : Option Value) (w' : Wd) (H : Heap) (locs : List Loc), post v w' → wS Z A s w' H locs → W p l e R s m args below meth c H locs (cells + mc) (slots + ms) Q (F0 m (pc + 3) ls (v.toList ++ rest))) : W p l e R s m args below meth c H locs cells slots Q (F0 m pc ls st0) :=
  wx_after C hS (vx_runSX C.fix hM (vx_cwSW n C.hts hG rfl rfl rfl hd hR) ⟨wPc_blind, fun U hU hW => hS.pre C hU hW⟩ rfl hn hl hst (lv_room hW) hdg hf) kx kk
theorem wMX_of {l : Launch} {Z : wZ} {y : MethodName} {cc : ByteArray} {maxL fr lo mc ms : Nat} {rt : Option FieldType} {av : List Value} {w : Wd} {post : Option Value → Wd → Prop} {E : String} {px : Nat → Wd → Prop} (hy : plainName y.cls = true) (hlen : (lg_sl av).length ≤ maxL)
    (body : ∀ (p : Program) (e : Env) (s : State) (m : MethodId) (below : List Frame) (meth : Method) (c : Code) (ls : Array Slot), wC p l s m av.toArray meth c cc maxL rt y.cls y.name Z (wA w) → c.exceptionTable.toList = tableOf [] → wS Z (wA w) s w s.heap [] → lv_has ls maxL (lv_args 0 av) →
      W p l e ({ frames := fr, cells := mc, slots := ms, locals := lo } : Room) s m av.toArray below meth c s.heap [] 0 0 (vx_MQ below (wQc Z (wA w) post) (wX Z (wA w) E px) av.toArray s mc ms (wA w)) (F0 m 0 ls [])) : wMetX l Z y (ws_ y cc maxL rt) fr lo mc ms av w post E px := by
  refine vx_ofW (cc := cc) (maxL := maxL) (ret := rt) hy rfl ?_
  intro p e s m args below meth c s₁ B hml ht hv
  obtain ⟨rfl, hP, hz, hK, hKS, hfl⟩ := hv
  have hts := atoms_spec (ws := ws_ y cc maxL rt) B.pre
  have hl := lv_entry av (n := maxL) hlen
  rw [lg_entry_eq]
  generalize (lg_sl av ++ List.replicate (maxL - (lg_sl av).length) Slot.unset).toArray = ls at hl ⊢
  exact body p e s m below meth c ls ⟨B.exec, B.bytes, hml, findClass_of_methodNamed B.named, fun w h => hts w (List.mem_cons_of_mem _ h), B.returns, B.notSynchronized, (name_of_methodNamed B.named B.method).1, hK, fun q h => Or.inr (by rw [hz.1]; exact h), hKS, hfl⟩ (by cases h9 : c.exceptionTable.toList with | nil => rfl | cons x r => exact (ht x (by rw [h9]; exact List.mem_cons_self)).elim) ⟨hP, hz, va_S.rf⟩ hl
theorem wMH_of {l : Launch} {Z : wZ} {y : MethodName} {cc : ByteArray} {maxL fr lo mc ms : Nat} {rt : Option FieldType} {av : List Value} {w : Wd} {post : Option Value → Wd → Prop} {E : String} {px : Nat → Wd → Prop} {hh : List (Nat × Nat × Nat × Nat)} (hy : plainName y.cls = true) (hlen : (lg_sl av).length ≤ maxL)
    (body : ∀ (p : Program) (e : Env) (s : State) (m : MethodId) (below : List Frame) (meth : Method) (c : Code) (ls : Array Slot), wC p l s m av.toArray meth c cc maxL rt y.cls y.name Z (wA w) → c.exceptionTable.toList = tableOf hh → wS Z (wA w) s w s.heap [] → lv_has ls maxL (lv_args 0 av) →
      W p l e ({ frames := fr, cells := mc, slots := ms, locals := lo } : Room) s m av.toArray below meth c s.heap [] 0 0 (vx_MQ below (wQc Z (wA w) post) (wX Z (wA w) E px) av.toArray s mc ms (wA w)) (F0 m 0 ls [])) : wMetX l Z y (wsW_ y cc maxL rt hh) fr lo mc ms av w post E px := by
  refine vx_ofWH (cc := cc) (maxL := maxL) (ret := rt) (hh := hh) hy rfl ?_
  intro p e s m args below meth c s₁ B hml hv
  obtain ⟨rfl, hP, hz, hK, hKS, hfl⟩ := hv
  have hts := atoms_spec (ws := wsW_ y cc maxL rt hh) B.pre
  have hl := lv_entry av (n := maxL) hlen
  rw [lg_entry_eq]
  generalize (lg_sl av ++ List.replicate (maxL - (lg_sl av).length) Slot.unset).toArray = ls at hl ⊢
  exact body p e s m below meth c ls ⟨B.exec, B.bytes, hml, findClass_of_methodNamed B.named, fun w h => hts w (List.mem_cons_of_mem _ h), B.returns, B.notSynchronized, (name_of_methodNamed B.named B.method).1, hK, fun q h => Or.inr (by rw [hz.1]; exact h), hKS, hfl⟩ (vx_table (x := y) B (hts _ List.mem_cons_self)) ⟨hP, hz, va_S.rf⟩ hl
end WTHR
