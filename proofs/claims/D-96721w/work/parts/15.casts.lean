/-! ===== instanceof and checkcast over typed worlds ===== -/
/-- a code's class -/
def wcn (t : Nat) : String := if t = 0 then "[I" else if t = 1 then "[B" else if t = 2 then "[S" else if t = 3 then "[C" else if t = 4 then "[Z" else if t = 5 then "[J" else match wcl[t - 20]? with
  | some r => r.1
  | none => ""
def wio (w : Wd) (r : Option Nat) (yes no : List Nat) (K : Int32 → Prop) : Prop := match r with
  | none => K 0
  | some a => match wT w a with
    | none => False
    | some t => t.2.2 = true ∧ (if t.1 ∈ yes then K 1 else t.1 ∈ no ∧ K 0)
def wcc (w : Wd) (r : Option Nat) (yes : List Nat) (K : Prop) : Prop := match r with
  | none => K
  | some a => match wT w a with
    | none => False
    | some t => t.2.2 = true ∧ t.1 ∈ yes ∧ K
section WCAST
variable {p : Program} {l : Launch} {e : Env} {R : Room} {s : State} {m : MethodId} {args : Array Value} {below : List Frame} {meth : Method} {c : Code} {H : Heap} {locs : List Loc} {cells slots : Nat} {Q : State → Prop}
variable {cc : ByteArray} {pc nL : Nat} {ls : Array Slot} {rest st0 : List Value} {Z : wZ} {A : Nat → Prop} {w : Wd} {r : Option Nat} {ret : Option FieldType} {own mnm : String}
theorem wcell (C : wC p l s m args meth c cc nL ret own mnm Z A) (hS : wS Z A s w H locs) {a : Nat} {t : wTy} (ht : wT w a = some t) (hw : t.2.2 = true) (hn : t.1 < 6 ∨ 20 ≤ t.1) : ∃ cell : Cell, H[a]? = some cell ∧ cell.vm = .none ∧ s.vm.findClass (wcn t.1) = some cell.cls := by
  rcases hn with hn | hn
  · obtain ⟨cell, h1, h2, h3, h4, h5, h6, h7⟩ := (hS.1.1 a t ht).arr (by omega)
    refine ⟨cell, h1, (h7 hw).1, ?_⟩
    rw [(h7 hw).2.1]
    have hk : ∀ k : Nat, k < 6 → s.vm.findClass (wcn k) = some (Z.2.1 k) := by
      intro k hk
      match k, hk with
      | 0, _ => exact (show s.vm.findClass ("[" ++ FieldType.int.toString) = some (Z.2.1 0) from (C.hK.2 0 (Z.2.1 0, .int) rfl).2)
      | 1, _ => exact (show s.vm.findClass ("[" ++ FieldType.byte.toString) = some (Z.2.1 1) from (C.hK.2 1 (Z.2.1 1, .byte) rfl).2)
      | 2, _ => exact (show s.vm.findClass ("[" ++ FieldType.short.toString) = some (Z.2.1 2) from (C.hK.2 2 (Z.2.1 2, .short) rfl).2)
      | 3, _ => exact (show s.vm.findClass ("[" ++ FieldType.char.toString) = some (Z.2.1 3) from (C.hK.2 3 (Z.2.1 3, .char) rfl).2)
      | 4, _ => exact (show s.vm.findClass ("[" ++ FieldType.boolean.toString) = some (Z.2.1 4) from (C.hK.2 4 (Z.2.1 4, .boolean) rfl).2)
      | 5, _ => exact (show s.vm.findClass ("[" ++ FieldType.long.toString) = some (Z.2.1 5) from (C.hK.2 5 (Z.2.1 5, .long) rfl).2)
      | k + 6, hk => exact absurd hk (by omega)
    exact hk _ hn
  · obtain ⟨cell, r', hr', h1, h2, h3, h4, h5, h6⟩ := (hS.1.1 a t ht).obj hn
    refine ⟨cell, h1, h5 hw, ?_⟩
    have e : wcn t.1 = r'.1 := by
      unfold wcn
      rw [if_neg (by omega), if_neg (by omega), if_neg (by omega), if_neg (by omega), if_neg (by omega), if_neg (by omega), hr']
    rw [e, h4]
    exact (C.hK.1 _ _ hr').2.1
/-- castable codes -/
abbrev wyes (nm : String) (yes : List Nat) : Prop := ∀ t ∈ yes, (t < 6 ∨ 20 ≤ t) ∧ (wcn t = nm ∨ Cond.castable (wcn t) nm ∈ wNx)
abbrev wno (nm : String) (no : List Nat) : Prop := ∀ t ∈ no, (t < 6 ∨ 20 ≤ t) ∧ (wcn t, nm) ∈ wNo
theorem wyes_spec (C : wC p l s m args meth c cc nL ret own mnm Z A) (hS : wS Z A s w H locs) {a : Nat} {t : wTy} {nm : String} {yes : List Nat} (hy : wyes nm yes) (ht : wT w a = some t) (hw : t.2.2 = true) (hin : t.1 ∈ yes) : ∃ (cell : Cell) (cT : ClassId), H[a]? = some cell ∧ cell.vm = .none ∧ s.vm.findClass nm = some cT ∧ s.vm.assignable cell.cls cT = true := by
  obtain ⟨hn, h⟩ := hy _ hin
  obtain ⟨cell, h1, h2, h3⟩ := wcell C hS ht hw hn
  rcases h with h | h
  · exact ⟨cell, cell.cls, h1, h2, by rw [← h]; exact h3, va_asg _ _⟩
  · obtain ⟨c0, t0, f1, f2, f3⟩ := Cond.castable_spec (va_Nw.use (A := args) rfl (C.hKS.2.1 _ h))
    cases h3.symm.trans f1
    exact ⟨cell, t0, h1, h2, f2, f3⟩
theorem r_inst (C : wC p l s m args meth c cc nL ret own mnm Z A) (hS : wS Z A s w H locs) {yes no : List Nat} {K : Int32 → Prop} {nm : String} {idx : Nat} (h : wio w r yes no K) (hlink : Cond.classLink own idx nm ∈ lw_all) (hy : wyes nm yes) (hn : wno nm no) (hdg : decode cc pc = .ok (.instanceof idx, 3))
    (kn : ∀ v : Int32, K v → W p l e R s m args below meth c H locs cells slots Q (F0 m (pc + 3) ls (.int v :: rest))) : W p l e R s m args below meth c H locs cells slots Q (F0 m pc ls (va_rf r :: rest)) := by
  cases r with
  | none => exact lv_instN C.hx C.hb hdg (kn 0 h)
  | some a =>
    unfold wio at h
    dsimp only at h
    split at h
    · exact h.elim
    · rename_i t ht
      obtain ⟨hw, h⟩ := h
      by_cases hin : t.1 ∈ yes
      · rw [if_pos hin] at h
        obtain ⟨cell, cT, h1, h2, f2, f3⟩ := wyes_spec C hS hy ht hw hin
        intro T hT X
        obtain ⟨vm', X', st⟩ := X.instanceofYes C.hx C.ow (C.hts _ hlink) (by rw [hT]; exact h1) (by rw [h2]; rfl) f2 f3 (g := F0 m pc ls (.ref a :: rest)) rfl rfl (by rw [C.hb]; exact hdg)
        obtain ⟨t, a1, b1⟩ := kn 1 h (T.setVm vm') hT X'
        exact ⟨t, st t a1, b1⟩
      · rw [if_neg hin] at h
        obtain ⟨g1, g2⟩ := hn _ h.1
        obtain ⟨cell, h1, h2, h3⟩ := wcell C hS ht hw g1
        exact va_instNo C.hx C.hb C.ow (C.hts _ hlink) (C.hKS.2.2.2 _ g2) ⟨cell, h1, by rw [h2]; rfl, h3⟩ hdg (kn 0 h.2)
theorem r_ccast (C : wC p l s m args meth c cc nL ret own mnm Z A) (hS : wS Z A s w H locs) {yes : List Nat} {K : Prop} {nm : String} {idx : Nat} (h : wcc w r yes K) (hlink : Cond.classLink own idx nm ∈ lw_all) (hy : wyes nm yes) (hdg : decode cc pc = .ok (.checkcast idx, 3))
    (kn : K → W p l e R s m args below meth c H locs cells slots Q (F0 m (pc + 3) ls (va_rf r :: rest))) : W p l e R s m args below meth c H locs cells slots Q (F0 m pc ls (va_rf r :: rest)) := by
  cases r with
  | none => exact lv_castN C.hx C.hb hdg (kn h)
  | some a =>
    unfold wcc at h
    dsimp only at h
    split at h
    · exact h.elim
    · rename_i t ht
      obtain ⟨hw, hin, h⟩ := h
      obtain ⟨cell, cT, h1, h2, f2, f3⟩ := wyes_spec C hS hy ht hw hin
      intro T hT X
      obtain ⟨vm', X', st⟩ := X.checkcastYes C.hx C.ow (C.hts _ hlink) (by rw [hT]; exact h1) (by rw [h2]; rfl) f2 f3 (g := F0 m pc ls (.ref a :: rest)) rfl rfl (by rw [C.hb]; exact hdg)
      obtain ⟨t, a1, b1⟩ := kn h (T.setVm vm') hT X'
      exact ⟨t, st t a1, b1⟩
/-- of a class's own: constants too -/
def wioS (w : Wd) (r : Option Nat) (t : Nat) (K : Int32 → Prop) : Prop := match r with
  | none => K 0
  | some a => wob w a [t] ∧ K 1
def wccS (w : Wd) (r : Option Nat) (t : Nat) (K : Prop) : Prop := match r with
  | none => K
  | some a => wob w a [t] ∧ K
theorem wob_own (C : wC p l s m args meth c cc nL ret own mnm Z A) (hS : wS Z A s w H locs) {a t : Nat} {nm : String} (hob : wob w a [t]) (ht : 20 ≤ t ∧ (wcl[t - 20]?).map (·.1) = some nm) : ∃ cell : Cell, H[a]? = some cell ∧ cell.vm.isStatics = false ∧ s.vm.findClass nm = some cell.cls := by
  obtain ⟨u, hu, hm⟩ := wob_spec hob
  have e : u.1 = t := List.mem_singleton.1 hm
  obtain ⟨cell, r', hr', h1, h2, h3, h4, h5, h6⟩ := (hS.1.1 a u hu).obj (by omega)
  refine ⟨cell, h1, h2, ?_⟩
  rw [e] at hr' h4
  have hn : r'.1 = nm := by
    have := ht.2
    rw [hr'] at this
    exact Option.some.inj this
  rw [h4, ← hn]
  exact (C.hK.1 _ _ hr').2.1
theorem r_instS (C : wC p l s m args meth c cc nL ret own mnm Z A) (hS : wS Z A s w H locs) {t : Nat} {K : Int32 → Prop} {nm : String} {idx : Nat} (h : wioS w r t K) (hlink : Cond.classLink own idx nm ∈ lw_all) (ht : 20 ≤ t ∧ (wcl[t - 20]?).map (·.1) = some nm) (hdg : decode cc pc = .ok (.instanceof idx, 3))
    (kn : ∀ v : Int32, K v → W p l e R s m args below meth c H locs cells slots Q (F0 m (pc + 3) ls (.int v :: rest))) : W p l e R s m args below meth c H locs cells slots Q (F0 m pc ls (va_rf r :: rest)) := by
  cases r with
  | none => exact lv_instN C.hx C.hb hdg (kn 0 h)
  | some a =>
    obtain ⟨hob, h⟩ := h
    obtain ⟨cell, h1, h2, h3⟩ := wob_own C hS hob ht
    intro T hT X
    obtain ⟨vm', X', st⟩ := X.instanceofYes C.hx C.ow (C.hts _ hlink) (by rw [hT]; exact h1) h2 h3 (va_asg _ _) (g := F0 m pc ls (.ref a :: rest)) rfl rfl (by rw [C.hb]; exact hdg)
    obtain ⟨t, a1, b1⟩ := kn 1 h (T.setVm vm') hT X'
    exact ⟨t, st t a1, b1⟩
theorem r_ccastS (C : wC p l s m args meth c cc nL ret own mnm Z A) (hS : wS Z A s w H locs) {t : Nat} {K : Prop} {nm : String} {idx : Nat} (h : wccS w r t K) (hlink : Cond.classLink own idx nm ∈ lw_all) (ht : 20 ≤ t ∧ (wcl[t - 20]?).map (·.1) = some nm) (hdg : decode cc pc = .ok (.checkcast idx, 3))
    (kn : K → W p l e R s m args below meth c H locs cells slots Q (F0 m (pc + 3) ls (va_rf r :: rest))) : W p l e R s m args below meth c H locs cells slots Q (F0 m pc ls (va_rf r :: rest)) := by
  cases r with
  | none => exact lv_castN C.hx C.hb hdg (kn h)
  | some a =>
    obtain ⟨hob, h⟩ := h
    obtain ⟨cell, h1, h2, h3⟩ := wob_own C hS hob ht
    intro T hT X
    obtain ⟨vm', X', st⟩ := X.checkcastYes C.hx C.ow (C.hts _ hlink) (by rw [hT]; exact h1) h2 h3 (va_asg _ _) (g := F0 m pc ls (.ref a :: rest)) rfl rfl (by rw [C.hb]; exact hdg)
    obtain ⟨t, a1, b1⟩ := kn h (T.setVm vm') hT X'
    exact ⟨t, st t a1, b1⟩
end WCAST
