/-! ===== rows over typed worlds: each turns the walk at an instruction, and what the extracted predicate asks there, into the walk at the next ===== -/
/-- what the extracted predicates ask at an instruction -/
def wnn {α : Type} (r : Option α) (K : α → Prop) : Prop := match r with
  | some a => K a
  | none => False
def wob (w : Wd) (a : Nat) (cs : List Nat) : Prop := match wT w a with
  | some t => t.1 ∈ cs
  | none => False
def wgF (w : Wd) (r : Option Nat) (cs : List Nat) (k : Nat) (K : Int32 → Prop) : Prop := match r with
  | some a => wob w a cs ∧ K (wF w a k)
  | none => False
def wgG (w : Wd) (r : Option Nat) (cs : List Nat) (k : Nat) (K : Option Nat → Prop) : Prop := match r with
  | some a => wob w a cs ∧ K (wG w a k)
  | none => False
def wobw (w : Wd) (a : Nat) (cs : List Nat) : Prop := match wT w a with
  | some t => t.1 ∈ cs ∧ t.2.2 = true
  | none => False
def wpF (w : Wd) (r : Option Nat) (cs : List Nat) (k : Nat) (v : Int32) (K : Wd → Prop) : Prop := match r with
  | some a => wobw w a cs ∧ K (sF w a k v)
  | none => False
def wpG (w : Wd) (r : Option Nat) (cs : List Nat) (k : Nat) (v : Option Nat) (K : Wd → Prop) : Prop := match r with
  | some a => wobw w a cs ∧ K (sG w a k v)
  | none => False
/-- an array's element, of kinds cs -/
def warr (w : Wd) (a : Nat) (c : Nat) (i : Int32) : Prop := match wT w a with
  | some t => t.1 = c ∧ vp_in i t.2.1
  | none => False
def warw (w : Wd) (a : Nat) (c : Nat) (i : Int32) : Prop := match wT w a with
  | some t => t.1 = c ∧ vp_in i t.2.1 ∧ t.2.2 = true
  | none => False
def wld (w : Wd) (r : Option Nat) (c : Nat) (i : Int32) (K : Int32 → Prop) : Prop := match r with
  | some a => warr w a c i ∧ K (wI w a i.toNatClampNeg)
  | none => False
def wldL (w : Wd) (r : Option Nat) (i : Int32) (K : Int64 → Prop) : Prop := match r with
  | some a => warr w a 5 i ∧ K (wL w a i.toNatClampNeg)
  | none => False
def wldQ (w : Wd) (r : Option Nat) (c : Nat) (i : Int32) (K : Option Nat → Prop) : Prop := match r with
  | some a => warr w a c i ∧ K (wQ w a i.toNatClampNeg)
  | none => False
def wst (w : Wd) (r : Option Nat) (c : Nat) (i x : Int32) (K : Wd → Prop) : Prop := match r with
  | some a => warw w a c i ∧ K (sI w a i.toNatClampNeg x)
  | none => False
def wstL (w : Wd) (r : Option Nat) (i : Int32) (x : Int64) (K : Wd → Prop) : Prop := match r with
  | some a => warw w a 5 i ∧ K (sL w a i.toNatClampNeg x)
  | none => False
def wstQ (w : Wd) (r : Option Nat) (c : Nat) (cs : List Nat) (i : Int32) (x : Option Nat) (K : Wd → Prop) : Prop := match r with
  | some a => warw w a c i ∧ (∀ b, x = some b → wob w b cs) ∧ K (sQ w a i.toNatClampNeg x)
  | none => False
def wln (w : Wd) (r : Option Nat) (K : Int32 → Prop) : Prop := match r with
  | some a => match wT w a with
    | some t => t.1 < 20 ∧ K (Int32.ofNat t.2.1)
    | none => False
  | none => False
/-- a new array of n elements -/
def wna (w : Wd) (c : Nat) (n : Int32) (NB : Nat) (K : Nat → Wd → Prop) : Prop := ¬ n < 0 ∧ n.toNatClampNeg ≤ NB ∧ K (wz w) (nw w (c, n.toNatClampNeg, true))
def wnew (w : Wd) (c n : Nat) (K : Nat → Wd → Prop) : Prop := K (wz w) (nw w (c, n, true))
/-- a field: its classes' codes, its slot, its key -/
def gck (cs : List Nat) (k kk : Nat) (decl name desc : String) (isref : Bool) : Bool := cs.all fun c => match wcl[c - 20]? with
  | some r => decide (20 ≤ c) && decide (k < r.2.2) && decide ((r.2.1 k).1 = decl) && decide ((r.2.1 k).2.1 = name) && decide ((r.2.1 k).2.2.1 = desc) && (wrf (c - 20) k == isref) && decide (wky (c - 20) k = kk)
  | none => false
theorem gck_spec {cs : List Nat} {k kk : Nat} {decl name desc : String} {isref : Bool} (h : gck cs k kk decl name desc isref = true) {c : Nat} (hc : c ∈ cs) : ∃ r : vw_C, wcl[c - 20]? = some r ∧ 20 ≤ c ∧ k < r.2.2 ∧ (r.2.1 k).1 = decl ∧ (r.2.1 k).2.1 = name ∧ (r.2.1 k).2.2.1 = desc ∧ wrf (c - 20) k = isref ∧ wky (c - 20) k = kk := by
  have h1 := List.all_eq_true.mp h c hc
  split at h1
  · rename_i r hr
    simp only [Bool.and_eq_true, decide_eq_true_eq, beq_iff_eq] at h1
    exact ⟨r, hr, h1.1.1.1.1.1.1, h1.1.1.1.1.1.2, h1.1.1.1.1.2, h1.1.1.1.2, h1.1.1.2, h1.1.2, h1.2⟩
  · cases h1
theorem wcl_in : ∀ (c : Nat) (r : vw_C), wcl[c]? = some r → ∀ w ∈ u_ws r.1 r.2.1 r.2.2, w ∈ lw_all := by
  intro c r hr
  match c, hr with
  | 0, hr => cases hr; exact in_X0
  | 1, hr => cases hr; exact in_X1
  | 2, hr => cases hr; exact in_X2
  | 3, hr => cases hr; exact in_X3
  | 4, hr => cases hr; exact in_X4
  | 5, hr => cases hr; exact in_X5
  | 6, hr => cases hr; exact in_X6
  | 7, hr => cases hr; exact in_X7
  | 8, hr => cases hr; exact in_X8
  | 9, hr => cases hr; exact in_X9
  | 10, hr => cases hr; exact in_X10
  | 11, hr => cases hr; exact in_X11
  | 12, hr => cases hr; exact in_X12
  | 13, hr => cases hr; exact in_X13
  | 14, hr => cases hr; exact in_J4
  | 15, hr => cases hr; exact in_J11
  | n + 16, hr => simp [wcl] at hr
def wclt (c : Nat) : Nat → FieldType := match c with
  | 0 => tyX0
  | 1 => tyX1
  | 2 => tyX2
  | 3 => tyX3
  | 4 => tyX4
  | 5 => tyX5
  | 6 => tyX6
  | 7 => tyX7
  | 8 => tyX8
  | 9 => tyX9
  | 10 => tyX10
  | 11 => tyX11
  | 12 => tyX12
  | 13 => tyX13
  | 14 => tyJ4
  | _ => tyJ11
theorem wcl_ty : ∀ (c : Nat) (r : vw_C), wcl[c]? = some r → ∀ k, k < r.2.2 → parseFieldDescriptor (r.2.1 k).2.2.1 = some (wclt c k) := by
  intro c r hr
  match c, hr with
  | 0, hr => cases hr; exact tyX0_ok
  | 1, hr => cases hr; exact tyX1_ok
  | 2, hr => cases hr; exact tyX2_ok
  | 3, hr => cases hr; exact tyX3_ok
  | 4, hr => cases hr; exact tyX4_ok
  | 5, hr => cases hr; exact tyX5_ok
  | 6, hr => cases hr; exact tyX6_ok
  | 7, hr => cases hr; exact tyX7_ok
  | 8, hr => cases hr; exact tyX8_ok
  | 9, hr => cases hr; exact tyX9_ok
  | 10, hr => cases hr; exact tyX10_ok
  | 11, hr => cases hr; exact tyX11_ok
  | 12, hr => cases hr; exact tyX12_ok
  | 13, hr => cases hr; exact tyX13_ok
  | 14, hr => cases hr; exact tyJ4_ok
  | 15, hr => cases hr; exact tyJ11_ok
  | n + 16, hr => simp [wcl] at hr
theorem wcl_nm : ∀ (c : Nat) (r : vw_C), wcl[c]? = some r → ∀ a, a < r.2.2 → ∀ b, b < r.2.2 → a ≠ b → (r.2.1 a).2.1 ≠ (r.2.1 b).2.1 := by
  intro c r hr
  match c, hr with
  | 0, hr => cases hr; exact nmX0
  | 1, hr => cases hr; exact nmX1
  | 2, hr => cases hr; exact nmX2
  | 3, hr => cases hr; exact nmX3
  | 4, hr => cases hr; exact nmX4
  | 5, hr => cases hr; exact nmX5
  | 6, hr => cases hr; exact nmX6
  | 7, hr => cases hr; exact nmX7
  | 8, hr => cases hr; exact nmX8
  | 9, hr => cases hr; exact nmX9
  | 10, hr => cases hr; exact nmX10
  | 11, hr => cases hr; exact nmX11
  | 12, hr => cases hr; exact nmX12
  | 13, hr => cases hr; exact nmX13
  | 14, hr => cases hr; exact nmJ4
  | 15, hr => cases hr; exact nmJ11
  | n + 16, hr => simp [wcl] at hr
theorem wky_inj : ∀ (c : Nat) (r : vw_C), wcl[c]? = some r → ∀ a b, wky c a = wky c b → a = b := by
  intro c r hr a b h
  unfold wky at h
  omega
theorem wclt_ok : ∀ (c : Nat) (r : vw_C), wcl[c]? = some r → ∀ k, k < r.2.2 → wclt c k = .int ∨ wclt c k = .byte ∨ wclt c k = .boolean ∨ (wclt c k).isReference = true := by
  intro c r hr
  match c, hr with
  | 0, hr => cases hr; decide +kernel
  | 1, hr => cases hr; decide +kernel
  | 2, hr => cases hr; decide +kernel
  | 3, hr => cases hr; decide +kernel
  | 4, hr => cases hr; decide +kernel
  | 5, hr => cases hr; decide +kernel
  | 6, hr => cases hr; decide +kernel
  | 7, hr => cases hr; decide +kernel
  | 8, hr => cases hr; decide +kernel
  | 9, hr => cases hr; decide +kernel
  | 10, hr => cases hr; decide +kernel
  | 11, hr => cases hr; decide +kernel
  | 12, hr => cases hr; decide +kernel
  | 13, hr => cases hr; decide +kernel
  | 14, hr => cases hr; decide +kernel
  | 15, hr => cases hr; decide +kernel
  | n + 16, hr => simp [wcl] at hr
def wvI (v : Value) : Int32 := match v with
  | .int x => x
  | _ => 0
def wvR (v : Value) : Option Nat := match v with
  | .ref x => some x
  | _ => none
section WR
variable {p : Program} {l : Launch} {e : Env} {R : Room} {s : State} {m : MethodId} {args : Array Value} {below : List Frame} {meth : Method} {c : Code} {H : Heap} {locs : List Loc} {cells slots : Nat} {Q : State → Prop}
variable {cc : ByteArray} {pc nL : Nat} {ls : Array Slot} {rest : List Value} {Z : wZ} {A : Nat → Prop} {w : Wd} {r : Option Nat} {ret : Option FieldType} {own mnm : String}
/-- what holds all through a method's walk -/
def wC (p : Program) (l : Launch) (s : State) (m : MethodId) (args : Array Value) (meth : Method) (c : Code) (cc : ByteArray) (nL : Nat) (ret : Option FieldType) (own mnm : String) (Z : wZ) (A : Nat → Prop) : Prop :=
  p.tables.exec = Jvm.exec ∧ c.code = cc ∧ c.maxLocals = nL ∧ s.vm.findClass own = some m.cls ∧ (∀ w ∈ lw_all, w.before args s = true) ∧ meth.sig.returnType = ret ∧ meth.locks = false ∧ meth.name = mnm ∧ va_K Z.1 wcl (wtys Z) s ∧ (∀ q, s.heap.size ≤ q → A q) ∧ wKS Z A s s.heap ∧ l.stackTraces = false
theorem wC.hx (C : wC p l s m args meth c cc nL ret own mnm Z A) : p.tables.exec = Jvm.exec := C.1
theorem wC.hb (C : wC p l s m args meth c cc nL ret own mnm Z A) : c.code = cc := C.2.1
theorem wC.ml (C : wC p l s m args meth c cc nL ret own mnm Z A) : c.maxLocals = nL := C.2.2.1
theorem wC.ow (C : wC p l s m args meth c cc nL ret own mnm Z A) : s.vm.findClass own = some m.cls := C.2.2.2.1
theorem wC.hts (C : wC p l s m args meth c cc nL ret own mnm Z A) : ∀ w ∈ lw_all, w.before args s = true := C.2.2.2.2.1
theorem wC.hr (C : wC p l s m args meth c cc nL ret own mnm Z A) : meth.sig.returnType = ret := C.2.2.2.2.2.1
theorem wC.lk (C : wC p l s m args meth c cc nL ret own mnm Z A) : meth.locks = false := C.2.2.2.2.2.2.1
theorem wC.nm (C : wC p l s m args meth c cc nL ret own mnm Z A) : meth.name = mnm := C.2.2.2.2.2.2.2.1
theorem wC.hK (C : wC p l s m args meth c cc nL ret own mnm Z A) : va_K Z.1 wcl (wtys Z) s := C.2.2.2.2.2.2.2.2.1
theorem wC.hA (C : wC p l s m args meth c cc nL ret own mnm Z A) : ∀ q, s.heap.size ≤ q → A q := C.2.2.2.2.2.2.2.2.2.1
theorem wC.hKS (C : wC p l s m args meth c cc nL ret own mnm Z A) : wKS Z A s s.heap := C.2.2.2.2.2.2.2.2.2.2.1
theorem wC.hfl (C : wC p l s m args meth c cc nL ret own mnm Z A) : l.stackTraces = false := C.2.2.2.2.2.2.2.2.2.2.2
theorem wob_spec {a : Nat} {cs : List Nat} (h : wob w a cs) : ∃ t, wT w a = some t ∧ t.1 ∈ cs := by
  unfold wob at h
  split at h
  · rename_i t ht
    exact ⟨t, ht, h⟩
  · exact h.elim
theorem wobw_spec {a : Nat} {cs : List Nat} (h : wobw w a cs) : ∃ c n, wT w a = some (c, n, true) ∧ c ∈ cs := by
  unfold wobw at h
  split at h
  · rename_i t ht
    obtain ⟨c, n, b⟩ := t
    obtain ⟨h1, h2⟩ := h
    cases h2
    exact ⟨c, n, ht, h1⟩
  · exact h.elim
theorem warr_spec {a c : Nat} {i : Int32} (h : warr w a c i) : ∃ n b, wT w a = some (c, n, b) ∧ vp_in i n := by
  unfold warr at h
  split at h
  · rename_i t ht
    obtain ⟨c, n, b⟩ := t
    obtain ⟨h1, h2⟩ := h
    cases h1
    exact ⟨n, b, ht, h2⟩
  · exact h.elim
theorem warw_spec {a c : Nat} {i : Int32} (h : warw w a c i) : ∃ n, wT w a = some (c, n, true) ∧ vp_in i n := by
  unfold warw at h
  split at h
  · rename_i t ht
    obtain ⟨c, n, b⟩ := t
    obtain ⟨h1, h2, h3⟩ := h
    cases h1
    cases h3
    exact ⟨n, ht, h2⟩
  · exact h.elim
/-- an object's cell -/
theorem wat.obj {U : State} {a : Nat} {t : wTy} (h : wat Z U w H a t) (ht : 20 ≤ t.1) : ∃ (cell : Cell) (r : vw_C), wcl[t.1 - 20]? = some r ∧ H[a]? = some cell ∧ cell.vm.isStatics = false ∧ cell.vm ≠ .unknown ∧ cell.cls = Z.1.1 (t.1 - 20) ∧ (t.2.2 = true → cell.vm = .none) ∧ ∀ k : Nat, k < r.2.2 → cell.slots[Z.1.2 (t.1 - 20) k]? = some (wfv w a (t.1 - 20) k) := by
  unfold wat at h
  rw [if_neg (by omega)] at h
  exact h
theorem wat.arr {U : State} {a : Nat} {t : wTy} (h : wat Z U w H a t) (ht : t.1 < 20) : ∃ cell : Cell, H[a]? = some cell ∧ U.isArrayOf cell (waty t.1) ∧ cell.vm ≠ .unknown ∧ t.2.1 ≤ cell.slots.size ∧ cell.slots.size.toInt32 = Int32.ofNat t.2.1 ∧ (∀ j : Nat, j < t.2.1 → cell.slots[j]? = some (wav w a t.1 j)) ∧ (t.2.2 = true → cell.vm = .none ∧ cell.cls = Z.2.1 t.1 ∧ cell.slots.size = t.2.1 ∧ cell = arrV (Z.2.1 t.1) t.2.1 (fun j => wav w a t.1 j)) := by
  unfold wat at h
  rw [if_pos ht] at h
  exact h
theorem r_getV (C : wC p l s m args meth c cc nL ret own mnm Z A) (hS : wS Z A s w H locs) {a : Nat} {cs : List Nat} {k kk idx : Nat} {ref name desc : String} {b : Bool} (hob : wob w a cs) (hg : gck cs k kk ref name desc b = true) (hl : Cond.fieldLink own idx ref name desc ∈ lw_all) (hdg : decode cc pc = .ok (.getfield idx, 3))
    (kn : W p l e R s m args below meth c H locs cells slots Q (F0 m (pc + 3) ls ((if b then va_rf (wG w a kk) else .int (wF w a kk)) :: rest))) : W p l e R s m args below meth c H locs cells slots Q (F0 m pc ls (.ref a :: rest)) := by
  obtain ⟨t, ht, htc⟩ := wob_spec hob
  obtain ⟨r, hr, h20, hk, e1, e2, e3, e4, e5⟩ := gck_spec hg htc
  obtain ⟨cell, r', hr', hc, -, hu, -, -, hs⟩ := (hS.1.1 a t ht).obj h20
  cases hr.symm.trans hr'
  obtain ⟨hSl, hfc, kC, hkC, hkind⟩ := C.hK.1 _ _ hr
  obtain ⟨cf, kf, fi, f, hi, hsl⟩ := hSl k hk
  have hst := (u_facts hfc hkC (u_lays C.hts (wcl_in _ _ hr) hk) hi).1
  rw [e1, e2, e3] at hi
  refine W.getf C.hx C.hb C.ow (C.hts _ hl) hi hst hc hu (v := if b then va_rf (wG w a kk) else .int (wF w a kk)) ?_ rfl rfl hdg kn
  rw [hsl, hs k hk]
  unfold wfv
  rw [e4, e5]
theorem r_getF (C : wC p l s m args meth c cc nL ret own mnm Z A) (hS : wS Z A s w H locs) {cs : List Nat} {k kk idx : Nat} {K : Int32 → Prop} (h : wgF w r cs kk K) {ref name desc : String} (hg : gck cs k kk ref name desc false = true) (hl : Cond.fieldLink own idx ref name desc ∈ lw_all) (hdg : decode cc pc = .ok (.getfield idx, 3))
    (kn : ∀ v : Int32, K v → W p l e R s m args below meth c H locs cells slots Q (F0 m (pc + 3) ls (.int v :: rest))) : W p l e R s m args below meth c H locs cells slots Q (F0 m pc ls (va_rf r :: rest)) := by
  cases r with
  | none => exact h.elim
  | some a => exact r_getV C hS h.1 hg hl hdg (kn _ h.2)
theorem r_getG (C : wC p l s m args meth c cc nL ret own mnm Z A) (hS : wS Z A s w H locs) {cs : List Nat} {k kk idx : Nat} {K : Option Nat → Prop} (h : wgG w r cs kk K) {ref name desc : String} (hg : gck cs k kk ref name desc true = true) (hl : Cond.fieldLink own idx ref name desc ∈ lw_all) (hdg : decode cc pc = .ok (.getfield idx, 3))
    (kn : ∀ v : Option Nat, K v → W p l e R s m args below meth c H locs cells slots Q (F0 m (pc + 3) ls (va_rf v :: rest))) : W p l e R s m args below meth c H locs cells slots Q (F0 m pc ls (va_rf r :: rest)) := by
  cases r with
  | none => exact h.elim
  | some a => exact r_getV C hS h.1 hg hl hdg (kn _ h.2)
theorem wfv_sF {a k v q ci j : Nat} {v : Int32} (h : ¬ (q = a ∧ wky ci j = k)) : wfv (sF w a k v) q ci j = wfv w q ci j := by
  show (if wrf ci j then va_rf (wG w q (wky ci j)) else .int (up2 (wF w) a k v q (wky ci j))) = _
  unfold up2 wfv
  rw [if_neg h]
theorem wfv_sG {a k q ci j : Nat} {v : Option Nat} (h : ¬ (q = a ∧ wky ci j = k)) : wfv (sG w a k v) q ci j = wfv w q ci j := by
  show (if wrf ci j then va_rf (up2 (wG w) a k v q (wky ci j)) else .int (wF w q (wky ci j))) = _
  unfold up2 wfv
  rw [if_neg h]
/-- the cell behind a write of a field -/
theorem wat.setf {a : Nat} {t n : Nat} {H1 : Heap} {k : Nat} {w' : Wd} {v : Value} {cell : Cell} {r : vw_C} (hK : va_K Z.1 wcl (wtys Z) s) (hts : ∀ w ∈ lw_all, w.before args s = true) (hr : wcl[t - 20]? = some r) (h20 : 20 ≤ t) (hk : k < r.2.2) (hat : wat Z s w H a (t, n, true)) (hc : H[a]? = some cell) (e1 : H1[a]? = some (cell.setSlot (Z.1.2 (t - 20) k) v)) (hne : ∀ j, j < r.2.2 → j ≠ k → wfv w' a (t - 20) j = wfv w a (t - 20) j) (hv : wfv w' a (t - 20) k = v) : wat Z s w' H1 a (t, n, true) := by
  obtain ⟨cell', r', hr', hc', g1, g2, g3, g4, g5⟩ := hat.obj h20
  cases hr.symm.trans hr'
  cases hc.symm.trans hc'
  unfold wat
  rw [if_neg (by show ¬ t < 20; omega)]
  have hap := va_apart (own := r.1) hts (wcl_in _ _ hr) (wclt (t - 20)) (wcl_ty _ _ hr) (wcl_nm _ _ hr) hK hr
  refine ⟨_, r, hr, e1, g1, g2, g3, g4, fun j hj => ?_⟩
  rw [t_set g5 hap hk v j hj]
  unfold updV
  by_cases hjk : j = k
  · rw [if_pos hjk, hjk, hv]
  · rw [if_neg hjk, hne j hj hjk]
theorem r_putV (C : wC p l s m args meth c cc nL ret own mnm Z A) (hS : wS Z A s w H locs) {a : Nat} {cs : List Nat} {k kk idx : Nat} {ref name desc : String} {b fin : Bool} {ty : FieldType} {v : Value} {w' : Wd} (hob : wobw w a cs) (hg : gck cs k kk ref name desc b = true) (hd : parseFieldDescriptor desc = some ty) (hn : narrow ty v = v) (hf : fits ty v = true)
    (hfin : cs.all (fun c => match wcl[c - 20]? with | some r => (r.2.1 k).2.2.2 == fin | none => false) = true) (hin : fin = true → mnm = "<init>" ∧ ref = own)
    (hw : w' = if b then sG w a kk (wvR v) else sF w a kk (wvI v)) (hvb : v = if b then va_rf (wvR v) else .int (wvI v))
    (hl : Cond.fieldLink own idx ref name desc ∈ lw_all) (hdg : decode cc pc = .ok (.putfield idx, 3))
    (kn : ∀ (H : Heap) (locs : List Loc), wS Z A s w' H locs → W p l e R s m args below meth c H locs cells slots Q (F0 m (pc + 3) ls rest)) : W p l e R s m args below meth c H locs cells slots Q (F0 m pc ls (v :: .ref a :: rest)) := by
  obtain ⟨t, n, ht, htc⟩ := wobw_spec hob
  obtain ⟨r, hr, h20, hk, e1, e2, e3, e4, e5⟩ := gck_spec hg htc
  have hat := hS.1.1 a _ ht
  obtain ⟨cell, r', hr', hc, g1, g2, g3, g4, g5⟩ := hat.obj h20
  cases hr.symm.trans hr'
  obtain ⟨hSl, hfc, kC, hkC, hkind⟩ := C.hK.1 _ _ hr
  obtain ⟨cf, kf, fi, f, hi, hsl⟩ := hSl k hk
  have hlays := u_lays C.hts (wcl_in _ _ hr) hk
  have hst := (u_facts hfc hkC hlays hi).1
  have hfin' : (r.2.1 k).2.2.2 = fin := by
    have h1 := List.all_eq_true.mp hfin t htc
    have hr9 : wcl[t - 20]? = some r := hr
    rw [hr9] at h1
    exact beq_iff_eq.mp h1
  have hd' : parseFieldDescriptor (r.2.1 k).2.2.1 = some ty := by rw [e3]; exact hd
  have hvm : cell.vm = .none := g4 rfl
  have hT9 : wT w' = wT w := by rw [hw]; cases b <;> rfl
  have hfv : ∀ j, j < r.2.2 → j ≠ k → wfv w' a (t - 20) j = wfv w a (t - 20) j := by
    intro j hj hjk
    have hkk : ¬ (a = a ∧ wky (t - 20) j = kk) := fun q => hjk (wky_inj _ _ hr j k (q.2.trans e5.symm))
    rw [hw]
    cases b
    · exact wfv_sF (v := 0) hkk
    · exact wfv_sG hkk
  have hvv : wfv w' a (t - 20) k = v := by
    unfold wfv
    rw [e4, e5, hw]
    refine Eq.trans ?_ hvb.symm
    cases b
    · show Value.int (up2 _ a kk _ a kk) = _
      unfold up2
      rw [if_pos ⟨rfl, rfl⟩]
      rfl
    · show va_rf (up2 _ a kk _ a kk) = _
      unfold up2
      rw [if_pos ⟨rfl, rfl⟩]
      rfl
  have goal : ∀ H' : Heap, H'[a]? = some (cell.setSlot f.slot v) → H'.size = H.size → (∀ q, q ≠ a → H'[q]? = H[q]?) → W p l e R s m args below meth c H' (locs ++ [⟨a, f.slot⟩]) cells slots Q (F0 m (pc + 3) ls rest) := by
    intro H' f1 f2 f3
    rw [hsl] at f1 ⊢
    refine kn H' _ (hS.put ht hT9 ?_ ?_ f2 f3 ?_ ?_ ?_ ?_ ?_ (hat.setf C.hK C.hts hr h20 hk hc f1 hfv hvv))
    · rw [hw]; cases b <;> rfl
    · rw [hw]; cases b <;> rfl
    · intro q j hq
      rw [hw]
      cases b
      · exact if_neg (fun z => hq z.1)
      · rfl
    · intro q j hq
      rw [hw]
      cases b
      · rfl
      · exact if_neg (fun z => hq z.1)
    · intro q j hq; rw [hw]; cases b <;> rfl
    · intro q j hq; rw [hw]; cases b <;> rfl
    · intro q j hq; rw [hw]; cases b <;> rfl
  have hlt : f.slot < cell.slots.size := by rw [hsl]; exact k2_hasslot (g5 k hk)
  have hi' := hi
  rw [e1, e2, e3] at hi'
  cases fin with
  | false =>
    have hlay := C.hts _ (wcl_in _ _ hr _ (u_in_lay hk))
    unfold u_lay at hlay
    rw [if_neg (by rw [hfin']; decide)] at hlay
    have h6 := u_store hfc hkC hkind hlay hi hd' hn hf
    exact W.putK C.hx C.hb (f := f) ⟨C.ow, C.hts _ hl, ⟨_, _, _, hi'⟩, hst⟩ (by rw [g3]; exact h6) hc hvm hlt rfl rfl hdg goal
  | true =>
    obtain ⟨hin1, hin2⟩ := hin rfl
    have hlay := C.hts _ (wcl_in _ _ hr _ (u_in_lay hk))
    unfold u_lay at hlay
    rw [if_pos hfin'] at hlay
    have hcf : m.cls = cf := by
      obtain ⟨_, _, c', _, _, _, -, -, hf', -, -, -, hown2, -⟩ := Cond.laysFinal_spec hlay
      have e9 : c' = cf := by have := hi.symm.trans hf'; simp at this; exact this.1.symm
      rw [e1, hin2] at hown2
      rw [← e9]; exact Option.some.inj (C.ow.symm.trans hown2)
    have h6 := u_fits hfc hkC hkind (Or.inr hlay) hi hd' hn hf
    exact W.putFinK C.hx C.hb C.ow (C.hts _ hl) hi' hst hcf (C.nm.trans hin1) (by rw [g3]; exact h6) hc hvm hlt rfl rfl hdg goal
/-- whether a slot is final, of all classes cs -/
def fck (cs : List Nat) (k : Nat) (fin : Bool) : Bool := cs.all (fun c => match wcl[c - 20]? with | some r => (r.2.1 k).2.2.2 == fin | none => false)
theorem r_putF (C : wC p l s m args meth c cc nL ret own mnm Z A) (hS : wS Z A s w H locs) {cs : List Nat} {k kk idx : Nat} {v : Int32} {K : Wd → Prop} (h : wpF w r cs kk v K) {ref name desc : String} {fin : Bool} {ty : FieldType} (hg : gck cs k kk ref name desc false = true) (hd : parseFieldDescriptor desc = some ty) (hn : narrow ty (.int v) = .int v ∧ fits ty (.int v) = true) (hfin : fck cs k fin = true) (hin : fin = true → mnm = "<init>" ∧ ref = own)
    (hl : Cond.fieldLink own idx ref name desc ∈ lw_all) (hdg : decode cc pc = .ok (.putfield idx, 3))
    (kn : ∀ (w' : Wd) (H : Heap) (locs : List Loc), K w' → wS Z A s w' H locs → W p l e R s m args below meth c H locs cells slots Q (F0 m (pc + 3) ls rest)) : W p l e R s m args below meth c H locs cells slots Q (F0 m pc ls (.int v :: va_rf r :: rest)) := by
  cases r with
  | none => exact h.elim
  | some a => exact r_putV (w' := sF w a kk v) C hS h.1 hg hd hn.1 hn.2 hfin hin rfl rfl hl hdg (fun H locs hS => kn _ H locs h.2 hS)
theorem r_putG (C : wC p l s m args meth c cc nL ret own mnm Z A) (hS : wS Z A s w H locs) {cs : List Nat} {k kk idx : Nat} {v : Option Nat} {K : Wd → Prop} (h : wpG w r cs kk v K) {ref name desc : String} {fin : Bool} {ty : FieldType} (hg : gck cs k kk ref name desc true = true) (hd : parseFieldDescriptor desc = some ty) (hty : ty.isReference = true) (hfin : fck cs k fin = true) (hin : fin = true → mnm = "<init>" ∧ ref = own)
    (hl : Cond.fieldLink own idx ref name desc ∈ lw_all) (hdg : decode cc pc = .ok (.putfield idx, 3))
    (kn : ∀ (w' : Wd) (H : Heap) (locs : List Loc), K w' → wS Z A s w' H locs → W p l e R s m args below meth c H locs cells slots Q (F0 m (pc + 3) ls rest)) : W p l e R s m args below meth c H locs cells slots Q (F0 m pc ls (va_rf v :: va_rf r :: rest)) := by
  cases r with
  | none => exact h.elim
  | some a =>
    cases v with
    | none => exact r_putV (w' := sG w a kk none) C hS h.1 hg hd (by cases ty <;> first | rfl | cases hty) (by cases ty <;> first | rfl | cases hty) hfin hin rfl rfl hl hdg (fun H locs hS => kn _ H locs h.2 hS)
    | some x => exact r_putV (w' := sG w a kk (some x)) C hS h.1 hg hd (by cases ty <;> first | rfl | cases hty) (by cases ty <;> first | rfl | cases hty) hfin hin rfl rfl hl hdg (fun H locs hS => kn _ H locs h.2 hS)
theorem r_iald (C : wC p l s m args meth c cc nL ret own mnm Z A) (hS : wS Z A s w H locs) {i : Int32} {K : Int32 → Prop} (h : wld w r 0 i K) (hdg : decode cc pc = .ok (.iaload, 1))
    (kn : ∀ v : Int32, K v → W p l e R s m args below meth c H locs cells slots Q (F0 m (pc + 1) ls (.int v :: rest))) : W p l e R s m args below meth c H locs cells slots Q (F0 m pc ls (.int i :: va_rf r :: rest)) := by
  cases r with
  | none => exact h.elim
  | some a =>
    obtain ⟨n, b, ht, hin⟩ := warr_spec h.1
    obtain ⟨cell, h1, h2, h3, h4, h5, h6, -⟩ := (hS.1.1 a _ ht).arr (show 0 < 20 by decide)
    have hlt : i.toNatClampNeg < n := Nat.not_le.mp fun q => hin (Or.inr q)
    have hin' : ¬ (i < 0 ∨ cell.slots.size ≤ i.toNatClampNeg) := by
      intro q
      rcases q with q | q
      · exact hin (Or.inl q)
      · have h4' : n ≤ cell.slots.size := h4
        omega
    exact W.iald (v := .int (wI w a i.toNatClampNeg)) C.hx C.hb h1 h2 h3 hin' (h6 _ hlt) rfl rfl hdg (kn _ h.2)
theorem r_bald (C : wC p l s m args meth c cc nL ret own mnm Z A) (hS : wS Z A s w H locs) {i : Int32} {K : Int32 → Prop} (h : wld w r 1 i K) (hdg : decode cc pc = .ok (.baload, 1))
    (kn : ∀ v : Int32, K v → W p l e R s m args below meth c H locs cells slots Q (F0 m (pc + 1) ls (.int v :: rest))) : W p l e R s m args below meth c H locs cells slots Q (F0 m pc ls (.int i :: va_rf r :: rest)) := by
  cases r with
  | none => exact h.elim
  | some a =>
    obtain ⟨n, b, ht, hin⟩ := warr_spec h.1
    obtain ⟨cell, h1, h2, h3, h4, h5, h6, -⟩ := (hS.1.1 a _ ht).arr (show 1 < 20 by decide)
    have hlt : i.toNatClampNeg < n := Nat.not_le.mp fun q => hin (Or.inr q)
    have hin' : ¬ (i < 0 ∨ cell.slots.size ≤ i.toNatClampNeg) := by
      intro q
      rcases q with q | q
      · exact hin (Or.inl q)
      · have h4' : n ≤ cell.slots.size := h4
        omega
    exact W.bald (v := .int (wI w a i.toNatClampNeg)) C.hx C.hb h1 h2 h3 hin' (h6 _ hlt) rfl rfl hdg (kn _ h.2)
theorem r_zald (C : wC p l s m args meth c cc nL ret own mnm Z A) (hS : wS Z A s w H locs) {i : Int32} {K : Int32 → Prop} (h : wld w r 4 i K) (hdg : decode cc pc = .ok (.baload, 1))
    (kn : ∀ v : Int32, K v → W p l e R s m args below meth c H locs cells slots Q (F0 m (pc + 1) ls (.int v :: rest))) : W p l e R s m args below meth c H locs cells slots Q (F0 m pc ls (.int i :: va_rf r :: rest)) := by
  cases r with
  | none => exact h.elim
  | some a =>
    obtain ⟨n, b, ht, hin⟩ := warr_spec h.1
    obtain ⟨cell, h1, h2, h3, h4, h5, h6, -⟩ := (hS.1.1 a _ ht).arr (show 4 < 20 by decide)
    have hlt : i.toNatClampNeg < n := Nat.not_le.mp fun q => hin (Or.inr q)
    have hin' : ¬ (i < 0 ∨ cell.slots.size ≤ i.toNatClampNeg) := by
      intro q
      rcases q with q | q
      · exact hin (Or.inl q)
      · have h4' : n ≤ cell.slots.size := h4
        omega
    exact W.zald (v := .int (wI w a i.toNatClampNeg)) C.hx C.hb h1 h2 h3 hin' (h6 _ hlt) rfl rfl hdg (kn _ h.2)
theorem r_sald (C : wC p l s m args meth c cc nL ret own mnm Z A) (hS : wS Z A s w H locs) {i : Int32} {K : Int32 → Prop} (h : wld w r 2 i K) (hdg : decode cc pc = .ok (.saload, 1))
    (kn : ∀ v : Int32, K v → W p l e R s m args below meth c H locs cells slots Q (F0 m (pc + 1) ls (.int v :: rest))) : W p l e R s m args below meth c H locs cells slots Q (F0 m pc ls (.int i :: va_rf r :: rest)) := by
  cases r with
  | none => exact h.elim
  | some a =>
    obtain ⟨n, b, ht, hin⟩ := warr_spec h.1
    obtain ⟨cell, h1, h2, h3, h4, h5, h6, -⟩ := (hS.1.1 a _ ht).arr (show 2 < 20 by decide)
    have hlt : i.toNatClampNeg < n := Nat.not_le.mp fun q => hin (Or.inr q)
    have hin' : ¬ (i < 0 ∨ cell.slots.size ≤ i.toNatClampNeg) := by
      intro q
      rcases q with q | q
      · exact hin (Or.inl q)
      · have h4' : n ≤ cell.slots.size := h4
        omega
    exact W.sald (v := .int (wI w a i.toNatClampNeg)) C.hx C.hb h1 h2 h3 hin' (h6 _ hlt) rfl rfl hdg (kn _ h.2)
theorem r_cald (C : wC p l s m args meth c cc nL ret own mnm Z A) (hS : wS Z A s w H locs) {i : Int32} {K : Int32 → Prop} (h : wld w r 3 i K) (hdg : decode cc pc = .ok (.caload, 1))
    (kn : ∀ v : Int32, K v → W p l e R s m args below meth c H locs cells slots Q (F0 m (pc + 1) ls (.int v :: rest))) : W p l e R s m args below meth c H locs cells slots Q (F0 m pc ls (.int i :: va_rf r :: rest)) := by
  cases r with
  | none => exact h.elim
  | some a =>
    obtain ⟨n, b, ht, hin⟩ := warr_spec h.1
    obtain ⟨cell, h1, h2, h3, h4, h5, h6, -⟩ := (hS.1.1 a _ ht).arr (show 3 < 20 by decide)
    have hlt : i.toNatClampNeg < n := Nat.not_le.mp fun q => hin (Or.inr q)
    have hin' : ¬ (i < 0 ∨ cell.slots.size ≤ i.toNatClampNeg) := by
      intro q
      rcases q with q | q
      · exact hin (Or.inl q)
      · have h4' : n ≤ cell.slots.size := h4
        omega
    exact W.cald (v := .int (wI w a i.toNatClampNeg)) C.hx C.hb h1 h2 h3 hin' (h6 _ hlt) rfl rfl hdg (kn _ h.2)
theorem r_lald (C : wC p l s m args meth c cc nL ret own mnm Z A) (hS : wS Z A s w H locs) {i : Int32} {K : Int64 → Prop} (h : wldL w r i K) (hdg : decode cc pc = .ok (.laload, 1))
    (kn : ∀ v : Int64, K v → W p l e R s m args below meth c H locs cells slots Q (F0 m (pc + 1) ls (.long v :: rest))) : W p l e R s m args below meth c H locs cells slots Q (F0 m pc ls (.int i :: va_rf r :: rest)) := by
  cases r with
  | none => exact h.elim
  | some a =>
    obtain ⟨n, b, ht, hin⟩ := warr_spec h.1
    obtain ⟨cell, h1, h2, h3, h4, h5, h6, -⟩ := (hS.1.1 a _ ht).arr (show 5 < 20 by decide)
    have hlt : i.toNatClampNeg < n := Nat.not_le.mp fun q => hin (Or.inr q)
    have hin' : ¬ (i < 0 ∨ cell.slots.size ≤ i.toNatClampNeg) := by
      intro q
      rcases q with q | q
      · exact hin (Or.inl q)
      · have h4' : n ≤ cell.slots.size := h4
        omega
    exact W.lald (v := .long (wL w a i.toNatClampNeg)) C.hx C.hb h1 h2 h3 hin' (h6 _ hlt) rfl rfl hdg (kn _ h.2)
theorem r_aald6 (C : wC p l s m args meth c cc nL ret own mnm Z A) (hS : wS Z A s w H locs) {i : Int32} {K : Option Nat → Prop} (h : wldQ w r 6 i K) (hdg : decode cc pc = .ok (.aaload, 1))
    (kn : ∀ v : Option Nat, K v → W p l e R s m args below meth c H locs cells slots Q (F0 m (pc + 1) ls (va_rf v :: rest))) : W p l e R s m args below meth c H locs cells slots Q (F0 m pc ls (.int i :: va_rf r :: rest)) := by
  cases r with
  | none => exact h.elim
  | some a =>
    obtain ⟨n, b, ht, hin⟩ := warr_spec h.1
    obtain ⟨cell, h1, h2, h3, h4, h5, h6, -⟩ := (hS.1.1 a _ ht).arr (show 6 < 20 by decide)
    have hlt : i.toNatClampNeg < n := Nat.not_le.mp fun q => hin (Or.inr q)
    have hin' : ¬ (i < 0 ∨ cell.slots.size ≤ i.toNatClampNeg) := by
      intro q
      rcases q with q | q
      · exact hin (Or.inl q)
      · have h4' : n ≤ cell.slots.size := h4
        omega
    exact W.aald (v := va_rf (wQ w a i.toNatClampNeg)) C.hx C.hb h1 h2 rfl h3 hin' (h6 _ hlt) rfl rfl hdg (kn _ h.2)
theorem r_aald7 (C : wC p l s m args meth c cc nL ret own mnm Z A) (hS : wS Z A s w H locs) {i : Int32} {K : Option Nat → Prop} (h : wldQ w r 7 i K) (hdg : decode cc pc = .ok (.aaload, 1))
    (kn : ∀ v : Option Nat, K v → W p l e R s m args below meth c H locs cells slots Q (F0 m (pc + 1) ls (va_rf v :: rest))) : W p l e R s m args below meth c H locs cells slots Q (F0 m pc ls (.int i :: va_rf r :: rest)) := by
  cases r with
  | none => exact h.elim
  | some a =>
    obtain ⟨n, b, ht, hin⟩ := warr_spec h.1
    obtain ⟨cell, h1, h2, h3, h4, h5, h6, -⟩ := (hS.1.1 a _ ht).arr (show 7 < 20 by decide)
    have hlt : i.toNatClampNeg < n := Nat.not_le.mp fun q => hin (Or.inr q)
    have hin' : ¬ (i < 0 ∨ cell.slots.size ≤ i.toNatClampNeg) := by
      intro q
      rcases q with q | q
      · exact hin (Or.inl q)
      · have h4' : n ≤ cell.slots.size := h4
        omega
    exact W.aald (v := va_rf (wQ w a i.toNatClampNeg)) C.hx C.hb h1 h2 rfl h3 hin' (h6 _ hlt) rfl rfl hdg (kn _ h.2)
theorem r_aald8 (C : wC p l s m args meth c cc nL ret own mnm Z A) (hS : wS Z A s w H locs) {i : Int32} {K : Option Nat → Prop} (h : wldQ w r 8 i K) (hdg : decode cc pc = .ok (.aaload, 1))
    (kn : ∀ v : Option Nat, K v → W p l e R s m args below meth c H locs cells slots Q (F0 m (pc + 1) ls (va_rf v :: rest))) : W p l e R s m args below meth c H locs cells slots Q (F0 m pc ls (.int i :: va_rf r :: rest)) := by
  cases r with
  | none => exact h.elim
  | some a =>
    obtain ⟨n, b, ht, hin⟩ := warr_spec h.1
    obtain ⟨cell, h1, h2, h3, h4, h5, h6, -⟩ := (hS.1.1 a _ ht).arr (show 8 < 20 by decide)
    have hlt : i.toNatClampNeg < n := Nat.not_le.mp fun q => hin (Or.inr q)
    have hin' : ¬ (i < 0 ∨ cell.slots.size ≤ i.toNatClampNeg) := by
      intro q
      rcases q with q | q
      · exact hin (Or.inl q)
      · have h4' : n ≤ cell.slots.size := h4
        omega
    exact W.aald (v := va_rf (wQ w a i.toNatClampNeg)) C.hx C.hb h1 h2 rfl h3 hin' (h6 _ hlt) rfl rfl hdg (kn _ h.2)
/-- the cell behind a write of an element -/
theorem wat.seta {a : Nat} {t n : Nat} {H1 : Heap} {i : Nat} {w' : Wd} {v : Value} {cell : Cell} (hat : wat Z s w H a (t, n, true)) (h20 : t < 20) (hc : H[a]? = some cell) (e1 : H1[a]? = some (cell.setSlot i v)) (hi : i < n) (hne : ∀ j, j ≠ i → wav w' a t j = wav w a t j) (hv : wav w' a t i = v) : wat Z s w' H1 a (t, n, true) := by
  obtain ⟨cell', hc', g1, g2, g3, g4, g5, g6⟩ := hat.arr h20
  cases hc.symm.trans hc'
  unfold wat
  rw [if_pos (show t < 20 from h20)]
  refine ⟨_, e1, g1, g2, ?_, ?_, fun j hj => ?_, fun h => ⟨(g6 h).1, (g6 h).2.1, ?_, ?_⟩⟩
  · rw [k2_slotsz]; exact g3
  · rw [k2_slotsz]; exact g4
  · by_cases hji : j = i
    · rw [hji, hv]
      exact Cell.slots_setSlot_self _ (Nat.lt_of_lt_of_le hi g3)
    · rw [slot_ne _ _ (fun q => hji q.symm), hne j hji]
      exact g5 j hj
  · rw [k2_slotsz]; exact (g6 h).2.2.1
  · rw [(g6 h).2.2.2, arrV_store]
    congr 1
    funext j
    unfold updV
    by_cases hji : j = i
    · rw [if_pos hji, hji, hv]
    · rw [if_neg hji, hne j hji]
theorem r_iast (C : wC p l s m args meth c cc nL ret own mnm Z A) (hS : wS Z A s w H locs) {i : Int32} {x : Int32} {K : Wd → Prop} (h : wst w r 0 i x K) (hdg : decode cc pc = .ok (.iastore, 1))
    (kn : ∀ (w' : Wd) (H : Heap) (locs : List Loc), K w' → wS Z A s w' H locs → W p l e R s m args below meth c H locs cells slots Q (F0 m (pc + 1) ls rest)) : W p l e R s m args below meth c H locs cells slots Q (F0 m pc ls (.int x :: .int i :: va_rf r :: rest)) := by
  cases r with
  | none => exact h.elim
  | some a =>
    obtain ⟨n, ht, hin⟩ := warw_spec h.1
    have hat := hS.1.1 a _ ht
    obtain ⟨cell, h1, h2, h3, h4, h5, h6, h7⟩ := hat.arr (show 0 < 20 by decide)
    have hlt : i.toNatClampNeg < n := Nat.not_le.mp fun q => hin (Or.inr q)
    have hz : cell.slots.size = n := (h7 rfl).2.2.1
    refine W.iast C.hx C.hb h1 h2 h3 (by rw [hz]; exact hin) rfl rfl hdg fun H1 e1 e2 e3 => ?_
    refine kn (sI w a i.toNatClampNeg x) H1 _ h.2 (hS.put ht rfl rfl rfl e2 e3 (fun q k hq => rfl) (fun q k hq => rfl) (fun q k hq => if_neg (fun z => hq z.1)) (fun q k hq => rfl) (fun q k hq => rfl) ?_)
    exact wat.seta hat (by decide) h1 (show H1[a]? = some (cell.setSlot i.toNatClampNeg (.int x)) from e1) hlt (fun j hj => by unfold wav; rw [if_pos (by decide), if_pos (by decide)]; exact congrArg Value.int (if_neg (fun z => hj z.2))) (by unfold wav; rw [if_pos (by decide)]; exact congrArg Value.int (if_pos ⟨rfl, rfl⟩))
theorem r_bast (C : wC p l s m args meth c cc nL ret own mnm Z A) (hS : wS Z A s w H locs) {i : Int32} {x : Int32} {K : Wd → Prop} (h : wst w r 1 i (vp_nar .byte x) K) (hdg : decode cc pc = .ok (.bastore, 1))
    (kn : ∀ (w' : Wd) (H : Heap) (locs : List Loc), K w' → wS Z A s w' H locs → W p l e R s m args below meth c H locs cells slots Q (F0 m (pc + 1) ls rest)) : W p l e R s m args below meth c H locs cells slots Q (F0 m pc ls (.int x :: .int i :: va_rf r :: rest)) := by
  cases r with
  | none => exact h.elim
  | some a =>
    obtain ⟨n, ht, hin⟩ := warw_spec h.1
    have hat := hS.1.1 a _ ht
    obtain ⟨cell, h1, h2, h3, h4, h5, h6, h7⟩ := hat.arr (show 1 < 20 by decide)
    have hlt : i.toNatClampNeg < n := Nat.not_le.mp fun q => hin (Or.inr q)
    have hz : cell.slots.size = n := (h7 rfl).2.2.1
    refine W.bast C.hx C.hb h1 h2 h3 (by rw [hz]; exact hin) rfl rfl hdg fun H1 e1 e2 e3 => ?_
    refine kn (sI w a i.toNatClampNeg (vp_nar .byte x)) H1 _ h.2 (hS.put ht rfl rfl rfl e2 e3 (fun q k hq => rfl) (fun q k hq => rfl) (fun q k hq => if_neg (fun z => hq z.1)) (fun q k hq => rfl) (fun q k hq => rfl) ?_)
    exact wat.seta hat (by decide) h1 (show H1[a]? = some (cell.setSlot i.toNatClampNeg (.int (vp_nar .byte x))) from e1) hlt (fun j hj => by unfold wav; rw [if_pos (by decide), if_pos (by decide)]; exact congrArg Value.int (if_neg (fun z => hj z.2))) (by unfold wav; rw [if_pos (by decide)]; exact congrArg Value.int (if_pos ⟨rfl, rfl⟩))
theorem r_zast (C : wC p l s m args meth c cc nL ret own mnm Z A) (hS : wS Z A s w H locs) {i : Int32} {x : Int32} {K : Wd → Prop} (h : wst w r 4 i (vp_nar .boolean x) K) (hdg : decode cc pc = .ok (.bastore, 1))
    (kn : ∀ (w' : Wd) (H : Heap) (locs : List Loc), K w' → wS Z A s w' H locs → W p l e R s m args below meth c H locs cells slots Q (F0 m (pc + 1) ls rest)) : W p l e R s m args below meth c H locs cells slots Q (F0 m pc ls (.int x :: .int i :: va_rf r :: rest)) := by
  cases r with
  | none => exact h.elim
  | some a =>
    obtain ⟨n, ht, hin⟩ := warw_spec h.1
    have hat := hS.1.1 a _ ht
    obtain ⟨cell, h1, h2, h3, h4, h5, h6, h7⟩ := hat.arr (show 4 < 20 by decide)
    have hlt : i.toNatClampNeg < n := Nat.not_le.mp fun q => hin (Or.inr q)
    have hz : cell.slots.size = n := (h7 rfl).2.2.1
    refine W.zast C.hx C.hb h1 h2 h3 (by rw [hz]; exact hin) rfl rfl hdg fun H1 e1 e2 e3 => ?_
    refine kn (sI w a i.toNatClampNeg (vp_nar .boolean x)) H1 _ h.2 (hS.put ht rfl rfl rfl e2 e3 (fun q k hq => rfl) (fun q k hq => rfl) (fun q k hq => if_neg (fun z => hq z.1)) (fun q k hq => rfl) (fun q k hq => rfl) ?_)
    exact wat.seta hat (by decide) h1 (show H1[a]? = some (cell.setSlot i.toNatClampNeg (.int (vp_nar .boolean x))) from e1) hlt (fun j hj => by unfold wav; rw [if_pos (by decide), if_pos (by decide)]; exact congrArg Value.int (if_neg (fun z => hj z.2))) (by unfold wav; rw [if_pos (by decide)]; exact congrArg Value.int (if_pos ⟨rfl, rfl⟩))
theorem r_sast (C : wC p l s m args meth c cc nL ret own mnm Z A) (hS : wS Z A s w H locs) {i : Int32} {x : Int32} {K : Wd → Prop} (h : wst w r 2 i (vp_nar .short x) K) (hdg : decode cc pc = .ok (.sastore, 1))
    (kn : ∀ (w' : Wd) (H : Heap) (locs : List Loc), K w' → wS Z A s w' H locs → W p l e R s m args below meth c H locs cells slots Q (F0 m (pc + 1) ls rest)) : W p l e R s m args below meth c H locs cells slots Q (F0 m pc ls (.int x :: .int i :: va_rf r :: rest)) := by
  cases r with
  | none => exact h.elim
  | some a =>
    obtain ⟨n, ht, hin⟩ := warw_spec h.1
    have hat := hS.1.1 a _ ht
    obtain ⟨cell, h1, h2, h3, h4, h5, h6, h7⟩ := hat.arr (show 2 < 20 by decide)
    have hlt : i.toNatClampNeg < n := Nat.not_le.mp fun q => hin (Or.inr q)
    have hz : cell.slots.size = n := (h7 rfl).2.2.1
    refine W.sast C.hx C.hb h1 h2 h3 (by rw [hz]; exact hin) rfl rfl hdg fun H1 e1 e2 e3 => ?_
    refine kn (sI w a i.toNatClampNeg (vp_nar .short x)) H1 _ h.2 (hS.put ht rfl rfl rfl e2 e3 (fun q k hq => rfl) (fun q k hq => rfl) (fun q k hq => if_neg (fun z => hq z.1)) (fun q k hq => rfl) (fun q k hq => rfl) ?_)
    exact wat.seta hat (by decide) h1 (show H1[a]? = some (cell.setSlot i.toNatClampNeg (.int (vp_nar .short x))) from e1) hlt (fun j hj => by unfold wav; rw [if_pos (by decide), if_pos (by decide)]; exact congrArg Value.int (if_neg (fun z => hj z.2))) (by unfold wav; rw [if_pos (by decide)]; exact congrArg Value.int (if_pos ⟨rfl, rfl⟩))
theorem r_cast (C : wC p l s m args meth c cc nL ret own mnm Z A) (hS : wS Z A s w H locs) {i : Int32} {x : Int32} {K : Wd → Prop} (h : wst w r 3 i (vp_nar .char x) K) (hdg : decode cc pc = .ok (.castore, 1))
    (kn : ∀ (w' : Wd) (H : Heap) (locs : List Loc), K w' → wS Z A s w' H locs → W p l e R s m args below meth c H locs cells slots Q (F0 m (pc + 1) ls rest)) : W p l e R s m args below meth c H locs cells slots Q (F0 m pc ls (.int x :: .int i :: va_rf r :: rest)) := by
  cases r with
  | none => exact h.elim
  | some a =>
    obtain ⟨n, ht, hin⟩ := warw_spec h.1
    have hat := hS.1.1 a _ ht
    obtain ⟨cell, h1, h2, h3, h4, h5, h6, h7⟩ := hat.arr (show 3 < 20 by decide)
    have hlt : i.toNatClampNeg < n := Nat.not_le.mp fun q => hin (Or.inr q)
    have hz : cell.slots.size = n := (h7 rfl).2.2.1
    refine W.cast C.hx C.hb h1 h2 h3 (by rw [hz]; exact hin) rfl rfl hdg fun H1 e1 e2 e3 => ?_
    refine kn (sI w a i.toNatClampNeg (vp_nar .char x)) H1 _ h.2 (hS.put ht rfl rfl rfl e2 e3 (fun q k hq => rfl) (fun q k hq => rfl) (fun q k hq => if_neg (fun z => hq z.1)) (fun q k hq => rfl) (fun q k hq => rfl) ?_)
    exact wat.seta hat (by decide) h1 (show H1[a]? = some (cell.setSlot i.toNatClampNeg (.int (vp_nar .char x))) from e1) hlt (fun j hj => by unfold wav; rw [if_pos (by decide), if_pos (by decide)]; exact congrArg Value.int (if_neg (fun z => hj z.2))) (by unfold wav; rw [if_pos (by decide)]; exact congrArg Value.int (if_pos ⟨rfl, rfl⟩))
theorem r_last (C : wC p l s m args meth c cc nL ret own mnm Z A) (hS : wS Z A s w H locs) {i : Int32} {x : Int64} {K : Wd → Prop} (h : wstL w r i x K) (hdg : decode cc pc = .ok (.lastore, 1))
    (kn : ∀ (w' : Wd) (H : Heap) (locs : List Loc), K w' → wS Z A s w' H locs → W p l e R s m args below meth c H locs cells slots Q (F0 m (pc + 1) ls rest)) : W p l e R s m args below meth c H locs cells slots Q (F0 m pc ls (.long x :: .int i :: va_rf r :: rest)) := by
  cases r with
  | none => exact h.elim
  | some a =>
    obtain ⟨n, ht, hin⟩ := warw_spec h.1
    have hat := hS.1.1 a _ ht
    obtain ⟨cell, h1, h2, h3, h4, h5, h6, h7⟩ := hat.arr (show 5 < 20 by decide)
    have hlt : i.toNatClampNeg < n := Nat.not_le.mp fun q => hin (Or.inr q)
    have hz : cell.slots.size = n := (h7 rfl).2.2.1
    refine W.last C.hx C.hb h1 h2 h3 (by rw [hz]; exact hin) rfl rfl hdg fun H1 e1 e2 e3 => ?_
    refine kn (sL w a i.toNatClampNeg x) H1 _ h.2 (hS.put ht rfl rfl rfl e2 e3 (fun q k hq => rfl) (fun q k hq => rfl) (fun q k hq => rfl) (fun q k hq => if_neg (fun z => hq z.1)) (fun q k hq => rfl) ?_)
    exact wat.seta hat (by decide) h1 (show H1[a]? = some (cell.setSlot i.toNatClampNeg (.long x)) from e1) hlt (fun j hj => by unfold wav; rw [if_neg (by decide), if_pos rfl, if_neg (by decide), if_pos rfl]; exact congrArg Value.long (if_neg (fun z => hj z.2))) (by unfold wav; rw [if_neg (by decide), if_pos rfl]; exact congrArg Value.long (if_pos ⟨rfl, rfl⟩))
end WR
