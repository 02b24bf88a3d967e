/-! ===== contracts over typed worlds; calls ===== -/
/-- a method's start: these arguments, this world -/
def wPc (l : Launch) (Z : wZ) (av : List Value) (w : Wd) : Array Value → State → Prop := fun v U => v = av.toArray ∧ wP Z (wA w) U w U.heap ∧ (wz w = U.heap.size ∧ wk w = Z.2.2) ∧ va_K Z.1 wcl (wtys Z) U ∧ wKS Z (wA w) U U.heap ∧ l.stackTraces = false
/-- its end: an answer and a world behind it -/
def wQc (Z : wZ) (A : Nat → Prop) (post : Option Value → Wd → Prop) : Array Value → State → Outcome → State → Prop := fun _ st oc t => (∃ (v : Option Value) (w : Wd), oc = .returned v ∧ post v w ∧ wP Z A t w t.heap ∧ wz w = t.heap.size ∧ wk w = Z.2.2) ∧ va_F A st t
def pI (k : Int32 → Wd → Prop) : Option Value → Wd → Prop := fun v w => ∃ x : Int32, v = some (.int x) ∧ k x w
def pL (k : Int64 → Wd → Prop) : Option Value → Wd → Prop := fun v w => ∃ x : Int64, v = some (.long x) ∧ k x w
def pR (k : Option Nat → Wd → Prop) : Option Value → Wd → Prop := fun v w => ∃ x : Option Nat, v = some (va_rf x) ∧ k x w
def pV (k : Wd → Prop) : Option Value → Wd → Prop := fun v w => v = none ∧ k w
def wMet (l : Launch) (Z : wZ) (y : MethodName) (b : ByteArray) (L : Nat) (rt : Option FieldType) (fr lo mc ms : Nat) (av : List Value) (w : Wd) (post : Option Value → Wd → Prop) : Prop :=
  Met l y (ws_ y b L rt) ({ frames := fr, cells := mc, slots := ms, locals := lo } : Room) (wPc l Z av w) (wQc Z (wA w) post) mc ms (wA w)
theorem wPc_blind {l : Launch} {Z : wZ} {av : List Value} {w : Wd} : FrameBlind (wPc l Z av w) := by
  intro a U g mk h
  obtain ⟨h1, h2, h3, h4, h5, h6⟩ := h
  exact ⟨h1, wP.moved (u := U) (U := U.calling g mk a) (Vm.Alike.refl U.vm) h2, h3, va_K.moved (u := U) (U := U.calling g mk a) (Vm.Alike.refl U.vm) h4, h5.call, h6⟩
/-- few values of the stack are small enough for a call's room -/
theorem wcat : ∀ (k : Nat) (rest : List Value), rest.length ≤ k → (rest.map fun v => v.category).sum ≤ 2 * k
  | k, [], _ => Nat.zero_le _
  | 0, v :: rest, h => absurd h (by simp)
  | k + 1, v :: rest, h => by
    have h1 := wcat k rest (Nat.le_of_succ_le_succ h)
    have h2 := lv_cat v
    simp only [List.map_cons, List.sum_cons]
    omega
theorem wcat4 {rest : List Value} (h : rest.length ≤ 4) : (rest.map fun v => v.category).sum ≤ 8 := wcat 4 rest h
section WCALL
variable {p : Program} {l : Launch} {e : Env} {R : Room} {s : State} {m : MethodId} {args : Array Value} {below : List Frame} {meth : Method} {c : Code} {H : Heap} {locs : List Loc} {cells slots : Nat} {Q : State → Prop}
variable {cc : ByteArray} {pc nL : Nat} {ls : Array Slot} {rest st0 : List Value} {Z : wZ} {A : Nat → Prop} {w : Wd} {r : Option Nat} {ret : Option FieldType} {own mnm : String}
theorem wS.sub (C : wC p l s m args meth c cc nL ret own mnm Z A) (hS : wS Z A s w H locs) : ∀ q, wA w q → A q := by
  intro q h
  rcases h with ⟨c, n, h⟩ | h
  · exact hS.1.2 q c n h
  · exact C.hA q (Nat.le_trans hS.2.2.1 (by rw [← hS.2.1.1]; exact h))
/-- the world at a callee's start -/
theorem wS.pre (C : wC p l s m args meth c cc nL ret own mnm Z A) (hS : wS Z A s w H locs) {av : List Value} {U : State} (hU : U.heap = H) (hW : s.WarmedH U.vm) : wPc l Z av w av.toArray U := by
  refine ⟨rfl, ?_, ?_, va_K.moved hW.alike C.hK, ?_, C.hfl⟩
  · rw [hU]
    exact ⟨fun q t ht => (hS.1.1 q t ht).moved hW.alike, fun q c n ht => Or.inl ⟨c, n, ht⟩⟩
  · rw [hU]; exact hS.2.1
  · rw [hU]
    exact ((C.hKS.kept (fun a h1 h2 => hS.2.2.2.1 a h1 h2)).warm hW).narrow (hS.sub C)
/-- behind a call -/
theorem wv_after (C : wC p l s m args meth c cc nL ret own mnm Z A) (hS : wS Z A s w H locs) {mc ms : Nat} {post : Option Value → Wd → Prop} {a : Array Value} (hr : va_Run p l e R s m args below meth c H locs cells slots mc ms (F0 m pc ls st0) rest (wQc Z (wA w) post a) (wA w))
    (kk : ∀ (v : Option Value) (w' : Wd) (H : Heap) (locs : List Loc), post v w' → wS Z A s w' H locs → W p l e R s m args below meth c H locs (cells + mc) (slots + ms) Q (F0 m (pc + 3) ls (v.toList ++ rest))) : W p l e R s m args below meth c H locs cells slots Q (F0 m pc ls st0) := by
  intro T hT X
  obtain ⟨v, st₀, t, T', L, h0, X', hL, e1, e2, ⟨⟨v', w', hv, hp, hP, hz, hk⟩, hF⟩, st⟩ := hr T hT X
  cases hv
  have hsub := hS.sub C
  rw [va_F, h0] at hF
  have hal : t.vm.Alike s.vm := by rw [← e2]; exact X'.warmed.alike.symm
  obtain ⟨t2, a1, b1⟩ := kk v w' T'.heap (locs ++ L) hp
    ⟨⟨fun q tt ht => by rw [e1]; exact (hP.1 q tt ht).moved hal, fun q c n ht => hsub q (hP.2 q c n ht)⟩, ⟨by rw [e1]; exact hz, hk⟩,
      ⟨Nat.le_trans hS.2.2.1 (by rw [e1]; exact hF.1), fun q h1 h2 => by rw [e1, hF.2 q (Nat.lt_of_lt_of_le h1 hS.2.2.1) (fun z => h2 (hsub q z))]; exact hS.2.2.2.1 q h1 h2, fun q hq => by
        rcases List.mem_append.mp hq with h | h
        · exact hS.2.2.2.2 q h
        · exact hsub _ (hL q h)⟩⟩ T' rfl X'
  exact ⟨t2, st t2 a1, b1⟩
/-- a receiver's cell -/
theorem wS.recv (C : wC p l s m args meth c cc nL ret own mnm Z A) (hS : wS Z A s w H locs) {b t : Nat} {cl : String} (hob : wob w b [t]) (h20 : 20 ≤ t) (hr : (wcl[t - 20]?).map (·.1) = some cl) : ∃ cell : Cell, H[b]? = some cell ∧ cell.vm.isStatics = false ∧ s.vm.findClass cl = some cell.cls := by
  obtain ⟨ty, ht, hc⟩ := wob_spec hob
  have hty : ty.1 = t := List.mem_singleton.mp hc
  obtain ⟨cell, r, hr', h1, h2, h3, h4, h5, h6⟩ := (hS.1.1 b ty ht).obj (by omega)
  rw [hty] at hr' h4
  rw [hr'] at hr
  have hcl : r.1 = cl := Option.some.inj hr
  subst hcl
  exact ⟨cell, h1, h2, by rw [h4]; exact (C.hK.1 _ _ hr').2.1⟩
theorem wC.fix (C : wC p l s m args meth c cc nL ret own mnm Z A) : CallFix p m c cc nL s args lw_all own := ⟨C.hx, C.hb, C.ml, C.ow, C.hts⟩
variable {y : MethodName} {bytes : ByteArray} {maxL fr lo mc ms idx b : Nat} {rt : Option FieldType} {As : List Value} {post : Option Value → Wd → Prop}
theorem r_V (C : wC p l s m args meth c cc nL ret own mnm Z A) (hS : wS Z A s w H locs) (hM : wMet l Z y bytes maxL rt fr lo mc ms (.ref b :: As) w post) (n t : Nat) (hob : wob w b [t]) (ht : 20 ≤ t ∧ (wcl[t - 20]?).map (·.1) = some y.cls) (hG : GoodIn lw_all (wsV own idx y.cls y (ws_ y bytes maxL rt)))
    (hd : y.cls = y.cls ∧ y.cls ≠ "java/lang/invoke/MethodHandle" ∧ y.cls ≠ "java/lang/invoke/VarHandle" ∧ (parseMethodDescriptor y.desc).map (fun d => d.parameters.length) = some n) (hR : fr + 1 ≤ R.frames ∧ 8 + (maxL + 11) + lo ≤ R.locals)
    (hn : As.length = n) (hl : ls.size = nL) (hst : st0 = As.reverse ++ .ref b :: rest) (hW : (rest.map fun v => v.category).sum ≤ 8) (hdg : decode cc pc = .ok (.invokevirtual idx, 3)) (hf : cells + mc ≤ R.cells ∧ slots + ms ≤ R.slots)
    (kk : ∀ (v : Option Value) (w' : Wd) (H : Heap) (locs : List Loc), post v w' → wS Z A s w' H locs → W p l e R s m args below meth c H locs (cells + mc) (slots + ms) Q (F0 m (pc + 3) ls (v.toList ++ rest))) : W p l e R s m args below meth c H locs cells slots Q (F0 m pc ls st0) :=
  wv_after C hS (va_runV C.fix hM (cwV n C.hts hG rfl rfl rfl hd hR) ⟨wPc_blind, hS.recv C hob ht.1 ht.2, fun U hU hW => hS.pre C hU hW⟩ rfl hn hl hst (lv_room hW) hdg hf) kk
theorem r_S (C : wC p l s m args meth c cc nL ret own mnm Z A) (hS : wS Z A s w H locs) (hM : wMet l Z y bytes maxL rt fr lo mc ms As w post) (n : Nat) (hG : GoodIn lw_all (va_wsS own idx y (ws_ y bytes maxL rt)))
    (hd : y.cls ≠ "java/lang/invoke/MethodHandle" ∧ y.cls ≠ "java/lang/invoke/VarHandle" ∧ (parseMethodDescriptor y.desc).map (fun d => d.parameters.length) = some n) (hR : fr + 1 ≤ R.frames ∧ 8 + (maxL + 11) + lo ≤ R.locals)
    (hn : As.length = n) (hl : ls.size = nL) (hst : st0 = As.reverse ++ rest) (hW : (rest.map fun v => v.category).sum ≤ 8) (hdg : decode cc pc = .ok (.invokestatic idx, 3)) (hf : cells + mc ≤ R.cells ∧ slots + ms ≤ R.slots)
    (kk : ∀ (v : Option Value) (w' : Wd) (H : Heap) (locs : List Loc), post v w' → wS Z A s w' H locs → W p l e R s m args below meth c H locs (cells + mc) (slots + ms) Q (F0 m (pc + 3) ls (v.toList ++ rest))) : W p l e R s m args below meth c H locs cells slots Q (F0 m pc ls st0) :=
  wv_after C hS (va_runS C.fix hM (va_cwS n C.hts hG rfl rfl rfl hd hR) ⟨wPc_blind, fun U hU hW => hS.pre C hU hW⟩ rfl hn hl hst (lv_room hW) hdg hf) kk
theorem r_SN (C : wC p l s m args meth c cc nL ret own mnm Z A) (hS : wS Z A s w H locs) (hM : wMet l Z y bytes maxL rt fr lo mc ms As w post) (n : Nat) {host : String} (hnw : Cond.methodLinkNest own idx y host ∈ wNx) (hcode : Cond.code y bytes maxL rt ∈ lw_all) (hini : Cond.initialized y.cls ∈ lw_all) (hstat : Cond.static y ∈ lw_all)
    (hd : y.cls ≠ "java/lang/invoke/MethodHandle" ∧ y.cls ≠ "java/lang/invoke/VarHandle" ∧ (parseMethodDescriptor y.desc).map (fun d => d.parameters.length) = some n) (hR : fr + 1 ≤ R.frames ∧ 8 + (maxL + 11) + lo ≤ R.locals)
    (hn : As.length = n) (hl : ls.size = nL) (hst : st0 = As.reverse ++ rest) (hW : (rest.map fun v => v.category).sum ≤ 8) (hdg : decode cc pc = .ok (.invokestatic idx, 3)) (hf : cells + mc ≤ R.cells ∧ slots + ms ≤ R.slots)
    (kk : ∀ (v : Option Value) (w' : Wd) (H : Heap) (locs : List Loc), post v w' → wS Z A s w' H locs → W p l e R s m args below meth c H locs (cells + mc) (slots + ms) Q (F0 m (pc + 3) ls (v.toList ++ rest))) : W p l e R s m args below meth c H locs cells slots Q (F0 m pc ls st0) :=
  wv_after C hS (va_runSN C.fix hM ⟨va_cnB n C.hts (lw_meth hcode) rfl rfl rfl (C.hKS.2.1 _ hnw) (C.hts _ hini) hd hR, C.hts _ hstat, trivial⟩ ⟨wPc_blind, fun U hU hW => hS.pre C hU hW⟩ rfl hn hl hst (lv_room hW) hdg hf) kk
theorem r_I (C : wC p l s m args meth c cc nL ret own mnm Z A) (hS : wS Z A s w H locs) (hM : wMet l Z y bytes maxL none fr lo mc ms (.ref b :: As) w post) (n : Nat) (hcode : Cond.code y bytes maxL none ∈ lw_all) (hini : Cond.initialized y.cls ∈ lw_all) (hlk : Cond.methodLink own idx y ∈ lw_all) (hin : Cond.instanceMethod y ∈ lw_all)
    (hy1 : y.name = "<init>") (hd : y.cls ≠ "java/lang/invoke/MethodHandle" ∧ y.cls ≠ "java/lang/invoke/VarHandle" ∧ (parseMethodDescriptor y.desc).map (fun d => d.parameters.length) = some n) (hR : fr + 1 ≤ R.frames ∧ 8 + (maxL + 11) + lo ≤ R.locals)
    (hn : As.length = n) (hl : ls.size = nL) (hst : st0 = As.reverse ++ .ref b :: rest) (hW : (rest.map fun v => v.category).sum ≤ 8) (hdg : decode cc pc = .ok (.invokespecial idx, 3)) (hf : cells + mc ≤ R.cells ∧ slots + ms ≤ R.slots)
    (kk : ∀ (v : Option Value) (w' : Wd) (H : Heap) (locs : List Loc), post v w' → wS Z A s w' H locs → W p l e R s m args below meth c H locs (cells + mc) (slots + ms) Q (F0 m (pc + 3) ls (v.toList ++ rest))) : W p l e R s m args below meth c H locs cells slots Q (F0 m pc ls st0) :=
  wv_after C hS (va_runI C.fix hM (cwI n C.hts (lw_meth hcode) rfl rfl rfl (C.hts _ hini) (C.hts _ hlk) (C.hts _ hin) hy1 hd hR) ⟨wPc_blind, fun U hU hW => hS.pre C hU hW⟩ rfl hn hl hst (lv_room hW) hdg hf) kk
theorem r_IN (C : wC p l s m args meth c cc nL ret own mnm Z A) (hS : wS Z A s w H locs) (hM : wMet l Z y bytes maxL none fr lo mc ms (.ref b :: As) w post) (n : Nat) {host : String} (hnw : Cond.methodLinkNest own idx y host ∈ wNx) (hcode : Cond.code y bytes maxL none ∈ lw_all) (hini : Cond.initialized y.cls ∈ lw_all) (hin : Cond.instanceMethod y ∈ lw_all)
    (hy1 : y.name = "<init>") (hd : y.cls ≠ "java/lang/invoke/MethodHandle" ∧ y.cls ≠ "java/lang/invoke/VarHandle" ∧ (parseMethodDescriptor y.desc).map (fun d => d.parameters.length) = some n) (hR : fr + 1 ≤ R.frames ∧ 8 + (maxL + 11) + lo ≤ R.locals)
    (hn : As.length = n) (hl : ls.size = nL) (hst : st0 = As.reverse ++ .ref b :: rest) (hW : (rest.map fun v => v.category).sum ≤ 8) (hdg : decode cc pc = .ok (.invokespecial idx, 3)) (hf : cells + mc ≤ R.cells ∧ slots + ms ≤ R.slots)
    (kk : ∀ (v : Option Value) (w' : Wd) (H : Heap) (locs : List Loc), post v w' → wS Z A s w' H locs → W p l e R s m args below meth c H locs (cells + mc) (slots + ms) Q (F0 m (pc + 3) ls (v.toList ++ rest))) : W p l e R s m args below meth c H locs cells slots Q (F0 m pc ls st0) :=
  wv_after C hS (va_runIN C.fix hM ⟨va_cnB n C.hts (lw_meth hcode) rfl rfl rfl (C.hKS.2.1 _ hnw) (C.hts _ hini) hd hR, hy1, C.hts _ hin⟩ ⟨wPc_blind, fun U hU hW => hS.pre C hU hW⟩ rfl hn hl hst (lv_room hW) hdg hf) kk
/-- an overriding method, on a receiver of a known class -/
theorem r_O (C : wC p l s m args meth c cc nL ret own mnm Z A) (hS : wS Z A s w H locs) (hM : wMet l Z y bytes maxL rt fr lo mc ms (.ref b :: As) w post) (n t : Nat) {x : MethodName} {cl owner : String} (hob : wob w b [t]) (ht : 20 ≤ t ∧ (wcl[t - 20]?).map (·.1) = some cl) (hG : GoodIn lw_all (va_wsO own idx cl owner x y (ws_ y bytes maxL rt)))
    {b0 : ByteArray} {m0 : Nat} {r0 : Option FieldType} (h0 : Cond.code ⟨owner, x.name, x.desc⟩ b0 m0 r0 ∈ lw_all)
    (hd : owner ≠ "java/lang/invoke/MethodHandle" ∧ owner ≠ "java/lang/invoke/VarHandle" ∧ (parseMethodDescriptor x.desc).map (fun d => d.parameters.length) = some n) (hR : fr + 1 ≤ R.frames ∧ 8 + (maxL + 11) + lo ≤ R.locals)
    (hn : As.length = n) (hl : ls.size = nL) (hst : st0 = As.reverse ++ .ref b :: rest) (hW : (rest.map fun v => v.category).sum ≤ 8) (hdg : decode cc pc = .ok (.invokevirtual idx, 3)) (hf : cells + mc ≤ R.cells ∧ slots + ms ≤ R.slots)
    (kk : ∀ (v : Option Value) (w' : Wd) (H : Heap) (locs : List Loc), post v w' → wS Z A s w' H locs → W p l e R s m args below meth c H locs (cells + mc) (slots + ms) Q (F0 m (pc + 3) ls (v.toList ++ rest))) : W p l e R s m args below meth c H locs cells slots Q (F0 m pc ls st0) :=
  wv_after C hS (va_runU C.fix hM (va_cwO n C.hts hG rfl rfl rfl h0 hd hR) ⟨wPc_blind, hS.recv C hob ht.1 ht.2, fun U hU hW => hS.pre C hU hW⟩ rfl hn hl hst (lv_room hW) hdg hf) kk
/-- super.m(..), on a receiver of a known class -/
theorem r_SU (C : wC p l s m args meth c cc nL ret own mnm Z A) (hS : wS Z A s w H locs) (hM : wMet l Z y bytes maxL rt fr lo mc ms (.ref b :: As) w post) (n : Nat) {cs : List Nat} (hob : wob w b cs) (ht : ∀ t ∈ cs, 20 ≤ t) (hG : GoodIn lw_all (va_wsSU own idx y (ws_ y bytes maxL rt)))
    (hd : y.name ≠ "<init>" ∧ (parseMethodDescriptor y.desc).map (fun d => d.parameters.length) = some n) (hR : fr + 1 ≤ R.frames ∧ 8 + (maxL + 11) + lo ≤ R.locals)
    (hn : As.length = n) (hl : ls.size = nL) (hst : st0 = As.reverse ++ .ref b :: rest) (hW : (rest.map fun v => v.category).sum ≤ 8) (hdg : decode cc pc = .ok (.invokespecial idx, 3)) (hf : cells + mc ≤ R.cells ∧ slots + ms ≤ R.slots)
    (kk : ∀ (v : Option Value) (w' : Wd) (H : Heap) (locs : List Loc), post v w' → wS Z A s w' H locs → W p l e R s m args below meth c H locs (cells + mc) (slots + ms) Q (F0 m (pc + 3) ls (v.toList ++ rest))) : W p l e R s m args below meth c H locs cells slots Q (F0 m pc ls st0) := by
  obtain ⟨ty, hty, hc⟩ := wob_spec hob
  obtain ⟨cell, r, hr', h1, h2, h3, h4, h5, h6⟩ := (hS.1.1 b ty hty).obj (ht _ hc)
  exact wv_after C hS (va_runSU (C := r.1) (C.hK.1 _ _ hr').2 C.fix hM (va_cwSU n C.hts hG rfl rfl rfl hd hR) ⟨wPc_blind, ⟨cell, h1, h2, by rw [h4]; exact (C.hK.1 _ _ hr').2.1⟩, fun U hU hW => hS.pre C hU hW⟩ rfl hn hl hst (lv_room hW) hdg hf) kk
/-- Object.<init> -/
theorem r_O0 (C : wC p l s m args meth c cc nL ret own mnm Z A) (hl : ls.size = nL) (h1 : Cond.methodLink own idx objectInit ∈ lw_all) (h2 : Cond.instanceMethod objectInit ∈ lw_all) (h3 : Cond.code objectInit ⟨#[0xb1]⟩ 1 none ∈ lw_all) (hdg : decode cc pc = .ok (.invokespecial idx, 3)) (hfr : 1 ≤ R.frames) (hlo : 20 ≤ R.locals) (hW : (rest.map fun v => v.category).sum ≤ 8)
    (kk : W p l e R s m args below meth c H locs cells slots Q (F0 m (pc + 3) ls rest)) : W p l e R s m args below meth c H locs cells slots Q (F0 m pc ls (.ref b :: rest)) :=
  W.objInit C.hx C.hb C.ow (C.hts _ h1) (C.hts _ h2) (C.hts _ h3) rfl (hl.trans C.ml.symm) rfl hdg hfr (by show 2 * 0 + (rest.map fun v => v.category).sum + 12 ≤ R.locals; omega) kk
/-! ends -/
theorem wMQ (C : wC p l s m args meth c cc nL ret own mnm Z A) (hS : wS Z A s w H locs) {post : Option Value → Wd → Prop} {v : Option Value} (h : post v w) : ∀ t : State, t.heap = H → s.WarmedH t.vm → wQc Z A post args s (.returned v) t := fun t ht hW =>
  ⟨⟨v, w, rfl, h, by rw [ht]; exact hS.1.moved hW.alike, by rw [ht]; exact hS.2.1.1, hS.2.1.2⟩, hS.2.2.F ht⟩
theorem r_iret (C : wC p l s m args meth c cc nL ret own mnm Z A) (hS : wS Z A s w H locs) {ty : FieldType} {x : Int32} {k : Int32 → Wd → Prop} {mc ms : Nat} (h : k x w) (hr : ret = some ty) (hn : narrow ty (.int x) = .int x) (hc : cells ≤ mc) (hs : slots ≤ ms) (hdg : decode cc pc = .ok (.ireturn, 1)) : W p l e R s m args below meth c H locs cells slots (MQ below (wQc Z A (pI k)) args s mc ms A) (F0 m pc ls [.int x]) :=
  W.widen hc hs (W.zret (hlocks := C.lk) C.hx C.hb (C.hr.trans hr) hn (wMQ C hS ⟨x, rfl, h⟩) hS.2.2.2.2 hdg)
theorem r_lret (C : wC p l s m args meth c cc nL ret own mnm Z A) (hS : wS Z A s w H locs) {x : Int64} {k : Int64 → Wd → Prop} {mc ms : Nat} (h : k x w) (hr : ret = some .long) (hc : cells ≤ mc) (hs : slots ≤ ms) (hdg : decode cc pc = .ok (.lreturn, 1)) : W p l e R s m args below meth c H locs cells slots (MQ below (wQc Z A (pL k)) args s mc ms A) (F0 m pc ls [.long x]) :=
  W.widen hc hs (W.lret (hlocks := C.lk) C.hx C.hb (C.hr.trans hr) (wMQ C hS ⟨x, rfl, h⟩) hS.2.2.2.2 hdg)
theorem r_vret (C : wC p l s m args meth c cc nL ret own mnm Z A) (hS : wS Z A s w H locs) {k : Wd → Prop} {mc ms : Nat} (h : k w) (hr : ret = none) (hc : cells ≤ mc) (hs : slots ≤ ms) (hdg : decode cc pc = .ok (.return_, 1)) : W p l e R s m args below meth c H locs cells slots (MQ below (wQc Z A (pV k)) args s mc ms A) (F0 m pc ls []) :=
  W.widen hc hs (W.vret (hlocks := C.lk) C.hx C.hb (C.hr.trans hr) (wMQ C hS ⟨rfl, h⟩) hS.2.2.2.2 hdg)
theorem r_aret (C : wC p l s m args meth c cc nL ret own mnm Z A) (hS : wS Z A s w H locs) {x : Option Nat} {k : Option Nat → Wd → Prop} {ty : FieldType} {mc ms : Nat} (h : k x w) (hr : ret = some ty) (hty : (∃ n, ty = .object n) ∨ ∃ t, ty = .array t) (hc : cells ≤ mc) (hs : slots ≤ ms) (hdg : decode cc pc = .ok (.areturn, 1)) : W p l e R s m args below meth c H locs cells slots (MQ below (wQc Z A (pR k)) args s mc ms A) (F0 m pc ls [va_rf x]) :=
  W.widen hc hs (W.aret (hlocks := C.lk) C.hx C.hb (C.hr.trans hr) hty (va_rf_or x) (wMQ C hS ⟨x, rfl, h⟩) hS.2.2.2.2 hdg)
/-- a contract out of a walk from the entry -/
theorem wM_of {l : Launch} {Z : wZ} {y : MethodName} {cc : ByteArray} {maxL fr lo mc ms : Nat} {rt : Option FieldType} {av : List Value} {w : Wd} {post : Option Value → Wd → Prop} (hy : plainFor y = true) (hlen : (lg_sl av).length ≤ maxL)
    (body : ∀ (p : Program) (e : Env) (s : State) (m : MethodId) (below : List Frame) (meth : Method) (c : Code) (ls : Array Slot), wC p l s m av.toArray meth c cc maxL rt y.cls y.name Z (wA w) → wS Z (wA w) s w s.heap [] → lv_has ls maxL (lv_args 0 av) →
      W p l e ({ frames := fr, cells := mc, slots := ms, locals := lo } : Room) s m av.toArray below meth c s.heap [] 0 0 (MQ below (wQc Z (wA w) post) av.toArray s mc ms (wA w)) (F0 m 0 ls [])) : wMet l Z y cc maxL rt fr lo mc ms av w post := by
  refine va_MetF (cc := cc) (maxL := maxL) (ret := rt) hy rfl ?_
  intro p e s m args below meth c s₁ B hml hv
  obtain ⟨rfl, hP, hz, hK, hKS, hfl⟩ := hv
  have hts := atoms_spec (ws := ws_ y cc maxL rt) B.pre
  have hl := lv_entry av (n := maxL) hlen
  rw [lg_entry_eq]
  generalize (lg_sl av ++ List.replicate (maxL - (lg_sl av).length) Slot.unset).toArray = ls at hl ⊢
  exact body p e s m below meth c ls ⟨B.exec, B.bytes, hml, findClass_of_methodNamed B.named, fun w h => hts w (List.mem_cons_of_mem _ h), B.returns, B.notSynchronized, (name_of_methodNamed B.named B.method).1, hK, fun q h => Or.inr (by rw [hz.1]; exact h), hKS, hfl⟩ ⟨hP, hz, va_S.rf⟩ hl
end WCALL
/-- words of a call that may be overridden -/
theorem lw_O {own : String} {idx : Nat} {cl owner : String} {x y : MethodName} {b : ByteArray} {L : Nat} {r : Option FieldType} (h1 : Cond.methodLink own idx x ∈ lw_all) (h2 : Cond.sameMethod x.cls owner x.name x.desc ∈ lw_all) (h3 : Cond.instanceMethod ⟨owner, x.name, x.desc⟩ ∈ lw_all) (h4 : Cond.selects cl x y ∈ lw_all) (h5 : Cond.instanceMethod y ∈ lw_all) (h6 : Cond.initialized y.cls ∈ lw_all) (h7 : Cond.code y b L r ∈ lw_all) : GoodIn lw_all (va_wsO own idx cl owner x y (ws_ y b L r)) := by
  refine lw_app ?_ (lw_meth h7)
  intro w hw
  simp only [List.mem_cons, List.not_mem_nil, or_false] at hw
  rcases hw with e | e | e | e | e | e
  · rw [e]; exact h1
  · rw [e]; exact h2
  · rw [e]; exact h3
  · rw [e]; exact h4
  · rw [e]; exact h5
  · rw [e]; exact h6
theorem lw_SU {own : String} {idx : Nat} {y : MethodName} {b : ByteArray} {L : Nat} {r : Option FieldType} (h1 : Cond.methodLink own idx y ∈ lw_all) (h2 : Cond.sameMethod y.cls y.cls y.name y.desc ∈ lw_all) (h3 : Cond.superclass own y.cls ∈ lw_all) (h4 : Cond.instanceMethod y ∈ lw_all) (h5 : Cond.initialized y.cls ∈ lw_all) (h6 : Cond.code y b L r ∈ lw_all) : GoodIn lw_all (va_wsSU own idx y (ws_ y b L r)) := by
  refine lw_app ?_ (lw_meth h6)
  intro w hw
  simp only [List.mem_cons, List.not_mem_nil, or_false] at hw
  rcases hw with e | e | e | e | e
  · rw [e]; exact h1
  · rw [e]; exact h2
  · rw [e]; exact h3
  · rw [e]; exact h4
  · rw [e]; exact h5
