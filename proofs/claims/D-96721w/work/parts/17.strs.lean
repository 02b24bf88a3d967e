/-! ===== String constants, COMPACT_STRINGS ===== -/
section WSTR
variable {p : Program} {l : Launch} {e : Env} {R : Room} {s : State} {m : MethodId} {args : Array Value} {below : List Frame} {meth : Method} {c : Code} {H : Heap} {locs : List Loc} {cells slots : Nat} {Q : State → Prop}
variable {cc : ByteArray} {pc nL : Nat} {ls : Array Slot} {rest st0 : List Value} {Z : wZ} {A : Nat → Prop} {w : Wd} {r : Option Nat} {ret : Option FieldType} {own mnm : String}
theorem r_getsCS (C : wC p l s m args meth c cc nL ret own mnm Z A) (hS : wS Z A s w H locs) {idx : Nat} (hl : Cond.fieldLink own idx "java/lang/String" "COMPACT_STRINGS" "Z" ∈ lw_all) (hdg : decode cc pc = .ok (.getstatic idx, 3))
    (kn : W p l e R s m args below meth c H locs cells slots Q (F0 m (pc + 3) ls (.int 1 :: rest))) : W p l e R s m args below meth c H locs cells slots Q (F0 m pc ls rest) :=
  va_gets C.hx C.hb C.hKS.1.2.2.2.2.2.2.1 hS.2.2 C.ow (C.hts _ hl) (fun _ h => h) hdg kn
theorem r_ldcS (C : wC p l s m args meth c cc nL ret "LeftIsAgreedOn$Reader" mnm Z A) (hS : wS Z A s w H locs) {idx k : Nat} {tx : String} (hm : (idx, tx, k) ∈ wSt) (hdg : decode cc pc = .ok (.ldc idx, 2))
    (kn : W p l e R s m args below meth c H locs cells slots Q (F0 m (pc + 2) ls (va_rf (wk w k) :: rest))) : W p l e R s m args below meth c H locs cells slots Q (F0 m pc ls rest) := by
  obtain ⟨q, h1, h2⟩ := C.hKS.1.2.2.2.2.2.2.2.1 _ hm
  rw [hS.2.1.2, h1] at kn
  exact va_ldcS C.hx C.hb C.ow h2 hdg kn
end WSTR
section WPRIV
variable {p : Program} {l : Launch} {e : Env} {R : Room} {s : State} {m : MethodId} {args : Array Value} {below : List Frame} {meth : Method} {c : Code} {H : Heap} {locs : List Loc} {cells slots : Nat} {Q : State → Prop}
variable {cc : ByteArray} {pc nL : Nat} {ls : Array Slot} {rest st0 : List Value} {Z : wZ} {A : Nat → Prop} {w : Wd} {r : Option Nat} {ret : Option FieldType} {own mnm : String}
variable {y : MethodName} {bytes : ByteArray} {maxL fr lo mc ms idx b : Nat} {rt : Option FieldType} {As : List Value} {post : Option Value → Wd → Prop}
theorem wPr_sub : ∀ w ∈ wPr, w ∈ wNx := by decide +kernel
theorem wC.fixP (C : wC p l s m args meth c cc nL ret own mnm Z A) : CallFix p m c cc nL s args (wPr ++ lw_all) own := ⟨C.hx, C.hb, C.ml, C.ow, fun w hw => (List.mem_append.mp hw).elim (fun h => va_Nw.use (wNx_tabs w (wPr_sub w h)) (C.hKS.2.1 w (wPr_sub w h))) (C.hts w)⟩
/-- a private method of the receiver's superclass -/
theorem r_OP (C : wC p l s m args meth c cc nL ret own mnm Z A) (hS : wS Z A s w H locs) (hM : wMet l Z y bytes maxL rt fr lo mc ms (.ref b :: As) w post) (n t : Nat) {x : MethodName} {cl owner : String} (hob : wob w b [t]) (ht : 20 ≤ t ∧ (wcl[t - 20]?).map (·.1) = some cl) (hG : GoodIn (wPr ++ lw_all) (va_wsO own idx cl owner x y (ws_ y bytes maxL rt)))
    {b0 : ByteArray} {m0 : Nat} {r0 : Option FieldType} (h0 : Cond.code ⟨owner, x.name, x.desc⟩ b0 m0 r0 ∈ lw_all)
    (hd : owner ≠ "java/lang/invoke/MethodHandle" ∧ owner ≠ "java/lang/invoke/VarHandle" ∧ (parseMethodDescriptor x.desc).map (fun d => d.parameters.length) = some n) (hR : fr + 1 ≤ R.frames ∧ 8 + (maxL + 11) + lo ≤ R.locals)
    (hn : As.length = n) (hl : ls.size = nL) (hst : st0 = As.reverse ++ .ref b :: rest) (hW : (rest.map fun v => v.category).sum ≤ 8) (hdg : decode cc pc = .ok (.invokevirtual idx, 3)) (hf : cells + mc ≤ R.cells ∧ slots + ms ≤ R.slots)
    (kk : ∀ (v : Option Value) (w' : Wd) (H : Heap) (locs : List Loc), post v w' → wS Z A s w' H locs → W p l e R s m args below meth c H locs (cells + mc) (slots + ms) Q (F0 m (pc + 3) ls (v.toList ++ rest))) : W p l e R s m args below meth c H locs cells slots Q (F0 m pc ls st0) :=
  wv_after C hS (va_runU C.fixP hM (va_cwO n C.fixP.2.2.2.2 hG rfl rfl rfl (List.mem_append_right _ h0) hd hR) ⟨wPc_blind, hS.recv C hob ht.1 ht.2, fun U hU hW => hS.pre C hU hW⟩ rfl hn hl hst (lv_room hW) hdg hf) kk
theorem lw_OP {own : String} {idx : Nat} {cl owner : String} {x y : MethodName} {b : ByteArray} {L : Nat} {r : Option FieldType} (h1 : Cond.methodLink own idx x ∈ lw_all) (h2 : Cond.sameMethod x.cls owner x.name x.desc ∈ lw_all) (h3 : Cond.instanceMethod ⟨owner, x.name, x.desc⟩ ∈ lw_all) (h4 : Cond.selects cl x y ∈ wPr) (h5 : Cond.instanceMethod y ∈ lw_all) (h6 : Cond.initialized y.cls ∈ lw_all) (h7 : Cond.code y b L r ∈ lw_all) : GoodIn (wPr ++ lw_all) (va_wsO own idx cl owner x y (ws_ y b L r)) := by
  have g : GoodIn (wPr ++ lw_all) lw_all := fun w h => ⟨List.mem_append_right _ h, (lw_self w h).2⟩
  intro w hw
  rcases List.mem_append.mp hw with hw | hw
  · simp only [List.mem_cons, List.not_mem_nil, or_false] at hw
    rcases hw with e | e | e | e | e | e
    · rw [e]; exact g _ h1
    · rw [e]; exact g _ h2
    · rw [e]; exact g _ h3
    · rw [e]; exact ⟨List.mem_append_left _ h4, good_of_word ((show ∀ w ∈ wPr, goodWord w = true by decide +kernel) _ h4)⟩
    · rw [e]; exact g _ h5
    · rw [e]; exact g _ h6
  · exact g _ ((lw_meth h7) w hw).1
end WPRIV
section WCLONE
variable {p : Program} {l : Launch} {e : Env} {R : Room} {s : State} {m : MethodId} {args : Array Value} {below : List Frame} {meth : Method} {c : Code} {H : Heap} {locs : List Loc} {cells slots : Nat} {Q : State → Prop}
variable {cc : ByteArray} {pc nL : Nat} {ls : Array Slot} {rest st0 : List Value} {Z : wZ} {A : Nat → Prop} {w : Wd} {r : Option Nat} {ret : Option FieldType} {own mnm : String}
/-- an array of bytes cloned -/
def wcln (w : Wd) (r : Option Nat) (NB : Nat) (K : Nat → Wd → Prop) : Prop := match r with
  | none => False
  | some a => match wT w a with
    | none => False
    | some t => t.1 = 1 ∧ t.2.2 = true ∧ t.2.1 ≤ NB ∧ (∀ j, j < t.2.1 → fits .byte (.int (wI w a j)) = true) ∧ K (wz w) (sIc (nw w (1, t.2.1, true)) (wz w) (fun j => wI w a j))
theorem wS.new' {w' : Wd} {H1 : Heap} {c n : Nat} (h : wS Z A s w H locs) (hA : ∀ q, s.heap.size ≤ q → A q) (hT : ∀ q, wT w' q = if q = H.size then some (c, n, true) else wT w q) (hz' : wz w' = H.size + 1) (hk' : wk w' = wk w)
    (hF : ∀ q k, q ≠ H.size → wF w' q k = wF w q k) (hG : ∀ q k, q ≠ H.size → wG w' q k = wG w q k) (hI : ∀ q k, q ≠ H.size → wI w' q k = wI w q k) (hL : ∀ q k, q ≠ H.size → wL w' q k = wL w q k) (hQ : ∀ q k, q ≠ H.size → wQ w' q k = wQ w q k)
    (e2 : H1.size = H.size + 1) (e3 : ∀ q : Nat, q < H.size → H1[q]? = H[q]?) (hat : wat Z s w' H1 H.size (c, n, true)) : wS Z A s w' H1 locs := by
  obtain ⟨hP, ⟨hz, hk⟩, hS⟩ := h
  refine ⟨⟨fun q t hq => ?_, fun q c2 n2 hq => ?_⟩, ⟨by rw [hz', e2], hk'.trans hk⟩, ⟨Nat.le_trans hS.1 (by omega), fun q h1 h2 => (e3 q (Nat.lt_of_lt_of_le h1 hS.1)).trans (hS.2.1 q h1 h2), hS.2.2⟩⟩
  · rw [hT] at hq
    by_cases hqa : q = H.size
    · rw [if_pos hqa] at hq
      cases hq
      rw [hqa]
      exact hat
    · rw [if_neg hqa] at hq
      have hlt := (hP.1 q t hq).lt
      exact (hP.1 q t hq).kept (e3 q hlt) (fun k => hF q k hqa) (fun k => hG q k hqa) (fun k => hI q k hqa) (fun k => hL q k hqa) (fun k => hQ q k hqa)
  · rw [hT] at hq
    by_cases hqa : q = H.size
    · rw [hqa]
      exact hA _ hS.1
    · rw [if_neg hqa] at hq
      exact hP.2 q c2 n2 hq
theorem r_clone (C : wC p l s m args meth c cc nL ret own mnm Z A) (hS : wS Z A s w H locs) {NB idx : Nat} {K : Nat → Wd → Prop} (h : wcln w r NB K) (h1 : Cond.methodLink own idx ⟨"[B", "clone", "()Ljava/lang/Object;"⟩ ∈ lw_all) (h2 : Cond.sameMethod "[B" "java/lang/Object" "clone" "()Ljava/lang/Object;" ∈ lw_all)
    (h3 : Cond.native ⟨"java/lang/Object", "clone", "()Ljava/lang/Object;"⟩ ∈ lw_all) (h4 : Cond.instanceMethod ⟨"java/lang/Object", "clone", "()Ljava/lang/Object;"⟩ ∈ lw_all) (h5 : Cond.selects "[B" ⟨"[B", "clone", "()Ljava/lang/Object;"⟩ ⟨"java/lang/Object", "clone", "()Ljava/lang/Object;"⟩ ∈ lw_all)
    (hl : ls.size = nL) (hR : 1 ≤ R.frames ∧ 22 ≤ R.locals) (hW : (rest.map fun v => v.category).sum ≤ 8) (hc : cells + 1 ≤ R.cells) (hs : slots + NB ≤ R.slots) (hdg : decode cc pc = .ok (.invokevirtual idx, 3))
    (kn : ∀ (q : Nat) (w' : Wd) (H : Heap), K q w' → wS Z A s w' H locs → W p l e R s m args below meth c H locs (cells + 1) (slots + NB) Q (F0 m (pc + 3) ls (.ref q :: rest))) : W p l e R s m args below meth c H locs cells slots Q (F0 m pc ls (va_rf r :: rest)) := by
  unfold wcln at h
  split at h
  · exact h.elim
  · rename_i a
    split at h
    · exact h.elim
    · rename_i t ht
      obtain ⟨t9, n, b⟩ := t
      obtain ⟨e1, e2, hn, hfit, hK⟩ := h
      dsimp only at e1 e2 hn hfit hK
      subst e1; subst e2
      obtain ⟨cell, a1, a2, a3, a4, a5, a6, a7⟩ := (hS.1.1 a _ ht).arr (show 1 < 20 by decide)
      have ed := (a7 rfl).2.2.2
      dsimp only at ed a1 a2
      rw [ed] at a1
      have hA9 := C.hK.2 1 (Z.2.1 1, .byte) rfl
      have hcl := C.hKS.2.1 (.castable "[B" "java/lang/Cloneable") (by decide +kernel)
      obtain ⟨c0, t0', f1, f2, f3⟩ := Cond.castable_spec (va_Nw.use (A := args) rfl hcl)
      cases (va_nm_byte hA9.2).symm.trans f1
      obtain ⟨-, kS, hkS, compS, hkindS⟩ := hA9.1 0 (fun _ => .null)
      intro T hT X
      obtain ⟨-, kA, hkA, comp, hkind⟩ := State.isArrayOf_alike X.warmed.alike (hA9.1 0 (fun _ => .null))
      obtain ⟨vm', X', st⟩ := X.cloneArray C.hx C.ow (C.hts _ h1) (C.hts _ h2) (C.hts _ h3) (C.hts _ h4) (C.hts _ h5) (a := a) (cell := arrV (Z.2.1 1) n (fun j => wav w a 1 j)) (by rw [hT]; exact a1) (fun k h => by cases h) (fun h => by cases h) (va_nm_byte hA9.2) f2 f3
        (fun i v hv => by
          have hk' : T.vm.classes[Z.2.1 1]? = some kA := hkA
          have h9 := va_fit (cA := Z.2.1 1) (n := n) (F := fun j => wav w a 1 j) (ty := .byte) (fun i hi => hfit i hi) i v hv
          show T.fitsSlot (Z.2.1 1) .none i v = true
          simpa [State.fitsSlot, State.slotType?, hk', hkind] using h9)
        (g := F0 m pc ls (.ref a :: rest)) rfl (hl.trans C.ml.symm) rfl (by rw [C.hb]; exact hdg) hR.1 (by show 2 * 0 + _ + 14 ≤ _; omega) hc (by rw [arrV_size]; omega) (hloader := Vm.clonesLoader_of_array hkS hkindS)
      rw [arrV_size] at X'
      have X'' := stand_widen X' (Nat.le_refl (cells + 1)) (show slots + n ≤ slots + NB by omega)
      have hHT : T.heap = H := hT
      generalize hH1 : H.push (arrV (Z.2.1 1) n (fun j => wav w a 1 j)) = H1
      have z1 : H1.size = H.size + 1 := by rw [← hH1, Array.size_push]
      have o1 : ∀ q : Nat, q < H.size → H1[q]? = H[q]? := fun q hq => by rw [← hH1, Array.getElem?_push, if_neg (Nat.ne_of_lt hq)]
      have g1 : H1[H.size]? = some (arrV (Z.2.1 1) n (fun j => wav w a 1 j)) := by rw [← hH1, Array.getElem?_push_size]
      have hzw : wz w = H.size := hS.2.1.1
      obtain ⟨t2, b1, b2⟩ := kn (wz w) _ H1 hK (hS.new' C.hA (fun q => by rw [← hzw]; rfl) (by show wz w + 1 = _; rw [hzw]) rfl
        (fun q k hq => if_neg (fun z => hq (z.trans hzw))) (fun q k hq => if_neg (fun z => hq (z.trans hzw))) (fun q k hq => by
          have hq' : ¬ q = wz w := fun z => hq (z.trans hzw)
          show (if q = wz w then _ else up0 (wI w) (wz w) 0 q k) = _
          rw [if_neg hq']
          exact if_neg hq') (fun q k hq => if_neg (fun z => hq (z.trans hzw))) (fun q k hq => if_neg (fun z => hq (z.trans hzw))) z1 o1 (by
          have hv : (fun j => wav (sIc (nw w (1, n, true)) (wz w) (fun j => wI w a j)) H.size 1 j) = fun j => wav w a 1 j := by
            funext j
            show Value.int (if H.size = wz w then _ else _) = _
            rw [if_pos hzw.symm]
            rfl
          unfold wat
          rw [if_pos (show 1 < 20 by decide)]
          refine ⟨_, g1, hA9.1 n _, (fun z => by cases z), by rw [arrV_size]; exact Nat.le_refl _, by rw [arrV_size], fun j hj => ?_, fun _ => ⟨rfl, rfl, arrV_size _ _ _, ?_⟩⟩
          · rw [arrV_read _ _ hj]
            exact congrArg some (congrFun hv j).symm
          · show arrV (Z.2.1 1) n _ = arrV (Z.2.1 1) n _
            rw [hv])) ((T.setVm vm').pushCell (arrV (Z.2.1 1) n (fun j => wav w a 1 j))) (by rw [← hH1, ← hT]; rfl) X''
      refine ⟨t2, st t2 ?_, b2⟩
      rw [hzw, ← hT] at b1
      exact b1
end WCLONE
