/-! ===== further rows over typed worlds ===== -/
theorem va_rf_cat (r : Option Nat) : (va_rf r).category = 1 := by cases r <;> rfl
theorem va_cat_i (x : Int32) : (Value.int x).category = 1 := rfl
theorem va_cat_l (x : Int64) : (Value.long x).category = 2 := rfl
theorem va_cat_r (x : Nat) : (Value.ref x).category = 1 := rfl
def aok (cs : List Nat) (nm : String) : Bool := cs.all fun t => match wcl[t - 20]? with
  | some r => decide (20 ≤ t) && (decide (r.1 = nm) || decide (Cond.castable r.1 nm ∈ wNx))
  | none => false
theorem aok_spec {cs : List Nat} {nm : String} (h : aok cs nm = true) : ∀ t ∈ cs, 20 ≤ t ∧ ∀ r : vw_C, wcl[t - 20]? = some r → r.1 = nm ∨ Cond.castable r.1 nm ∈ wNx := by
  intro t ht
  have h1 := List.all_eq_true.mp h t ht
  split at h1
  · rename_i r hr
    simp only [Bool.and_eq_true, Bool.or_eq_true, decide_eq_true_eq] at h1
    refine ⟨h1.1, fun r' hr' => ?_⟩
    cases hr.symm.trans hr'
    exact h1.2
  · cases h1
theorem wnn_spec {α : Type} {r : Option α} {K : α → Prop} (h : wnn r K) : ∃ a, r = some a ∧ K a := by
  cases r with
  | none => exact h.elim
  | some a => exact ⟨a, rfl, h⟩
/-- the loops' fuel -/
def FU : Nat := 1000
section WO
variable {p : Program} {l : Launch} {e : Env} {R : Room} {s : State} {m : MethodId} {args : Array Value} {below : List Frame} {meth : Method} {c : Code} {H : Heap} {locs : List Loc} {cells slots : Nat} {Q : State → Prop}
variable {cc : ByteArray} {pc nL : Nat} {ls : Array Slot} {rest st0 : List Value} {Z : wZ} {A : Nat → Prop} {w : Wd} {r : Option Nat} {ret : Option FieldType} {own mnm : String}
theorem r_aload_n (hexec : p.tables.exec = Jvm.exec) (hb : c.code = cc) {k : Fin 4} {i : Nat} (hdg : decode cc pc = .ok (.aload_n k, 1)) (hi : (k : Nat) = i) (hl : ls[i]? = some (.val (va_rf r)))
    (kk : W p l e R s m args below meth c H locs cells slots Q (F0 m (pc + 1) ls (va_rf r :: rest))) : W p l e R s m args below meth c H locs cells slots Q (F0 m pc ls rest) := by
  cases r with
  | none => exact lv_aload_nN hexec hb hdg hi hl kk
  | some a => exact lv_aload_n hexec hb hdg hi hl kk
theorem r_aload (hexec : p.tables.exec = Jvm.exec) (hb : c.code = cc) {i : Nat} (hdg : decode cc pc = .ok (.aload i, 2)) (hl : ls[i]? = some (.val (va_rf r)))
    (kk : W p l e R s m args below meth c H locs cells slots Q (F0 m (pc + 2) ls (va_rf r :: rest))) : W p l e R s m args below meth c H locs cells slots Q (F0 m pc ls rest) := by
  cases r with
  | none => exact lv_aloadN hexec hb hdg hl kk
  | some a => exact lv_aload hexec hb hdg hl kk
theorem r_astore_n (hexec : p.tables.exec = Jvm.exec) (hb : c.code = cc) {k : Fin 4} {i nL : Nat} {lv lv' : List (Nat × Value)} (hdg : decode cc pc = .ok (.astore_n k, 1)) (hi : (k : Nat) = i) (h : lv_has ls nL lv) (hn : i < nL) (hl : (i, va_rf r) :: lv.filter (fun q => !(q.1 == i) && !(q.1 + 1 == i && q.2.category == 2)) = lv')
    (kk : ∀ ls' : Array Slot, lv_has ls' nL lv' → W p l e R s m args below meth c H locs cells slots Q (F0 m (pc + 1) ls' rest)) : W p l e R s m args below meth c H locs cells slots Q (F0 m pc ls (va_rf r :: rest)) := by
  cases r with
  | none => exact lv_astore_nN hexec hb hdg hi h hn hl kk
  | some a => exact lv_astore_n hexec hb hdg hi h hn hl kk
theorem r_astore (hexec : p.tables.exec = Jvm.exec) (hb : c.code = cc) {i nL : Nat} {lv lv' : List (Nat × Value)} (hdg : decode cc pc = .ok (.astore i, 2)) (h : lv_has ls nL lv) (hn : i < nL) (hl : (i, va_rf r) :: lv.filter (fun q => !(q.1 == i) && !(q.1 + 1 == i && q.2.category == 2)) = lv')
    (kk : ∀ ls' : Array Slot, lv_has ls' nL lv' → W p l e R s m args below meth c H locs cells slots Q (F0 m (pc + 2) ls' rest)) : W p l e R s m args below meth c H locs cells slots Q (F0 m pc ls (va_rf r :: rest)) := by
  cases r with
  | none => exact lv_astoreN hexec hb hdg h hn hl kk
  | some a => exact lv_astore hexec hb hdg h hn hl kk
theorem r_if_eq (hexec : p.tables.exec = Jvm.exec) (hb : c.code = cc) {x : Int32} {off : Int} {tgt : Nat} {X Y : Prop} (h : if x = 0 then X else Y) (hdg : decode cc pc = .ok (.ifCond .eq off, 3)) (ht : (pc : Int) + off = (tgt : Int))
    (kt : X → W p l e R s m args below meth c H locs cells slots Q (F0 m tgt ls rest)) (kf : Y → W p l e R s m args below meth c H locs cells slots Q (F0 m (pc + 3) ls rest)) : W p l e R s m args below meth c H locs cells slots Q (F0 m pc ls (.int x :: rest)) :=
  lv_if_eq hexec hb hdg ht (fun q => kt (by rw [if_pos q] at h; exact h)) (fun q => kf (by rw [if_neg q] at h; exact h))
theorem r_icmp_eq (hexec : p.tables.exec = Jvm.exec) (hb : c.code = cc) {x y : Int32} {off : Int} {tgt : Nat} {X Y : Prop} (h : if x = y then X else Y) (hdg : decode cc pc = .ok (.if_icmp .eq off, 3)) (ht : (pc : Int) + off = (tgt : Int))
    (kt : X → W p l e R s m args below meth c H locs cells slots Q (F0 m tgt ls rest)) (kf : Y → W p l e R s m args below meth c H locs cells slots Q (F0 m (pc + 3) ls rest)) : W p l e R s m args below meth c H locs cells slots Q (F0 m pc ls (.int y :: .int x :: rest)) :=
  lv_icmp_eq hexec hb hdg ht (fun q => kt (by rw [if_pos q] at h; exact h)) (fun q => kf (by rw [if_neg q] at h; exact h))
theorem r_if_ne (hexec : p.tables.exec = Jvm.exec) (hb : c.code = cc) {x : Int32} {off : Int} {tgt : Nat} {X Y : Prop} (h : if x = 0 then X else Y) (hdg : decode cc pc = .ok (.ifCond .ne off, 3)) (ht : (pc : Int) + off = (tgt : Int))
    (kt : Y → W p l e R s m args below meth c H locs cells slots Q (F0 m tgt ls rest)) (kf : X → W p l e R s m args below meth c H locs cells slots Q (F0 m (pc + 3) ls rest)) : W p l e R s m args below meth c H locs cells slots Q (F0 m pc ls (.int x :: rest)) :=
  lv_if_ne hexec hb hdg ht (fun q => kt (by rw [if_neg q] at h; exact h)) (fun q => kf (by rw [if_pos q] at h; exact h))
theorem r_icmp_ne (hexec : p.tables.exec = Jvm.exec) (hb : c.code = cc) {x y : Int32} {off : Int} {tgt : Nat} {X Y : Prop} (h : if x = y then X else Y) (hdg : decode cc pc = .ok (.if_icmp .ne off, 3)) (ht : (pc : Int) + off = (tgt : Int))
    (kt : Y → W p l e R s m args below meth c H locs cells slots Q (F0 m tgt ls rest)) (kf : X → W p l e R s m args below meth c H locs cells slots Q (F0 m (pc + 3) ls rest)) : W p l e R s m args below meth c H locs cells slots Q (F0 m pc ls (.int y :: .int x :: rest)) :=
  lv_icmp_ne hexec hb hdg ht (fun q => kt (by rw [if_neg q] at h; exact h)) (fun q => kf (by rw [if_pos q] at h; exact h))
theorem r_if_lt (hexec : p.tables.exec = Jvm.exec) (hb : c.code = cc) {x : Int32} {off : Int} {tgt : Nat} {X Y : Prop} (h : if x < 0 then X else Y) (hdg : decode cc pc = .ok (.ifCond .lt off, 3)) (ht : (pc : Int) + off = (tgt : Int))
    (kt : X → W p l e R s m args below meth c H locs cells slots Q (F0 m tgt ls rest)) (kf : Y → W p l e R s m args below meth c H locs cells slots Q (F0 m (pc + 3) ls rest)) : W p l e R s m args below meth c H locs cells slots Q (F0 m pc ls (.int x :: rest)) :=
  lv_if_lt hexec hb hdg ht (fun q => kt (by rw [if_pos q] at h; exact h)) (fun q => kf (by rw [if_neg q] at h; exact h))
theorem r_icmp_lt (hexec : p.tables.exec = Jvm.exec) (hb : c.code = cc) {x y : Int32} {off : Int} {tgt : Nat} {X Y : Prop} (h : if x < y then X else Y) (hdg : decode cc pc = .ok (.if_icmp .lt off, 3)) (ht : (pc : Int) + off = (tgt : Int))
    (kt : X → W p l e R s m args below meth c H locs cells slots Q (F0 m tgt ls rest)) (kf : Y → W p l e R s m args below meth c H locs cells slots Q (F0 m (pc + 3) ls rest)) : W p l e R s m args below meth c H locs cells slots Q (F0 m pc ls (.int y :: .int x :: rest)) :=
  lv_icmp_lt hexec hb hdg ht (fun q => kt (by rw [if_pos q] at h; exact h)) (fun q => kf (by rw [if_neg q] at h; exact h))
theorem r_if_ge (hexec : p.tables.exec = Jvm.exec) (hb : c.code = cc) {x : Int32} {off : Int} {tgt : Nat} {X Y : Prop} (h : if 0 ≤ x then X else Y) (hdg : decode cc pc = .ok (.ifCond .ge off, 3)) (ht : (pc : Int) + off = (tgt : Int))
    (kt : X → W p l e R s m args below meth c H locs cells slots Q (F0 m tgt ls rest)) (kf : Y → W p l e R s m args below meth c H locs cells slots Q (F0 m (pc + 3) ls rest)) : W p l e R s m args below meth c H locs cells slots Q (F0 m pc ls (.int x :: rest)) :=
  lv_if_ge hexec hb hdg ht (fun q => kt (by rw [if_pos q] at h; exact h)) (fun q => kf (by rw [if_neg q] at h; exact h))
theorem r_icmp_ge (hexec : p.tables.exec = Jvm.exec) (hb : c.code = cc) {x y : Int32} {off : Int} {tgt : Nat} {X Y : Prop} (h : if y ≤ x then X else Y) (hdg : decode cc pc = .ok (.if_icmp .ge off, 3)) (ht : (pc : Int) + off = (tgt : Int))
    (kt : X → W p l e R s m args below meth c H locs cells slots Q (F0 m tgt ls rest)) (kf : Y → W p l e R s m args below meth c H locs cells slots Q (F0 m (pc + 3) ls rest)) : W p l e R s m args below meth c H locs cells slots Q (F0 m pc ls (.int y :: .int x :: rest)) :=
  lv_icmp_ge hexec hb hdg ht (fun q => kt (by rw [if_pos q] at h; exact h)) (fun q => kf (by rw [if_neg q] at h; exact h))
theorem r_if_gt (hexec : p.tables.exec = Jvm.exec) (hb : c.code = cc) {x : Int32} {off : Int} {tgt : Nat} {X Y : Prop} (h : if 0 < x then X else Y) (hdg : decode cc pc = .ok (.ifCond .gt off, 3)) (ht : (pc : Int) + off = (tgt : Int))
    (kt : X → W p l e R s m args below meth c H locs cells slots Q (F0 m tgt ls rest)) (kf : Y → W p l e R s m args below meth c H locs cells slots Q (F0 m (pc + 3) ls rest)) : W p l e R s m args below meth c H locs cells slots Q (F0 m pc ls (.int x :: rest)) :=
  lv_if_gt hexec hb hdg ht (fun q => kt (by rw [if_pos q] at h; exact h)) (fun q => kf (by rw [if_neg q] at h; exact h))
theorem r_icmp_gt (hexec : p.tables.exec = Jvm.exec) (hb : c.code = cc) {x y : Int32} {off : Int} {tgt : Nat} {X Y : Prop} (h : if y < x then X else Y) (hdg : decode cc pc = .ok (.if_icmp .gt off, 3)) (ht : (pc : Int) + off = (tgt : Int))
    (kt : X → W p l e R s m args below meth c H locs cells slots Q (F0 m tgt ls rest)) (kf : Y → W p l e R s m args below meth c H locs cells slots Q (F0 m (pc + 3) ls rest)) : W p l e R s m args below meth c H locs cells slots Q (F0 m pc ls (.int y :: .int x :: rest)) :=
  lv_icmp_gt hexec hb hdg ht (fun q => kt (by rw [if_pos q] at h; exact h)) (fun q => kf (by rw [if_neg q] at h; exact h))
theorem r_if_le (hexec : p.tables.exec = Jvm.exec) (hb : c.code = cc) {x : Int32} {off : Int} {tgt : Nat} {X Y : Prop} (h : if x ≤ 0 then X else Y) (hdg : decode cc pc = .ok (.ifCond .le off, 3)) (ht : (pc : Int) + off = (tgt : Int))
    (kt : X → W p l e R s m args below meth c H locs cells slots Q (F0 m tgt ls rest)) (kf : Y → W p l e R s m args below meth c H locs cells slots Q (F0 m (pc + 3) ls rest)) : W p l e R s m args below meth c H locs cells slots Q (F0 m pc ls (.int x :: rest)) :=
  lv_if_le hexec hb hdg ht (fun q => kt (by rw [if_pos q] at h; exact h)) (fun q => kf (by rw [if_neg q] at h; exact h))
theorem r_icmp_le (hexec : p.tables.exec = Jvm.exec) (hb : c.code = cc) {x y : Int32} {off : Int} {tgt : Nat} {X Y : Prop} (h : if x ≤ y then X else Y) (hdg : decode cc pc = .ok (.if_icmp .le off, 3)) (ht : (pc : Int) + off = (tgt : Int))
    (kt : X → W p l e R s m args below meth c H locs cells slots Q (F0 m tgt ls rest)) (kf : Y → W p l e R s m args below meth c H locs cells slots Q (F0 m (pc + 3) ls rest)) : W p l e R s m args below meth c H locs cells slots Q (F0 m pc ls (.int y :: .int x :: rest)) :=
  lv_icmp_le hexec hb hdg ht (fun q => kt (by rw [if_pos q] at h; exact h)) (fun q => kf (by rw [if_neg q] at h; exact h))
theorem r_acmp_eq (hexec : p.tables.exec = Jvm.exec) (hb : c.code = cc) {x y : Option Nat} {off : Int} {tgt : Nat} {X Y : Prop} (h : if x = y then X else Y) (hdg : decode cc pc = .ok (.if_acmp .eq off, 3)) (ht : (pc : Int) + off = (tgt : Int))
    (kt : X → W p l e R s m args below meth c H locs cells slots Q (F0 m tgt ls rest)) (kf : Y → W p l e R s m args below meth c H locs cells slots Q (F0 m (pc + 3) ls rest)) : W p l e R s m args below meth c H locs cells slots Q (F0 m pc ls (va_rf y :: va_rf x :: rest)) :=
  lv_acmp_eq hexec hb hdg ht (fun q => kt (by rw [if_pos q] at h; exact h)) (fun q => kf (by rw [if_neg q] at h; exact h))
theorem r_acmp_ne (hexec : p.tables.exec = Jvm.exec) (hb : c.code = cc) {x y : Option Nat} {off : Int} {tgt : Nat} {X Y : Prop} (h : if x = y then X else Y) (hdg : decode cc pc = .ok (.if_acmp .ne off, 3)) (ht : (pc : Int) + off = (tgt : Int))
    (kt : Y → W p l e R s m args below meth c H locs cells slots Q (F0 m tgt ls rest)) (kf : X → W p l e R s m args below meth c H locs cells slots Q (F0 m (pc + 3) ls rest)) : W p l e R s m args below meth c H locs cells slots Q (F0 m pc ls (va_rf y :: va_rf x :: rest)) :=
  lv_acmp_ne hexec hb hdg ht (fun q => kt (by rw [if_neg q] at h; exact h)) (fun q => kf (by rw [if_pos q] at h; exact h))
theorem r_ifnull (hexec : p.tables.exec = Jvm.exec) (hb : c.code = cc) {off : Int} {tgt : Nat} {X Y : Prop} (h : if r = none then X else Y) (hdg : decode cc pc = .ok (.ifnull off, 3)) (ht : (pc : Int) + off = (tgt : Int))
    (kt : X → W p l e R s m args below meth c H locs cells slots Q (F0 m tgt ls rest)) (kf : Y → W p l e R s m args below meth c H locs cells slots Q (F0 m (pc + 3) ls rest)) : W p l e R s m args below meth c H locs cells slots Q (F0 m pc ls (va_rf r :: rest)) := by
  cases r with
  | none => exact lv_ifnullN hexec hb hdg ht (kt (by rw [if_pos rfl] at h; exact h))
  | some a => exact lv_ifnull hexec hb hdg (kf (by rw [if_neg (fun q => by cases q)] at h; exact h))
theorem r_ifnonnull (hexec : p.tables.exec = Jvm.exec) (hb : c.code = cc) {off : Int} {tgt : Nat} {X Y : Prop} (h : if r = none then X else Y) (hdg : decode cc pc = .ok (.ifnonnull off, 3)) (ht : (pc : Int) + off = (tgt : Int))
    (kt : Y → W p l e R s m args below meth c H locs cells slots Q (F0 m tgt ls rest)) (kf : X → W p l e R s m args below meth c H locs cells slots Q (F0 m (pc + 3) ls rest)) : W p l e R s m args below meth c H locs cells slots Q (F0 m pc ls (va_rf r :: rest)) := by
  cases r with
  | none => exact lv_ifnonnullN hexec hb hdg (kf (by rw [if_pos rfl] at h; exact h))
  | some a => exact lv_ifnonnull hexec hb hdg ht (kt (by rw [if_neg (fun q => by cases q)] at h; exact h))
theorem r_getFs (C : wC p l s m args meth c cc nL ret own mnm Z A) (hS : wS Z A s w H locs) {cs : List Nat} {k kk idx : Nat} {K : Int32 → Prop} (h : wgF w r cs kk K) {ref decl name desc : String} (hg : gck cs k kk decl name desc false = true) (hl : Cond.fieldLink own idx ref name desc ∈ lw_all) (hsf : Cond.sameField ref decl name desc ∈ lw_all) (hdg : decode cc pc = .ok (.getfield idx, 3))
    (kn : ∀ v : Int32, K v → W p l e R s m args below meth c H locs cells slots Q (F0 m (pc + 3) ls (.int v :: rest))) : W p l e R s m args below meth c H locs cells slots Q (F0 m pc ls (va_rf r :: rest)) := by
  cases r with
  | none => exact h.elim
  | some a =>
    obtain ⟨t, ht, htc⟩ := wob_spec h.1
    obtain ⟨r, hr, h20, hk, e1, e2, e3, e4, e5⟩ := gck_spec hg htc
    obtain ⟨cell, r', hr', hc, -, hu, -, -, hs⟩ := (hS.1.1 a t ht).obj h20
    cases hr.symm.trans hr'
    obtain ⟨hSl, hfc, kC, hkC, hkind⟩ := C.hK.1 _ _ hr
    obtain ⟨cf, kf, fi, f, hi, hsl⟩ := hSl k hk
    have hst := (u_facts hfc hkC (u_lays C.hts (wcl_in _ _ hr) hk) hi).1
    rw [e1, e2, e3] at hi
    refine W.getf C.hx C.hb C.ow (C.hts _ hl) (u_same (C.hts _ hsf) _ hi) hst hc hu (v := .int (wF w a kk)) ?_ rfl rfl hdg (kn _ h.2)
    rw [hsl, hs k hk]
    unfold wfv
    rw [e4, e5]
    rfl
theorem r_alen (C : wC p l s m args meth c cc nL ret own mnm Z A) (hS : wS Z A s w H locs) {K : Int32 → Prop} (h : wln w r K) (hdg : decode cc pc = .ok (.arraylength, 1))
    (kn : ∀ v : Int32, K v → W p l e R s m args below meth c H locs cells slots Q (F0 m (pc + 1) ls (.int v :: rest))) : W p l e R s m args below meth c H locs cells slots Q (F0 m pc ls (va_rf r :: rest)) := by
  cases r with
  | none => exact h.elim
  | some a =>
    unfold wln at h
    dsimp only at h
    split at h
    · rename_i t ht
      obtain ⟨cell, h1, h2, h3, h4, h5, h6⟩ := (hS.1.1 a _ ht).arr h.1
      exact W.alen C.hx C.hb h1 h2 h5 rfl rfl hdg (kn _ h.2)
    · exact h.elim
theorem r_new (C : wC p l s m args meth c cc nL ret own mnm Z A) (hS : wS Z A s w H locs) {K : Nat → Wd → Prop} {t N idx : Nat} {cl : String} (h : wnew w t N K) (ci : Nat) (ht : t = 20 + ci) {N' : Nat} {T : u_T} (hr : wcl[ci]? = some (cl, T, N')) (hN : N = N') (hcl : (Cond.classLink own idx cl).before args s = true) (hinst : (Cond.instantiable cl N).before args s = true) (hini : (Cond.initialized cl).before args s = true) (hc : cells + 1 ≤ R.cells) (hs : slots + N ≤ R.slots) (hdg : decode cc pc = .ok (.new idx, 3))
    (kn : ∀ (q : Nat) (w' : Wd) (H : Heap), K q w' → wS Z A s w' H locs → W p l e R s m args below meth c H locs (cells + 1) (slots + N) Q (F0 m (pc + 3) ls (.ref q :: rest))) : W p l e R s m args below meth c H locs cells slots Q (F0 m pc ls rest) := by
  subst ht
  subst hN
  have hKn := C.hK.1 ci _ hr
  refine W.newcK C.hx C.hb C.ow hcl hinst hini rfl hdg hc hs hKn.2.1 rfl fun H1 kC hkC e1 z1 o1 => ?_
  have hz : wz w = H.size := hS.2.1.1
  have hK2 := h
  unfold wnew at hK2
  rw [hz] at hK2
  refine kn _ _ H1 hK2 (hS.new C.hA z1 o1 ?_)
  unfold wat
  rw [if_neg (by show ¬ 20 + ci < 20; omega)]
  have e9 : 20 + ci - 20 = ci := by omega
  show ∃ (cell : Cell) (r : vw_C), wcl[20 + ci - 20]? = some r ∧ _
  obtain ⟨cell, c1, c2, c3, c4⟩ := u_born (wclt ci) C.hts (wcl_in _ _ hr) hKn hkC e1 (wcl_ty _ _ hr)
  refine ⟨cell, _, (by rw [e9]; exact hr), c1, (by rw [c3]; rfl), (by rw [c3]; exact (fun q => by cases q)), (by rw [c2]; show _ = Z.1.1 (20 + ci - 20); rw [e9]), fun _ => c3, fun k hk => ?_⟩
  show cell.slots[Z.1.2 (20 + ci - 20) k]? = some (wfv _ _ (20 + ci - 20) k)
  rw [e9, c4 k hk]
  congr 1
  unfold wfv
  have f1 : wF (nw w (20 + ci, N, true)) H.size (wky ci k) = 0 := by rw [← hz]; exact if_pos rfl
  have f2 : wG (nw w (20 + ci, N, true)) H.size (wky ci k) = none := by rw [← hz]; exact if_pos rfl
  rw [f1, f2]
  have hrf : wrf ci k = wrt (some (wclt ci k)) := by
    have hty : parseFieldDescriptor (T k).2.2.1 = some (wclt ci k) := wcl_ty _ _ hr k hk
    unfold wrf
    rw [hr]
    show wrt (parseFieldDescriptor (T k).2.2.1) = _
    rw [hty]
  rw [hrf]
  show defaultValue (wclt ci k) = _
  have hbad : ∀ ty, wclt ci k = ty → ty = .int ∨ ty = .byte ∨ ty = .boolean ∨ ty.isReference = true := by
    intro ty hty9
    subst hty9
    exact wclt_ok ci _ hr k hk
  rcases hbad _ rfl with q | q | q | q
  · rw [q]; rfl
  · rw [q]; rfl
  · rw [q]; rfl
  · generalize wclt ci k = ty at q
    cases ty <;> first | rfl | cases q
theorem r_newa_0 (C : wC p l s m args meth c cc nL ret own mnm Z A) (hS : wS Z A s w H locs) {K : Nat → Wd → Prop} {n : Int32} {NB : Nat} (h : wna w 0 n NB K) (hq : Cond.arrayClass .int ∈ lw_all) (hnb : NB ≤ 65536) (hc : cells + 1 ≤ R.cells) (hs : slots + NB ≤ R.slots) (hdg : decode cc pc = .ok (.newarray .int, 2))
    (kn : ∀ (q : Nat) (w' : Wd) (H : Heap), K q w' → wS Z A s w' H locs → W p l e R s m args below meth c H locs (cells + 1) (slots + NB) Q (F0 m (pc + 2) ls (.ref q :: rest))) : W p l e R s m args below meth c H locs cells slots Q (F0 m pc ls (.int n :: rest)) := by
  obtain ⟨h0, h1, hK⟩ := h
  refine va_newaK (atype := .int) C.hx C.hb (C.hts _ hq) rfl hdg rfl h0 rfl (by simp only [newarray.typeOf, componentBytes]; omega) hc (by omega) hS.2.1.1.symm fun H1 cA e1 z1 o1 hAr hNm => ?_
  have hz : wz w = H.size := hS.2.1.1
  rw [hz] at e1 z1 o1
  refine W.widen (k := cells + 1) (n := slots + NB) (Nat.le_refl _) (by omega) ?_
  refine kn _ _ H1 hK (hS.new C.hA z1 o1 ?_)
  have hcA : cA = Z.2.1 0 := by
    have h9 := (C.hK.2 0 (Z.2.1 0, .int) rfl).2
    exact Option.some.inj (hNm.symm.trans h9)
  unfold wat
  rw [if_pos (show 0 < 20 by decide)]
  refine ⟨_, e1, hAr _ _, (fun q => by cases q), ?_, ?_, fun j hj => ?_, fun _ => ⟨rfl, hcA, ?_, ?_⟩⟩
  · rw [arrV_size]; exact Nat.le_refl _
  · rw [arrV_size]
    try rfl
  · rw [arrV_read _ _ hj]
    have f1 : wI (nw w (0, n.toNatClampNeg, true)) H.size j = 0 := by rw [← hz]; exact if_pos rfl
    unfold wav
    rw [f1]
    rfl
  · rw [arrV_size]
  · rw [hcA]
    congr 1
    funext j
    have f1 : wI (nw w (0, n.toNatClampNeg, true)) H.size j = 0 := by rw [← hz]; exact if_pos rfl
    unfold wav
    rw [f1]
    rfl
theorem r_newa_1 (C : wC p l s m args meth c cc nL ret own mnm Z A) (hS : wS Z A s w H locs) {K : Nat → Wd → Prop} {n : Int32} {NB : Nat} (h : wna w 1 n NB K) (hq : Cond.arrayClass .byte ∈ lw_all) (hnb : NB ≤ 65536) (hc : cells + 1 ≤ R.cells) (hs : slots + NB ≤ R.slots) (hdg : decode cc pc = .ok (.newarray .byte, 2))
    (kn : ∀ (q : Nat) (w' : Wd) (H : Heap), K q w' → wS Z A s w' H locs → W p l e R s m args below meth c H locs (cells + 1) (slots + NB) Q (F0 m (pc + 2) ls (.ref q :: rest))) : W p l e R s m args below meth c H locs cells slots Q (F0 m pc ls (.int n :: rest)) := by
  obtain ⟨h0, h1, hK⟩ := h
  refine va_newaK (atype := .byte) C.hx C.hb (C.hts _ hq) rfl hdg rfl h0 rfl (by simp only [newarray.typeOf, componentBytes]; omega) hc (by omega) hS.2.1.1.symm fun H1 cA e1 z1 o1 hAr hNm => ?_
  have hz : wz w = H.size := hS.2.1.1
  rw [hz] at e1 z1 o1
  refine W.widen (k := cells + 1) (n := slots + NB) (Nat.le_refl _) (by omega) ?_
  refine kn _ _ H1 hK (hS.new C.hA z1 o1 ?_)
  have hcA : cA = Z.2.1 1 := by
    have h9 := (C.hK.2 1 (Z.2.1 1, .byte) rfl).2
    exact Option.some.inj (hNm.symm.trans h9)
  unfold wat
  rw [if_pos (show 1 < 20 by decide)]
  refine ⟨_, e1, hAr _ _, (fun q => by cases q), ?_, ?_, fun j hj => ?_, fun _ => ⟨rfl, hcA, ?_, ?_⟩⟩
  · rw [arrV_size]; exact Nat.le_refl _
  · rw [arrV_size]
    try rfl
  · rw [arrV_read _ _ hj]
    have f1 : wI (nw w (1, n.toNatClampNeg, true)) H.size j = 0 := by rw [← hz]; exact if_pos rfl
    unfold wav
    rw [f1]
    rfl
  · rw [arrV_size]
  · rw [hcA]
    congr 1
    funext j
    have f1 : wI (nw w (1, n.toNatClampNeg, true)) H.size j = 0 := by rw [← hz]; exact if_pos rfl
    unfold wav
    rw [f1]
    rfl
theorem r_newa_2 (C : wC p l s m args meth c cc nL ret own mnm Z A) (hS : wS Z A s w H locs) {K : Nat → Wd → Prop} {n : Int32} {NB : Nat} (h : wna w 2 n NB K) (hq : Cond.arrayClass .short ∈ lw_all) (hnb : NB ≤ 65536) (hc : cells + 1 ≤ R.cells) (hs : slots + NB ≤ R.slots) (hdg : decode cc pc = .ok (.newarray .short, 2))
    (kn : ∀ (q : Nat) (w' : Wd) (H : Heap), K q w' → wS Z A s w' H locs → W p l e R s m args below meth c H locs (cells + 1) (slots + NB) Q (F0 m (pc + 2) ls (.ref q :: rest))) : W p l e R s m args below meth c H locs cells slots Q (F0 m pc ls (.int n :: rest)) := by
  obtain ⟨h0, h1, hK⟩ := h
  refine va_newaK (atype := .short) C.hx C.hb (C.hts _ hq) rfl hdg rfl h0 rfl (by simp only [newarray.typeOf, componentBytes]; omega) hc (by omega) hS.2.1.1.symm fun H1 cA e1 z1 o1 hAr hNm => ?_
  have hz : wz w = H.size := hS.2.1.1
  rw [hz] at e1 z1 o1
  refine W.widen (k := cells + 1) (n := slots + NB) (Nat.le_refl _) (by omega) ?_
  refine kn _ _ H1 hK (hS.new C.hA z1 o1 ?_)
  have hcA : cA = Z.2.1 2 := by
    have h9 := (C.hK.2 2 (Z.2.1 2, .short) rfl).2
    exact Option.some.inj (hNm.symm.trans h9)
  unfold wat
  rw [if_pos (show 2 < 20 by decide)]
  refine ⟨_, e1, hAr _ _, (fun q => by cases q), ?_, ?_, fun j hj => ?_, fun _ => ⟨rfl, hcA, ?_, ?_⟩⟩
  · rw [arrV_size]; exact Nat.le_refl _
  · rw [arrV_size]
    try rfl
  · rw [arrV_read _ _ hj]
    have f1 : wI (nw w (2, n.toNatClampNeg, true)) H.size j = 0 := by rw [← hz]; exact if_pos rfl
    unfold wav
    rw [f1]
    rfl
  · rw [arrV_size]
  · rw [hcA]
    congr 1
    funext j
    have f1 : wI (nw w (2, n.toNatClampNeg, true)) H.size j = 0 := by rw [← hz]; exact if_pos rfl
    unfold wav
    rw [f1]
    rfl
theorem r_newa_3 (C : wC p l s m args meth c cc nL ret own mnm Z A) (hS : wS Z A s w H locs) {K : Nat → Wd → Prop} {n : Int32} {NB : Nat} (h : wna w 3 n NB K) (hq : Cond.arrayClass .char ∈ lw_all) (hnb : NB ≤ 65536) (hc : cells + 1 ≤ R.cells) (hs : slots + NB ≤ R.slots) (hdg : decode cc pc = .ok (.newarray .char, 2))
    (kn : ∀ (q : Nat) (w' : Wd) (H : Heap), K q w' → wS Z A s w' H locs → W p l e R s m args below meth c H locs (cells + 1) (slots + NB) Q (F0 m (pc + 2) ls (.ref q :: rest))) : W p l e R s m args below meth c H locs cells slots Q (F0 m pc ls (.int n :: rest)) := by
  obtain ⟨h0, h1, hK⟩ := h
  refine va_newaK (atype := .char) C.hx C.hb (C.hts _ hq) rfl hdg rfl h0 rfl (by simp only [newarray.typeOf, componentBytes]; omega) hc (by omega) hS.2.1.1.symm fun H1 cA e1 z1 o1 hAr hNm => ?_
  have hz : wz w = H.size := hS.2.1.1
  rw [hz] at e1 z1 o1
  refine W.widen (k := cells + 1) (n := slots + NB) (Nat.le_refl _) (by omega) ?_
  refine kn _ _ H1 hK (hS.new C.hA z1 o1 ?_)
  have hcA : cA = Z.2.1 3 := by
    have h9 := (C.hK.2 3 (Z.2.1 3, .char) rfl).2
    exact Option.some.inj (hNm.symm.trans h9)
  unfold wat
  rw [if_pos (show 3 < 20 by decide)]
  refine ⟨_, e1, hAr _ _, (fun q => by cases q), ?_, ?_, fun j hj => ?_, fun _ => ⟨rfl, hcA, ?_, ?_⟩⟩
  · rw [arrV_size]; exact Nat.le_refl _
  · rw [arrV_size]
    try rfl
  · rw [arrV_read _ _ hj]
    have f1 : wI (nw w (3, n.toNatClampNeg, true)) H.size j = 0 := by rw [← hz]; exact if_pos rfl
    unfold wav
    rw [f1]
    rfl
  · rw [arrV_size]
  · rw [hcA]
    congr 1
    funext j
    have f1 : wI (nw w (3, n.toNatClampNeg, true)) H.size j = 0 := by rw [← hz]; exact if_pos rfl
    unfold wav
    rw [f1]
    rfl
theorem r_newa_4 (C : wC p l s m args meth c cc nL ret own mnm Z A) (hS : wS Z A s w H locs) {K : Nat → Wd → Prop} {n : Int32} {NB : Nat} (h : wna w 4 n NB K) (hq : Cond.arrayClass .boolean ∈ lw_all) (hnb : NB ≤ 65536) (hc : cells + 1 ≤ R.cells) (hs : slots + NB ≤ R.slots) (hdg : decode cc pc = .ok (.newarray .boolean, 2))
    (kn : ∀ (q : Nat) (w' : Wd) (H : Heap), K q w' → wS Z A s w' H locs → W p l e R s m args below meth c H locs (cells + 1) (slots + NB) Q (F0 m (pc + 2) ls (.ref q :: rest))) : W p l e R s m args below meth c H locs cells slots Q (F0 m pc ls (.int n :: rest)) := by
  obtain ⟨h0, h1, hK⟩ := h
  refine va_newaK (atype := .boolean) C.hx C.hb (C.hts _ hq) rfl hdg rfl h0 rfl (by simp only [newarray.typeOf, componentBytes]; omega) hc (by omega) hS.2.1.1.symm fun H1 cA e1 z1 o1 hAr hNm => ?_
  have hz : wz w = H.size := hS.2.1.1
  rw [hz] at e1 z1 o1
  refine W.widen (k := cells + 1) (n := slots + NB) (Nat.le_refl _) (by omega) ?_
  refine kn _ _ H1 hK (hS.new C.hA z1 o1 ?_)
  have hcA : cA = Z.2.1 4 := by
    have h9 := (C.hK.2 4 (Z.2.1 4, .boolean) rfl).2
    exact Option.some.inj (hNm.symm.trans h9)
  unfold wat
  rw [if_pos (show 4 < 20 by decide)]
  refine ⟨_, e1, hAr _ _, (fun q => by cases q), ?_, ?_, fun j hj => ?_, fun _ => ⟨rfl, hcA, ?_, ?_⟩⟩
  · rw [arrV_size]; exact Nat.le_refl _
  · rw [arrV_size]
    try rfl
  · rw [arrV_read _ _ hj]
    have f1 : wI (nw w (4, n.toNatClampNeg, true)) H.size j = 0 := by rw [← hz]; exact if_pos rfl
    unfold wav
    rw [f1]
    rfl
  · rw [arrV_size]
  · rw [hcA]
    congr 1
    funext j
    have f1 : wI (nw w (4, n.toNatClampNeg, true)) H.size j = 0 := by rw [← hz]; exact if_pos rfl
    unfold wav
    rw [f1]
    rfl
theorem r_newa_5 (C : wC p l s m args meth c cc nL ret own mnm Z A) (hS : wS Z A s w H locs) {K : Nat → Wd → Prop} {n : Int32} {NB : Nat} (h : wna w 5 n NB K) (hq : Cond.arrayClass .long ∈ lw_all) (hnb : NB ≤ 65536) (hc : cells + 1 ≤ R.cells) (hs : slots + NB ≤ R.slots) (hdg : decode cc pc = .ok (.newarray .long, 2))
    (kn : ∀ (q : Nat) (w' : Wd) (H : Heap), K q w' → wS Z A s w' H locs → W p l e R s m args below meth c H locs (cells + 1) (slots + NB) Q (F0 m (pc + 2) ls (.ref q :: rest))) : W p l e R s m args below meth c H locs cells slots Q (F0 m pc ls (.int n :: rest)) := by
  obtain ⟨h0, h1, hK⟩ := h
  refine va_newaK (atype := .long) C.hx C.hb (C.hts _ hq) rfl hdg rfl h0 rfl (by simp only [newarray.typeOf, componentBytes]; omega) hc (by omega) hS.2.1.1.symm fun H1 cA e1 z1 o1 hAr hNm => ?_
  have hz : wz w = H.size := hS.2.1.1
  rw [hz] at e1 z1 o1
  refine W.widen (k := cells + 1) (n := slots + NB) (Nat.le_refl _) (by omega) ?_
  refine kn _ _ H1 hK (hS.new C.hA z1 o1 ?_)
  have hcA : cA = Z.2.1 5 := by
    have h9 := (C.hK.2 5 (Z.2.1 5, .long) rfl).2
    exact Option.some.inj (hNm.symm.trans h9)
  unfold wat
  rw [if_pos (show 5 < 20 by decide)]
  refine ⟨_, e1, hAr _ _, (fun q => by cases q), ?_, ?_, fun j hj => ?_, fun _ => ⟨rfl, hcA, ?_, ?_⟩⟩
  · rw [arrV_size]; exact Nat.le_refl _
  · rw [arrV_size]
    try rfl
  · rw [arrV_read _ _ hj]
    have f1 : wL (nw w (5, n.toNatClampNeg, true)) H.size j = 0 := by rw [← hz]; exact if_pos rfl
    unfold wav
    rw [f1]
    rfl
  · rw [arrV_size]
  · rw [hcA]
    congr 1
    funext j
    have f1 : wL (nw w (5, n.toNatClampNeg, true)) H.size j = 0 := by rw [← hz]; exact if_pos rfl
    unfold wav
    rw [f1]
    rfl
theorem r_newq_6 (C : wC p l s m args meth c cc nL ret own mnm Z A) (hS : wS Z A s w H locs) {K : Nat → Wd → Prop} {n : Int32} {NB idx : Nat} (h : wna w 6 n NB K) (hcl : (Cond.classLink own idx "LeftIsAgreedOn$Voter").before args s = true) (hnb : NB ≤ 65536) (hc : cells + 1 ≤ R.cells) (hs : slots + NB ≤ R.slots) (hdg : decode cc pc = .ok (.anewarray idx, 3))
    (kn : ∀ (q : Nat) (w' : Wd) (H : Heap), K q w' → wS Z A s w' H locs → W p l e R s m args below meth c H locs (cells + 1) (slots + NB) Q (F0 m (pc + 3) ls (.ref q :: rest))) : W p l e R s m args below meth c H locs cells slots Q (F0 m pc ls (.int n :: rest)) := by
  obtain ⟨h0, h1, hK⟩ := h
  refine W.anew C.hx C.hb C.ow hcl (va_AO.use (C.hKS.2.2.1 _ (by decide))) rfl hdg rfl h0 (by omega) hc (by omega) fun cA kA comp f1 f2 f3 f4 => ?_
  have hz : wz w = H.size := hS.2.1.1
  have hAr : ArrOfT s cA (.object "LeftIsAgreedOn$Voter") := fun N z => ⟨(fun k h => by cases h), kA, f2, comp, f3⟩
  rw [arrV_new]
  refine W.widen (k := cells + 1) (n := slots + NB) (Nat.le_refl _) (by omega) ?_
  have hcA : cA = Z.2.1 6 := by
    obtain ⟨_, _, _, _, _, h9⟩ := (C.hK.2 6 (Z.2.1 6, .object "LeftIsAgreedOn$Voter") rfl).2
    exact Option.some.inj (f1.symm.trans h9)
  rw [← hz]
  refine kn _ _ _ hK (hS.new C.hA (by rw [Array.size_push]) (fun q hq => by rw [Array.getElem?_push, if_neg (Nat.ne_of_lt hq)]) ?_)
  unfold wat
  rw [if_pos (show 6 < 20 by decide)]
  refine ⟨_, Array.getElem?_push_size, hAr _ _, (fun q => by cases q), ?_, ?_, fun j hj => ?_, fun _ => ⟨rfl, hcA, ?_, ?_⟩⟩
  · rw [arrV_size]; exact Nat.le_refl _
  · rw [arrV_size]
    try rfl
  · rw [arrV_read _ _ hj]
    have f1 : wQ (nw w (6, n.toNatClampNeg, true)) H.size j = none := by rw [← hz]; exact if_pos rfl
    unfold wav
    rw [f1]
    rfl
  · rw [arrV_size]
  · rw [hcA]
    congr 1
    funext j
    have f1 : wQ (nw w (6, n.toNatClampNeg, true)) H.size j = none := by rw [← hz]; exact if_pos rfl
    unfold wav
    rw [f1]
    rfl
theorem r_aast6 (C : wC p l s m args meth c cc nL ret own mnm Z A) (hS : wS Z A s w H locs) {i : Int32} {cs : List Nat} {x : Option Nat} {K : Wd → Prop} (h : wstQ w r 6 cs i x K) (hcs : ∀ t ∈ cs, 20 ≤ t ∧ ∀ r : vw_C, wcl[t - 20]? = some r → r.1 = "LeftIsAgreedOn$Voter" ∨ Cond.castable r.1 "LeftIsAgreedOn$Voter" ∈ wNx) (hdg : decode cc pc = .ok (.aastore, 1))
    (kn : ∀ (w' : Wd) (H : Heap) (locs : List Loc), K w' → wS Z A s w' H locs → W p l e R s m args below meth c H locs cells slots Q (F0 m (pc + 1) ls rest)) : W p l e R s m args below meth c H locs cells slots Q (F0 m pc ls (va_rf x :: .int i :: va_rf r :: rest)) := by
  cases r with
  | none => exact h.elim
  | some a =>
    obtain ⟨hw, hob, hK⟩ := h
    obtain ⟨n, ht, hin⟩ := warw_spec hw
    have hat := hS.1.1 a _ ht
    obtain ⟨cell, h1, h2, h3, h4, h5, h6, h7⟩ := hat.arr (show 6 < 20 by decide)
    have hlt : i.toNatClampNeg < n := Nat.not_le.mp fun q => hin (Or.inr q)
    have hz : cell.slots.size = n := (h7 rfl).2.2.1
    have h0 : ¬ i < 0 := fun q => hin (Or.inl q)
    have fin : ∀ H1 : Heap, H1[a]? = some (cell.setSlot i.toNatClampNeg (va_rf x)) → H1.size = H.size → (∀ q, q ≠ a → H1[q]? = H[q]?) → W p l e R s m args below meth c H1 (locs ++ [⟨a, i.toNatClampNeg⟩]) cells slots Q (F0 m (pc + 1) ls rest) := by
      intro H1 e1 e2 e3
      refine kn (sQ w a i.toNatClampNeg x) H1 _ hK (hS.put ht rfl rfl rfl e2 e3 (fun q k hq => rfl) (fun q k hq => rfl) (fun q k hq => rfl) (fun q k hq => rfl) (fun q k hq => if_neg (fun z => hq z.1)) ?_)
      exact wat.seta hat (by decide) h1 e1 hlt (fun j hj => by unfold wav; rw [if_neg (by decide), if_neg (by decide), if_neg (by decide), if_neg (by decide)]; exact congrArg va_rf (if_neg (fun z => hj z.2))) (by unfold wav; rw [if_neg (by decide), if_neg (by decide)]; exact congrArg va_rf (if_pos ⟨rfl, rfl⟩))
    cases x with
    | none => exact va_WaastN (C := "LeftIsAgreedOn$Voter") C.hx C.hb h1 h2 h3 (by rw [hz]; exact hin) rfl rfl hdg fin
    | some b =>
      obtain ⟨ty, hty, htc⟩ := wob_spec (hob b rfl)
      obtain ⟨h20, hcl⟩ := hcs _ htc
      obtain ⟨cv, rv, hrv, g1, g2, g3, g4, g5, g6⟩ := (hS.1.1 b ty hty).obj h20
      obtain ⟨kA, comp, k1, k2, k3, -⟩ := (C.hK.2 6 (Z.2.1 6, .object "LeftIsAgreedOn$Voter") rfl).2
      obtain ⟨-, hfc, kC, hkC, hkind⟩ := C.hK.1 _ _ hrv
      have hcc : cell.cls = Z.2.1 6 := (h7 rfl).2.1
      have hvm : cell.vm = .none := (h7 rfl).1
      have hasg : s.vm.assignable cv.cls comp = true := by
        rw [g4]
        rcases hcl rv hrv with q | q
        · rw [q] at hfc
          cases hfc.symm.trans k3
          exact va_assign ⟨hfc, kC, hkC, hkind⟩
        · exact vb_asgC (C.hKS.2.1 _ q) _ _ k3 hfc
      obtain ⟨kcomp, hkcomp⟩ : ∃ kcomp, s.vm.classes[comp]? = some kcomp := by
        obtain ⟨ks, hks, -⟩ := Vm.findClass_spec k3
        exact ⟨ks, hks⟩
      exact W.aast C.hx C.hb h1 (fun q z => by rw [hvm] at z; cases z) h3 (by rw [hcc]; exact k1) k2 rfl hkcomp ⟨h0, by rw [hz]; exact hlt⟩ g1 (fun q z => by rw [z] at g2; cases g2) (by rw [g4]; exact hkC) hasg rfl rfl hdg fin
theorem r_newq_7 (C : wC p l s m args meth c cc nL ret own mnm Z A) (hS : wS Z A s w H locs) {K : Nat → Wd → Prop} {n : Int32} {NB idx : Nat} (h : wna w 7 n NB K) (hcl : (Cond.classLink own idx "LeftIsAgreedOn$Walk").before args s = true) (hnb : NB ≤ 65536) (hc : cells + 1 ≤ R.cells) (hs : slots + NB ≤ R.slots) (hdg : decode cc pc = .ok (.anewarray idx, 3))
    (kn : ∀ (q : Nat) (w' : Wd) (H : Heap), K q w' → wS Z A s w' H locs → W p l e R s m args below meth c H locs (cells + 1) (slots + NB) Q (F0 m (pc + 3) ls (.ref q :: rest))) : W p l e R s m args below meth c H locs cells slots Q (F0 m pc ls (.int n :: rest)) := by
  obtain ⟨h0, h1, hK⟩ := h
  refine W.anew C.hx C.hb C.ow hcl (va_AO.use (C.hKS.2.2.1 _ (by decide))) rfl hdg rfl h0 (by omega) hc (by omega) fun cA kA comp f1 f2 f3 f4 => ?_
  have hz : wz w = H.size := hS.2.1.1
  have hAr : ArrOfT s cA (.object "LeftIsAgreedOn$Walk") := fun N z => ⟨(fun k h => by cases h), kA, f2, comp, f3⟩
  rw [arrV_new]
  refine W.widen (k := cells + 1) (n := slots + NB) (Nat.le_refl _) (by omega) ?_
  have hcA : cA = Z.2.1 7 := by
    obtain ⟨_, _, _, _, _, h9⟩ := (C.hK.2 7 (Z.2.1 7, .object "LeftIsAgreedOn$Walk") rfl).2
    exact Option.some.inj (f1.symm.trans h9)
  rw [← hz]
  refine kn _ _ _ hK (hS.new C.hA (by rw [Array.size_push]) (fun q hq => by rw [Array.getElem?_push, if_neg (Nat.ne_of_lt hq)]) ?_)
  unfold wat
  rw [if_pos (show 7 < 20 by decide)]
  refine ⟨_, Array.getElem?_push_size, hAr _ _, (fun q => by cases q), ?_, ?_, fun j hj => ?_, fun _ => ⟨rfl, hcA, ?_, ?_⟩⟩
  · rw [arrV_size]; exact Nat.le_refl _
  · rw [arrV_size]
    try rfl
  · rw [arrV_read _ _ hj]
    have f1 : wQ (nw w (7, n.toNatClampNeg, true)) H.size j = none := by rw [← hz]; exact if_pos rfl
    unfold wav
    rw [f1]
    rfl
  · rw [arrV_size]
  · rw [hcA]
    congr 1
    funext j
    have f1 : wQ (nw w (7, n.toNatClampNeg, true)) H.size j = none := by rw [← hz]; exact if_pos rfl
    unfold wav
    rw [f1]
    rfl
theorem r_aast7 (C : wC p l s m args meth c cc nL ret own mnm Z A) (hS : wS Z A s w H locs) {i : Int32} {cs : List Nat} {x : Option Nat} {K : Wd → Prop} (h : wstQ w r 7 cs i x K) (hcs : ∀ t ∈ cs, 20 ≤ t ∧ ∀ r : vw_C, wcl[t - 20]? = some r → r.1 = "LeftIsAgreedOn$Walk" ∨ Cond.castable r.1 "LeftIsAgreedOn$Walk" ∈ wNx) (hdg : decode cc pc = .ok (.aastore, 1))
    (kn : ∀ (w' : Wd) (H : Heap) (locs : List Loc), K w' → wS Z A s w' H locs → W p l e R s m args below meth c H locs cells slots Q (F0 m (pc + 1) ls rest)) : W p l e R s m args below meth c H locs cells slots Q (F0 m pc ls (va_rf x :: .int i :: va_rf r :: rest)) := by
  cases r with
  | none => exact h.elim
  | some a =>
    obtain ⟨hw, hob, hK⟩ := h
    obtain ⟨n, ht, hin⟩ := warw_spec hw
    have hat := hS.1.1 a _ ht
    obtain ⟨cell, h1, h2, h3, h4, h5, h6, h7⟩ := hat.arr (show 7 < 20 by decide)
    have hlt : i.toNatClampNeg < n := Nat.not_le.mp fun q => hin (Or.inr q)
    have hz : cell.slots.size = n := (h7 rfl).2.2.1
    have h0 : ¬ i < 0 := fun q => hin (Or.inl q)
    have fin : ∀ H1 : Heap, H1[a]? = some (cell.setSlot i.toNatClampNeg (va_rf x)) → H1.size = H.size → (∀ q, q ≠ a → H1[q]? = H[q]?) → W p l e R s m args below meth c H1 (locs ++ [⟨a, i.toNatClampNeg⟩]) cells slots Q (F0 m (pc + 1) ls rest) := by
      intro H1 e1 e2 e3
      refine kn (sQ w a i.toNatClampNeg x) H1 _ hK (hS.put ht rfl rfl rfl e2 e3 (fun q k hq => rfl) (fun q k hq => rfl) (fun q k hq => rfl) (fun q k hq => rfl) (fun q k hq => if_neg (fun z => hq z.1)) ?_)
      exact wat.seta hat (by decide) h1 e1 hlt (fun j hj => by unfold wav; rw [if_neg (by decide), if_neg (by decide), if_neg (by decide), if_neg (by decide)]; exact congrArg va_rf (if_neg (fun z => hj z.2))) (by unfold wav; rw [if_neg (by decide), if_neg (by decide)]; exact congrArg va_rf (if_pos ⟨rfl, rfl⟩))
    cases x with
    | none => exact va_WaastN (C := "LeftIsAgreedOn$Walk") C.hx C.hb h1 h2 h3 (by rw [hz]; exact hin) rfl rfl hdg fin
    | some b =>
      obtain ⟨ty, hty, htc⟩ := wob_spec (hob b rfl)
      obtain ⟨h20, hcl⟩ := hcs _ htc
      obtain ⟨cv, rv, hrv, g1, g2, g3, g4, g5, g6⟩ := (hS.1.1 b ty hty).obj h20
      obtain ⟨kA, comp, k1, k2, k3, -⟩ := (C.hK.2 7 (Z.2.1 7, .object "LeftIsAgreedOn$Walk") rfl).2
      obtain ⟨-, hfc, kC, hkC, hkind⟩ := C.hK.1 _ _ hrv
      have hcc : cell.cls = Z.2.1 7 := (h7 rfl).2.1
      have hvm : cell.vm = .none := (h7 rfl).1
      have hasg : s.vm.assignable cv.cls comp = true := by
        rw [g4]
        rcases hcl rv hrv with q | q
        · rw [q] at hfc
          cases hfc.symm.trans k3
          exact va_assign ⟨hfc, kC, hkC, hkind⟩
        · exact vb_asgC (C.hKS.2.1 _ q) _ _ k3 hfc
      obtain ⟨kcomp, hkcomp⟩ : ∃ kcomp, s.vm.classes[comp]? = some kcomp := by
        obtain ⟨ks, hks, -⟩ := Vm.findClass_spec k3
        exact ⟨ks, hks⟩
      exact W.aast C.hx C.hb h1 (fun q z => by rw [hvm] at z; cases z) h3 (by rw [hcc]; exact k1) k2 rfl hkcomp ⟨h0, by rw [hz]; exact hlt⟩ g1 (fun q z => by rw [z] at g2; cases g2) (by rw [g4]; exact hkC) hasg rfl rfl hdg fin
theorem r_newq_8 (C : wC p l s m args meth c cc nL ret own mnm Z A) (hS : wS Z A s w H locs) {K : Nat → Wd → Prop} {n : Int32} {NB idx : Nat} (h : wna w 8 n NB K) (hcl : (Cond.classLink own idx "LeftIsAgreedOn$Sheet").before args s = true) (hnb : NB ≤ 65536) (hc : cells + 1 ≤ R.cells) (hs : slots + NB ≤ R.slots) (hdg : decode cc pc = .ok (.anewarray idx, 3))
    (kn : ∀ (q : Nat) (w' : Wd) (H : Heap), K q w' → wS Z A s w' H locs → W p l e R s m args below meth c H locs (cells + 1) (slots + NB) Q (F0 m (pc + 3) ls (.ref q :: rest))) : W p l e R s m args below meth c H locs cells slots Q (F0 m pc ls (.int n :: rest)) := by
  obtain ⟨h0, h1, hK⟩ := h
  refine W.anew C.hx C.hb C.ow hcl (va_AO.use (C.hKS.2.2.1 _ (by decide))) rfl hdg rfl h0 (by omega) hc (by omega) fun cA kA comp f1 f2 f3 f4 => ?_
  have hz : wz w = H.size := hS.2.1.1
  have hAr : ArrOfT s cA (.object "LeftIsAgreedOn$Sheet") := fun N z => ⟨(fun k h => by cases h), kA, f2, comp, f3⟩
  rw [arrV_new]
  refine W.widen (k := cells + 1) (n := slots + NB) (Nat.le_refl _) (by omega) ?_
  have hcA : cA = Z.2.1 8 := by
    obtain ⟨_, _, _, _, _, h9⟩ := (C.hK.2 8 (Z.2.1 8, .object "LeftIsAgreedOn$Sheet") rfl).2
    exact Option.some.inj (f1.symm.trans h9)
  rw [← hz]
  refine kn _ _ _ hK (hS.new C.hA (by rw [Array.size_push]) (fun q hq => by rw [Array.getElem?_push, if_neg (Nat.ne_of_lt hq)]) ?_)
  unfold wat
  rw [if_pos (show 8 < 20 by decide)]
  refine ⟨_, Array.getElem?_push_size, hAr _ _, (fun q => by cases q), ?_, ?_, fun j hj => ?_, fun _ => ⟨rfl, hcA, ?_, ?_⟩⟩
  · rw [arrV_size]; exact Nat.le_refl _
  · rw [arrV_size]
    try rfl
  · rw [arrV_read _ _ hj]
    have f1 : wQ (nw w (8, n.toNatClampNeg, true)) H.size j = none := by rw [← hz]; exact if_pos rfl
    unfold wav
    rw [f1]
    rfl
  · rw [arrV_size]
  · rw [hcA]
    congr 1
    funext j
    have f1 : wQ (nw w (8, n.toNatClampNeg, true)) H.size j = none := by rw [← hz]; exact if_pos rfl
    unfold wav
    rw [f1]
    rfl
theorem r_aast8 (C : wC p l s m args meth c cc nL ret own mnm Z A) (hS : wS Z A s w H locs) {i : Int32} {cs : List Nat} {x : Option Nat} {K : Wd → Prop} (h : wstQ w r 8 cs i x K) (hcs : ∀ t ∈ cs, 20 ≤ t ∧ ∀ r : vw_C, wcl[t - 20]? = some r → r.1 = "LeftIsAgreedOn$Sheet" ∨ Cond.castable r.1 "LeftIsAgreedOn$Sheet" ∈ wNx) (hdg : decode cc pc = .ok (.aastore, 1))
    (kn : ∀ (w' : Wd) (H : Heap) (locs : List Loc), K w' → wS Z A s w' H locs → W p l e R s m args below meth c H locs cells slots Q (F0 m (pc + 1) ls rest)) : W p l e R s m args below meth c H locs cells slots Q (F0 m pc ls (va_rf x :: .int i :: va_rf r :: rest)) := by
  cases r with
  | none => exact h.elim
  | some a =>
    obtain ⟨hw, hob, hK⟩ := h
    obtain ⟨n, ht, hin⟩ := warw_spec hw
    have hat := hS.1.1 a _ ht
    obtain ⟨cell, h1, h2, h3, h4, h5, h6, h7⟩ := hat.arr (show 8 < 20 by decide)
    have hlt : i.toNatClampNeg < n := Nat.not_le.mp fun q => hin (Or.inr q)
    have hz : cell.slots.size = n := (h7 rfl).2.2.1
    have h0 : ¬ i < 0 := fun q => hin (Or.inl q)
    have fin : ∀ H1 : Heap, H1[a]? = some (cell.setSlot i.toNatClampNeg (va_rf x)) → H1.size = H.size → (∀ q, q ≠ a → H1[q]? = H[q]?) → W p l e R s m args below meth c H1 (locs ++ [⟨a, i.toNatClampNeg⟩]) cells slots Q (F0 m (pc + 1) ls rest) := by
      intro H1 e1 e2 e3
      refine kn (sQ w a i.toNatClampNeg x) H1 _ hK (hS.put ht rfl rfl rfl e2 e3 (fun q k hq => rfl) (fun q k hq => rfl) (fun q k hq => rfl) (fun q k hq => rfl) (fun q k hq => if_neg (fun z => hq z.1)) ?_)
      exact wat.seta hat (by decide) h1 e1 hlt (fun j hj => by unfold wav; rw [if_neg (by decide), if_neg (by decide), if_neg (by decide), if_neg (by decide)]; exact congrArg va_rf (if_neg (fun z => hj z.2))) (by unfold wav; rw [if_neg (by decide), if_neg (by decide)]; exact congrArg va_rf (if_pos ⟨rfl, rfl⟩))
    cases x with
    | none => exact va_WaastN (C := "LeftIsAgreedOn$Sheet") C.hx C.hb h1 h2 h3 (by rw [hz]; exact hin) rfl rfl hdg fin
    | some b =>
      obtain ⟨ty, hty, htc⟩ := wob_spec (hob b rfl)
      obtain ⟨h20, hcl⟩ := hcs _ htc
      obtain ⟨cv, rv, hrv, g1, g2, g3, g4, g5, g6⟩ := (hS.1.1 b ty hty).obj h20
      obtain ⟨kA, comp, k1, k2, k3, -⟩ := (C.hK.2 8 (Z.2.1 8, .object "LeftIsAgreedOn$Sheet") rfl).2
      obtain ⟨-, hfc, kC, hkC, hkind⟩ := C.hK.1 _ _ hrv
      have hcc : cell.cls = Z.2.1 8 := (h7 rfl).2.1
      have hvm : cell.vm = .none := (h7 rfl).1
      have hasg : s.vm.assignable cv.cls comp = true := by
        rw [g4]
        rcases hcl rv hrv with q | q
        · rw [q] at hfc
          cases hfc.symm.trans k3
          exact va_assign ⟨hfc, kC, hkC, hkind⟩
        · exact vb_asgC (C.hKS.2.1 _ q) _ _ k3 hfc
      obtain ⟨kcomp, hkcomp⟩ : ∃ kcomp, s.vm.classes[comp]? = some kcomp := by
        obtain ⟨ks, hks, -⟩ := Vm.findClass_spec k3
        exact ⟨ks, hks⟩
      exact W.aast C.hx C.hb h1 (fun q z => by rw [hvm] at z; cases z) h3 (by rw [hcc]; exact k1) k2 rfl hkcomp ⟨h0, by rw [hz]; exact hlt⟩ g1 (fun q z => by rw [z] at g2; cases g2) (by rw [g4]; exact hkC) hasg rfl rfl hdg fin
theorem r_gets0 (C : wC p l s m args meth c cc nL ret own mnm Z A) (hS : wS Z A s w H locs) {idx : Nat} (hl : Cond.fieldLink own idx "LeftIsAgreedOn" "DOWN" "[I" ∈ lw_all) (hdg : decode cc pc = .ok (.getstatic idx, 3))
    (kn : W p l e R s m args below meth c H locs cells slots Q (F0 m (pc + 3) ls (va_rf (wk w 0) :: rest))) : W p l e R s m args below meth c H locs cells slots Q (F0 m pc ls rest) := by
  rw [hS.2.1.2] at kn
  exact va_gets C.hx C.hb C.hKS.1.1 hS.2.2 C.ow (C.hts _ hl) (fun _ h => h) hdg kn
theorem r_getsN0 (C : wC p l s m args meth c cc nL ret "LeftIsAgreedOn$Island" mnm Z A) (hS : wS Z A s w H locs) (hdg : decode cc pc = .ok (.getstatic 74, 3))
    (kn : W p l e R s m args below meth c H locs cells slots Q (F0 m (pc + 3) ls (va_rf (wk w 0) :: rest))) : W p l e R s m args below meth c H locs cells slots Q (F0 m pc ls rest) := by
  rw [hS.2.1.2] at kn
  exact va_getsN C.hx C.hb C.hKS.1.1 hS.2.2 C.ow (C.hKS.2.1 (.fieldLinkNest "LeftIsAgreedOn$Island" 74 "LeftIsAgreedOn" "DOWN" "[I" "LeftIsAgreedOn") (by decide +kernel)) (fun _ h => h) hdg kn
theorem r_gets1 (C : wC p l s m args meth c cc nL ret own mnm Z A) (hS : wS Z A s w H locs) {idx : Nat} (hl : Cond.fieldLink own idx "LeftIsAgreedOn" "ACROSS" "[I" ∈ lw_all) (hdg : decode cc pc = .ok (.getstatic idx, 3))
    (kn : W p l e R s m args below meth c H locs cells slots Q (F0 m (pc + 3) ls (va_rf (wk w 1) :: rest))) : W p l e R s m args below meth c H locs cells slots Q (F0 m pc ls rest) := by
  rw [hS.2.1.2] at kn
  exact va_gets C.hx C.hb C.hKS.1.2.1 hS.2.2 C.ow (C.hts _ hl) (fun _ h => h) hdg kn
theorem r_getsN1 (C : wC p l s m args meth c cc nL ret "LeftIsAgreedOn$Island" mnm Z A) (hS : wS Z A s w H locs) (hdg : decode cc pc = .ok (.getstatic 77, 3))
    (kn : W p l e R s m args below meth c H locs cells slots Q (F0 m (pc + 3) ls (va_rf (wk w 1) :: rest))) : W p l e R s m args below meth c H locs cells slots Q (F0 m pc ls rest) := by
  rw [hS.2.1.2] at kn
  exact va_getsN C.hx C.hb C.hKS.1.2.1 hS.2.2 C.ow (C.hKS.2.1 (.fieldLinkNest "LeftIsAgreedOn$Island" 77 "LeftIsAgreedOn" "ACROSS" "[I" "LeftIsAgreedOn") (by decide +kernel)) (fun _ h => h) hdg kn
theorem r_gets2 (C : wC p l s m args meth c cc nL ret own mnm Z A) (hS : wS Z A s w H locs) {idx : Nat} (hl : Cond.fieldLink own idx "java/lang/Throwable" "UNASSIGNED_STACK" "[Ljava/lang/StackTraceElement;" ∈ lw_all) (hdg : decode cc pc = .ok (.getstatic idx, 3))
    (kn : W p l e R s m args below meth c H locs cells slots Q (F0 m (pc + 3) ls (va_rf (wk w 2) :: rest))) : W p l e R s m args below meth c H locs cells slots Q (F0 m pc ls rest) := by
  rw [hS.2.1.2] at kn
  exact va_gets C.hx C.hb C.hKS.1.2.2.1 hS.2.2 C.ow (C.hts _ hl) (fun _ h => h) hdg kn
theorem r_gets3 (C : wC p l s m args meth c cc nL ret own mnm Z A) (hS : wS Z A s w H locs) {idx : Nat} (hl : Cond.fieldLink own idx "java/lang/Throwable" "SUPPRESSED_SENTINEL" "Ljava/util/List;" ∈ lw_all) (hdg : decode cc pc = .ok (.getstatic idx, 3))
    (kn : W p l e R s m args below meth c H locs cells slots Q (F0 m (pc + 3) ls (va_rf (wk w 3) :: rest))) : W p l e R s m args below meth c H locs cells slots Q (F0 m pc ls rest) := by
  rw [hS.2.1.2] at kn
  exact va_gets C.hx C.hb C.hKS.1.2.2.2.1 hS.2.2 C.ow (C.hts _ hl) (fun _ h => h) hdg kn
end WO
theorem nx_q111 : Cond.methodLinkNest "LeftIsAgreedOn" 29 ⟨"LeftIsAgreedOn$Island", "<init>", "()V"⟩ "LeftIsAgreedOn" ∈ wNx := by decide +kernel
theorem nx_q170 : Cond.methodLinkNest "LeftIsAgreedOn" 38 ⟨"LeftIsAgreedOn$Walk", "<init>", "()V"⟩ "LeftIsAgreedOn" ∈ wNx := by decide +kernel
theorem nx_q210 : Cond.methodLinkNest "LeftIsAgreedOn" 72 ⟨"LeftIsAgreedOn$Sheet", "<init>", "()V"⟩ "LeftIsAgreedOn" ∈ wNx := by decide +kernel
theorem nx_q495 : Cond.methodLinkNest "LeftIsAgreedOn$Island" 70 ⟨"LeftIsAgreedOn", "isIn", "(III)Z"⟩ "LeftIsAgreedOn" ∈ wNx := by decide +kernel
theorem nx_q539 : Cond.methodLinkNest "LeftIsAgreedOn$Island" 60 ⟨"LeftIsAgreedOn", "has", "(II)Z"⟩ "LeftIsAgreedOn" ∈ wNx := by decide +kernel
theorem nx_q622 : Cond.methodLinkNest "LeftIsAgreedOn$Island" 56 ⟨"LeftIsAgreedOn", "made", "(III)LLeftIsAgreedOn$Voter;"⟩ "LeftIsAgreedOn" ∈ wNx := by decide +kernel
