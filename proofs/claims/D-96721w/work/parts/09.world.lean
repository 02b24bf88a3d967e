/-! ===== typed worlds: what a method may read and write, as functions of addresses ===== -/
/-- a cell's kind: code (0 int, 1 byte, 2 short, 3 char, 4 boolean, 5 long, 6.. references: arrays; 20 + c: an object of class c of wcl), length, whether it may be written -/
abbrev wTy : Type := Nat × Nat × Bool
def Wd : Type := (Nat → Option wTy) × (Nat → Nat → Int32) × (Nat → Nat → Option Nat) × (Nat → Nat → Int32) × (Nat → Nat → Int64) × (Nat → Nat → Option Nat) × Nat × (Nat → Option Nat)
def wmk (T : Nat → Option wTy) (F : Nat → Nat → Int32) (G : Nat → Nat → Option Nat) (I : Nat → Nat → Int32) (L : Nat → Nat → Int64) (Q : Nat → Nat → Option Nat) (z : Nat) (X : Nat → Option Nat) : Wd := (T, F, G, I, L, Q, z, X)
def wT (w : Wd) : Nat → Option wTy := w.1
def wF (w : Wd) : Nat → Nat → Int32 := w.2.1
def wG (w : Wd) : Nat → Nat → Option Nat := w.2.2.1
def wI (w : Wd) : Nat → Nat → Int32 := w.2.2.2.1
def wL (w : Wd) : Nat → Nat → Int64 := w.2.2.2.2.1
def wQ (w : Wd) : Nat → Nat → Option Nat := w.2.2.2.2.2.1
def wz (w : Wd) : Nat := w.2.2.2.2.2.2.1
/-- what static fields and constants refer to -/
def wk (w : Wd) : Nat → Option Nat := w.2.2.2.2.2.2.2
theorem wT_mk {T F G I L Q z X} : wT (wmk T F G I L Q z X) = T := rfl
theorem wF_mk {T F G I L Q z X} : wF (wmk T F G I L Q z X) = F := rfl
theorem wG_mk {T F G I L Q z X} : wG (wmk T F G I L Q z X) = G := rfl
theorem wI_mk {T F G I L Q z X} : wI (wmk T F G I L Q z X) = I := rfl
theorem wL_mk {T F G I L Q z X} : wL (wmk T F G I L Q z X) = L := rfl
theorem wQ_mk {T F G I L Q z X} : wQ (wmk T F G I L Q z X) = Q := rfl
theorem wz_mk {T F G I L Q z X} : wz (wmk T F G I L Q z X) = z := rfl
theorem wk_mk {T F G I L Q z X} : wk (wmk T F G I L Q z X) = X := rfl
def up2 {α : Type} (f : Nat → Nat → α) (a k : Nat) (v : α) : Nat → Nat → α := fun q j => if q = a ∧ j = k then v else f q j
/-- contents of a new cell -/
def up0 {α : Type} (f : Nat → Nat → α) (a : Nat) (v : α) : Nat → Nat → α := fun q j => if q = a then v else f q j
def sF (w : Wd) (a k : Nat) (v : Int32) : Wd := wmk (wT w) (up2 (wF w) a k v) (wG w) (wI w) (wL w) (wQ w) (wz w) (wk w)
def sG (w : Wd) (a k : Nat) (v : Option Nat) : Wd := wmk (wT w) (wF w) (up2 (wG w) a k v) (wI w) (wL w) (wQ w) (wz w) (wk w)
def sI (w : Wd) (a k : Nat) (v : Int32) : Wd := wmk (wT w) (wF w) (wG w) (up2 (wI w) a k v) (wL w) (wQ w) (wz w) (wk w)
def sL (w : Wd) (a k : Nat) (v : Int64) : Wd := wmk (wT w) (wF w) (wG w) (wI w) (up2 (wL w) a k v) (wQ w) (wz w) (wk w)
def sQ (w : Wd) (a k : Nat) (v : Option Nat) : Wd := wmk (wT w) (wF w) (wG w) (wI w) (wL w) (up2 (wQ w) a k v) (wz w) (wk w)
def sZ (w : Wd) (z : Nat) : Wd := wmk (wT w) (wF w) (wG w) (wI w) (wL w) (wQ w) z (wk w)
def nw (w : Wd) (t : wTy) : Wd := wmk (fun q => if q = wz w then some t else wT w q) (up0 (wF w) (wz w) 0) (up0 (wG w) (wz w) none) (up0 (wI w) (wz w) 0) (up0 (wL w) (wz w) 0) (up0 (wQ w) (wz w) none) (wz w + 1) (wk w)
/-- a part of an array set anew: System.arraycopy -/
def sIc (w : Wd) (a : Nat) (f : Nat → Int32) : Wd := wmk (wT w) (wF w) (wG w) (fun q j => if q = a then f j else wI w q j) (wL w) (wQ w) (wz w) (wk w)
def sLc (w : Wd) (a : Nat) (f : Nat → Int64) : Wd := wmk (wT w) (wF w) (wG w) (wI w) (fun q j => if q = a then f j else wL w q j) (wQ w) (wz w) (wk w)
def sQc (w : Wd) (a : Nat) (f : Nat → Option Nat) : Wd := wmk (wT w) (wF w) (wG w) (wI w) (wL w) (fun q j => if q = a then f j else wQ w q j) (wz w) (wk w)
/-- the classes of the worlds' objects -/
def wcl : List vw_C := [(RX0, TX0, 12), (RX1, TX1, 11), (RX2, TX2, 8), (RX3, TX3, 1), (RX4, TX4, 26), (RX5, TX5, 7), (RX6, TX6, 2), (RX7, TX7, 2), (RX8, TX8, 2), (RX9, TX9, 2), (RX10, TX10, 2), (RX11, TX11, 2), (RX12, TX12, 7), (RX13, TX13, 7), (RJ4, TJ4, 4), (RJ11, TJ11, 4)]
/-- whether a class's slot holds a reference -/
def wrt (t : Option FieldType) : Bool := match t with
  | some (.object _) => true
  | some (.array _) => true
  | _ => false
def wrf (c k : Nat) : Bool := match wcl[c]? with
  | some r => wrt (parseFieldDescriptor (r.2.1 k).2.2.1)
  | none => false
/-- a slot's key: the fields that the five kinds of voters inherit have one -/
def wky (c k : Nat) : Nat := 100 * (if 7 ≤ c ∧ c ≤ 11 then 6 else if c = 13 then 5 else c) + k
def waty (t : Nat) : FieldType := match t with
  | 0 => .int
  | 1 => .byte
  | 2 => .short
  | 3 => .char
  | 4 => .boolean
  | 5 => .long
  | 6 => .object "LeftIsAgreedOn$Voter"
  | 7 => .object "LeftIsAgreedOn$Walk"
  | _ => .object "LeftIsAgreedOn$Sheet"
def wfv (w : Wd) (q c k : Nat) : Value := if wrf c k then va_rf (wG w q (wky c k)) else .int (wF w q (wky c k))
def wav (w : Wd) (q t j : Nat) : Value := if t < 5 then .int (wI w q j) else if t = 5 then .long (wL w q j) else va_rf (wQ w q j)
/-- classes' numbers and slots; array classes; what static fields and constants are -/
abbrev wZ : Type := va_G × (Nat → ClassId) × (Nat → Option Nat)
/-- the cell q of kind t holds what the world says -/
def wat (Z : wZ) (U : State) (w : Wd) (H : Heap) (q : Nat) (t : wTy) : Prop :=
  if t.1 < 20 then ∃ cell : Cell, H[q]? = some cell ∧ U.isArrayOf cell (waty t.1) ∧ cell.vm ≠ .unknown ∧ t.2.1 ≤ cell.slots.size ∧ cell.slots.size.toInt32 = Int32.ofNat t.2.1 ∧ (∀ j : Nat, j < t.2.1 → cell.slots[j]? = some (wav w q t.1 j)) ∧ (t.2.2 = true → cell.vm = .none ∧ cell.cls = Z.2.1 t.1 ∧ cell.slots.size = t.2.1 ∧ cell = arrV (Z.2.1 t.1) t.2.1 (fun j => wav w q t.1 j))
  else ∃ (cell : Cell) (r : vw_C), wcl[t.1 - 20]? = some r ∧ H[q]? = some cell ∧ cell.vm.isStatics = false ∧ cell.vm ≠ .unknown ∧ cell.cls = Z.1.1 (t.1 - 20) ∧ (t.2.2 = true → cell.vm = .none) ∧ ∀ k : Nat, k < r.2.2 → cell.slots[Z.1.2 (t.1 - 20) k]? = some (wfv w q (t.1 - 20) k)
def wP (Z : wZ) (A : Nat → Prop) (U : State) (w : Wd) (H : Heap) : Prop := (∀ (q : Nat) (t : wTy), wT w q = some t → wat Z U w H q t) ∧ ∀ (q c n : Nat), wT w q = some (c, n, true) → A q
/-- which cells a method may change -/
def wA (w : Wd) : Nat → Prop := fun q => (∃ c n : Nat, wT w q = some (c, n, true)) ∨ wz w ≤ q
def wtys (Z : wZ) : List (ClassId × FieldType) := (List.range 9).map fun k => (Z.2.1 k, waty k)
/-- words of the tables that don't ride in the lists: nest mates' links, castable pairs, arrays over our classes -/
def wPr : List Cond := [.selects "java/lang/StringBuilder" ⟨"java/lang/AbstractStringBuilder", "ensureCapacityInternal", "(I)V"⟩ ⟨"java/lang/AbstractStringBuilder", "ensureCapacityInternal", "(I)V"⟩, .selects "java/lang/StringBuilder" ⟨"java/lang/AbstractStringBuilder", "newCapacity", "(I)I"⟩ ⟨"java/lang/AbstractStringBuilder", "newCapacity", "(I)I"⟩]
theorem va_Nw.good {w : Cond} (hg : goodWord w = true) {s U : State} (hW : s.WarmedH U.vm) (h : va_Nw w s) : va_Nw w U := word_at hW (good_of_word hg) h
def wNx : List Cond := [.castable "[B" "java/lang/Cloneable", .selects "java/lang/StringBuilder" ⟨"java/lang/AbstractStringBuilder", "ensureCapacityInternal", "(I)V"⟩ ⟨"java/lang/AbstractStringBuilder", "ensureCapacityInternal", "(I)V"⟩, .selects "java/lang/StringBuilder" ⟨"java/lang/AbstractStringBuilder", "newCapacity", "(I)I"⟩ ⟨"java/lang/AbstractStringBuilder", "newCapacity", "(I)I"⟩, .methodLinkNest "LeftIsAgreedOn" 29 ⟨"LeftIsAgreedOn$Island", "<init>", "()V"⟩ "LeftIsAgreedOn", .methodLinkNest "LeftIsAgreedOn" 38 ⟨"LeftIsAgreedOn$Walk", "<init>", "()V"⟩ "LeftIsAgreedOn", .methodLinkNest "LeftIsAgreedOn" 72 ⟨"LeftIsAgreedOn$Sheet", "<init>", "()V"⟩ "LeftIsAgreedOn",
  .methodLinkNest "LeftIsAgreedOn$Island" 70 ⟨"LeftIsAgreedOn", "isIn", "(III)Z"⟩ "LeftIsAgreedOn", .methodLinkNest "LeftIsAgreedOn$Island" 60 ⟨"LeftIsAgreedOn", "has", "(II)Z"⟩ "LeftIsAgreedOn", .methodLinkNest "LeftIsAgreedOn$Island" 56 ⟨"LeftIsAgreedOn", "made", "(III)LLeftIsAgreedOn$Voter;"⟩ "LeftIsAgreedOn",
  .fieldLinkNest "LeftIsAgreedOn$Island" 74 "LeftIsAgreedOn" "DOWN" "[I" "LeftIsAgreedOn", .fieldLinkNest "LeftIsAgreedOn$Island" 77 "LeftIsAgreedOn" "ACROSS" "[I" "LeftIsAgreedOn",
  .castable "LeftIsAgreedOn$Dancer" "LeftIsAgreedOn$Voter", .castable "LeftIsAgreedOn$Doubter" "LeftIsAgreedOn$Voter", .castable "LeftIsAgreedOn$Forder" "LeftIsAgreedOn$Voter", .castable "LeftIsAgreedOn$Olden" "LeftIsAgreedOn$Voter", .castable "LeftIsAgreedOn$Stubborn" "LeftIsAgreedOn$Voter", .castable "LeftIsAgreedOn$Stubborn" "LeftIsAgreedOn$Olden", .castable "LeftIsAgreedOn$Forder" "LeftIsAgreedOn$Doubter",
  .castable "LeftIsAgreedOn$Refused" "LeftIsAgreedOn$Refused", .castable "LeftIsAgreedOn$Fault" "LeftIsAgreedOn$Fault", .castable "java/lang/NegativeArraySizeException" "java/lang/NegativeArraySizeException", .castable "java/lang/ArrayIndexOutOfBoundsException" "java/lang/ArrayIndexOutOfBoundsException", .castable "java/lang/NullPointerException" "java/lang/NullPointerException", .castable "java/lang/ArrayStoreException" "java/lang/ArrayStoreException", .castable "java/lang/ClassCastException" "java/lang/ClassCastException", .castable "java/lang/ArrayIndexOutOfBoundsException" "java/lang/IndexOutOfBoundsException",
  .declares ⟨"java/lang/IndexOutOfBoundsException", "<init>", "(Ljava/lang/String;)V"⟩, .declares ⟨"java/lang/RuntimeException", "<init>", "(Ljava/lang/String;)V"⟩, .declares ⟨"java/lang/Exception", "<init>", "(Ljava/lang/String;)V"⟩, .declares ⟨"java/lang/Throwable", "<init>", "(Ljava/lang/String;)V"⟩]
def wAOs : List String := ["LeftIsAgreedOn$Voter", "LeftIsAgreedOn$Walk", "LeftIsAgreedOn$Sheet"]
theorem wNx_warm : ∀ w ∈ wNx, ∀ s U : State, s.WarmedH U.vm → va_Nw w s → va_Nw w U := by
  intro w hw s U hW h
  simp only [wNx, List.mem_cons, List.not_mem_nil, or_false] at hw
  rcases hw with rfl | rfl | rfl | rfl | rfl | rfl | rfl | rfl | rfl | rfl | rfl | rfl | rfl | rfl | rfl | rfl | rfl | rfl | rfl | rfl | rfl | rfl | rfl | rfl | rfl | rfl | rfl | rfl | rfl | rfl <;> first | exact va_Nw.good rfl hW h | exact va_Nw.warmD hW h | exact va_Nw.warmM hW h | exact va_Nw.warmF hW h | exact va_Nw.warmC hW h
/-- what isn't castable -/
def wNo : List (String × String) := [("[B", "LeftIsAgreedOn$Voter"), ("[S", "LeftIsAgreedOn$Voter"), ("[I", "LeftIsAgreedOn$Voter"), ("[J", "LeftIsAgreedOn$Voter"), ("[Z", "LeftIsAgreedOn$Voter"), ("[S", "[B"), ("[I", "[B"), ("[I", "[S"), ("[J", "[B"), ("[J", "[S"), ("[J", "[I"), ("[Z", "[B"), ("[Z", "[S"), ("[Z", "[I"), ("[Z", "[J"), ("[B", "LeftIsAgreedOn$Olden"), ("[S", "LeftIsAgreedOn$Olden"), ("[I", "LeftIsAgreedOn$Olden"), ("[J", "LeftIsAgreedOn$Olden"), ("[Z", "LeftIsAgreedOn$Olden"), ("LeftIsAgreedOn$Voter", "LeftIsAgreedOn$Olden"), ("LeftIsAgreedOn$Doubter", "LeftIsAgreedOn$Olden"), ("LeftIsAgreedOn$Forder", "LeftIsAgreedOn$Olden"), ("LeftIsAgreedOn$Dancer", "LeftIsAgreedOn$Olden"), ("[B", "LeftIsAgreedOn$Doubter"), ("[S", "LeftIsAgreedOn$Doubter"), ("[I", "LeftIsAgreedOn$Doubter"), ("[J", "LeftIsAgreedOn$Doubter"), ("[Z", "LeftIsAgreedOn$Doubter"), ("LeftIsAgreedOn$Voter", "LeftIsAgreedOn$Doubter"), ("LeftIsAgreedOn$Olden", "LeftIsAgreedOn$Doubter"), ("LeftIsAgreedOn$Stubborn", "LeftIsAgreedOn$Doubter"), ("LeftIsAgreedOn$Dancer", "LeftIsAgreedOn$Doubter"), ("[B", "LeftIsAgreedOn$Stubborn"), ("[S", "LeftIsAgreedOn$Stubborn"), ("[I", "LeftIsAgreedOn$Stubborn"), ("[J", "LeftIsAgreedOn$Stubborn"), ("[Z", "LeftIsAgreedOn$Stubborn"), ("LeftIsAgreedOn$Voter", "LeftIsAgreedOn$Stubborn"), ("LeftIsAgreedOn$Olden", "LeftIsAgreedOn$Stubborn"), ("LeftIsAgreedOn$Doubter", "LeftIsAgreedOn$Stubborn"), ("LeftIsAgreedOn$Forder", "LeftIsAgreedOn$Stubborn"), ("LeftIsAgreedOn$Dancer", "LeftIsAgreedOn$Stubborn"), ("[B", "LeftIsAgreedOn$Forder"), ("[S", "LeftIsAgreedOn$Forder"), ("[I", "LeftIsAgreedOn$Forder"), ("[J", "LeftIsAgreedOn$Forder"), ("[Z", "LeftIsAgreedOn$Forder"), ("LeftIsAgreedOn$Voter", "LeftIsAgreedOn$Forder"), ("LeftIsAgreedOn$Olden", "LeftIsAgreedOn$Forder"), ("LeftIsAgreedOn$Doubter", "LeftIsAgreedOn$Forder"), ("LeftIsAgreedOn$Stubborn", "LeftIsAgreedOn$Forder"), ("LeftIsAgreedOn$Dancer", "LeftIsAgreedOn$Forder"), ("[B", "LeftIsAgreedOn$Dancer"), ("[S", "LeftIsAgreedOn$Dancer"), ("[I", "LeftIsAgreedOn$Dancer"), ("[J", "LeftIsAgreedOn$Dancer"), ("[Z", "LeftIsAgreedOn$Dancer"), ("LeftIsAgreedOn$Voter", "LeftIsAgreedOn$Dancer"), ("LeftIsAgreedOn$Olden", "LeftIsAgreedOn$Dancer"), ("LeftIsAgreedOn$Doubter", "LeftIsAgreedOn$Dancer"), ("LeftIsAgreedOn$Stubborn", "LeftIsAgreedOn$Dancer"), ("LeftIsAgreedOn$Forder", "LeftIsAgreedOn$Dancer"), ("java/lang/ArrayIndexOutOfBoundsException", "LeftIsAgreedOn$Refused"), ("java/lang/ArrayStoreException", "java/lang/NullPointerException"), ("java/lang/ArrayIndexOutOfBoundsException", "java/lang/NullPointerException"), ("java/lang/ArrayIndexOutOfBoundsException", "java/lang/ArrayStoreException")]
/-- the String constants of Reader: place, text, number among wk -/
def wSt : List (Nat × String × Nat) := [(57, ";", 10), (109, "side", 11), (111, "pond", 12), (113, "dry", 13), (115, "person", 14), (117, "is", 15), (119, "left", 16), (121, "old", 17), (123, "doubt", 18)]
def wSS (Z : wZ) (U : State) : Prop := (∀ t ∈ wSt, ∃ q : Nat, Z.2.2 t.2.2 = some q ∧ vk_R "LeftIsAgreedOn$Reader" t.1 t.2.1 q U) ∧ modulesRight_1 U = true
theorem wSS.warm {Z : wZ} {u U : State} (hW : u.WarmedH U.vm) (h : wSS Z u) : wSS Z U := ⟨fun t ht => by
  obtain ⟨q, h1, h2⟩ := h.1 t ht
  exact ⟨q, h1, vk_R.warm hW h2⟩, by
  have e := congrArg Vm.modules hW.alike.1
  have e : U.vm.modules = u.vm.modules := e
  have h2 := h.2
  unfold modulesRight_1 at h2 ⊢
  rw [e]
  exact h2⟩
/-- what holds of static fields and constants, and of the tables; nobody writes them -/
def wKS (Z : wZ) (A : Nat → Prop) (U : State) (H : Heap) : Prop :=
  (va_Z "LeftIsAgreedOn" "DOWN" "[I" (va_rf (Z.2.2 0)) A U H ∧ va_Z "LeftIsAgreedOn" "ACROSS" "[I" (va_rf (Z.2.2 1)) A U H ∧
  va_Z "java/lang/Throwable" "UNASSIGNED_STACK" "[Ljava/lang/StackTraceElement;" (va_rf (Z.2.2 2)) A U H ∧ va_Z "java/lang/Throwable" "SUPPRESSED_SENTINEL" "Ljava/util/List;" (va_rf (Z.2.2 3)) A U H ∧
  vx_L "java/lang/Throwable" "UNASSIGNED_STACK" "[Ljava/lang/StackTraceElement;" A U H ∧ vx_L "java/lang/Throwable" "SUPPRESSED_SENTINEL" "Ljava/util/List;" A U H ∧
  va_Z "java/lang/String" "COMPACT_STRINGS" "Z" (.int 1) A U H ∧ wSS Z U) ∧ (∀ w ∈ wNx, va_Nw w U) ∧ (∀ c ∈ wAOs, va_AO c U) ∧ (∀ q ∈ wNo, va_Nc q.1 q.2 U)
theorem wKS.warm {Z : wZ} {A : Nat → Prop} {u U : State} {H : Heap} (hW : u.WarmedH U.vm) (h : wKS Z A u H) : wKS Z A U H := by
  have hvm := hW.alike
  obtain ⟨⟨h1, h2, h3, h4, h5, h6, h7, h11⟩, h8, h9, h10⟩ := h
  exact ⟨⟨va_Z.moved hvm h1, va_Z.moved hvm h2, va_Z.moved hvm h3, va_Z.moved hvm h4, vx_L.moved hvm h5, vx_L.moved hvm h6, va_Z.moved hvm h7, h11.warm hW⟩, fun w hw => wNx_warm w hw u U hW (h8 w hw), fun c hc => va_AO.moved hvm (h9 c hc), fun q hq => va_Nc.moved hvm (h10 q hq)⟩
theorem wKS.kept {Z : wZ} {A : Nat → Prop} {U : State} {H H1 : Heap} (h : wKS Z A U H) (hq : ∀ a : Nat, a < H.size → ¬ A a → H1[a]? = H[a]?) : wKS Z A U H1 := by
  obtain ⟨⟨h1, h2, h3, h4, h5, h6, h7, h11⟩, h8⟩ := h
  exact ⟨⟨h1.kept hq, h2.kept hq, h3.kept hq, h4.kept hq, h5.kept hq, h6.kept hq, h7.kept hq, h11⟩, h8⟩
theorem wKS.narrow {Z : wZ} {A B : Nat → Prop} {U : State} {H : Heap} (h : wKS Z A U H) (hAB : ∀ q, B q → A q) : wKS Z B U H := by
  obtain ⟨⟨h1, h2, h3, h4, h5, h6, h7, h11⟩, h8⟩ := h
  exact ⟨⟨h1.narrow hAB, h2.narrow hAB, h3.narrow hAB, h4.narrow hAB, h5.narrow hAB, h6.narrow hAB, h7.narrow hAB, h11⟩, h8⟩
/-- frames don't count -/
theorem wKS.call {Z : wZ} {A : Nat → Prop} {U : State} {H : Heap} {g : JFrame} {mk : MethodId} {a : Array Value} (h : wKS Z A U H) : wKS Z A (U.calling g mk a) H := by
  have hvm : U.vm.Alike (U.calling g mk a).vm := Vm.Alike.refl U.vm
  obtain ⟨⟨h1, h2, h3, h4, h5, h6, h7, h11⟩, h8, h9, h10⟩ := h
  exact ⟨⟨va_Z.moved hvm h1, va_Z.moved hvm h2, va_Z.moved hvm h3, va_Z.moved hvm h4, vx_L.moved hvm h5, vx_L.moved hvm h6, va_Z.moved hvm h7, h11.warm (State.WarmedH.refl U)⟩, fun w hw => wNx_warm w hw U _ (State.WarmedH.refl U) (h8 w hw), fun c hc => va_AO.moved hvm (h9 c hc), fun q hq => va_Nc.moved hvm (h10 q hq)⟩
theorem wat.lt {Z : wZ} {U : State} {w : Wd} {H : Heap} {q : Nat} {t : wTy} (h : wat Z U w H q t) : q < H.size := by
  unfold wat at h
  split at h
  · obtain ⟨cell, h1, -⟩ := h
    exact (Array.getElem?_eq_some_iff.mp h1).1
  · obtain ⟨cell, r, -, h1, -⟩ := h
    exact (Array.getElem?_eq_some_iff.mp h1).1
theorem wat.moved {Z : wZ} {u U : State} {w : Wd} {H : Heap} {q : Nat} {t : wTy} (hvm : u.vm.Alike U.vm) (h : wat Z u w H q t) : wat Z U w H q t := by
  unfold wat at h ⊢
  split
  · rename_i hc
    rw [if_pos hc] at h
    obtain ⟨cell, h1, h2, h3⟩ := h
    exact ⟨cell, h1, State.isArrayOf_alike hvm h2, h3⟩
  · rename_i hc
    rw [if_neg hc] at h
    exact h
/-- another heap, another world, alike at q -/
theorem wat.kept {Z : wZ} {U : State} {w w' : Wd} {H H1 : Heap} {q : Nat} {t : wTy} (h : wat Z U w H q t) (hq : H1[q]? = H[q]?) (hF : ∀ k, wF w' q k = wF w q k) (hG : ∀ k, wG w' q k = wG w q k) (hI : ∀ k, wI w' q k = wI w q k) (hL : ∀ k, wL w' q k = wL w q k) (hQ : ∀ k, wQ w' q k = wQ w q k) : wat Z U w' H1 q t := by
  have e1 : ∀ c k, wfv w' q c k = wfv w q c k := fun c k => by unfold wfv; rw [hF, hG]
  have e2 : ∀ c k, wav w' q c k = wav w q c k := fun c k => by unfold wav; rw [hI, hL, hQ]
  unfold wat at h ⊢
  split
  · rename_i hc
    rw [if_pos hc] at h
    obtain ⟨cell, h1, h2, h3, h4, h5, h6, h7⟩ := h
    have e3 : (fun j => wav w' q t.1 j) = (fun j => wav w q t.1 j) := funext fun j => e2 _ j
    exact ⟨cell, hq.trans h1, h2, h3, h4, h5, fun j hj => by rw [e2]; exact h6 j hj, by rw [e3]; exact h7⟩
  · rename_i hc
    rw [if_neg hc] at h
    obtain ⟨cell, r, h0, h1, h2, h3, h4, h5, h6⟩ := h
    exact ⟨cell, r, h0, hq.trans h1, h2, h3, h4, h5, fun k hk => by rw [e1]; exact h6 k hk⟩
theorem wP.moved {Z : wZ} {A : Nat → Prop} {u U : State} {w : Wd} {H : Heap} (hvm : u.vm.Alike U.vm) (h : wP Z A u w H) : wP Z A U w H := ⟨fun q t ht => (h.1 q t ht).moved hvm, h.2⟩
/-- where a walk stands: the world, the heap's size, what was written -/
def wS (Z : wZ) (A : Nat → Prop) (s : State) (w : Wd) (H : Heap) (locs : List Loc) : Prop := wP Z A s w H ∧ (wz w = H.size ∧ wk w = Z.2.2) ∧ va_S A s.heap H locs
/-- a write at a -/
theorem wS.put {Z : wZ} {A : Nat → Prop} {s : State} {w w' : Wd} {H H1 : Heap} {locs : List Loc} {a i : Nat} {c n : Nat} (h : wS Z A s w H locs) (ha : wT w a = some (c, n, true)) (hT : wT w' = wT w) (hz : wz w' = wz w) (hk : wk w' = wk w)
    (e2 : H1.size = H.size) (e3 : ∀ q : Nat, q ≠ a → H1[q]? = H[q]?) (hF : ∀ q k, q ≠ a → wF w' q k = wF w q k) (hG : ∀ q k, q ≠ a → wG w' q k = wG w q k) (hI : ∀ q k, q ≠ a → wI w' q k = wI w q k) (hL : ∀ q k, q ≠ a → wL w' q k = wL w q k) (hQ : ∀ q k, q ≠ a → wQ w' q k = wQ w q k)
    (hat : wat Z s w' H1 a (c, n, true)) : wS Z A s w' H1 (locs ++ [⟨a, i⟩]) := by
  refine ⟨⟨fun q t ht => ?_, fun q c n hq => h.1.2 q c n (by rw [← hT]; exact hq)⟩, ⟨by rw [hz, e2]; exact h.2.1.1, hk.trans h.2.1.2⟩, h.2.2.put e2 e3 (h.1.2 a c n ha)⟩
  rw [hT] at ht
  by_cases hqa : q = a
  · subst hqa
    cases ha.symm.trans ht
    exact hat
  · exact (h.1.1 q t ht).kept (e3 q hqa) (fun k => hF q k hqa) (fun k => hG q k hqa) (fun k => hI q k hqa) (fun k => hL q k hqa) (fun k => hQ q k hqa)
/-- a new cell -/
theorem wS.new {Z : wZ} {A : Nat → Prop} {s : State} {w : Wd} {H H1 : Heap} {locs : List Loc} {c n : Nat} (h : wS Z A s w H locs) (hA : ∀ q, s.heap.size ≤ q → A q)
    (e2 : H1.size = H.size + 1) (e3 : ∀ q : Nat, q < H.size → H1[q]? = H[q]?) (hat : wat Z s (nw w (c, n, true)) H1 H.size (c, n, true)) : wS Z A s (nw w (c, n, true)) H1 locs := by
  obtain ⟨hP, ⟨hz, hk⟩, hS⟩ := h
  have ht : ∀ q, wT (nw w (c, n, true)) q = if q = H.size then some (c, n, true) else wT w q := fun q => by rw [← hz]; rfl
  refine ⟨⟨fun q t hq => ?_, fun q c2 n2 hq => ?_⟩, ⟨by show wz w + 1 = H1.size; rw [hz, e2], hk⟩, ⟨Nat.le_trans hS.1 (by omega), fun q h1 h2 => (e3 q (Nat.lt_of_lt_of_le h1 hS.1)).trans (hS.2.1 q h1 h2), hS.2.2⟩⟩
  · rw [ht] at hq
    by_cases hqa : q = H.size
    · rw [if_pos hqa] at hq
      cases hq
      rw [hqa]
      exact hat
    · rw [if_neg hqa] at hq
      have hlt := (hP.1 q t hq).lt
      have hne : ¬ q = wz w := by rw [hz]; exact hqa
      exact (hP.1 q t hq).kept (e3 q hlt) (fun k => if_neg hne) (fun k => if_neg hne) (fun k => if_neg hne) (fun k => if_neg hne) (fun k => if_neg hne)
  · rw [ht] at hq
    by_cases hqa : q = H.size
    · rw [hqa]
      exact hA _ hS.1
    · rw [if_neg hqa] at hq
      exact hP.2 q c2 n2 hq
