/-! LeftIsAgreedOn -/
set_option maxRecDepth 100000
def RX0 : String := "LeftIsAgreedOn"
def TX0 : u_T := fun k => match k with
  | 0 => ("LeftIsAgreedOn", "now", "LLeftIsAgreedOn$Island;", false)
  | 1 => ("LeftIsAgreedOn", "image", "LLeftIsAgreedOn$Island;", false)
  | 2 => ("LeftIsAgreedOn", "walk", "LLeftIsAgreedOn$Walk;", true)
  | 3 => ("LeftIsAgreedOn", "also", "LLeftIsAgreedOn$Walk;", true)
  | 4 => ("LeftIsAgreedOn", "one", "[LLeftIsAgreedOn$Walk;", true)
  | 5 => ("LeftIsAgreedOn", "two", "[LLeftIsAgreedOn$Walk;", true)
  | 6 => ("LeftIsAgreedOn", "row", "[I", true)
  | 7 => ("LeftIsAgreedOn", "many", "[I", true)
  | 8 => ("LeftIsAgreedOn", "shelves", "[LLeftIsAgreedOn$Sheet;", true)
  | 9 => ("LeftIsAgreedOn", "tape", "[I", true)
  | 10 => ("LeftIsAgreedOn", "size", "I", false)
  | _ => ("LeftIsAgreedOn", "refused", "[I", true)
def tyX0 : Nat → FieldType := fun k => match k with
  | 0 => .object "LeftIsAgreedOn$Island"
  | 1 => .object "LeftIsAgreedOn$Island"
  | 2 => .object "LeftIsAgreedOn$Walk"
  | 3 => .object "LeftIsAgreedOn$Walk"
  | 4 => .array (.object "LeftIsAgreedOn$Walk")
  | 5 => .array (.object "LeftIsAgreedOn$Walk")
  | 6 => .array .int
  | 7 => .array .int
  | 8 => .array (.object "LeftIsAgreedOn$Sheet")
  | 9 => .array .int
  | 10 => .int
  | _ => .array .int
abbrev wsX00 : List Cond := u_ws RX0 TX0 12
theorem nmX0 : ∀ a, a < 12 → ∀ b, b < 12 → a ≠ b → (TX0 a).2.1 ≠ (TX0 b).2.1 := by decide +kernel
theorem tyX0_ok : ∀ k, k < 12 → parseFieldDescriptor (TX0 k).2.2.1 = some (tyX0 k) := by decide +kernel
abbrev cX0_init : ByteArray := prog_1_method_4_code
def yX0_init : MethodName := ⟨RX0, "<init>", "()V"⟩
def dkwX0_init_6 : List UInt8 := [183, 0, 38, 83, 42, 180, 0, 50, 27, 187, 0, 36, 89, 183, 0, 38, 83, 132, 1, 1, 167, 255, 221, 177]
abbrev dktX0_init_6 : List UInt8 := dkwX0_init_6 ++ []
def dkwX0_init_5 : List UInt8 := [132, 1, 1, 167, 255, 234, 3, 60, 27, 16, 6, 163, 0, 35, 42, 180, 0, 46, 27, 187, 0, 36, 89]
abbrev dktX0_init_5 : List UInt8 := dkwX0_init_5 ++ dktX0_init_6
def dkwX0_init_4 : List UInt8 := [181, 0, 69, 3, 60, 27, 16, 8, 162, 0, 22, 42, 180, 0, 62, 27, 187, 0, 60, 89, 183, 0, 72, 83]
abbrev dktX0_init_4 : List UInt8 := dkwX0_init_4 ++ dktX0_init_5
def dkwX0_init_3 : List UInt8 := [42, 16, 8, 189, 0, 60, 181, 0, 62, 42, 17, 0, 250, 188, 10, 181, 0, 66, 42, 16, 7, 188, 10]
abbrev dktX0_init_3 : List UInt8 := dkwX0_init_3 ++ dktX0_init_4
def dkwX0_init_2 : List UInt8 := [16, 7, 189, 0, 36, 181, 0, 50, 42, 16, 6, 188, 10, 181, 0, 53, 42, 16, 70, 188, 10, 181, 0, 57]
abbrev dktX0_init_2 : List UInt8 := dkwX0_init_2 ++ dktX0_init_3
def dkwX0_init_1 : List UInt8 := [181, 0, 39, 42, 187, 0, 36, 89, 183, 0, 38, 181, 0, 43, 42, 16, 7, 189, 0, 36, 181, 0, 46, 42]
abbrev dktX0_init_1 : List UInt8 := dkwX0_init_1 ++ dktX0_init_2
def dkwX0_init_0 : List UInt8 := [42, 183, 0, 22, 42, 187, 0, 27, 89, 183, 0, 29, 181, 0, 30, 42, 187, 0, 36, 89, 183, 0, 38]
abbrev dktX0_init_0 : List UInt8 := dkwX0_init_0 ++ dktX0_init_1
theorem dksX0_init_0 : cX0_init.data.toList.drop 0 = dktX0_init_0 := by decide +kernel
theorem dksX0_init_1 : cX0_init.data.toList.drop 23 = dktX0_init_1 := dk_seg dksX0_init_0 23 rfl rfl
theorem dksX0_init_2 : cX0_init.data.toList.drop 47 = dktX0_init_2 := dk_seg dksX0_init_1 24 rfl rfl
theorem dksX0_init_3 : cX0_init.data.toList.drop 71 = dktX0_init_3 := dk_seg dksX0_init_2 24 rfl rfl
theorem dksX0_init_4 : cX0_init.data.toList.drop 94 = dktX0_init_4 := dk_seg dksX0_init_3 23 rfl rfl
theorem dksX0_init_5 : cX0_init.data.toList.drop 118 = dktX0_init_5 := dk_seg dksX0_init_4 24 rfl rfl
theorem dksX0_init_6 : cX0_init.data.toList.drop 141 = dktX0_init_6 := dk_seg dksX0_init_5 23 rfl rfl
theorem dX0_init_0 : decode cX0_init 0 = .ok (.aload_n 0, 1) := dk_42 (dk_at dksX0_init_0 0 rfl rfl)
theorem dX0_init_1 : decode cX0_init 1 = .ok (.invokespecial 22, 3) := dk_183 0 22 (dk_at dksX0_init_0 1 rfl rfl)
theorem dX0_init_4 : decode cX0_init 4 = .ok (.aload_n 0, 1) := dk_42 (dk_at dksX0_init_0 4 rfl rfl)
theorem dX0_init_5 : decode cX0_init 5 = .ok (.new 27, 3) := dk_187 0 27 (dk_at dksX0_init_0 5 rfl rfl)
theorem dX0_init_8 : decode cX0_init 8 = .ok (.dup, 1) := dk_89 (dk_at dksX0_init_0 8 rfl rfl)
theorem dX0_init_9 : decode cX0_init 9 = .ok (.invokespecial 29, 3) := dk_183 0 29 (dk_at dksX0_init_0 9 rfl rfl)
theorem dX0_init_12 : decode cX0_init 12 = .ok (.putfield 30, 3) := dk_181 0 30 (dk_at dksX0_init_0 12 rfl rfl)
theorem dX0_init_15 : decode cX0_init 15 = .ok (.aload_n 0, 1) := dk_42 (dk_at dksX0_init_0 15 rfl rfl)
theorem dX0_init_16 : decode cX0_init 16 = .ok (.new 36, 3) := dk_187 0 36 (dk_at dksX0_init_0 16 rfl rfl)
theorem dX0_init_19 : decode cX0_init 19 = .ok (.dup, 1) := dk_89 (dk_at dksX0_init_0 19 rfl rfl)
theorem dX0_init_20 : decode cX0_init 20 = .ok (.invokespecial 38, 3) := dk_183 0 38 (dk_at dksX0_init_0 20 rfl rfl)
theorem dX0_init_23 : decode cX0_init 23 = .ok (.putfield 39, 3) := dk_181 0 39 (dk_at dksX0_init_1 0 rfl rfl)
theorem dX0_init_26 : decode cX0_init 26 = .ok (.aload_n 0, 1) := dk_42 (dk_at dksX0_init_1 3 rfl rfl)
theorem dX0_init_27 : decode cX0_init 27 = .ok (.new 36, 3) := dk_187 0 36 (dk_at dksX0_init_1 4 rfl rfl)
theorem dX0_init_30 : decode cX0_init 30 = .ok (.dup, 1) := dk_89 (dk_at dksX0_init_1 7 rfl rfl)
theorem dX0_init_31 : decode cX0_init 31 = .ok (.invokespecial 38, 3) := dk_183 0 38 (dk_at dksX0_init_1 8 rfl rfl)
theorem dX0_init_34 : decode cX0_init 34 = .ok (.putfield 43, 3) := dk_181 0 43 (dk_at dksX0_init_1 11 rfl rfl)
theorem dX0_init_37 : decode cX0_init 37 = .ok (.aload_n 0, 1) := dk_42 (dk_at dksX0_init_1 14 rfl rfl)
theorem dX0_init_38 : decode cX0_init 38 = .ok (.bipush 7, 2) := dk_16 7 (dk_at dksX0_init_1 15 rfl rfl)
theorem dX0_init_40 : decode cX0_init 40 = .ok (.anewarray 36, 3) := dk_189 0 36 (dk_at dksX0_init_1 17 rfl rfl)
theorem dX0_init_43 : decode cX0_init 43 = .ok (.putfield 46, 3) := dk_181 0 46 (dk_at dksX0_init_1 20 rfl rfl)
theorem dX0_init_46 : decode cX0_init 46 = .ok (.aload_n 0, 1) := dk_42 (dk_at dksX0_init_1 23 rfl rfl)
theorem dX0_init_47 : decode cX0_init 47 = .ok (.bipush 7, 2) := dk_16 7 (dk_at dksX0_init_2 0 rfl rfl)
theorem dX0_init_49 : decode cX0_init 49 = .ok (.anewarray 36, 3) := dk_189 0 36 (dk_at dksX0_init_2 2 rfl rfl)
theorem dX0_init_52 : decode cX0_init 52 = .ok (.putfield 50, 3) := dk_181 0 50 (dk_at dksX0_init_2 5 rfl rfl)
theorem dX0_init_55 : decode cX0_init 55 = .ok (.aload_n 0, 1) := dk_42 (dk_at dksX0_init_2 8 rfl rfl)
theorem dX0_init_56 : decode cX0_init 56 = .ok (.bipush 6, 2) := dk_16 6 (dk_at dksX0_init_2 9 rfl rfl)
theorem dX0_init_58 : decode cX0_init 58 = .ok (.newarray .int, 2) := dk_188_10 (dk_at dksX0_init_2 11 rfl rfl)
theorem dX0_init_60 : decode cX0_init 60 = .ok (.putfield 53, 3) := dk_181 0 53 (dk_at dksX0_init_2 13 rfl rfl)
theorem dX0_init_63 : decode cX0_init 63 = .ok (.aload_n 0, 1) := dk_42 (dk_at dksX0_init_2 16 rfl rfl)
theorem dX0_init_64 : decode cX0_init 64 = .ok (.bipush 70, 2) := dk_16 70 (dk_at dksX0_init_2 17 rfl rfl)
theorem dX0_init_66 : decode cX0_init 66 = .ok (.newarray .int, 2) := dk_188_10 (dk_at dksX0_init_2 19 rfl rfl)
theorem dX0_init_68 : decode cX0_init 68 = .ok (.putfield 57, 3) := dk_181 0 57 (dk_at dksX0_init_2 21 rfl rfl)
theorem dX0_init_71 : decode cX0_init 71 = .ok (.aload_n 0, 1) := dk_42 (dk_at dksX0_init_3 0 rfl rfl)
theorem dX0_init_72 : decode cX0_init 72 = .ok (.bipush 8, 2) := dk_16 8 (dk_at dksX0_init_3 1 rfl rfl)
theorem dX0_init_74 : decode cX0_init 74 = .ok (.anewarray 60, 3) := dk_189 0 60 (dk_at dksX0_init_3 3 rfl rfl)
theorem dX0_init_77 : decode cX0_init 77 = .ok (.putfield 62, 3) := dk_181 0 62 (dk_at dksX0_init_3 6 rfl rfl)
theorem dX0_init_80 : decode cX0_init 80 = .ok (.aload_n 0, 1) := dk_42 (dk_at dksX0_init_3 9 rfl rfl)
theorem dX0_init_81 : decode cX0_init 81 = .ok (.sipush 250, 3) := dk_17 0 250 (dk_at dksX0_init_3 10 rfl rfl)
theorem dX0_init_84 : decode cX0_init 84 = .ok (.newarray .int, 2) := dk_188_10 (dk_at dksX0_init_3 13 rfl rfl)
theorem dX0_init_86 : decode cX0_init 86 = .ok (.putfield 66, 3) := dk_181 0 66 (dk_at dksX0_init_3 15 rfl rfl)
theorem dX0_init_89 : decode cX0_init 89 = .ok (.aload_n 0, 1) := dk_42 (dk_at dksX0_init_3 18 rfl rfl)
theorem dX0_init_90 : decode cX0_init 90 = .ok (.bipush 7, 2) := dk_16 7 (dk_at dksX0_init_3 19 rfl rfl)
theorem dX0_init_92 : decode cX0_init 92 = .ok (.newarray .int, 2) := dk_188_10 (dk_at dksX0_init_3 21 rfl rfl)
theorem dX0_init_94 : decode cX0_init 94 = .ok (.putfield 69, 3) := dk_181 0 69 (dk_at dksX0_init_4 0 rfl rfl)
theorem dX0_init_97 : decode cX0_init 97 = .ok (.iconst 0, 1) := dk_3 (dk_at dksX0_init_4 3 rfl rfl)
theorem dX0_init_98 : decode cX0_init 98 = .ok (.istore_n 1, 1) := dk_60 (dk_at dksX0_init_4 4 rfl rfl)
theorem dX0_init_99 : decode cX0_init 99 = .ok (.iload_n 1, 1) := dk_27 (dk_at dksX0_init_4 5 rfl rfl)
theorem dX0_init_100 : decode cX0_init 100 = .ok (.bipush 8, 2) := dk_16 8 (dk_at dksX0_init_4 6 rfl rfl)
theorem dX0_init_102 : decode cX0_init 102 = .ok (.if_icmp .ge 22, 3) := dk_162 0 22 (dk_at dksX0_init_4 8 rfl rfl)
theorem dX0_init_105 : decode cX0_init 105 = .ok (.aload_n 0, 1) := dk_42 (dk_at dksX0_init_4 11 rfl rfl)
theorem dX0_init_106 : decode cX0_init 106 = .ok (.getfield 62, 3) := dk_180 0 62 (dk_at dksX0_init_4 12 rfl rfl)
theorem dX0_init_109 : decode cX0_init 109 = .ok (.iload_n 1, 1) := dk_27 (dk_at dksX0_init_4 15 rfl rfl)
theorem dX0_init_110 : decode cX0_init 110 = .ok (.new 60, 3) := dk_187 0 60 (dk_at dksX0_init_4 16 rfl rfl)
theorem dX0_init_113 : decode cX0_init 113 = .ok (.dup, 1) := dk_89 (dk_at dksX0_init_4 19 rfl rfl)
theorem dX0_init_114 : decode cX0_init 114 = .ok (.invokespecial 72, 3) := dk_183 0 72 (dk_at dksX0_init_4 20 rfl rfl)
theorem dX0_init_117 : decode cX0_init 117 = .ok (.aastore, 1) := dk_83 (dk_at dksX0_init_4 23 rfl rfl)
theorem dX0_init_118 : decode cX0_init 118 = .ok (.iinc 1 1, 3) := dk_132 1 1 (dk_at dksX0_init_5 0 rfl rfl)
theorem dX0_init_121 : decode cX0_init 121 = .ok (.goto (-22), 3) := dk_167 255 234 (dk_at dksX0_init_5 3 rfl rfl)
theorem dX0_init_124 : decode cX0_init 124 = .ok (.iconst 0, 1) := dk_3 (dk_at dksX0_init_5 6 rfl rfl)
theorem dX0_init_125 : decode cX0_init 125 = .ok (.istore_n 1, 1) := dk_60 (dk_at dksX0_init_5 7 rfl rfl)
theorem dX0_init_126 : decode cX0_init 126 = .ok (.iload_n 1, 1) := dk_27 (dk_at dksX0_init_5 8 rfl rfl)
theorem dX0_init_127 : decode cX0_init 127 = .ok (.bipush 6, 2) := dk_16 6 (dk_at dksX0_init_5 9 rfl rfl)
theorem dX0_init_129 : decode cX0_init 129 = .ok (.if_icmp .gt 35, 3) := dk_163 0 35 (dk_at dksX0_init_5 11 rfl rfl)
theorem dX0_init_132 : decode cX0_init 132 = .ok (.aload_n 0, 1) := dk_42 (dk_at dksX0_init_5 14 rfl rfl)
theorem dX0_init_133 : decode cX0_init 133 = .ok (.getfield 46, 3) := dk_180 0 46 (dk_at dksX0_init_5 15 rfl rfl)
theorem dX0_init_136 : decode cX0_init 136 = .ok (.iload_n 1, 1) := dk_27 (dk_at dksX0_init_5 18 rfl rfl)
theorem dX0_init_137 : decode cX0_init 137 = .ok (.new 36, 3) := dk_187 0 36 (dk_at dksX0_init_5 19 rfl rfl)
theorem dX0_init_140 : decode cX0_init 140 = .ok (.dup, 1) := dk_89 (dk_at dksX0_init_5 22 rfl rfl)
theorem dX0_init_141 : decode cX0_init 141 = .ok (.invokespecial 38, 3) := dk_183 0 38 (dk_at dksX0_init_6 0 rfl rfl)
theorem dX0_init_144 : decode cX0_init 144 = .ok (.aastore, 1) := dk_83 (dk_at dksX0_init_6 3 rfl rfl)
theorem dX0_init_145 : decode cX0_init 145 = .ok (.aload_n 0, 1) := dk_42 (dk_at dksX0_init_6 4 rfl rfl)
theorem dX0_init_146 : decode cX0_init 146 = .ok (.getfield 50, 3) := dk_180 0 50 (dk_at dksX0_init_6 5 rfl rfl)
theorem dX0_init_149 : decode cX0_init 149 = .ok (.iload_n 1, 1) := dk_27 (dk_at dksX0_init_6 8 rfl rfl)
theorem dX0_init_150 : decode cX0_init 150 = .ok (.new 36, 3) := dk_187 0 36 (dk_at dksX0_init_6 9 rfl rfl)
theorem dX0_init_153 : decode cX0_init 153 = .ok (.dup, 1) := dk_89 (dk_at dksX0_init_6 12 rfl rfl)
theorem dX0_init_154 : decode cX0_init 154 = .ok (.invokespecial 38, 3) := dk_183 0 38 (dk_at dksX0_init_6 13 rfl rfl)
theorem dX0_init_157 : decode cX0_init 157 = .ok (.aastore, 1) := dk_83 (dk_at dksX0_init_6 16 rfl rfl)
theorem dX0_init_158 : decode cX0_init 158 = .ok (.iinc 1 1, 3) := dk_132 1 1 (dk_at dksX0_init_6 17 rfl rfl)
theorem dX0_init_161 : decode cX0_init 161 = .ok (.goto (-35), 3) := dk_167 255 221 (dk_at dksX0_init_6 20 rfl rfl)
theorem dX0_init_164 : decode cX0_init 164 = .ok (.return_, 1) := dk_177 (dk_at dksX0_init_6 23 rfl rfl)
abbrev cX0_row : ByteArray := prog_1_method_11_code
def yX0_row : MethodName := ⟨RX0, "row", "(III)I"⟩
def dkwX0_row_2 : List UInt8 := [58, 4, 42, 16, 254, 182, 0, 94, 172, 4, 172]
abbrev dktX0_row_2 : List UInt8 := dkwX0_row_2 ++ []
def dkwX0_row_1 : List UInt8 := [16, 254, 182, 0, 94, 172, 42, 180, 0, 62, 27, 50, 28, 29, 184, 0, 98, 181, 0, 102, 167, 0, 12]
abbrev dktX0_row_1 : List UInt8 := dkwX0_row_1 ++ dktX0_row_2
def dkwX0_row_0 : List UInt8 := [27, 184, 0, 90, 153, 0, 18, 28, 155, 0, 14, 28, 7, 163, 0, 9, 29, 16, 40, 164, 0, 10, 42]
abbrev dktX0_row_0 : List UInt8 := dkwX0_row_0 ++ dktX0_row_1
theorem dksX0_row_0 : cX0_row.data.toList.drop 0 = dktX0_row_0 := by decide +kernel
theorem dksX0_row_1 : cX0_row.data.toList.drop 23 = dktX0_row_1 := dk_seg dksX0_row_0 23 rfl rfl
theorem dksX0_row_2 : cX0_row.data.toList.drop 46 = dktX0_row_2 := dk_seg dksX0_row_1 23 rfl rfl
theorem dX0_row_0 : decode cX0_row 0 = .ok (.iload_n 1, 1) := dk_27 (dk_at dksX0_row_0 0 rfl rfl)
theorem dX0_row_1 : decode cX0_row 1 = .ok (.invokestatic 90, 3) := dk_184 0 90 (dk_at dksX0_row_0 1 rfl rfl)
theorem dX0_row_4 : decode cX0_row 4 = .ok (.ifCond .eq 18, 3) := dk_153 0 18 (dk_at dksX0_row_0 4 rfl rfl)
theorem dX0_row_7 : decode cX0_row 7 = .ok (.iload_n 2, 1) := dk_28 (dk_at dksX0_row_0 7 rfl rfl)
theorem dX0_row_8 : decode cX0_row 8 = .ok (.ifCond .lt 14, 3) := dk_155 0 14 (dk_at dksX0_row_0 8 rfl rfl)
theorem dX0_row_11 : decode cX0_row 11 = .ok (.iload_n 2, 1) := dk_28 (dk_at dksX0_row_0 11 rfl rfl)
theorem dX0_row_12 : decode cX0_row 12 = .ok (.iconst 4, 1) := dk_7 (dk_at dksX0_row_0 12 rfl rfl)
theorem dX0_row_13 : decode cX0_row 13 = .ok (.if_icmp .gt 9, 3) := dk_163 0 9 (dk_at dksX0_row_0 13 rfl rfl)
theorem dX0_row_16 : decode cX0_row 16 = .ok (.iload_n 3, 1) := dk_29 (dk_at dksX0_row_0 16 rfl rfl)
theorem dX0_row_17 : decode cX0_row 17 = .ok (.bipush 40, 2) := dk_16 40 (dk_at dksX0_row_0 17 rfl rfl)
theorem dX0_row_19 : decode cX0_row 19 = .ok (.if_icmp .le 10, 3) := dk_164 0 10 (dk_at dksX0_row_0 19 rfl rfl)
theorem dX0_row_22 : decode cX0_row 22 = .ok (.aload_n 0, 1) := dk_42 (dk_at dksX0_row_0 22 rfl rfl)
theorem dX0_row_23 : decode cX0_row 23 = .ok (.bipush (-2), 2) := dk_16 254 (dk_at dksX0_row_1 0 rfl rfl)
theorem dX0_row_25 : decode cX0_row 25 = .ok (.invokevirtual 94, 3) := dk_182 0 94 (dk_at dksX0_row_1 2 rfl rfl)
theorem dX0_row_28 : decode cX0_row 28 = .ok (.ireturn, 1) := dk_172 (dk_at dksX0_row_1 5 rfl rfl)
theorem dX0_row_29 : decode cX0_row 29 = .ok (.aload_n 0, 1) := dk_42 (dk_at dksX0_row_1 6 rfl rfl)
theorem dX0_row_30 : decode cX0_row 30 = .ok (.getfield 62, 3) := dk_180 0 62 (dk_at dksX0_row_1 7 rfl rfl)
theorem dX0_row_33 : decode cX0_row 33 = .ok (.iload_n 1, 1) := dk_27 (dk_at dksX0_row_1 10 rfl rfl)
theorem dX0_row_34 : decode cX0_row 34 = .ok (.aaload, 1) := dk_50 (dk_at dksX0_row_1 11 rfl rfl)
theorem dX0_row_35 : decode cX0_row 35 = .ok (.iload_n 2, 1) := dk_28 (dk_at dksX0_row_1 12 rfl rfl)
theorem dX0_row_36 : decode cX0_row 36 = .ok (.iload_n 3, 1) := dk_29 (dk_at dksX0_row_1 13 rfl rfl)
theorem dX0_row_37 : decode cX0_row 37 = .ok (.invokestatic 98, 3) := dk_184 0 98 (dk_at dksX0_row_1 14 rfl rfl)
theorem dX0_row_40 : decode cX0_row 40 = .ok (.putfield 102, 3) := dk_181 0 102 (dk_at dksX0_row_1 17 rfl rfl)
theorem dX0_row_43 : decode cX0_row 43 = .ok (.goto 12, 3) := dk_167 0 12 (dk_at dksX0_row_1 20 rfl rfl)
theorem dX0_row_46 : decode cX0_row 46 = .ok (.astore 4, 2) := dk_58 4 (dk_at dksX0_row_2 0 rfl rfl)
theorem dX0_row_48 : decode cX0_row 48 = .ok (.aload_n 0, 1) := dk_42 (dk_at dksX0_row_2 2 rfl rfl)
theorem dX0_row_49 : decode cX0_row 49 = .ok (.bipush (-2), 2) := dk_16 254 (dk_at dksX0_row_2 3 rfl rfl)
theorem dX0_row_51 : decode cX0_row 51 = .ok (.invokevirtual 94, 3) := dk_182 0 94 (dk_at dksX0_row_2 5 rfl rfl)
theorem dX0_row_54 : decode cX0_row 54 = .ok (.ireturn, 1) := dk_172 (dk_at dksX0_row_2 8 rfl rfl)
theorem dX0_row_55 : decode cX0_row 55 = .ok (.iconst 1, 1) := dk_4 (dk_at dksX0_row_2 9 rfl rfl)
theorem dX0_row_56 : decode cX0_row 56 = .ok (.ireturn, 1) := dk_172 (dk_at dksX0_row_2 10 rfl rfl)
abbrev cX0_isShelf : ByteArray := prog_1_method_6_code
def yX0_isShelf : MethodName := ⟨RX0, "isShelf", "(I)Z"⟩
def dkwX0_isShelf_0 : List UInt8 := [26, 3, 16, 7, 184, 0, 73, 172]
abbrev dktX0_isShelf_0 : List UInt8 := dkwX0_isShelf_0 ++ []
theorem dksX0_isShelf_0 : cX0_isShelf.data.toList.drop 0 = dktX0_isShelf_0 := by decide +kernel
theorem dX0_isShelf_0 : decode cX0_isShelf 0 = .ok (.iload_n 0, 1) := dk_26 (dk_at dksX0_isShelf_0 0 rfl rfl)
theorem dX0_isShelf_1 : decode cX0_isShelf 1 = .ok (.iconst 0, 1) := dk_3 (dk_at dksX0_isShelf_0 1 rfl rfl)
theorem dX0_isShelf_2 : decode cX0_isShelf 2 = .ok (.bipush 7, 2) := dk_16 7 (dk_at dksX0_isShelf_0 2 rfl rfl)
theorem dX0_isShelf_4 : decode cX0_isShelf 4 = .ok (.invokestatic 73, 3) := dk_184 0 73 (dk_at dksX0_isShelf_0 4 rfl rfl)
theorem dX0_isShelf_7 : decode cX0_isShelf 7 = .ok (.ireturn, 1) := dk_172 (dk_at dksX0_isShelf_0 7 rfl rfl)
abbrev cX0_isIn : ByteArray := prog_1_method_1_code
def yX0_isIn : MethodName := ⟨RX0, "isIn", "(III)Z"⟩
def dkwX0_isIn_0 : List UInt8 := [26, 27, 161, 0, 12, 26, 28, 163, 0, 7, 4, 167, 0, 4, 3, 172]
abbrev dktX0_isIn_0 : List UInt8 := dkwX0_isIn_0 ++ []
theorem dksX0_isIn_0 : cX0_isIn.data.toList.drop 0 = dktX0_isIn_0 := by decide +kernel
theorem dX0_isIn_0 : decode cX0_isIn 0 = .ok (.iload_n 0, 1) := dk_26 (dk_at dksX0_isIn_0 0 rfl rfl)
theorem dX0_isIn_1 : decode cX0_isIn 1 = .ok (.iload_n 1, 1) := dk_27 (dk_at dksX0_isIn_0 1 rfl rfl)
theorem dX0_isIn_2 : decode cX0_isIn 2 = .ok (.if_icmp .lt 12, 3) := dk_161 0 12 (dk_at dksX0_isIn_0 2 rfl rfl)
theorem dX0_isIn_5 : decode cX0_isIn 5 = .ok (.iload_n 0, 1) := dk_26 (dk_at dksX0_isIn_0 5 rfl rfl)
theorem dX0_isIn_6 : decode cX0_isIn 6 = .ok (.iload_n 2, 1) := dk_28 (dk_at dksX0_isIn_0 6 rfl rfl)
theorem dX0_isIn_7 : decode cX0_isIn 7 = .ok (.if_icmp .gt 7, 3) := dk_163 0 7 (dk_at dksX0_isIn_0 7 rfl rfl)
theorem dX0_isIn_10 : decode cX0_isIn 10 = .ok (.iconst 1, 1) := dk_4 (dk_at dksX0_isIn_0 10 rfl rfl)
theorem dX0_isIn_11 : decode cX0_isIn 11 = .ok (.goto 4, 3) := dk_167 0 4 (dk_at dksX0_isIn_0 11 rfl rfl)
theorem dX0_isIn_14 : decode cX0_isIn 14 = .ok (.iconst 0, 1) := dk_3 (dk_at dksX0_isIn_0 14 rfl rfl)
theorem dX0_isIn_15 : decode cX0_isIn 15 = .ok (.ireturn, 1) := dk_172 (dk_at dksX0_isIn_0 15 rfl rfl)
abbrev cX0_no : ByteArray := prog_1_method_5_code
def yX0_no : MethodName := ⟨RX0, "no", "(I)I"⟩
def dkwX0_no_0 : List UInt8 := [42, 180, 0, 69, 27, 116, 92, 46, 4, 96, 79, 27, 172]
abbrev dktX0_no_0 : List UInt8 := dkwX0_no_0 ++ []
theorem dksX0_no_0 : cX0_no.data.toList.drop 0 = dktX0_no_0 := by decide +kernel
theorem dX0_no_0 : decode cX0_no 0 = .ok (.aload_n 0, 1) := dk_42 (dk_at dksX0_no_0 0 rfl rfl)
theorem dX0_no_1 : decode cX0_no 1 = .ok (.getfield 69, 3) := dk_180 0 69 (dk_at dksX0_no_0 1 rfl rfl)
theorem dX0_no_4 : decode cX0_no 4 = .ok (.iload_n 1, 1) := dk_27 (dk_at dksX0_no_0 4 rfl rfl)
theorem dX0_no_5 : decode cX0_no 5 = .ok (.ineg, 1) := dk_116 (dk_at dksX0_no_0 5 rfl rfl)
theorem dX0_no_6 : decode cX0_no 6 = .ok (.dup2, 1) := dk_92 (dk_at dksX0_no_0 6 rfl rfl)
theorem dX0_no_7 : decode cX0_no 7 = .ok (.iaload, 1) := dk_46 (dk_at dksX0_no_0 7 rfl rfl)
theorem dX0_no_8 : decode cX0_no 8 = .ok (.iconst 1, 1) := dk_4 (dk_at dksX0_no_0 8 rfl rfl)
theorem dX0_no_9 : decode cX0_no 9 = .ok (.iadd, 1) := dk_96 (dk_at dksX0_no_0 9 rfl rfl)
theorem dX0_no_10 : decode cX0_no 10 = .ok (.iastore, 1) := dk_79 (dk_at dksX0_no_0 10 rfl rfl)
theorem dX0_no_11 : decode cX0_no 11 = .ok (.iload_n 1, 1) := dk_27 (dk_at dksX0_no_0 11 rfl rfl)
theorem dX0_no_12 : decode cX0_no 12 = .ok (.ireturn, 1) := dk_172 (dk_at dksX0_no_0 12 rfl rfl)
abbrev cX0_rowOf : ByteArray := prog_1_method_7_code
def yX0_rowOf : MethodName := ⟨RX0, "rowOf", "(II)Ljava/lang/Object;"⟩
def dkwX0_rowOf_2 : List UInt8 := [27, 188, 8, 176, 27, 188, 9, 176, 27, 188, 10, 176, 27, 188, 11, 176, 27, 188, 4, 176]
abbrev dktX0_rowOf_2 : List UInt8 := dkwX0_rowOf_2 ++ []
def dkwX0_rowOf_1 : List UInt8 := [170, 0, 0, 0, 0, 0, 47, 0, 0, 0, 0, 0, 0, 0, 3, 0, 0, 0, 31, 0, 0, 0, 35, 0, 0, 0, 39, 0, 0, 0, 43]
abbrev dktX0_rowOf_1 : List UInt8 := dkwX0_rowOf_1 ++ dktX0_rowOf_2
def dkwX0_rowOf_0 : List UInt8 := [26]
abbrev dktX0_rowOf_0 : List UInt8 := dkwX0_rowOf_0 ++ dktX0_rowOf_1
theorem dksX0_rowOf_0 : cX0_rowOf.data.toList.drop 0 = dktX0_rowOf_0 := by decide +kernel
theorem dksX0_rowOf_1 : cX0_rowOf.data.toList.drop 1 = dktX0_rowOf_1 := dk_seg dksX0_rowOf_0 1 rfl rfl
theorem dksX0_rowOf_2 : cX0_rowOf.data.toList.drop 32 = dktX0_rowOf_2 := dk_seg dksX0_rowOf_1 31 rfl rfl
theorem dX0_rowOf_0 : decode cX0_rowOf 0 = .ok (.iload_n 0, 1) := dk_26 (dk_at dksX0_rowOf_0 0 rfl rfl)
theorem dX0_rowOf_1 : decode cX0_rowOf 1 = .ok (.tableswitch 47 0 3 #[31, 35, 39, 43], 31) := by decide +kernel
theorem dX0_rowOf_32 : decode cX0_rowOf 32 = .ok (.iload_n 1, 1) := dk_27 (dk_at dksX0_rowOf_2 0 rfl rfl)
theorem dX0_rowOf_33 : decode cX0_rowOf 33 = .ok (.newarray .byte, 2) := dk_188_8 (dk_at dksX0_rowOf_2 1 rfl rfl)
theorem dX0_rowOf_35 : decode cX0_rowOf 35 = .ok (.areturn, 1) := dk_176 (dk_at dksX0_rowOf_2 3 rfl rfl)
theorem dX0_rowOf_36 : decode cX0_rowOf 36 = .ok (.iload_n 1, 1) := dk_27 (dk_at dksX0_rowOf_2 4 rfl rfl)
theorem dX0_rowOf_37 : decode cX0_rowOf 37 = .ok (.newarray .short, 2) := dk_188_9 (dk_at dksX0_rowOf_2 5 rfl rfl)
theorem dX0_rowOf_39 : decode cX0_rowOf 39 = .ok (.areturn, 1) := dk_176 (dk_at dksX0_rowOf_2 7 rfl rfl)
theorem dX0_rowOf_40 : decode cX0_rowOf 40 = .ok (.iload_n 1, 1) := dk_27 (dk_at dksX0_rowOf_2 8 rfl rfl)
theorem dX0_rowOf_41 : decode cX0_rowOf 41 = .ok (.newarray .int, 2) := dk_188_10 (dk_at dksX0_rowOf_2 9 rfl rfl)
theorem dX0_rowOf_43 : decode cX0_rowOf 43 = .ok (.areturn, 1) := dk_176 (dk_at dksX0_rowOf_2 11 rfl rfl)
theorem dX0_rowOf_44 : decode cX0_rowOf 44 = .ok (.iload_n 1, 1) := dk_27 (dk_at dksX0_rowOf_2 12 rfl rfl)
theorem dX0_rowOf_45 : decode cX0_rowOf 45 = .ok (.newarray .long, 2) := dk_188_11 (dk_at dksX0_rowOf_2 13 rfl rfl)
theorem dX0_rowOf_47 : decode cX0_rowOf 47 = .ok (.areturn, 1) := dk_176 (dk_at dksX0_rowOf_2 15 rfl rfl)
theorem dX0_rowOf_48 : decode cX0_rowOf 48 = .ok (.iload_n 1, 1) := dk_27 (dk_at dksX0_rowOf_2 16 rfl rfl)
theorem dX0_rowOf_49 : decode cX0_rowOf 49 = .ok (.newarray .boolean, 2) := dk_188_4 (dk_at dksX0_rowOf_2 17 rfl rfl)
theorem dX0_rowOf_51 : decode cX0_rowOf 51 = .ok (.areturn, 1) := dk_176 (dk_at dksX0_rowOf_2 19 rfl rfl)
abbrev cX0_set : ByteArray := prog_1_method_13_code
def yX0_set : MethodName := ⟨RX0, "set", "(IIJ)I"⟩
def dkwX0_set_1 : List UInt8 := [4, 172, 58, 5, 42, 25, 5, 180, 0, 121, 182, 0, 94, 172, 58, 5, 42, 16, 254, 182, 0, 94, 172]
abbrev dktX0_set_1 : List UInt8 := dkwX0_set_1 ++ []
def dkwX0_set_0 : List UInt8 := [27, 184, 0, 90, 154, 0, 10, 42, 16, 254, 182, 0, 94, 172, 42, 27, 182, 0, 113, 28, 33, 184, 0, 117]
abbrev dktX0_set_0 : List UInt8 := dkwX0_set_0 ++ dktX0_set_1
theorem dksX0_set_0 : cX0_set.data.toList.drop 0 = dktX0_set_0 := by decide +kernel
theorem dksX0_set_1 : cX0_set.data.toList.drop 24 = dktX0_set_1 := dk_seg dksX0_set_0 24 rfl rfl
theorem dX0_set_0 : decode cX0_set 0 = .ok (.iload_n 1, 1) := dk_27 (dk_at dksX0_set_0 0 rfl rfl)
theorem dX0_set_1 : decode cX0_set 1 = .ok (.invokestatic 90, 3) := dk_184 0 90 (dk_at dksX0_set_0 1 rfl rfl)
theorem dX0_set_4 : decode cX0_set 4 = .ok (.ifCond .ne 10, 3) := dk_154 0 10 (dk_at dksX0_set_0 4 rfl rfl)
theorem dX0_set_7 : decode cX0_set 7 = .ok (.aload_n 0, 1) := dk_42 (dk_at dksX0_set_0 7 rfl rfl)
theorem dX0_set_8 : decode cX0_set 8 = .ok (.bipush (-2), 2) := dk_16 254 (dk_at dksX0_set_0 8 rfl rfl)
theorem dX0_set_10 : decode cX0_set 10 = .ok (.invokevirtual 94, 3) := dk_182 0 94 (dk_at dksX0_set_0 10 rfl rfl)
theorem dX0_set_13 : decode cX0_set 13 = .ok (.ireturn, 1) := dk_172 (dk_at dksX0_set_0 13 rfl rfl)
theorem dX0_set_14 : decode cX0_set 14 = .ok (.aload_n 0, 1) := dk_42 (dk_at dksX0_set_0 14 rfl rfl)
theorem dX0_set_15 : decode cX0_set 15 = .ok (.iload_n 1, 1) := dk_27 (dk_at dksX0_set_0 15 rfl rfl)
theorem dX0_set_16 : decode cX0_set 16 = .ok (.invokevirtual 113, 3) := dk_182 0 113 (dk_at dksX0_set_0 16 rfl rfl)
theorem dX0_set_19 : decode cX0_set 19 = .ok (.iload_n 2, 1) := dk_28 (dk_at dksX0_set_0 19 rfl rfl)
theorem dX0_set_20 : decode cX0_set 20 = .ok (.lload_n 3, 1) := dk_33 (dk_at dksX0_set_0 20 rfl rfl)
theorem dX0_set_21 : decode cX0_set 21 = .ok (.invokestatic 117, 3) := dk_184 0 117 (dk_at dksX0_set_0 21 rfl rfl)
theorem dX0_set_24 : decode cX0_set 24 = .ok (.iconst 1, 1) := dk_4 (dk_at dksX0_set_1 0 rfl rfl)
theorem dX0_set_25 : decode cX0_set 25 = .ok (.ireturn, 1) := dk_172 (dk_at dksX0_set_1 1 rfl rfl)
theorem dX0_set_26 : decode cX0_set 26 = .ok (.astore 5, 2) := dk_58 5 (dk_at dksX0_set_1 2 rfl rfl)
theorem dX0_set_28 : decode cX0_set 28 = .ok (.aload_n 0, 1) := dk_42 (dk_at dksX0_set_1 4 rfl rfl)
theorem dX0_set_29 : decode cX0_set 29 = .ok (.aload 5, 2) := dk_25 5 (dk_at dksX0_set_1 5 rfl rfl)
theorem dX0_set_31 : decode cX0_set 31 = .ok (.getfield 121, 3) := dk_180 0 121 (dk_at dksX0_set_1 7 rfl rfl)
theorem dX0_set_34 : decode cX0_set 34 = .ok (.invokevirtual 94, 3) := dk_182 0 94 (dk_at dksX0_set_1 10 rfl rfl)
theorem dX0_set_37 : decode cX0_set 37 = .ok (.ireturn, 1) := dk_172 (dk_at dksX0_set_1 13 rfl rfl)
theorem dX0_set_38 : decode cX0_set 38 = .ok (.astore 5, 2) := dk_58 5 (dk_at dksX0_set_1 14 rfl rfl)
theorem dX0_set_40 : decode cX0_set 40 = .ok (.aload_n 0, 1) := dk_42 (dk_at dksX0_set_1 16 rfl rfl)
theorem dX0_set_41 : decode cX0_set 41 = .ok (.bipush (-2), 2) := dk_16 254 (dk_at dksX0_set_1 17 rfl rfl)
theorem dX0_set_43 : decode cX0_set 43 = .ok (.invokevirtual 94, 3) := dk_182 0 94 (dk_at dksX0_set_1 19 rfl rfl)
theorem dX0_set_46 : decode cX0_set 46 = .ok (.ireturn, 1) := dk_172 (dk_at dksX0_set_1 22 rfl rfl)
abbrev cX0_rowIn : ByteArray := prog_1_method_12_code
def yX0_rowIn : MethodName := ⟨RX0, "rowIn", "(I)Ljava/lang/Object;"⟩
def dkwX0_rowIn_1 : List UInt8 := [183, 0, 110, 191, 44, 199, 0, 13, 187, 0, 108, 89, 16, 252, 183, 0, 110, 191, 44, 176]
abbrev dktX0_rowIn_1 : List UInt8 := dkwX0_rowIn_1 ++ []
def dkwX0_rowIn_0 : List UInt8 := [42, 180, 0, 62, 27, 50, 180, 0, 102, 77, 44, 193, 0, 1, 153, 0, 13, 187, 0, 108, 89, 16, 253]
abbrev dktX0_rowIn_0 : List UInt8 := dkwX0_rowIn_0 ++ dktX0_rowIn_1
theorem dksX0_rowIn_0 : cX0_rowIn.data.toList.drop 0 = dktX0_rowIn_0 := by decide +kernel
theorem dksX0_rowIn_1 : cX0_rowIn.data.toList.drop 23 = dktX0_rowIn_1 := dk_seg dksX0_rowIn_0 23 rfl rfl
theorem dX0_rowIn_0 : decode cX0_rowIn 0 = .ok (.aload_n 0, 1) := dk_42 (dk_at dksX0_rowIn_0 0 rfl rfl)
theorem dX0_rowIn_1 : decode cX0_rowIn 1 = .ok (.getfield 62, 3) := dk_180 0 62 (dk_at dksX0_rowIn_0 1 rfl rfl)
theorem dX0_rowIn_4 : decode cX0_rowIn 4 = .ok (.iload_n 1, 1) := dk_27 (dk_at dksX0_rowIn_0 4 rfl rfl)
theorem dX0_rowIn_5 : decode cX0_rowIn 5 = .ok (.aaload, 1) := dk_50 (dk_at dksX0_rowIn_0 5 rfl rfl)
theorem dX0_rowIn_6 : decode cX0_rowIn 6 = .ok (.getfield 102, 3) := dk_180 0 102 (dk_at dksX0_rowIn_0 6 rfl rfl)
theorem dX0_rowIn_9 : decode cX0_rowIn 9 = .ok (.astore_n 2, 1) := dk_77 (dk_at dksX0_rowIn_0 9 rfl rfl)
theorem dX0_rowIn_10 : decode cX0_rowIn 10 = .ok (.aload_n 2, 1) := dk_44 (dk_at dksX0_rowIn_0 10 rfl rfl)
theorem dX0_rowIn_11 : decode cX0_rowIn 11 = .ok (.instanceof 1, 3) := dk_193 0 1 (dk_at dksX0_rowIn_0 11 rfl rfl)
theorem dX0_rowIn_14 : decode cX0_rowIn 14 = .ok (.ifCond .eq 13, 3) := dk_153 0 13 (dk_at dksX0_rowIn_0 14 rfl rfl)
theorem dX0_rowIn_17 : decode cX0_rowIn 17 = .ok (.new 108, 3) := dk_187 0 108 (dk_at dksX0_rowIn_0 17 rfl rfl)
theorem dX0_rowIn_20 : decode cX0_rowIn 20 = .ok (.dup, 1) := dk_89 (dk_at dksX0_rowIn_0 20 rfl rfl)
theorem dX0_rowIn_21 : decode cX0_rowIn 21 = .ok (.bipush (-3), 2) := dk_16 253 (dk_at dksX0_rowIn_0 21 rfl rfl)
theorem dX0_rowIn_23 : decode cX0_rowIn 23 = .ok (.invokespecial 110, 3) := dk_183 0 110 (dk_at dksX0_rowIn_1 0 rfl rfl)
theorem dX0_rowIn_26 : decode cX0_rowIn 26 = .ok (.athrow, 1) := dk_191 (dk_at dksX0_rowIn_1 3 rfl rfl)
theorem dX0_rowIn_27 : decode cX0_rowIn 27 = .ok (.aload_n 2, 1) := dk_44 (dk_at dksX0_rowIn_1 4 rfl rfl)
theorem dX0_rowIn_28 : decode cX0_rowIn 28 = .ok (.ifnonnull 13, 3) := dk_199 0 13 (dk_at dksX0_rowIn_1 5 rfl rfl)
theorem dX0_rowIn_31 : decode cX0_rowIn 31 = .ok (.new 108, 3) := dk_187 0 108 (dk_at dksX0_rowIn_1 8 rfl rfl)
theorem dX0_rowIn_34 : decode cX0_rowIn 34 = .ok (.dup, 1) := dk_89 (dk_at dksX0_rowIn_1 11 rfl rfl)
theorem dX0_rowIn_35 : decode cX0_rowIn 35 = .ok (.bipush (-4), 2) := dk_16 252 (dk_at dksX0_rowIn_1 12 rfl rfl)
theorem dX0_rowIn_37 : decode cX0_rowIn 37 = .ok (.invokespecial 110, 3) := dk_183 0 110 (dk_at dksX0_rowIn_1 14 rfl rfl)
theorem dX0_rowIn_40 : decode cX0_rowIn 40 = .ok (.athrow, 1) := dk_191 (dk_at dksX0_rowIn_1 17 rfl rfl)
theorem dX0_rowIn_41 : decode cX0_rowIn 41 = .ok (.aload_n 2, 1) := dk_44 (dk_at dksX0_rowIn_1 18 rfl rfl)
theorem dX0_rowIn_42 : decode cX0_rowIn 42 = .ok (.areturn, 1) := dk_176 (dk_at dksX0_rowIn_1 19 rfl rfl)
abbrev cX0_puts : ByteArray := prog_1_method_10_code
def yX0_puts : MethodName := ⟨RX0, "puts", "(Ljava/lang/Object;IJ)V"⟩
def dkwX0_puts_4 : List UInt8 := [192, 0, 88, 27, 32, 9, 148, 153, 0, 7, 4, 167, 0, 4, 3, 84, 177]
abbrev dktX0_puts_4 : List UInt8 := dkwX0_puts_4 ++ []
def dkwX0_puts_3 : List UInt8 := [42, 192, 0, 81, 27, 32, 136, 79, 167, 0, 30, 42, 192, 0, 82, 27, 32, 80, 167, 0, 20, 42]
abbrev dktX0_puts_3 : List UInt8 := dkwX0_puts_3 ++ dktX0_puts_4
def dkwX0_puts_2 : List UInt8 := [42, 192, 0, 77, 27, 32, 136, 145, 84, 167, 0, 53, 42, 192, 0, 79, 27, 32, 136, 147, 86, 167, 0, 41]
abbrev dktX0_puts_2 : List UInt8 := dkwX0_puts_2 ++ dktX0_puts_3
def dkwX0_puts_1 : List UInt8 := [170, 0, 0, 0, 0, 0, 0, 77, 0, 0, 0, 0, 0, 0, 0, 3, 0, 0, 0, 32, 0, 0, 0, 44, 0, 0, 0, 56, 0, 0, 0, 67]
abbrev dktX0_puts_1 : List UInt8 := dkwX0_puts_1 ++ dktX0_puts_2
def dkwX0_puts_0 : List UInt8 := [42, 184, 0, 84]
abbrev dktX0_puts_0 : List UInt8 := dkwX0_puts_0 ++ dktX0_puts_1
theorem dksX0_puts_0 : cX0_puts.data.toList.drop 0 = dktX0_puts_0 := by decide +kernel
theorem dksX0_puts_1 : cX0_puts.data.toList.drop 4 = dktX0_puts_1 := dk_seg dksX0_puts_0 4 rfl rfl
theorem dksX0_puts_2 : cX0_puts.data.toList.drop 36 = dktX0_puts_2 := dk_seg dksX0_puts_1 32 rfl rfl
theorem dksX0_puts_3 : cX0_puts.data.toList.drop 60 = dktX0_puts_3 := dk_seg dksX0_puts_2 24 rfl rfl
theorem dksX0_puts_4 : cX0_puts.data.toList.drop 82 = dktX0_puts_4 := dk_seg dksX0_puts_3 22 rfl rfl
theorem dX0_puts_0 : decode cX0_puts 0 = .ok (.aload_n 0, 1) := dk_42 (dk_at dksX0_puts_0 0 rfl rfl)
theorem dX0_puts_1 : decode cX0_puts 1 = .ok (.invokestatic 84, 3) := dk_184 0 84 (dk_at dksX0_puts_0 1 rfl rfl)
theorem dX0_puts_4 : decode cX0_puts 4 = .ok (.tableswitch 77 0 3 #[32, 44, 56, 67], 32) := by decide +kernel
theorem dX0_puts_36 : decode cX0_puts 36 = .ok (.aload_n 0, 1) := dk_42 (dk_at dksX0_puts_2 0 rfl rfl)
theorem dX0_puts_37 : decode cX0_puts 37 = .ok (.checkcast 77, 3) := dk_192 0 77 (dk_at dksX0_puts_2 1 rfl rfl)
theorem dX0_puts_40 : decode cX0_puts 40 = .ok (.iload_n 1, 1) := dk_27 (dk_at dksX0_puts_2 4 rfl rfl)
theorem dX0_puts_41 : decode cX0_puts 41 = .ok (.lload_n 2, 1) := dk_32 (dk_at dksX0_puts_2 5 rfl rfl)
theorem dX0_puts_42 : decode cX0_puts 42 = .ok (.l2i, 1) := dk_136 (dk_at dksX0_puts_2 6 rfl rfl)
theorem dX0_puts_43 : decode cX0_puts 43 = .ok (.i2b, 1) := dk_145 (dk_at dksX0_puts_2 7 rfl rfl)
theorem dX0_puts_44 : decode cX0_puts 44 = .ok (.bastore, 1) := dk_84 (dk_at dksX0_puts_2 8 rfl rfl)
theorem dX0_puts_45 : decode cX0_puts 45 = .ok (.goto 53, 3) := dk_167 0 53 (dk_at dksX0_puts_2 9 rfl rfl)
theorem dX0_puts_48 : decode cX0_puts 48 = .ok (.aload_n 0, 1) := dk_42 (dk_at dksX0_puts_2 12 rfl rfl)
theorem dX0_puts_49 : decode cX0_puts 49 = .ok (.checkcast 79, 3) := dk_192 0 79 (dk_at dksX0_puts_2 13 rfl rfl)
theorem dX0_puts_52 : decode cX0_puts 52 = .ok (.iload_n 1, 1) := dk_27 (dk_at dksX0_puts_2 16 rfl rfl)
theorem dX0_puts_53 : decode cX0_puts 53 = .ok (.lload_n 2, 1) := dk_32 (dk_at dksX0_puts_2 17 rfl rfl)
theorem dX0_puts_54 : decode cX0_puts 54 = .ok (.l2i, 1) := dk_136 (dk_at dksX0_puts_2 18 rfl rfl)
theorem dX0_puts_55 : decode cX0_puts 55 = .ok (.i2s, 1) := dk_147 (dk_at dksX0_puts_2 19 rfl rfl)
theorem dX0_puts_56 : decode cX0_puts 56 = .ok (.sastore, 1) := dk_86 (dk_at dksX0_puts_2 20 rfl rfl)
theorem dX0_puts_57 : decode cX0_puts 57 = .ok (.goto 41, 3) := dk_167 0 41 (dk_at dksX0_puts_2 21 rfl rfl)
theorem dX0_puts_60 : decode cX0_puts 60 = .ok (.aload_n 0, 1) := dk_42 (dk_at dksX0_puts_3 0 rfl rfl)
theorem dX0_puts_61 : decode cX0_puts 61 = .ok (.checkcast 81, 3) := dk_192 0 81 (dk_at dksX0_puts_3 1 rfl rfl)
theorem dX0_puts_64 : decode cX0_puts 64 = .ok (.iload_n 1, 1) := dk_27 (dk_at dksX0_puts_3 4 rfl rfl)
theorem dX0_puts_65 : decode cX0_puts 65 = .ok (.lload_n 2, 1) := dk_32 (dk_at dksX0_puts_3 5 rfl rfl)
theorem dX0_puts_66 : decode cX0_puts 66 = .ok (.l2i, 1) := dk_136 (dk_at dksX0_puts_3 6 rfl rfl)
theorem dX0_puts_67 : decode cX0_puts 67 = .ok (.iastore, 1) := dk_79 (dk_at dksX0_puts_3 7 rfl rfl)
theorem dX0_puts_68 : decode cX0_puts 68 = .ok (.goto 30, 3) := dk_167 0 30 (dk_at dksX0_puts_3 8 rfl rfl)
theorem dX0_puts_71 : decode cX0_puts 71 = .ok (.aload_n 0, 1) := dk_42 (dk_at dksX0_puts_3 11 rfl rfl)
theorem dX0_puts_72 : decode cX0_puts 72 = .ok (.checkcast 82, 3) := dk_192 0 82 (dk_at dksX0_puts_3 12 rfl rfl)
theorem dX0_puts_75 : decode cX0_puts 75 = .ok (.iload_n 1, 1) := dk_27 (dk_at dksX0_puts_3 15 rfl rfl)
theorem dX0_puts_76 : decode cX0_puts 76 = .ok (.lload_n 2, 1) := dk_32 (dk_at dksX0_puts_3 16 rfl rfl)
theorem dX0_puts_77 : decode cX0_puts 77 = .ok (.lastore, 1) := dk_80 (dk_at dksX0_puts_3 17 rfl rfl)
theorem dX0_puts_78 : decode cX0_puts 78 = .ok (.goto 20, 3) := dk_167 0 20 (dk_at dksX0_puts_3 18 rfl rfl)
theorem dX0_puts_81 : decode cX0_puts 81 = .ok (.aload_n 0, 1) := dk_42 (dk_at dksX0_puts_3 21 rfl rfl)
theorem dX0_puts_82 : decode cX0_puts 82 = .ok (.checkcast 88, 3) := dk_192 0 88 (dk_at dksX0_puts_4 0 rfl rfl)
theorem dX0_puts_85 : decode cX0_puts 85 = .ok (.iload_n 1, 1) := dk_27 (dk_at dksX0_puts_4 3 rfl rfl)
theorem dX0_puts_86 : decode cX0_puts 86 = .ok (.lload_n 2, 1) := dk_32 (dk_at dksX0_puts_4 4 rfl rfl)
theorem dX0_puts_87 : decode cX0_puts 87 = .ok (.lconst 0, 1) := dk_9 (dk_at dksX0_puts_4 5 rfl rfl)
theorem dX0_puts_88 : decode cX0_puts 88 = .ok (.lcmp, 1) := dk_148 (dk_at dksX0_puts_4 6 rfl rfl)
theorem dX0_puts_89 : decode cX0_puts 89 = .ok (.ifCond .eq 7, 3) := dk_153 0 7 (dk_at dksX0_puts_4 7 rfl rfl)
theorem dX0_puts_92 : decode cX0_puts 92 = .ok (.iconst 1, 1) := dk_4 (dk_at dksX0_puts_4 10 rfl rfl)
theorem dX0_puts_93 : decode cX0_puts 93 = .ok (.goto 4, 3) := dk_167 0 4 (dk_at dksX0_puts_4 11 rfl rfl)
theorem dX0_puts_96 : decode cX0_puts 96 = .ok (.iconst 0, 1) := dk_3 (dk_at dksX0_puts_4 14 rfl rfl)
theorem dX0_puts_97 : decode cX0_puts 97 = .ok (.bastore, 1) := dk_84 (dk_at dksX0_puts_4 15 rfl rfl)
theorem dX0_puts_98 : decode cX0_puts 98 = .ok (.return_, 1) := dk_177 (dk_at dksX0_puts_4 16 rfl rfl)
abbrev cX0_sortOf : ByteArray := prog_1_method_8_code
def yX0_sortOf : MethodName := ⟨RX0, "sortOf", "(Ljava/lang/Object;)I"⟩
def dkwX0_sortOf_1 : List UInt8 := [153, 0, 5, 5, 172, 42, 193, 0, 82, 153, 0, 7, 6, 167, 0, 4, 7, 172]
abbrev dktX0_sortOf_1 : List UInt8 := dkwX0_sortOf_1 ++ []
def dkwX0_sortOf_0 : List UInt8 := [42, 193, 0, 77, 153, 0, 5, 3, 172, 42, 193, 0, 79, 153, 0, 5, 4, 172, 42, 193, 0, 81]
abbrev dktX0_sortOf_0 : List UInt8 := dkwX0_sortOf_0 ++ dktX0_sortOf_1
theorem dksX0_sortOf_0 : cX0_sortOf.data.toList.drop 0 = dktX0_sortOf_0 := by decide +kernel
theorem dksX0_sortOf_1 : cX0_sortOf.data.toList.drop 22 = dktX0_sortOf_1 := dk_seg dksX0_sortOf_0 22 rfl rfl
theorem dX0_sortOf_0 : decode cX0_sortOf 0 = .ok (.aload_n 0, 1) := dk_42 (dk_at dksX0_sortOf_0 0 rfl rfl)
theorem dX0_sortOf_1 : decode cX0_sortOf 1 = .ok (.instanceof 77, 3) := dk_193 0 77 (dk_at dksX0_sortOf_0 1 rfl rfl)
theorem dX0_sortOf_4 : decode cX0_sortOf 4 = .ok (.ifCond .eq 5, 3) := dk_153 0 5 (dk_at dksX0_sortOf_0 4 rfl rfl)
theorem dX0_sortOf_7 : decode cX0_sortOf 7 = .ok (.iconst 0, 1) := dk_3 (dk_at dksX0_sortOf_0 7 rfl rfl)
theorem dX0_sortOf_8 : decode cX0_sortOf 8 = .ok (.ireturn, 1) := dk_172 (dk_at dksX0_sortOf_0 8 rfl rfl)
theorem dX0_sortOf_9 : decode cX0_sortOf 9 = .ok (.aload_n 0, 1) := dk_42 (dk_at dksX0_sortOf_0 9 rfl rfl)
theorem dX0_sortOf_10 : decode cX0_sortOf 10 = .ok (.instanceof 79, 3) := dk_193 0 79 (dk_at dksX0_sortOf_0 10 rfl rfl)
theorem dX0_sortOf_13 : decode cX0_sortOf 13 = .ok (.ifCond .eq 5, 3) := dk_153 0 5 (dk_at dksX0_sortOf_0 13 rfl rfl)
theorem dX0_sortOf_16 : decode cX0_sortOf 16 = .ok (.iconst 1, 1) := dk_4 (dk_at dksX0_sortOf_0 16 rfl rfl)
theorem dX0_sortOf_17 : decode cX0_sortOf 17 = .ok (.ireturn, 1) := dk_172 (dk_at dksX0_sortOf_0 17 rfl rfl)
theorem dX0_sortOf_18 : decode cX0_sortOf 18 = .ok (.aload_n 0, 1) := dk_42 (dk_at dksX0_sortOf_0 18 rfl rfl)
theorem dX0_sortOf_19 : decode cX0_sortOf 19 = .ok (.instanceof 81, 3) := dk_193 0 81 (dk_at dksX0_sortOf_0 19 rfl rfl)
theorem dX0_sortOf_22 : decode cX0_sortOf 22 = .ok (.ifCond .eq 5, 3) := dk_153 0 5 (dk_at dksX0_sortOf_1 0 rfl rfl)
theorem dX0_sortOf_25 : decode cX0_sortOf 25 = .ok (.iconst 2, 1) := dk_5 (dk_at dksX0_sortOf_1 3 rfl rfl)
theorem dX0_sortOf_26 : decode cX0_sortOf 26 = .ok (.ireturn, 1) := dk_172 (dk_at dksX0_sortOf_1 4 rfl rfl)
theorem dX0_sortOf_27 : decode cX0_sortOf 27 = .ok (.aload_n 0, 1) := dk_42 (dk_at dksX0_sortOf_1 5 rfl rfl)
theorem dX0_sortOf_28 : decode cX0_sortOf 28 = .ok (.instanceof 82, 3) := dk_193 0 82 (dk_at dksX0_sortOf_1 6 rfl rfl)
theorem dX0_sortOf_31 : decode cX0_sortOf 31 = .ok (.ifCond .eq 7, 3) := dk_153 0 7 (dk_at dksX0_sortOf_1 9 rfl rfl)
theorem dX0_sortOf_34 : decode cX0_sortOf 34 = .ok (.iconst 3, 1) := dk_6 (dk_at dksX0_sortOf_1 12 rfl rfl)
theorem dX0_sortOf_35 : decode cX0_sortOf 35 = .ok (.goto 4, 3) := dk_167 0 4 (dk_at dksX0_sortOf_1 13 rfl rfl)
theorem dX0_sortOf_38 : decode cX0_sortOf 38 = .ok (.iconst 4, 1) := dk_7 (dk_at dksX0_sortOf_1 16 rfl rfl)
theorem dX0_sortOf_39 : decode cX0_sortOf 39 = .ok (.ireturn, 1) := dk_172 (dk_at dksX0_sortOf_1 17 rfl rfl)
abbrev cX0_copy : ByteArray := prog_1_method_14_code
def yX0_copy : MethodName := ⟨RX0, "copy", "(IIIII)I"⟩
def dkwX0_copy_4 : List UInt8 := [16, 253, 182, 0, 94, 172, 58, 8, 42, 16, 254, 182, 0, 94, 172]
abbrev dktX0_copy_4 : List UInt8 := dkwX0_copy_4 ++ []
def dkwX0_copy_3 : List UInt8 := [25, 7, 21, 4, 21, 5, 184, 0, 127, 21, 5, 172, 58, 8, 42, 16, 252, 182, 0, 94, 172, 58, 8, 42]
abbrev dktX0_copy_3 : List UInt8 := dkwX0_copy_3 ++ dktX0_copy_4
def dkwX0_copy_2 : List UInt8 := [193, 0, 1, 154, 0, 11, 25, 7, 193, 0, 1, 153, 0, 10, 42, 16, 253, 182, 0, 94, 172, 25, 6, 29]
abbrev dktX0_copy_2 : List UInt8 := dkwX0_copy_2 ++ dktX0_copy_3
def dkwX0_copy_1 : List UInt8 := [180, 0, 62, 27, 50, 180, 0, 102, 58, 6, 42, 180, 0, 62, 28, 50, 180, 0, 102, 58, 7, 25, 6]
abbrev dktX0_copy_1 : List UInt8 := dkwX0_copy_1 ++ dktX0_copy_2
def dkwX0_copy_0 : List UInt8 := [27, 184, 0, 90, 153, 0, 10, 28, 184, 0, 90, 154, 0, 10, 42, 16, 254, 182, 0, 94, 172, 42]
abbrev dktX0_copy_0 : List UInt8 := dkwX0_copy_0 ++ dktX0_copy_1
theorem dksX0_copy_0 : cX0_copy.data.toList.drop 0 = dktX0_copy_0 := by decide +kernel
theorem dksX0_copy_1 : cX0_copy.data.toList.drop 22 = dktX0_copy_1 := dk_seg dksX0_copy_0 22 rfl rfl
theorem dksX0_copy_2 : cX0_copy.data.toList.drop 45 = dktX0_copy_2 := dk_seg dksX0_copy_1 23 rfl rfl
theorem dksX0_copy_3 : cX0_copy.data.toList.drop 69 = dktX0_copy_3 := dk_seg dksX0_copy_2 24 rfl rfl
theorem dksX0_copy_4 : cX0_copy.data.toList.drop 93 = dktX0_copy_4 := dk_seg dksX0_copy_3 24 rfl rfl
theorem dX0_copy_0 : decode cX0_copy 0 = .ok (.iload_n 1, 1) := dk_27 (dk_at dksX0_copy_0 0 rfl rfl)
theorem dX0_copy_1 : decode cX0_copy 1 = .ok (.invokestatic 90, 3) := dk_184 0 90 (dk_at dksX0_copy_0 1 rfl rfl)
theorem dX0_copy_4 : decode cX0_copy 4 = .ok (.ifCond .eq 10, 3) := dk_153 0 10 (dk_at dksX0_copy_0 4 rfl rfl)
theorem dX0_copy_7 : decode cX0_copy 7 = .ok (.iload_n 2, 1) := dk_28 (dk_at dksX0_copy_0 7 rfl rfl)
theorem dX0_copy_8 : decode cX0_copy 8 = .ok (.invokestatic 90, 3) := dk_184 0 90 (dk_at dksX0_copy_0 8 rfl rfl)
theorem dX0_copy_11 : decode cX0_copy 11 = .ok (.ifCond .ne 10, 3) := dk_154 0 10 (dk_at dksX0_copy_0 11 rfl rfl)
theorem dX0_copy_14 : decode cX0_copy 14 = .ok (.aload_n 0, 1) := dk_42 (dk_at dksX0_copy_0 14 rfl rfl)
theorem dX0_copy_15 : decode cX0_copy 15 = .ok (.bipush (-2), 2) := dk_16 254 (dk_at dksX0_copy_0 15 rfl rfl)
theorem dX0_copy_17 : decode cX0_copy 17 = .ok (.invokevirtual 94, 3) := dk_182 0 94 (dk_at dksX0_copy_0 17 rfl rfl)
theorem dX0_copy_20 : decode cX0_copy 20 = .ok (.ireturn, 1) := dk_172 (dk_at dksX0_copy_0 20 rfl rfl)
theorem dX0_copy_21 : decode cX0_copy 21 = .ok (.aload_n 0, 1) := dk_42 (dk_at dksX0_copy_0 21 rfl rfl)
theorem dX0_copy_22 : decode cX0_copy 22 = .ok (.getfield 62, 3) := dk_180 0 62 (dk_at dksX0_copy_1 0 rfl rfl)
theorem dX0_copy_25 : decode cX0_copy 25 = .ok (.iload_n 1, 1) := dk_27 (dk_at dksX0_copy_1 3 rfl rfl)
theorem dX0_copy_26 : decode cX0_copy 26 = .ok (.aaload, 1) := dk_50 (dk_at dksX0_copy_1 4 rfl rfl)
theorem dX0_copy_27 : decode cX0_copy 27 = .ok (.getfield 102, 3) := dk_180 0 102 (dk_at dksX0_copy_1 5 rfl rfl)
theorem dX0_copy_30 : decode cX0_copy 30 = .ok (.astore 6, 2) := dk_58 6 (dk_at dksX0_copy_1 8 rfl rfl)
theorem dX0_copy_32 : decode cX0_copy 32 = .ok (.aload_n 0, 1) := dk_42 (dk_at dksX0_copy_1 10 rfl rfl)
theorem dX0_copy_33 : decode cX0_copy 33 = .ok (.getfield 62, 3) := dk_180 0 62 (dk_at dksX0_copy_1 11 rfl rfl)
theorem dX0_copy_36 : decode cX0_copy 36 = .ok (.iload_n 2, 1) := dk_28 (dk_at dksX0_copy_1 14 rfl rfl)
theorem dX0_copy_37 : decode cX0_copy 37 = .ok (.aaload, 1) := dk_50 (dk_at dksX0_copy_1 15 rfl rfl)
theorem dX0_copy_38 : decode cX0_copy 38 = .ok (.getfield 102, 3) := dk_180 0 102 (dk_at dksX0_copy_1 16 rfl rfl)
theorem dX0_copy_41 : decode cX0_copy 41 = .ok (.astore 7, 2) := dk_58 7 (dk_at dksX0_copy_1 19 rfl rfl)
theorem dX0_copy_43 : decode cX0_copy 43 = .ok (.aload 6, 2) := dk_25 6 (dk_at dksX0_copy_1 21 rfl rfl)
theorem dX0_copy_45 : decode cX0_copy 45 = .ok (.instanceof 1, 3) := dk_193 0 1 (dk_at dksX0_copy_2 0 rfl rfl)
theorem dX0_copy_48 : decode cX0_copy 48 = .ok (.ifCond .ne 11, 3) := dk_154 0 11 (dk_at dksX0_copy_2 3 rfl rfl)
theorem dX0_copy_51 : decode cX0_copy 51 = .ok (.aload 7, 2) := dk_25 7 (dk_at dksX0_copy_2 6 rfl rfl)
theorem dX0_copy_53 : decode cX0_copy 53 = .ok (.instanceof 1, 3) := dk_193 0 1 (dk_at dksX0_copy_2 8 rfl rfl)
theorem dX0_copy_56 : decode cX0_copy 56 = .ok (.ifCond .eq 10, 3) := dk_153 0 10 (dk_at dksX0_copy_2 11 rfl rfl)
theorem dX0_copy_59 : decode cX0_copy 59 = .ok (.aload_n 0, 1) := dk_42 (dk_at dksX0_copy_2 14 rfl rfl)
theorem dX0_copy_60 : decode cX0_copy 60 = .ok (.bipush (-3), 2) := dk_16 253 (dk_at dksX0_copy_2 15 rfl rfl)
theorem dX0_copy_62 : decode cX0_copy 62 = .ok (.invokevirtual 94, 3) := dk_182 0 94 (dk_at dksX0_copy_2 17 rfl rfl)
theorem dX0_copy_65 : decode cX0_copy 65 = .ok (.ireturn, 1) := dk_172 (dk_at dksX0_copy_2 20 rfl rfl)
theorem dX0_copy_66 : decode cX0_copy 66 = .ok (.aload 6, 2) := dk_25 6 (dk_at dksX0_copy_2 21 rfl rfl)
theorem dX0_copy_68 : decode cX0_copy 68 = .ok (.iload_n 3, 1) := dk_29 (dk_at dksX0_copy_2 23 rfl rfl)
theorem dX0_copy_69 : decode cX0_copy 69 = .ok (.aload 7, 2) := dk_25 7 (dk_at dksX0_copy_3 0 rfl rfl)
theorem dX0_copy_71 : decode cX0_copy 71 = .ok (.iload 4, 2) := dk_21 4 (dk_at dksX0_copy_3 2 rfl rfl)
theorem dX0_copy_73 : decode cX0_copy 73 = .ok (.iload 5, 2) := dk_21 5 (dk_at dksX0_copy_3 4 rfl rfl)
theorem dX0_copy_75 : decode cX0_copy 75 = .ok (.invokestatic 127, 3) := dk_184 0 127 (dk_at dksX0_copy_3 6 rfl rfl)
theorem dX0_copy_78 : decode cX0_copy 78 = .ok (.iload 5, 2) := dk_21 5 (dk_at dksX0_copy_3 9 rfl rfl)
theorem dX0_copy_80 : decode cX0_copy 80 = .ok (.ireturn, 1) := dk_172 (dk_at dksX0_copy_3 11 rfl rfl)
theorem dX0_copy_81 : decode cX0_copy 81 = .ok (.astore 8, 2) := dk_58 8 (dk_at dksX0_copy_3 12 rfl rfl)
theorem dX0_copy_83 : decode cX0_copy 83 = .ok (.aload_n 0, 1) := dk_42 (dk_at dksX0_copy_3 14 rfl rfl)
theorem dX0_copy_84 : decode cX0_copy 84 = .ok (.bipush (-4), 2) := dk_16 252 (dk_at dksX0_copy_3 15 rfl rfl)
theorem dX0_copy_86 : decode cX0_copy 86 = .ok (.invokevirtual 94, 3) := dk_182 0 94 (dk_at dksX0_copy_3 17 rfl rfl)
theorem dX0_copy_89 : decode cX0_copy 89 = .ok (.ireturn, 1) := dk_172 (dk_at dksX0_copy_3 20 rfl rfl)
theorem dX0_copy_90 : decode cX0_copy 90 = .ok (.astore 8, 2) := dk_58 8 (dk_at dksX0_copy_3 21 rfl rfl)
theorem dX0_copy_92 : decode cX0_copy 92 = .ok (.aload_n 0, 1) := dk_42 (dk_at dksX0_copy_3 23 rfl rfl)
theorem dX0_copy_93 : decode cX0_copy 93 = .ok (.bipush (-3), 2) := dk_16 253 (dk_at dksX0_copy_4 0 rfl rfl)
theorem dX0_copy_95 : decode cX0_copy 95 = .ok (.invokevirtual 94, 3) := dk_182 0 94 (dk_at dksX0_copy_4 2 rfl rfl)
theorem dX0_copy_98 : decode cX0_copy 98 = .ok (.ireturn, 1) := dk_172 (dk_at dksX0_copy_4 5 rfl rfl)
theorem dX0_copy_99 : decode cX0_copy 99 = .ok (.astore 8, 2) := dk_58 8 (dk_at dksX0_copy_4 6 rfl rfl)
theorem dX0_copy_101 : decode cX0_copy 101 = .ok (.aload_n 0, 1) := dk_42 (dk_at dksX0_copy_4 8 rfl rfl)
theorem dX0_copy_102 : decode cX0_copy 102 = .ok (.bipush (-2), 2) := dk_16 254 (dk_at dksX0_copy_4 9 rfl rfl)
theorem dX0_copy_104 : decode cX0_copy 104 = .ok (.invokevirtual 94, 3) := dk_182 0 94 (dk_at dksX0_copy_4 11 rfl rfl)
theorem dX0_copy_107 : decode cX0_copy 107 = .ok (.ireturn, 1) := dk_172 (dk_at dksX0_copy_4 14 rfl rfl)
abbrev cX0_element : ByteArray := prog_1_method_15_code
def yX0_element : MethodName := ⟨RX0, "element", "(II)J"⟩
def dkwX0_element_1 : List UInt8 := [173]
abbrev dktX0_element_1 : List UInt8 := dkwX0_element_1 ++ []
def dkwX0_element_0 : List UInt8 := [27, 184, 0, 90, 154, 0, 5, 9, 173, 42, 27, 182, 0, 113, 28, 184, 0, 139, 173, 78, 9, 173, 78, 9]
abbrev dktX0_element_0 : List UInt8 := dkwX0_element_0 ++ dktX0_element_1
theorem dksX0_element_0 : cX0_element.data.toList.drop 0 = dktX0_element_0 := by decide +kernel
theorem dksX0_element_1 : cX0_element.data.toList.drop 24 = dktX0_element_1 := dk_seg dksX0_element_0 24 rfl rfl
theorem dX0_element_0 : decode cX0_element 0 = .ok (.iload_n 1, 1) := dk_27 (dk_at dksX0_element_0 0 rfl rfl)
theorem dX0_element_1 : decode cX0_element 1 = .ok (.invokestatic 90, 3) := dk_184 0 90 (dk_at dksX0_element_0 1 rfl rfl)
theorem dX0_element_4 : decode cX0_element 4 = .ok (.ifCond .ne 5, 3) := dk_154 0 5 (dk_at dksX0_element_0 4 rfl rfl)
theorem dX0_element_7 : decode cX0_element 7 = .ok (.lconst 0, 1) := dk_9 (dk_at dksX0_element_0 7 rfl rfl)
theorem dX0_element_8 : decode cX0_element 8 = .ok (.lreturn, 1) := dk_173 (dk_at dksX0_element_0 8 rfl rfl)
theorem dX0_element_9 : decode cX0_element 9 = .ok (.aload_n 0, 1) := dk_42 (dk_at dksX0_element_0 9 rfl rfl)
theorem dX0_element_10 : decode cX0_element 10 = .ok (.iload_n 1, 1) := dk_27 (dk_at dksX0_element_0 10 rfl rfl)
theorem dX0_element_11 : decode cX0_element 11 = .ok (.invokevirtual 113, 3) := dk_182 0 113 (dk_at dksX0_element_0 11 rfl rfl)
theorem dX0_element_14 : decode cX0_element 14 = .ok (.iload_n 2, 1) := dk_28 (dk_at dksX0_element_0 14 rfl rfl)
theorem dX0_element_15 : decode cX0_element 15 = .ok (.invokestatic 139, 3) := dk_184 0 139 (dk_at dksX0_element_0 15 rfl rfl)
theorem dX0_element_18 : decode cX0_element 18 = .ok (.lreturn, 1) := dk_173 (dk_at dksX0_element_0 18 rfl rfl)
theorem dX0_element_19 : decode cX0_element 19 = .ok (.astore_n 3, 1) := dk_78 (dk_at dksX0_element_0 19 rfl rfl)
theorem dX0_element_20 : decode cX0_element 20 = .ok (.lconst 0, 1) := dk_9 (dk_at dksX0_element_0 20 rfl rfl)
theorem dX0_element_21 : decode cX0_element 21 = .ok (.lreturn, 1) := dk_173 (dk_at dksX0_element_0 21 rfl rfl)
theorem dX0_element_22 : decode cX0_element 22 = .ok (.astore_n 3, 1) := dk_78 (dk_at dksX0_element_0 22 rfl rfl)
theorem dX0_element_23 : decode cX0_element 23 = .ok (.lconst 0, 1) := dk_9 (dk_at dksX0_element_0 23 rfl rfl)
theorem dX0_element_24 : decode cX0_element 24 = .ok (.lreturn, 1) := dk_173 (dk_at dksX0_element_1 0 rfl rfl)
abbrev cX0_elementOf : ByteArray := prog_1_method_9_code
def yX0_elementOf : MethodName := ⟨RX0, "elementOf", "(Ljava/lang/Object;I)J"⟩
def dkwX0_elementOf_3 : List UInt8 := [42, 192, 0, 82, 27, 47, 173, 42, 192, 0, 88, 27, 51, 153, 0, 7, 10, 167, 0, 4, 9, 173]
abbrev dktX0_elementOf_3 : List UInt8 := dkwX0_elementOf_3 ++ []
def dkwX0_elementOf_2 : List UInt8 := [42, 192, 0, 77, 27, 51, 133, 173, 42, 192, 0, 79, 27, 53, 133, 173, 42, 192, 0, 81, 27, 46, 133, 173]
abbrev dktX0_elementOf_2 : List UInt8 := dkwX0_elementOf_2 ++ dktX0_elementOf_3
def dkwX0_elementOf_1 : List UInt8 := [170, 0, 0, 0, 0, 0, 0, 63, 0, 0, 0, 0, 0, 0, 0, 3, 0, 0, 0, 32, 0, 0, 0, 40, 0, 0, 0, 48, 0, 0, 0, 56]
abbrev dktX0_elementOf_1 : List UInt8 := dkwX0_elementOf_1 ++ dktX0_elementOf_2
def dkwX0_elementOf_0 : List UInt8 := [42, 184, 0, 84]
abbrev dktX0_elementOf_0 : List UInt8 := dkwX0_elementOf_0 ++ dktX0_elementOf_1
theorem dksX0_elementOf_0 : cX0_elementOf.data.toList.drop 0 = dktX0_elementOf_0 := by decide +kernel
theorem dksX0_elementOf_1 : cX0_elementOf.data.toList.drop 4 = dktX0_elementOf_1 := dk_seg dksX0_elementOf_0 4 rfl rfl
theorem dksX0_elementOf_2 : cX0_elementOf.data.toList.drop 36 = dktX0_elementOf_2 := dk_seg dksX0_elementOf_1 32 rfl rfl
theorem dksX0_elementOf_3 : cX0_elementOf.data.toList.drop 60 = dktX0_elementOf_3 := dk_seg dksX0_elementOf_2 24 rfl rfl
theorem dX0_elementOf_0 : decode cX0_elementOf 0 = .ok (.aload_n 0, 1) := dk_42 (dk_at dksX0_elementOf_0 0 rfl rfl)
theorem dX0_elementOf_1 : decode cX0_elementOf 1 = .ok (.invokestatic 84, 3) := dk_184 0 84 (dk_at dksX0_elementOf_0 1 rfl rfl)
theorem dX0_elementOf_4 : decode cX0_elementOf 4 = .ok (.tableswitch 63 0 3 #[32, 40, 48, 56], 32) := by decide +kernel
theorem dX0_elementOf_36 : decode cX0_elementOf 36 = .ok (.aload_n 0, 1) := dk_42 (dk_at dksX0_elementOf_2 0 rfl rfl)
theorem dX0_elementOf_37 : decode cX0_elementOf 37 = .ok (.checkcast 77, 3) := dk_192 0 77 (dk_at dksX0_elementOf_2 1 rfl rfl)
theorem dX0_elementOf_40 : decode cX0_elementOf 40 = .ok (.iload_n 1, 1) := dk_27 (dk_at dksX0_elementOf_2 4 rfl rfl)
theorem dX0_elementOf_41 : decode cX0_elementOf 41 = .ok (.baload, 1) := dk_51 (dk_at dksX0_elementOf_2 5 rfl rfl)
theorem dX0_elementOf_42 : decode cX0_elementOf 42 = .ok (.i2l, 1) := dk_133 (dk_at dksX0_elementOf_2 6 rfl rfl)
theorem dX0_elementOf_43 : decode cX0_elementOf 43 = .ok (.lreturn, 1) := dk_173 (dk_at dksX0_elementOf_2 7 rfl rfl)
theorem dX0_elementOf_44 : decode cX0_elementOf 44 = .ok (.aload_n 0, 1) := dk_42 (dk_at dksX0_elementOf_2 8 rfl rfl)
theorem dX0_elementOf_45 : decode cX0_elementOf 45 = .ok (.checkcast 79, 3) := dk_192 0 79 (dk_at dksX0_elementOf_2 9 rfl rfl)
theorem dX0_elementOf_48 : decode cX0_elementOf 48 = .ok (.iload_n 1, 1) := dk_27 (dk_at dksX0_elementOf_2 12 rfl rfl)
theorem dX0_elementOf_49 : decode cX0_elementOf 49 = .ok (.saload, 1) := dk_53 (dk_at dksX0_elementOf_2 13 rfl rfl)
theorem dX0_elementOf_50 : decode cX0_elementOf 50 = .ok (.i2l, 1) := dk_133 (dk_at dksX0_elementOf_2 14 rfl rfl)
theorem dX0_elementOf_51 : decode cX0_elementOf 51 = .ok (.lreturn, 1) := dk_173 (dk_at dksX0_elementOf_2 15 rfl rfl)
theorem dX0_elementOf_52 : decode cX0_elementOf 52 = .ok (.aload_n 0, 1) := dk_42 (dk_at dksX0_elementOf_2 16 rfl rfl)
theorem dX0_elementOf_53 : decode cX0_elementOf 53 = .ok (.checkcast 81, 3) := dk_192 0 81 (dk_at dksX0_elementOf_2 17 rfl rfl)
theorem dX0_elementOf_56 : decode cX0_elementOf 56 = .ok (.iload_n 1, 1) := dk_27 (dk_at dksX0_elementOf_2 20 rfl rfl)
theorem dX0_elementOf_57 : decode cX0_elementOf 57 = .ok (.iaload, 1) := dk_46 (dk_at dksX0_elementOf_2 21 rfl rfl)
theorem dX0_elementOf_58 : decode cX0_elementOf 58 = .ok (.i2l, 1) := dk_133 (dk_at dksX0_elementOf_2 22 rfl rfl)
theorem dX0_elementOf_59 : decode cX0_elementOf 59 = .ok (.lreturn, 1) := dk_173 (dk_at dksX0_elementOf_2 23 rfl rfl)
theorem dX0_elementOf_60 : decode cX0_elementOf 60 = .ok (.aload_n 0, 1) := dk_42 (dk_at dksX0_elementOf_3 0 rfl rfl)
theorem dX0_elementOf_61 : decode cX0_elementOf 61 = .ok (.checkcast 82, 3) := dk_192 0 82 (dk_at dksX0_elementOf_3 1 rfl rfl)
theorem dX0_elementOf_64 : decode cX0_elementOf 64 = .ok (.iload_n 1, 1) := dk_27 (dk_at dksX0_elementOf_3 4 rfl rfl)
theorem dX0_elementOf_65 : decode cX0_elementOf 65 = .ok (.laload, 1) := dk_47 (dk_at dksX0_elementOf_3 5 rfl rfl)
theorem dX0_elementOf_66 : decode cX0_elementOf 66 = .ok (.lreturn, 1) := dk_173 (dk_at dksX0_elementOf_3 6 rfl rfl)
theorem dX0_elementOf_67 : decode cX0_elementOf 67 = .ok (.aload_n 0, 1) := dk_42 (dk_at dksX0_elementOf_3 7 rfl rfl)
theorem dX0_elementOf_68 : decode cX0_elementOf 68 = .ok (.checkcast 88, 3) := dk_192 0 88 (dk_at dksX0_elementOf_3 8 rfl rfl)
theorem dX0_elementOf_71 : decode cX0_elementOf 71 = .ok (.iload_n 1, 1) := dk_27 (dk_at dksX0_elementOf_3 11 rfl rfl)
theorem dX0_elementOf_72 : decode cX0_elementOf 72 = .ok (.baload, 1) := dk_51 (dk_at dksX0_elementOf_3 12 rfl rfl)
theorem dX0_elementOf_73 : decode cX0_elementOf 73 = .ok (.ifCond .eq 7, 3) := dk_153 0 7 (dk_at dksX0_elementOf_3 13 rfl rfl)
theorem dX0_elementOf_76 : decode cX0_elementOf 76 = .ok (.lconst 1, 1) := dk_10 (dk_at dksX0_elementOf_3 16 rfl rfl)
theorem dX0_elementOf_77 : decode cX0_elementOf 77 = .ok (.goto 4, 3) := dk_167 0 4 (dk_at dksX0_elementOf_3 17 rfl rfl)
theorem dX0_elementOf_80 : decode cX0_elementOf 80 = .ok (.lconst 0, 1) := dk_9 (dk_at dksX0_elementOf_3 20 rfl rfl)
theorem dX0_elementOf_81 : decode cX0_elementOf 81 = .ok (.lreturn, 1) := dk_173 (dk_at dksX0_elementOf_3 21 rfl rfl)
abbrev cX0_holds : ByteArray := prog_1_method_16_code
def yX0_holds : MethodName := ⟨RX0, "holds", "(I)I"⟩
def dkwX0_holds_2 : List UInt8 := [180, 0, 143, 96, 167, 0, 7, 44, 184, 0, 84, 172]
abbrev dktX0_holds_2 : List UInt8 := dkwX0_holds_2 ++ []
def dkwX0_holds_1 : List UInt8 := [180, 0, 62, 27, 50, 180, 0, 102, 77, 44, 193, 0, 1, 153, 0, 16, 16, 10, 44, 192, 0, 1]
abbrev dktX0_holds_1 : List UInt8 := dkwX0_holds_1 ++ dktX0_holds_2
def dkwX0_holds_0 : List UInt8 := [27, 184, 0, 90, 153, 0, 15, 42, 180, 0, 62, 27, 50, 180, 0, 102, 199, 0, 5, 2, 172, 42]
abbrev dktX0_holds_0 : List UInt8 := dkwX0_holds_0 ++ dktX0_holds_1
theorem dksX0_holds_0 : cX0_holds.data.toList.drop 0 = dktX0_holds_0 := by decide +kernel
theorem dksX0_holds_1 : cX0_holds.data.toList.drop 22 = dktX0_holds_1 := dk_seg dksX0_holds_0 22 rfl rfl
theorem dksX0_holds_2 : cX0_holds.data.toList.drop 44 = dktX0_holds_2 := dk_seg dksX0_holds_1 22 rfl rfl
theorem dX0_holds_0 : decode cX0_holds 0 = .ok (.iload_n 1, 1) := dk_27 (dk_at dksX0_holds_0 0 rfl rfl)
theorem dX0_holds_1 : decode cX0_holds 1 = .ok (.invokestatic 90, 3) := dk_184 0 90 (dk_at dksX0_holds_0 1 rfl rfl)
theorem dX0_holds_4 : decode cX0_holds 4 = .ok (.ifCond .eq 15, 3) := dk_153 0 15 (dk_at dksX0_holds_0 4 rfl rfl)
theorem dX0_holds_7 : decode cX0_holds 7 = .ok (.aload_n 0, 1) := dk_42 (dk_at dksX0_holds_0 7 rfl rfl)
theorem dX0_holds_8 : decode cX0_holds 8 = .ok (.getfield 62, 3) := dk_180 0 62 (dk_at dksX0_holds_0 8 rfl rfl)
theorem dX0_holds_11 : decode cX0_holds 11 = .ok (.iload_n 1, 1) := dk_27 (dk_at dksX0_holds_0 11 rfl rfl)
theorem dX0_holds_12 : decode cX0_holds 12 = .ok (.aaload, 1) := dk_50 (dk_at dksX0_holds_0 12 rfl rfl)
theorem dX0_holds_13 : decode cX0_holds 13 = .ok (.getfield 102, 3) := dk_180 0 102 (dk_at dksX0_holds_0 13 rfl rfl)
theorem dX0_holds_16 : decode cX0_holds 16 = .ok (.ifnonnull 5, 3) := dk_199 0 5 (dk_at dksX0_holds_0 16 rfl rfl)
theorem dX0_holds_19 : decode cX0_holds 19 = .ok (.iconst (-1), 1) := dk_2 (dk_at dksX0_holds_0 19 rfl rfl)
theorem dX0_holds_20 : decode cX0_holds 20 = .ok (.ireturn, 1) := dk_172 (dk_at dksX0_holds_0 20 rfl rfl)
theorem dX0_holds_21 : decode cX0_holds 21 = .ok (.aload_n 0, 1) := dk_42 (dk_at dksX0_holds_0 21 rfl rfl)
theorem dX0_holds_22 : decode cX0_holds 22 = .ok (.getfield 62, 3) := dk_180 0 62 (dk_at dksX0_holds_1 0 rfl rfl)
theorem dX0_holds_25 : decode cX0_holds 25 = .ok (.iload_n 1, 1) := dk_27 (dk_at dksX0_holds_1 3 rfl rfl)
theorem dX0_holds_26 : decode cX0_holds 26 = .ok (.aaload, 1) := dk_50 (dk_at dksX0_holds_1 4 rfl rfl)
theorem dX0_holds_27 : decode cX0_holds 27 = .ok (.getfield 102, 3) := dk_180 0 102 (dk_at dksX0_holds_1 5 rfl rfl)
theorem dX0_holds_30 : decode cX0_holds 30 = .ok (.astore_n 2, 1) := dk_77 (dk_at dksX0_holds_1 8 rfl rfl)
theorem dX0_holds_31 : decode cX0_holds 31 = .ok (.aload_n 2, 1) := dk_44 (dk_at dksX0_holds_1 9 rfl rfl)
theorem dX0_holds_32 : decode cX0_holds 32 = .ok (.instanceof 1, 3) := dk_193 0 1 (dk_at dksX0_holds_1 10 rfl rfl)
theorem dX0_holds_35 : decode cX0_holds 35 = .ok (.ifCond .eq 16, 3) := dk_153 0 16 (dk_at dksX0_holds_1 13 rfl rfl)
theorem dX0_holds_38 : decode cX0_holds 38 = .ok (.bipush 10, 2) := dk_16 10 (dk_at dksX0_holds_1 16 rfl rfl)
theorem dX0_holds_40 : decode cX0_holds 40 = .ok (.aload_n 2, 1) := dk_44 (dk_at dksX0_holds_1 18 rfl rfl)
theorem dX0_holds_41 : decode cX0_holds 41 = .ok (.checkcast 1, 3) := dk_192 0 1 (dk_at dksX0_holds_1 19 rfl rfl)
theorem dX0_holds_44 : decode cX0_holds 44 = .ok (.getfield 143, 3) := dk_180 0 143 (dk_at dksX0_holds_2 0 rfl rfl)
theorem dX0_holds_47 : decode cX0_holds 47 = .ok (.iadd, 1) := dk_96 (dk_at dksX0_holds_2 3 rfl rfl)
theorem dX0_holds_48 : decode cX0_holds 48 = .ok (.goto 7, 3) := dk_167 0 7 (dk_at dksX0_holds_2 4 rfl rfl)
theorem dX0_holds_51 : decode cX0_holds 51 = .ok (.aload_n 2, 1) := dk_44 (dk_at dksX0_holds_2 7 rfl rfl)
theorem dX0_holds_52 : decode cX0_holds 52 = .ok (.invokestatic 84, 3) := dk_184 0 84 (dk_at dksX0_holds_2 8 rfl rfl)
theorem dX0_holds_55 : decode cX0_holds 55 = .ok (.ireturn, 1) := dk_172 (dk_at dksX0_holds_2 11 rfl rfl)
abbrev cX0_show : ByteArray := prog_1_method_17_code
def yX0_show : MethodName := ⟨RX0, "show", "(II)I"⟩
def dkwX0_show_2 : List UInt8 := [180, 0, 30, 180, 0, 149, 28, 50, 181, 0, 102, 4, 172]
abbrev dktX0_show_2 : List UInt8 := dkwX0_show_2 ++ []
def dkwX0_show_1 : List UInt8 := [16, 254, 182, 0, 94, 172, 42, 180, 0, 62, 27, 50, 28, 2, 160, 0, 7, 1, 167, 0, 12, 42]
abbrev dktX0_show_1 : List UInt8 := dkwX0_show_1 ++ dktX0_show_2
def dkwX0_show_0 : List UInt8 := [27, 184, 0, 90, 153, 0, 19, 28, 2, 159, 0, 21, 42, 180, 0, 30, 28, 182, 0, 146, 154, 0, 10, 42]
abbrev dktX0_show_0 : List UInt8 := dkwX0_show_0 ++ dktX0_show_1
theorem dksX0_show_0 : cX0_show.data.toList.drop 0 = dktX0_show_0 := by decide +kernel
theorem dksX0_show_1 : cX0_show.data.toList.drop 24 = dktX0_show_1 := dk_seg dksX0_show_0 24 rfl rfl
theorem dksX0_show_2 : cX0_show.data.toList.drop 46 = dktX0_show_2 := dk_seg dksX0_show_1 22 rfl rfl
theorem dX0_show_0 : decode cX0_show 0 = .ok (.iload_n 1, 1) := dk_27 (dk_at dksX0_show_0 0 rfl rfl)
theorem dX0_show_1 : decode cX0_show 1 = .ok (.invokestatic 90, 3) := dk_184 0 90 (dk_at dksX0_show_0 1 rfl rfl)
theorem dX0_show_4 : decode cX0_show 4 = .ok (.ifCond .eq 19, 3) := dk_153 0 19 (dk_at dksX0_show_0 4 rfl rfl)
theorem dX0_show_7 : decode cX0_show 7 = .ok (.iload_n 2, 1) := dk_28 (dk_at dksX0_show_0 7 rfl rfl)
theorem dX0_show_8 : decode cX0_show 8 = .ok (.iconst (-1), 1) := dk_2 (dk_at dksX0_show_0 8 rfl rfl)
theorem dX0_show_9 : decode cX0_show 9 = .ok (.if_icmp .eq 21, 3) := dk_159 0 21 (dk_at dksX0_show_0 9 rfl rfl)
theorem dX0_show_12 : decode cX0_show 12 = .ok (.aload_n 0, 1) := dk_42 (dk_at dksX0_show_0 12 rfl rfl)
theorem dX0_show_13 : decode cX0_show 13 = .ok (.getfield 30, 3) := dk_180 0 30 (dk_at dksX0_show_0 13 rfl rfl)
theorem dX0_show_16 : decode cX0_show 16 = .ok (.iload_n 2, 1) := dk_28 (dk_at dksX0_show_0 16 rfl rfl)
theorem dX0_show_17 : decode cX0_show 17 = .ok (.invokevirtual 146, 3) := dk_182 0 146 (dk_at dksX0_show_0 17 rfl rfl)
theorem dX0_show_20 : decode cX0_show 20 = .ok (.ifCond .ne 10, 3) := dk_154 0 10 (dk_at dksX0_show_0 20 rfl rfl)
theorem dX0_show_23 : decode cX0_show 23 = .ok (.aload_n 0, 1) := dk_42 (dk_at dksX0_show_0 23 rfl rfl)
theorem dX0_show_24 : decode cX0_show 24 = .ok (.bipush (-2), 2) := dk_16 254 (dk_at dksX0_show_1 0 rfl rfl)
theorem dX0_show_26 : decode cX0_show 26 = .ok (.invokevirtual 94, 3) := dk_182 0 94 (dk_at dksX0_show_1 2 rfl rfl)
theorem dX0_show_29 : decode cX0_show 29 = .ok (.ireturn, 1) := dk_172 (dk_at dksX0_show_1 5 rfl rfl)
theorem dX0_show_30 : decode cX0_show 30 = .ok (.aload_n 0, 1) := dk_42 (dk_at dksX0_show_1 6 rfl rfl)
theorem dX0_show_31 : decode cX0_show 31 = .ok (.getfield 62, 3) := dk_180 0 62 (dk_at dksX0_show_1 7 rfl rfl)
theorem dX0_show_34 : decode cX0_show 34 = .ok (.iload_n 1, 1) := dk_27 (dk_at dksX0_show_1 10 rfl rfl)
theorem dX0_show_35 : decode cX0_show 35 = .ok (.aaload, 1) := dk_50 (dk_at dksX0_show_1 11 rfl rfl)
theorem dX0_show_36 : decode cX0_show 36 = .ok (.iload_n 2, 1) := dk_28 (dk_at dksX0_show_1 12 rfl rfl)
theorem dX0_show_37 : decode cX0_show 37 = .ok (.iconst (-1), 1) := dk_2 (dk_at dksX0_show_1 13 rfl rfl)
theorem dX0_show_38 : decode cX0_show 38 = .ok (.if_icmp .ne 7, 3) := dk_160 0 7 (dk_at dksX0_show_1 14 rfl rfl)
theorem dX0_show_41 : decode cX0_show 41 = .ok (.aconst_null, 1) := dk_1 (dk_at dksX0_show_1 17 rfl rfl)
theorem dX0_show_42 : decode cX0_show 42 = .ok (.goto 12, 3) := dk_167 0 12 (dk_at dksX0_show_1 18 rfl rfl)
theorem dX0_show_45 : decode cX0_show 45 = .ok (.aload_n 0, 1) := dk_42 (dk_at dksX0_show_1 21 rfl rfl)
theorem dX0_show_46 : decode cX0_show 46 = .ok (.getfield 30, 3) := dk_180 0 30 (dk_at dksX0_show_2 0 rfl rfl)
theorem dX0_show_49 : decode cX0_show 49 = .ok (.getfield 149, 3) := dk_180 0 149 (dk_at dksX0_show_2 3 rfl rfl)
theorem dX0_show_52 : decode cX0_show 52 = .ok (.iload_n 2, 1) := dk_28 (dk_at dksX0_show_2 6 rfl rfl)
theorem dX0_show_53 : decode cX0_show 53 = .ok (.aaload, 1) := dk_50 (dk_at dksX0_show_2 7 rfl rfl)
theorem dX0_show_54 : decode cX0_show 54 = .ok (.putfield 102, 3) := dk_181 0 102 (dk_at dksX0_show_2 8 rfl rfl)
theorem dX0_show_57 : decode cX0_show 57 = .ok (.iconst 1, 1) := dk_4 (dk_at dksX0_show_2 11 rfl rfl)
theorem dX0_show_58 : decode cX0_show 58 = .ok (.ireturn, 1) := dk_172 (dk_at dksX0_show_2 12 rfl rfl)
abbrev cX0_says : ByteArray := prog_1_method_19_code
def yX0_says : MethodName := ⟨RX0, "says", "(II)I"⟩
def dkwX0_says_5 : List UInt8 := [192, 0, 19, 182, 0, 175, 172, 58, 4, 42, 16, 253, 182, 0, 94, 172]
abbrev dktX0_says_5 : List UInt8 := dkwX0_says_5 ++ []
def dkwX0_says_4 : List UInt8 := [182, 0, 175, 172, 42, 45, 192, 0, 13, 182, 0, 175, 172, 42, 45, 192, 0, 16, 182, 0, 175, 172, 42, 45]
abbrev dktX0_says_4 : List UInt8 := dkwX0_says_4 ++ dktX0_says_5
def dkwX0_says_3 : List UInt8 := [45, 192, 0, 1, 180, 0, 172, 172, 42, 45, 192, 0, 7, 182, 0, 175, 172, 42, 45, 192, 0, 10]
abbrev dktX0_says_3 : List UInt8 := dkwX0_says_3 ++ dktX0_says_4
def dkwX0_says_2 : List UInt8 := [170, 0, 0, 0, 0, 0, 79, 0, 0, 0, 0, 0, 0, 0, 4, 0, 0, 0, 35, 0, 0, 0, 43, 0, 0, 0, 52, 0, 0, 0, 61, 0, 0, 0, 70]
abbrev dktX0_says_2 : List UInt8 := dkwX0_says_2 ++ dktX0_says_3
def dkwX0_says_1 : List UInt8 := [180, 0, 62, 27, 50, 180, 0, 102, 78, 45, 199, 0, 10, 42, 16, 252, 182, 0, 94, 172, 28]
abbrev dktX0_says_1 : List UInt8 := dkwX0_says_1 ++ dktX0_says_2
def dkwX0_says_0 : List UInt8 := [27, 184, 0, 90, 153, 0, 12, 28, 3, 8, 184, 0, 73, 154, 0, 10, 42, 16, 254, 182, 0, 94, 172, 42]
abbrev dktX0_says_0 : List UInt8 := dkwX0_says_0 ++ dktX0_says_1
theorem dksX0_says_0 : cX0_says.data.toList.drop 0 = dktX0_says_0 := by decide +kernel
theorem dksX0_says_1 : cX0_says.data.toList.drop 24 = dktX0_says_1 := dk_seg dksX0_says_0 24 rfl rfl
theorem dksX0_says_2 : cX0_says.data.toList.drop 45 = dktX0_says_2 := dk_seg dksX0_says_1 21 rfl rfl
theorem dksX0_says_3 : cX0_says.data.toList.drop 80 = dktX0_says_3 := dk_seg dksX0_says_2 35 rfl rfl
theorem dksX0_says_4 : cX0_says.data.toList.drop 102 = dktX0_says_4 := dk_seg dksX0_says_3 22 rfl rfl
theorem dksX0_says_5 : cX0_says.data.toList.drop 126 = dktX0_says_5 := dk_seg dksX0_says_4 24 rfl rfl
theorem dX0_says_0 : decode cX0_says 0 = .ok (.iload_n 1, 1) := dk_27 (dk_at dksX0_says_0 0 rfl rfl)
theorem dX0_says_1 : decode cX0_says 1 = .ok (.invokestatic 90, 3) := dk_184 0 90 (dk_at dksX0_says_0 1 rfl rfl)
theorem dX0_says_4 : decode cX0_says 4 = .ok (.ifCond .eq 12, 3) := dk_153 0 12 (dk_at dksX0_says_0 4 rfl rfl)
theorem dX0_says_7 : decode cX0_says 7 = .ok (.iload_n 2, 1) := dk_28 (dk_at dksX0_says_0 7 rfl rfl)
theorem dX0_says_8 : decode cX0_says 8 = .ok (.iconst 0, 1) := dk_3 (dk_at dksX0_says_0 8 rfl rfl)
theorem dX0_says_9 : decode cX0_says 9 = .ok (.iconst 5, 1) := dk_8 (dk_at dksX0_says_0 9 rfl rfl)
theorem dX0_says_10 : decode cX0_says 10 = .ok (.invokestatic 73, 3) := dk_184 0 73 (dk_at dksX0_says_0 10 rfl rfl)
theorem dX0_says_13 : decode cX0_says 13 = .ok (.ifCond .ne 10, 3) := dk_154 0 10 (dk_at dksX0_says_0 13 rfl rfl)
theorem dX0_says_16 : decode cX0_says 16 = .ok (.aload_n 0, 1) := dk_42 (dk_at dksX0_says_0 16 rfl rfl)
theorem dX0_says_17 : decode cX0_says 17 = .ok (.bipush (-2), 2) := dk_16 254 (dk_at dksX0_says_0 17 rfl rfl)
theorem dX0_says_19 : decode cX0_says 19 = .ok (.invokevirtual 94, 3) := dk_182 0 94 (dk_at dksX0_says_0 19 rfl rfl)
theorem dX0_says_22 : decode cX0_says 22 = .ok (.ireturn, 1) := dk_172 (dk_at dksX0_says_0 22 rfl rfl)
theorem dX0_says_23 : decode cX0_says 23 = .ok (.aload_n 0, 1) := dk_42 (dk_at dksX0_says_0 23 rfl rfl)
theorem dX0_says_24 : decode cX0_says 24 = .ok (.getfield 62, 3) := dk_180 0 62 (dk_at dksX0_says_1 0 rfl rfl)
theorem dX0_says_27 : decode cX0_says 27 = .ok (.iload_n 1, 1) := dk_27 (dk_at dksX0_says_1 3 rfl rfl)
theorem dX0_says_28 : decode cX0_says 28 = .ok (.aaload, 1) := dk_50 (dk_at dksX0_says_1 4 rfl rfl)
theorem dX0_says_29 : decode cX0_says 29 = .ok (.getfield 102, 3) := dk_180 0 102 (dk_at dksX0_says_1 5 rfl rfl)
theorem dX0_says_32 : decode cX0_says 32 = .ok (.astore_n 3, 1) := dk_78 (dk_at dksX0_says_1 8 rfl rfl)
theorem dX0_says_33 : decode cX0_says 33 = .ok (.aload_n 3, 1) := dk_45 (dk_at dksX0_says_1 9 rfl rfl)
theorem dX0_says_34 : decode cX0_says 34 = .ok (.ifnonnull 10, 3) := dk_199 0 10 (dk_at dksX0_says_1 10 rfl rfl)
theorem dX0_says_37 : decode cX0_says 37 = .ok (.aload_n 0, 1) := dk_42 (dk_at dksX0_says_1 13 rfl rfl)
theorem dX0_says_38 : decode cX0_says 38 = .ok (.bipush (-4), 2) := dk_16 252 (dk_at dksX0_says_1 14 rfl rfl)
theorem dX0_says_40 : decode cX0_says 40 = .ok (.invokevirtual 94, 3) := dk_182 0 94 (dk_at dksX0_says_1 16 rfl rfl)
theorem dX0_says_43 : decode cX0_says 43 = .ok (.ireturn, 1) := dk_172 (dk_at dksX0_says_1 19 rfl rfl)
theorem dX0_says_44 : decode cX0_says 44 = .ok (.iload_n 2, 1) := dk_28 (dk_at dksX0_says_1 20 rfl rfl)
theorem dX0_says_45 : decode cX0_says 45 = .ok (.tableswitch 79 0 4 #[35, 43, 52, 61, 70], 35) := by decide +kernel
theorem dX0_says_80 : decode cX0_says 80 = .ok (.aload_n 3, 1) := dk_45 (dk_at dksX0_says_3 0 rfl rfl)
theorem dX0_says_81 : decode cX0_says 81 = .ok (.checkcast 1, 3) := dk_192 0 1 (dk_at dksX0_says_3 1 rfl rfl)
theorem dX0_says_84 : decode cX0_says 84 = .ok (.getfield 172, 3) := dk_180 0 172 (dk_at dksX0_says_3 4 rfl rfl)
theorem dX0_says_87 : decode cX0_says 87 = .ok (.ireturn, 1) := dk_172 (dk_at dksX0_says_3 7 rfl rfl)
theorem dX0_says_88 : decode cX0_says 88 = .ok (.aload_n 0, 1) := dk_42 (dk_at dksX0_says_3 8 rfl rfl)
theorem dX0_says_89 : decode cX0_says 89 = .ok (.aload_n 3, 1) := dk_45 (dk_at dksX0_says_3 9 rfl rfl)
theorem dX0_says_90 : decode cX0_says 90 = .ok (.checkcast 7, 3) := dk_192 0 7 (dk_at dksX0_says_3 10 rfl rfl)
theorem dX0_says_93 : decode cX0_says 93 = .ok (.invokevirtual 175, 3) := dk_182 0 175 (dk_at dksX0_says_3 13 rfl rfl)
theorem dX0_says_96 : decode cX0_says 96 = .ok (.ireturn, 1) := dk_172 (dk_at dksX0_says_3 16 rfl rfl)
theorem dX0_says_97 : decode cX0_says 97 = .ok (.aload_n 0, 1) := dk_42 (dk_at dksX0_says_3 17 rfl rfl)
theorem dX0_says_98 : decode cX0_says 98 = .ok (.aload_n 3, 1) := dk_45 (dk_at dksX0_says_3 18 rfl rfl)
theorem dX0_says_99 : decode cX0_says 99 = .ok (.checkcast 10, 3) := dk_192 0 10 (dk_at dksX0_says_3 19 rfl rfl)
theorem dX0_says_102 : decode cX0_says 102 = .ok (.invokevirtual 175, 3) := dk_182 0 175 (dk_at dksX0_says_4 0 rfl rfl)
theorem dX0_says_105 : decode cX0_says 105 = .ok (.ireturn, 1) := dk_172 (dk_at dksX0_says_4 3 rfl rfl)
theorem dX0_says_106 : decode cX0_says 106 = .ok (.aload_n 0, 1) := dk_42 (dk_at dksX0_says_4 4 rfl rfl)
theorem dX0_says_107 : decode cX0_says 107 = .ok (.aload_n 3, 1) := dk_45 (dk_at dksX0_says_4 5 rfl rfl)
theorem dX0_says_108 : decode cX0_says 108 = .ok (.checkcast 13, 3) := dk_192 0 13 (dk_at dksX0_says_4 6 rfl rfl)
theorem dX0_says_111 : decode cX0_says 111 = .ok (.invokevirtual 175, 3) := dk_182 0 175 (dk_at dksX0_says_4 9 rfl rfl)
theorem dX0_says_114 : decode cX0_says 114 = .ok (.ireturn, 1) := dk_172 (dk_at dksX0_says_4 12 rfl rfl)
theorem dX0_says_115 : decode cX0_says 115 = .ok (.aload_n 0, 1) := dk_42 (dk_at dksX0_says_4 13 rfl rfl)
theorem dX0_says_116 : decode cX0_says 116 = .ok (.aload_n 3, 1) := dk_45 (dk_at dksX0_says_4 14 rfl rfl)
theorem dX0_says_117 : decode cX0_says 117 = .ok (.checkcast 16, 3) := dk_192 0 16 (dk_at dksX0_says_4 15 rfl rfl)
theorem dX0_says_120 : decode cX0_says 120 = .ok (.invokevirtual 175, 3) := dk_182 0 175 (dk_at dksX0_says_4 18 rfl rfl)
theorem dX0_says_123 : decode cX0_says 123 = .ok (.ireturn, 1) := dk_172 (dk_at dksX0_says_4 21 rfl rfl)
theorem dX0_says_124 : decode cX0_says 124 = .ok (.aload_n 0, 1) := dk_42 (dk_at dksX0_says_4 22 rfl rfl)
theorem dX0_says_125 : decode cX0_says 125 = .ok (.aload_n 3, 1) := dk_45 (dk_at dksX0_says_4 23 rfl rfl)
theorem dX0_says_126 : decode cX0_says 126 = .ok (.checkcast 19, 3) := dk_192 0 19 (dk_at dksX0_says_5 0 rfl rfl)
theorem dX0_says_129 : decode cX0_says 129 = .ok (.invokevirtual 175, 3) := dk_182 0 175 (dk_at dksX0_says_5 3 rfl rfl)
theorem dX0_says_132 : decode cX0_says 132 = .ok (.ireturn, 1) := dk_172 (dk_at dksX0_says_5 6 rfl rfl)
theorem dX0_says_133 : decode cX0_says 133 = .ok (.astore 4, 2) := dk_58 4 (dk_at dksX0_says_5 7 rfl rfl)
theorem dX0_says_135 : decode cX0_says 135 = .ok (.aload_n 0, 1) := dk_42 (dk_at dksX0_says_5 9 rfl rfl)
theorem dX0_says_136 : decode cX0_says 136 = .ok (.bipush (-3), 2) := dk_16 253 (dk_at dksX0_says_5 10 rfl rfl)
theorem dX0_says_138 : decode cX0_says 138 = .ok (.invokevirtual 94, 3) := dk_182 0 94 (dk_at dksX0_says_5 12 rfl rfl)
theorem dX0_says_141 : decode cX0_says 141 = .ok (.ireturn, 1) := dk_172 (dk_at dksX0_says_5 15 rfl rfl)
abbrev cX0_leftOf : ByteArray := prog_1_method_18_code
def yX0_leftOf : MethodName := ⟨RX0, "leftOf", "(LLeftIsAgreedOn$Voter;)I"⟩
def dkwX0_leftOf_2 : List UInt8 := [182, 0, 166, 42, 180, 0, 39, 180, 0, 170, 172]
abbrev dktX0_leftOf_2 : List UInt8 := dkwX0_leftOf_2 ++ []
def dkwX0_leftOf_1 : List UInt8 := [180, 0, 143, 46, 182, 0, 159, 42, 180, 0, 30, 43, 4, 42, 180, 0, 30, 180, 0, 163, 3, 46]
abbrev dktX0_leftOf_1 : List UInt8 := dkwX0_leftOf_1 ++ dktX0_leftOf_2
def dkwX0_leftOf_0 : List UInt8 := [42, 180, 0, 39, 42, 180, 0, 30, 180, 0, 153, 43, 180, 0, 143, 46, 42, 180, 0, 30, 180, 0, 156, 43]
abbrev dktX0_leftOf_0 : List UInt8 := dkwX0_leftOf_0 ++ dktX0_leftOf_1
theorem dksX0_leftOf_0 : cX0_leftOf.data.toList.drop 0 = dktX0_leftOf_0 := by decide +kernel
theorem dksX0_leftOf_1 : cX0_leftOf.data.toList.drop 24 = dktX0_leftOf_1 := dk_seg dksX0_leftOf_0 24 rfl rfl
theorem dksX0_leftOf_2 : cX0_leftOf.data.toList.drop 46 = dktX0_leftOf_2 := dk_seg dksX0_leftOf_1 22 rfl rfl
theorem dX0_leftOf_0 : decode cX0_leftOf 0 = .ok (.aload_n 0, 1) := dk_42 (dk_at dksX0_leftOf_0 0 rfl rfl)
theorem dX0_leftOf_1 : decode cX0_leftOf 1 = .ok (.getfield 39, 3) := dk_180 0 39 (dk_at dksX0_leftOf_0 1 rfl rfl)
theorem dX0_leftOf_4 : decode cX0_leftOf 4 = .ok (.aload_n 0, 1) := dk_42 (dk_at dksX0_leftOf_0 4 rfl rfl)
theorem dX0_leftOf_5 : decode cX0_leftOf 5 = .ok (.getfield 30, 3) := dk_180 0 30 (dk_at dksX0_leftOf_0 5 rfl rfl)
theorem dX0_leftOf_8 : decode cX0_leftOf 8 = .ok (.getfield 153, 3) := dk_180 0 153 (dk_at dksX0_leftOf_0 8 rfl rfl)
theorem dX0_leftOf_11 : decode cX0_leftOf 11 = .ok (.aload_n 1, 1) := dk_43 (dk_at dksX0_leftOf_0 11 rfl rfl)
theorem dX0_leftOf_12 : decode cX0_leftOf 12 = .ok (.getfield 143, 3) := dk_180 0 143 (dk_at dksX0_leftOf_0 12 rfl rfl)
theorem dX0_leftOf_15 : decode cX0_leftOf 15 = .ok (.iaload, 1) := dk_46 (dk_at dksX0_leftOf_0 15 rfl rfl)
theorem dX0_leftOf_16 : decode cX0_leftOf 16 = .ok (.aload_n 0, 1) := dk_42 (dk_at dksX0_leftOf_0 16 rfl rfl)
theorem dX0_leftOf_17 : decode cX0_leftOf 17 = .ok (.getfield 30, 3) := dk_180 0 30 (dk_at dksX0_leftOf_0 17 rfl rfl)
theorem dX0_leftOf_20 : decode cX0_leftOf 20 = .ok (.getfield 156, 3) := dk_180 0 156 (dk_at dksX0_leftOf_0 20 rfl rfl)
theorem dX0_leftOf_23 : decode cX0_leftOf 23 = .ok (.aload_n 1, 1) := dk_43 (dk_at dksX0_leftOf_0 23 rfl rfl)
theorem dX0_leftOf_24 : decode cX0_leftOf 24 = .ok (.getfield 143, 3) := dk_180 0 143 (dk_at dksX0_leftOf_1 0 rfl rfl)
theorem dX0_leftOf_27 : decode cX0_leftOf 27 = .ok (.iaload, 1) := dk_46 (dk_at dksX0_leftOf_1 3 rfl rfl)
theorem dX0_leftOf_28 : decode cX0_leftOf 28 = .ok (.invokevirtual 159, 3) := dk_182 0 159 (dk_at dksX0_leftOf_1 4 rfl rfl)
theorem dX0_leftOf_31 : decode cX0_leftOf 31 = .ok (.aload_n 0, 1) := dk_42 (dk_at dksX0_leftOf_1 7 rfl rfl)
theorem dX0_leftOf_32 : decode cX0_leftOf 32 = .ok (.getfield 30, 3) := dk_180 0 30 (dk_at dksX0_leftOf_1 8 rfl rfl)
theorem dX0_leftOf_35 : decode cX0_leftOf 35 = .ok (.aload_n 1, 1) := dk_43 (dk_at dksX0_leftOf_1 11 rfl rfl)
theorem dX0_leftOf_36 : decode cX0_leftOf 36 = .ok (.iconst 1, 1) := dk_4 (dk_at dksX0_leftOf_1 12 rfl rfl)
theorem dX0_leftOf_37 : decode cX0_leftOf 37 = .ok (.aload_n 0, 1) := dk_42 (dk_at dksX0_leftOf_1 13 rfl rfl)
theorem dX0_leftOf_38 : decode cX0_leftOf 38 = .ok (.getfield 30, 3) := dk_180 0 30 (dk_at dksX0_leftOf_1 14 rfl rfl)
theorem dX0_leftOf_41 : decode cX0_leftOf 41 = .ok (.getfield 163, 3) := dk_180 0 163 (dk_at dksX0_leftOf_1 17 rfl rfl)
theorem dX0_leftOf_44 : decode cX0_leftOf 44 = .ok (.iconst 0, 1) := dk_3 (dk_at dksX0_leftOf_1 20 rfl rfl)
theorem dX0_leftOf_45 : decode cX0_leftOf 45 = .ok (.iaload, 1) := dk_46 (dk_at dksX0_leftOf_1 21 rfl rfl)
theorem dX0_leftOf_46 : decode cX0_leftOf 46 = .ok (.invokevirtual 166, 3) := dk_182 0 166 (dk_at dksX0_leftOf_2 0 rfl rfl)
theorem dX0_leftOf_49 : decode cX0_leftOf 49 = .ok (.aload_n 0, 1) := dk_42 (dk_at dksX0_leftOf_2 3 rfl rfl)
theorem dX0_leftOf_50 : decode cX0_leftOf 50 = .ok (.getfield 39, 3) := dk_180 0 39 (dk_at dksX0_leftOf_2 4 rfl rfl)
theorem dX0_leftOf_53 : decode cX0_leftOf 53 = .ok (.getfield 170, 3) := dk_180 0 170 (dk_at dksX0_leftOf_2 7 rfl rfl)
theorem dX0_leftOf_56 : decode cX0_leftOf 56 = .ok (.ireturn, 1) := dk_172 (dk_at dksX0_leftOf_2 10 rfl rfl)
abbrev cX0_has : ByteArray := prog_1_method_2_code
def yX0_has : MethodName := ⟨RX0, "has", "(II)Z"⟩
def dkwX0_has_0 : List UInt8 := [26, 27, 122, 4, 126, 4, 160, 0, 7, 4, 167, 0, 4, 3, 172]
abbrev dktX0_has_0 : List UInt8 := dkwX0_has_0 ++ []
theorem dksX0_has_0 : cX0_has.data.toList.drop 0 = dktX0_has_0 := by decide +kernel
theorem dX0_has_0 : decode cX0_has 0 = .ok (.iload_n 0, 1) := dk_26 (dk_at dksX0_has_0 0 rfl rfl)
theorem dX0_has_1 : decode cX0_has 1 = .ok (.iload_n 1, 1) := dk_27 (dk_at dksX0_has_0 1 rfl rfl)
theorem dX0_has_2 : decode cX0_has 2 = .ok (.ishr, 1) := dk_122 (dk_at dksX0_has_0 2 rfl rfl)
theorem dX0_has_3 : decode cX0_has 3 = .ok (.iconst 1, 1) := dk_4 (dk_at dksX0_has_0 3 rfl rfl)
theorem dX0_has_4 : decode cX0_has 4 = .ok (.iand, 1) := dk_126 (dk_at dksX0_has_0 4 rfl rfl)
theorem dX0_has_5 : decode cX0_has 5 = .ok (.iconst 1, 1) := dk_4 (dk_at dksX0_has_0 5 rfl rfl)
theorem dX0_has_6 : decode cX0_has 6 = .ok (.if_icmp .ne 7, 3) := dk_160 0 7 (dk_at dksX0_has_0 6 rfl rfl)
theorem dX0_has_9 : decode cX0_has 9 = .ok (.iconst 1, 1) := dk_4 (dk_at dksX0_has_0 9 rfl rfl)
theorem dX0_has_10 : decode cX0_has 10 = .ok (.goto 4, 3) := dk_167 0 4 (dk_at dksX0_has_0 10 rfl rfl)
theorem dX0_has_13 : decode cX0_has 13 = .ok (.iconst 0, 1) := dk_3 (dk_at dksX0_has_0 13 rfl rfl)
theorem dX0_has_14 : decode cX0_has 14 = .ok (.ireturn, 1) := dk_172 (dk_at dksX0_has_0 14 rfl rfl)
abbrev cX0_side : ByteArray := prog_1_method_21_code
def yX0_side : MethodName := ⟨RX0, "side", "(I)I"⟩
def dkwX0_side_1 : List UInt8 := [180, 0, 30, 180, 0, 181, 61, 42, 180, 0, 30, 27, 181, 0, 181, 28, 172]
abbrev dktX0_side_1 : List UInt8 := dkwX0_side_1 ++ []
def dkwX0_side_0 : List UInt8 := [27, 42, 180, 0, 30, 180, 0, 181, 16, 7, 184, 0, 73, 154, 0, 10, 42, 16, 254, 182, 0, 94, 172, 42]
abbrev dktX0_side_0 : List UInt8 := dkwX0_side_0 ++ dktX0_side_1
theorem dksX0_side_0 : cX0_side.data.toList.drop 0 = dktX0_side_0 := by decide +kernel
theorem dksX0_side_1 : cX0_side.data.toList.drop 24 = dktX0_side_1 := dk_seg dksX0_side_0 24 rfl rfl
theorem dX0_side_0 : decode cX0_side 0 = .ok (.iload_n 1, 1) := dk_27 (dk_at dksX0_side_0 0 rfl rfl)
theorem dX0_side_1 : decode cX0_side 1 = .ok (.aload_n 0, 1) := dk_42 (dk_at dksX0_side_0 1 rfl rfl)
theorem dX0_side_2 : decode cX0_side 2 = .ok (.getfield 30, 3) := dk_180 0 30 (dk_at dksX0_side_0 2 rfl rfl)
theorem dX0_side_5 : decode cX0_side 5 = .ok (.getfield 181, 3) := dk_180 0 181 (dk_at dksX0_side_0 5 rfl rfl)
theorem dX0_side_8 : decode cX0_side 8 = .ok (.bipush 7, 2) := dk_16 7 (dk_at dksX0_side_0 8 rfl rfl)
theorem dX0_side_10 : decode cX0_side 10 = .ok (.invokestatic 73, 3) := dk_184 0 73 (dk_at dksX0_side_0 10 rfl rfl)
theorem dX0_side_13 : decode cX0_side 13 = .ok (.ifCond .ne 10, 3) := dk_154 0 10 (dk_at dksX0_side_0 13 rfl rfl)
theorem dX0_side_16 : decode cX0_side 16 = .ok (.aload_n 0, 1) := dk_42 (dk_at dksX0_side_0 16 rfl rfl)
theorem dX0_side_17 : decode cX0_side 17 = .ok (.bipush (-2), 2) := dk_16 254 (dk_at dksX0_side_0 17 rfl rfl)
theorem dX0_side_19 : decode cX0_side 19 = .ok (.invokevirtual 94, 3) := dk_182 0 94 (dk_at dksX0_side_0 19 rfl rfl)
theorem dX0_side_22 : decode cX0_side 22 = .ok (.ireturn, 1) := dk_172 (dk_at dksX0_side_0 22 rfl rfl)
theorem dX0_side_23 : decode cX0_side 23 = .ok (.aload_n 0, 1) := dk_42 (dk_at dksX0_side_0 23 rfl rfl)
theorem dX0_side_24 : decode cX0_side 24 = .ok (.getfield 30, 3) := dk_180 0 30 (dk_at dksX0_side_1 0 rfl rfl)
theorem dX0_side_27 : decode cX0_side 27 = .ok (.getfield 181, 3) := dk_180 0 181 (dk_at dksX0_side_1 3 rfl rfl)
theorem dX0_side_30 : decode cX0_side 30 = .ok (.istore_n 2, 1) := dk_61 (dk_at dksX0_side_1 6 rfl rfl)
theorem dX0_side_31 : decode cX0_side 31 = .ok (.aload_n 0, 1) := dk_42 (dk_at dksX0_side_1 7 rfl rfl)
theorem dX0_side_32 : decode cX0_side 32 = .ok (.getfield 30, 3) := dk_180 0 30 (dk_at dksX0_side_1 8 rfl rfl)
theorem dX0_side_35 : decode cX0_side 35 = .ok (.iload_n 1, 1) := dk_27 (dk_at dksX0_side_1 11 rfl rfl)
theorem dX0_side_36 : decode cX0_side 36 = .ok (.putfield 181, 3) := dk_181 0 181 (dk_at dksX0_side_1 12 rfl rfl)
theorem dX0_side_39 : decode cX0_side 39 = .ok (.iload_n 2, 1) := dk_28 (dk_at dksX0_side_1 15 rfl rfl)
theorem dX0_side_40 : decode cX0_side 40 = .ok (.ireturn, 1) := dk_172 (dk_at dksX0_side_1 16 rfl rfl)
abbrev cX0_pond : ByteArray := prog_1_method_22_code
def yX0_pond : MethodName := ⟨RX0, "pond", "(IZ)I"⟩
def dkwX0_pond_2 : List UInt8 := [182, 0, 190, 153, 0, 7, 4, 167, 0, 4, 3, 62, 42, 180, 0, 30, 27, 28, 182, 0, 193, 29, 172]
abbrev dktX0_pond_2 : List UInt8 := dkwX0_pond_2 ++ []
def dkwX0_pond_1 : List UInt8 := [180, 0, 30, 27, 182, 0, 187, 154, 0, 10, 42, 16, 251, 182, 0, 94, 172, 42, 180, 0, 30, 27]
abbrev dktX0_pond_1 : List UInt8 := dkwX0_pond_1 ++ dktX0_pond_2
def dkwX0_pond_0 : List UInt8 := [42, 180, 0, 30, 27, 182, 0, 184, 154, 0, 10, 42, 16, 254, 182, 0, 94, 172, 28, 153, 0, 21, 42]
abbrev dktX0_pond_0 : List UInt8 := dkwX0_pond_0 ++ dktX0_pond_1
theorem dksX0_pond_0 : cX0_pond.data.toList.drop 0 = dktX0_pond_0 := by decide +kernel
theorem dksX0_pond_1 : cX0_pond.data.toList.drop 23 = dktX0_pond_1 := dk_seg dksX0_pond_0 23 rfl rfl
theorem dksX0_pond_2 : cX0_pond.data.toList.drop 45 = dktX0_pond_2 := dk_seg dksX0_pond_1 22 rfl rfl
theorem dX0_pond_0 : decode cX0_pond 0 = .ok (.aload_n 0, 1) := dk_42 (dk_at dksX0_pond_0 0 rfl rfl)
theorem dX0_pond_1 : decode cX0_pond 1 = .ok (.getfield 30, 3) := dk_180 0 30 (dk_at dksX0_pond_0 1 rfl rfl)
theorem dX0_pond_4 : decode cX0_pond 4 = .ok (.iload_n 1, 1) := dk_27 (dk_at dksX0_pond_0 4 rfl rfl)
theorem dX0_pond_5 : decode cX0_pond 5 = .ok (.invokevirtual 184, 3) := dk_182 0 184 (dk_at dksX0_pond_0 5 rfl rfl)
theorem dX0_pond_8 : decode cX0_pond 8 = .ok (.ifCond .ne 10, 3) := dk_154 0 10 (dk_at dksX0_pond_0 8 rfl rfl)
theorem dX0_pond_11 : decode cX0_pond 11 = .ok (.aload_n 0, 1) := dk_42 (dk_at dksX0_pond_0 11 rfl rfl)
theorem dX0_pond_12 : decode cX0_pond 12 = .ok (.bipush (-2), 2) := dk_16 254 (dk_at dksX0_pond_0 12 rfl rfl)
theorem dX0_pond_14 : decode cX0_pond 14 = .ok (.invokevirtual 94, 3) := dk_182 0 94 (dk_at dksX0_pond_0 14 rfl rfl)
theorem dX0_pond_17 : decode cX0_pond 17 = .ok (.ireturn, 1) := dk_172 (dk_at dksX0_pond_0 17 rfl rfl)
theorem dX0_pond_18 : decode cX0_pond 18 = .ok (.iload_n 2, 1) := dk_28 (dk_at dksX0_pond_0 18 rfl rfl)
theorem dX0_pond_19 : decode cX0_pond 19 = .ok (.ifCond .eq 21, 3) := dk_153 0 21 (dk_at dksX0_pond_0 19 rfl rfl)
theorem dX0_pond_22 : decode cX0_pond 22 = .ok (.aload_n 0, 1) := dk_42 (dk_at dksX0_pond_0 22 rfl rfl)
theorem dX0_pond_23 : decode cX0_pond 23 = .ok (.getfield 30, 3) := dk_180 0 30 (dk_at dksX0_pond_1 0 rfl rfl)
theorem dX0_pond_26 : decode cX0_pond 26 = .ok (.iload_n 1, 1) := dk_27 (dk_at dksX0_pond_1 3 rfl rfl)
theorem dX0_pond_27 : decode cX0_pond 27 = .ok (.invokevirtual 187, 3) := dk_182 0 187 (dk_at dksX0_pond_1 4 rfl rfl)
theorem dX0_pond_30 : decode cX0_pond 30 = .ok (.ifCond .ne 10, 3) := dk_154 0 10 (dk_at dksX0_pond_1 7 rfl rfl)
theorem dX0_pond_33 : decode cX0_pond 33 = .ok (.aload_n 0, 1) := dk_42 (dk_at dksX0_pond_1 10 rfl rfl)
theorem dX0_pond_34 : decode cX0_pond 34 = .ok (.bipush (-5), 2) := dk_16 251 (dk_at dksX0_pond_1 11 rfl rfl)
theorem dX0_pond_36 : decode cX0_pond 36 = .ok (.invokevirtual 94, 3) := dk_182 0 94 (dk_at dksX0_pond_1 13 rfl rfl)
theorem dX0_pond_39 : decode cX0_pond 39 = .ok (.ireturn, 1) := dk_172 (dk_at dksX0_pond_1 16 rfl rfl)
theorem dX0_pond_40 : decode cX0_pond 40 = .ok (.aload_n 0, 1) := dk_42 (dk_at dksX0_pond_1 17 rfl rfl)
theorem dX0_pond_41 : decode cX0_pond 41 = .ok (.getfield 30, 3) := dk_180 0 30 (dk_at dksX0_pond_1 18 rfl rfl)
theorem dX0_pond_44 : decode cX0_pond 44 = .ok (.iload_n 1, 1) := dk_27 (dk_at dksX0_pond_1 21 rfl rfl)
theorem dX0_pond_45 : decode cX0_pond 45 = .ok (.invokevirtual 190, 3) := dk_182 0 190 (dk_at dksX0_pond_2 0 rfl rfl)
theorem dX0_pond_48 : decode cX0_pond 48 = .ok (.ifCond .eq 7, 3) := dk_153 0 7 (dk_at dksX0_pond_2 3 rfl rfl)
theorem dX0_pond_51 : decode cX0_pond 51 = .ok (.iconst 1, 1) := dk_4 (dk_at dksX0_pond_2 6 rfl rfl)
theorem dX0_pond_52 : decode cX0_pond 52 = .ok (.goto 4, 3) := dk_167 0 4 (dk_at dksX0_pond_2 7 rfl rfl)
theorem dX0_pond_55 : decode cX0_pond 55 = .ok (.iconst 0, 1) := dk_3 (dk_at dksX0_pond_2 10 rfl rfl)
theorem dX0_pond_56 : decode cX0_pond 56 = .ok (.istore_n 3, 1) := dk_62 (dk_at dksX0_pond_2 11 rfl rfl)
theorem dX0_pond_57 : decode cX0_pond 57 = .ok (.aload_n 0, 1) := dk_42 (dk_at dksX0_pond_2 12 rfl rfl)
theorem dX0_pond_58 : decode cX0_pond 58 = .ok (.getfield 30, 3) := dk_180 0 30 (dk_at dksX0_pond_2 13 rfl rfl)
theorem dX0_pond_61 : decode cX0_pond 61 = .ok (.iload_n 1, 1) := dk_27 (dk_at dksX0_pond_2 16 rfl rfl)
theorem dX0_pond_62 : decode cX0_pond 62 = .ok (.iload_n 2, 1) := dk_28 (dk_at dksX0_pond_2 17 rfl rfl)
theorem dX0_pond_63 : decode cX0_pond 63 = .ok (.invokevirtual 193, 3) := dk_182 0 193 (dk_at dksX0_pond_2 18 rfl rfl)
theorem dX0_pond_66 : decode cX0_pond 66 = .ok (.iload_n 3, 1) := dk_29 (dk_at dksX0_pond_2 21 rfl rfl)
theorem dX0_pond_67 : decode cX0_pond 67 = .ok (.ireturn, 1) := dk_172 (dk_at dksX0_pond_2 22 rfl rfl)
abbrev cX0_person : ByteArray := prog_1_method_24_code
def yX0_person : MethodName := ⟨RX0, "person", "(IIII)I"⟩
def dkwX0_person_4 : List UInt8 := [182, 0, 203, 172]
abbrev dktX0_person_4 : List UInt8 := dkwX0_person_4 ++ []
def dkwX0_person_3 : List UInt8 := [16, 8, 160, 0, 12, 42, 16, 250, 182, 0, 94, 167, 0, 15, 42, 180, 0, 30, 27, 28, 29, 21, 4]
abbrev dktX0_person_3 : List UInt8 := dkwX0_person_3 ++ dktX0_person_4
def dkwX0_person_2 : List UInt8 := [180, 0, 30, 29, 182, 0, 190, 153, 0, 10, 42, 16, 251, 182, 0, 94, 172, 42, 180, 0, 30, 180, 0, 200]
abbrev dktX0_person_2 : List UInt8 := dkwX0_person_2 ++ dktX0_person_3
def dkwX0_person_1 : List UInt8 := [182, 0, 184, 153, 0, 11, 21, 4, 184, 0, 197, 154, 0, 10, 42, 16, 254, 182, 0, 94, 172, 42]
abbrev dktX0_person_1 : List UInt8 := dkwX0_person_1 ++ dktX0_person_2
def dkwX0_person_0 : List UInt8 := [27, 3, 8, 184, 0, 73, 153, 0, 32, 28, 3, 16, 9, 184, 0, 73, 153, 0, 22, 42, 180, 0, 30, 29]
abbrev dktX0_person_0 : List UInt8 := dkwX0_person_0 ++ dktX0_person_1
theorem dksX0_person_0 : cX0_person.data.toList.drop 0 = dktX0_person_0 := by decide +kernel
theorem dksX0_person_1 : cX0_person.data.toList.drop 24 = dktX0_person_1 := dk_seg dksX0_person_0 24 rfl rfl
theorem dksX0_person_2 : cX0_person.data.toList.drop 46 = dktX0_person_2 := dk_seg dksX0_person_1 22 rfl rfl
theorem dksX0_person_3 : cX0_person.data.toList.drop 70 = dktX0_person_3 := dk_seg dksX0_person_2 24 rfl rfl
theorem dksX0_person_4 : cX0_person.data.toList.drop 93 = dktX0_person_4 := dk_seg dksX0_person_3 23 rfl rfl
theorem dX0_person_0 : decode cX0_person 0 = .ok (.iload_n 1, 1) := dk_27 (dk_at dksX0_person_0 0 rfl rfl)
theorem dX0_person_1 : decode cX0_person 1 = .ok (.iconst 0, 1) := dk_3 (dk_at dksX0_person_0 1 rfl rfl)
theorem dX0_person_2 : decode cX0_person 2 = .ok (.iconst 5, 1) := dk_8 (dk_at dksX0_person_0 2 rfl rfl)
theorem dX0_person_3 : decode cX0_person 3 = .ok (.invokestatic 73, 3) := dk_184 0 73 (dk_at dksX0_person_0 3 rfl rfl)
theorem dX0_person_6 : decode cX0_person 6 = .ok (.ifCond .eq 32, 3) := dk_153 0 32 (dk_at dksX0_person_0 6 rfl rfl)
theorem dX0_person_9 : decode cX0_person 9 = .ok (.iload_n 2, 1) := dk_28 (dk_at dksX0_person_0 9 rfl rfl)
theorem dX0_person_10 : decode cX0_person 10 = .ok (.iconst 0, 1) := dk_3 (dk_at dksX0_person_0 10 rfl rfl)
theorem dX0_person_11 : decode cX0_person 11 = .ok (.bipush 9, 2) := dk_16 9 (dk_at dksX0_person_0 11 rfl rfl)
theorem dX0_person_13 : decode cX0_person 13 = .ok (.invokestatic 73, 3) := dk_184 0 73 (dk_at dksX0_person_0 13 rfl rfl)
theorem dX0_person_16 : decode cX0_person 16 = .ok (.ifCond .eq 22, 3) := dk_153 0 22 (dk_at dksX0_person_0 16 rfl rfl)
theorem dX0_person_19 : decode cX0_person 19 = .ok (.aload_n 0, 1) := dk_42 (dk_at dksX0_person_0 19 rfl rfl)
theorem dX0_person_20 : decode cX0_person 20 = .ok (.getfield 30, 3) := dk_180 0 30 (dk_at dksX0_person_0 20 rfl rfl)
theorem dX0_person_23 : decode cX0_person 23 = .ok (.iload_n 3, 1) := dk_29 (dk_at dksX0_person_0 23 rfl rfl)
theorem dX0_person_24 : decode cX0_person 24 = .ok (.invokevirtual 184, 3) := dk_182 0 184 (dk_at dksX0_person_1 0 rfl rfl)
theorem dX0_person_27 : decode cX0_person 27 = .ok (.ifCond .eq 11, 3) := dk_153 0 11 (dk_at dksX0_person_1 3 rfl rfl)
theorem dX0_person_30 : decode cX0_person 30 = .ok (.iload 4, 2) := dk_21 4 (dk_at dksX0_person_1 6 rfl rfl)
theorem dX0_person_32 : decode cX0_person 32 = .ok (.invokestatic 197, 3) := dk_184 0 197 (dk_at dksX0_person_1 8 rfl rfl)
theorem dX0_person_35 : decode cX0_person 35 = .ok (.ifCond .ne 10, 3) := dk_154 0 10 (dk_at dksX0_person_1 11 rfl rfl)
theorem dX0_person_38 : decode cX0_person 38 = .ok (.aload_n 0, 1) := dk_42 (dk_at dksX0_person_1 14 rfl rfl)
theorem dX0_person_39 : decode cX0_person 39 = .ok (.bipush (-2), 2) := dk_16 254 (dk_at dksX0_person_1 15 rfl rfl)
theorem dX0_person_41 : decode cX0_person 41 = .ok (.invokevirtual 94, 3) := dk_182 0 94 (dk_at dksX0_person_1 17 rfl rfl)
theorem dX0_person_44 : decode cX0_person 44 = .ok (.ireturn, 1) := dk_172 (dk_at dksX0_person_1 20 rfl rfl)
theorem dX0_person_45 : decode cX0_person 45 = .ok (.aload_n 0, 1) := dk_42 (dk_at dksX0_person_1 21 rfl rfl)
theorem dX0_person_46 : decode cX0_person 46 = .ok (.getfield 30, 3) := dk_180 0 30 (dk_at dksX0_person_2 0 rfl rfl)
theorem dX0_person_49 : decode cX0_person 49 = .ok (.iload_n 3, 1) := dk_29 (dk_at dksX0_person_2 3 rfl rfl)
theorem dX0_person_50 : decode cX0_person 50 = .ok (.invokevirtual 190, 3) := dk_182 0 190 (dk_at dksX0_person_2 4 rfl rfl)
theorem dX0_person_53 : decode cX0_person 53 = .ok (.ifCond .eq 10, 3) := dk_153 0 10 (dk_at dksX0_person_2 7 rfl rfl)
theorem dX0_person_56 : decode cX0_person 56 = .ok (.aload_n 0, 1) := dk_42 (dk_at dksX0_person_2 10 rfl rfl)
theorem dX0_person_57 : decode cX0_person 57 = .ok (.bipush (-5), 2) := dk_16 251 (dk_at dksX0_person_2 11 rfl rfl)
theorem dX0_person_59 : decode cX0_person 59 = .ok (.invokevirtual 94, 3) := dk_182 0 94 (dk_at dksX0_person_2 13 rfl rfl)
theorem dX0_person_62 : decode cX0_person 62 = .ok (.ireturn, 1) := dk_172 (dk_at dksX0_person_2 16 rfl rfl)
theorem dX0_person_63 : decode cX0_person 63 = .ok (.aload_n 0, 1) := dk_42 (dk_at dksX0_person_2 17 rfl rfl)
theorem dX0_person_64 : decode cX0_person 64 = .ok (.getfield 30, 3) := dk_180 0 30 (dk_at dksX0_person_2 18 rfl rfl)
theorem dX0_person_67 : decode cX0_person 67 = .ok (.getfield 200, 3) := dk_180 0 200 (dk_at dksX0_person_2 21 rfl rfl)
theorem dX0_person_70 : decode cX0_person 70 = .ok (.bipush 8, 2) := dk_16 8 (dk_at dksX0_person_3 0 rfl rfl)
theorem dX0_person_72 : decode cX0_person 72 = .ok (.if_icmp .ne 12, 3) := dk_160 0 12 (dk_at dksX0_person_3 2 rfl rfl)
theorem dX0_person_75 : decode cX0_person 75 = .ok (.aload_n 0, 1) := dk_42 (dk_at dksX0_person_3 5 rfl rfl)
theorem dX0_person_76 : decode cX0_person 76 = .ok (.bipush (-6), 2) := dk_16 250 (dk_at dksX0_person_3 6 rfl rfl)
theorem dX0_person_78 : decode cX0_person 78 = .ok (.invokevirtual 94, 3) := dk_182 0 94 (dk_at dksX0_person_3 8 rfl rfl)
theorem dX0_person_81 : decode cX0_person 81 = .ok (.goto 15, 3) := dk_167 0 15 (dk_at dksX0_person_3 11 rfl rfl)
theorem dX0_person_84 : decode cX0_person 84 = .ok (.aload_n 0, 1) := dk_42 (dk_at dksX0_person_3 14 rfl rfl)
theorem dX0_person_85 : decode cX0_person 85 = .ok (.getfield 30, 3) := dk_180 0 30 (dk_at dksX0_person_3 15 rfl rfl)
theorem dX0_person_88 : decode cX0_person 88 = .ok (.iload_n 1, 1) := dk_27 (dk_at dksX0_person_3 18 rfl rfl)
theorem dX0_person_89 : decode cX0_person 89 = .ok (.iload_n 2, 1) := dk_28 (dk_at dksX0_person_3 19 rfl rfl)
theorem dX0_person_90 : decode cX0_person 90 = .ok (.iload_n 3, 1) := dk_29 (dk_at dksX0_person_3 20 rfl rfl)
theorem dX0_person_91 : decode cX0_person 91 = .ok (.iload 4, 2) := dk_21 4 (dk_at dksX0_person_3 21 rfl rfl)
theorem dX0_person_93 : decode cX0_person 93 = .ok (.invokevirtual 203, 3) := dk_182 0 203 (dk_at dksX0_person_4 0 rfl rfl)
theorem dX0_person_96 : decode cX0_person 96 = .ok (.ireturn, 1) := dk_172 (dk_at dksX0_person_4 3 rfl rfl)
abbrev cX0_isFaced : ByteArray := prog_1_method_23_code
def yX0_isFaced : MethodName := ⟨RX0, "isFaced", "(I)Z"⟩
def dkwX0_isFaced_0 : List UInt8 := [26, 3, 6, 184, 0, 73, 172]
abbrev dktX0_isFaced_0 : List UInt8 := dkwX0_isFaced_0 ++ []
theorem dksX0_isFaced_0 : cX0_isFaced.data.toList.drop 0 = dktX0_isFaced_0 := by decide +kernel
theorem dX0_isFaced_0 : decode cX0_isFaced 0 = .ok (.iload_n 0, 1) := dk_26 (dk_at dksX0_isFaced_0 0 rfl rfl)
theorem dX0_isFaced_1 : decode cX0_isFaced 1 = .ok (.iconst 0, 1) := dk_3 (dk_at dksX0_isFaced_0 1 rfl rfl)
theorem dX0_isFaced_2 : decode cX0_isFaced 2 = .ok (.iconst 3, 1) := dk_6 (dk_at dksX0_isFaced_0 2 rfl rfl)
theorem dX0_isFaced_3 : decode cX0_isFaced 3 = .ok (.invokestatic 73, 3) := dk_184 0 73 (dk_at dksX0_isFaced_0 3 rfl rfl)
theorem dX0_isFaced_6 : decode cX0_isFaced 6 = .ok (.ireturn, 1) := dk_172 (dk_at dksX0_isFaced_0 6 rfl rfl)
abbrev cX0_made : ByteArray := prog_1_method_3_code
def yX0_made : MethodName := ⟨RX0, "made", "(III)LLeftIsAgreedOn$Voter;"⟩
def dkwX0_made_4 : List UInt8 := [183, 0, 18, 176, 187, 0, 19, 89, 27, 28, 183, 0, 21, 176]
abbrev dktX0_made_4 : List UInt8 := dkwX0_made_4 ++ []
def dkwX0_made_3 : List UInt8 := [27, 28, 183, 0, 12, 176, 187, 0, 13, 89, 27, 28, 183, 0, 15, 176, 187, 0, 16, 89, 27, 28]
abbrev dktX0_made_3 : List UInt8 := dkwX0_made_3 ++ dktX0_made_4
def dkwX0_made_2 : List UInt8 := [187, 0, 1, 89, 27, 28, 183, 0, 3, 176, 187, 0, 7, 89, 27, 28, 183, 0, 9, 176, 187, 0, 10, 89]
abbrev dktX0_made_2 : List UInt8 := dkwX0_made_2 ++ dktX0_made_3
def dkwX0_made_1 : List UInt8 := [170, 0, 0, 0, 0, 0, 85, 0, 0, 0, 0, 0, 0, 0, 4, 0, 0, 0, 35, 0, 0, 0, 45, 0, 0, 0, 55, 0, 0, 0, 65, 0, 0, 0, 75]
abbrev dktX0_made_1 : List UInt8 := dkwX0_made_1 ++ dktX0_made_2
def dkwX0_made_0 : List UInt8 := [26]
abbrev dktX0_made_0 : List UInt8 := dkwX0_made_0 ++ dktX0_made_1
theorem dksX0_made_0 : cX0_made.data.toList.drop 0 = dktX0_made_0 := by decide +kernel
theorem dksX0_made_1 : cX0_made.data.toList.drop 1 = dktX0_made_1 := dk_seg dksX0_made_0 1 rfl rfl
theorem dksX0_made_2 : cX0_made.data.toList.drop 36 = dktX0_made_2 := dk_seg dksX0_made_1 35 rfl rfl
theorem dksX0_made_3 : cX0_made.data.toList.drop 60 = dktX0_made_3 := dk_seg dksX0_made_2 24 rfl rfl
theorem dksX0_made_4 : cX0_made.data.toList.drop 82 = dktX0_made_4 := dk_seg dksX0_made_3 22 rfl rfl
theorem dX0_made_0 : decode cX0_made 0 = .ok (.iload_n 0, 1) := dk_26 (dk_at dksX0_made_0 0 rfl rfl)
theorem dX0_made_1 : decode cX0_made 1 = .ok (.tableswitch 85 0 4 #[35, 45, 55, 65, 75], 35) := by decide +kernel
theorem dX0_made_36 : decode cX0_made 36 = .ok (.new 1, 3) := dk_187 0 1 (dk_at dksX0_made_2 0 rfl rfl)
theorem dX0_made_39 : decode cX0_made 39 = .ok (.dup, 1) := dk_89 (dk_at dksX0_made_2 3 rfl rfl)
theorem dX0_made_40 : decode cX0_made 40 = .ok (.iload_n 1, 1) := dk_27 (dk_at dksX0_made_2 4 rfl rfl)
theorem dX0_made_41 : decode cX0_made 41 = .ok (.iload_n 2, 1) := dk_28 (dk_at dksX0_made_2 5 rfl rfl)
theorem dX0_made_42 : decode cX0_made 42 = .ok (.invokespecial 3, 3) := dk_183 0 3 (dk_at dksX0_made_2 6 rfl rfl)
theorem dX0_made_45 : decode cX0_made 45 = .ok (.areturn, 1) := dk_176 (dk_at dksX0_made_2 9 rfl rfl)
theorem dX0_made_46 : decode cX0_made 46 = .ok (.new 7, 3) := dk_187 0 7 (dk_at dksX0_made_2 10 rfl rfl)
theorem dX0_made_49 : decode cX0_made 49 = .ok (.dup, 1) := dk_89 (dk_at dksX0_made_2 13 rfl rfl)
theorem dX0_made_50 : decode cX0_made 50 = .ok (.iload_n 1, 1) := dk_27 (dk_at dksX0_made_2 14 rfl rfl)
theorem dX0_made_51 : decode cX0_made 51 = .ok (.iload_n 2, 1) := dk_28 (dk_at dksX0_made_2 15 rfl rfl)
theorem dX0_made_52 : decode cX0_made 52 = .ok (.invokespecial 9, 3) := dk_183 0 9 (dk_at dksX0_made_2 16 rfl rfl)
theorem dX0_made_55 : decode cX0_made 55 = .ok (.areturn, 1) := dk_176 (dk_at dksX0_made_2 19 rfl rfl)
theorem dX0_made_56 : decode cX0_made 56 = .ok (.new 10, 3) := dk_187 0 10 (dk_at dksX0_made_2 20 rfl rfl)
theorem dX0_made_59 : decode cX0_made 59 = .ok (.dup, 1) := dk_89 (dk_at dksX0_made_2 23 rfl rfl)
theorem dX0_made_60 : decode cX0_made 60 = .ok (.iload_n 1, 1) := dk_27 (dk_at dksX0_made_3 0 rfl rfl)
theorem dX0_made_61 : decode cX0_made 61 = .ok (.iload_n 2, 1) := dk_28 (dk_at dksX0_made_3 1 rfl rfl)
theorem dX0_made_62 : decode cX0_made 62 = .ok (.invokespecial 12, 3) := dk_183 0 12 (dk_at dksX0_made_3 2 rfl rfl)
theorem dX0_made_65 : decode cX0_made 65 = .ok (.areturn, 1) := dk_176 (dk_at dksX0_made_3 5 rfl rfl)
theorem dX0_made_66 : decode cX0_made 66 = .ok (.new 13, 3) := dk_187 0 13 (dk_at dksX0_made_3 6 rfl rfl)
theorem dX0_made_69 : decode cX0_made 69 = .ok (.dup, 1) := dk_89 (dk_at dksX0_made_3 9 rfl rfl)
theorem dX0_made_70 : decode cX0_made 70 = .ok (.iload_n 1, 1) := dk_27 (dk_at dksX0_made_3 10 rfl rfl)
theorem dX0_made_71 : decode cX0_made 71 = .ok (.iload_n 2, 1) := dk_28 (dk_at dksX0_made_3 11 rfl rfl)
theorem dX0_made_72 : decode cX0_made 72 = .ok (.invokespecial 15, 3) := dk_183 0 15 (dk_at dksX0_made_3 12 rfl rfl)
theorem dX0_made_75 : decode cX0_made 75 = .ok (.areturn, 1) := dk_176 (dk_at dksX0_made_3 15 rfl rfl)
theorem dX0_made_76 : decode cX0_made 76 = .ok (.new 16, 3) := dk_187 0 16 (dk_at dksX0_made_3 16 rfl rfl)
theorem dX0_made_79 : decode cX0_made 79 = .ok (.dup, 1) := dk_89 (dk_at dksX0_made_3 19 rfl rfl)
theorem dX0_made_80 : decode cX0_made 80 = .ok (.iload_n 1, 1) := dk_27 (dk_at dksX0_made_3 20 rfl rfl)
theorem dX0_made_81 : decode cX0_made 81 = .ok (.iload_n 2, 1) := dk_28 (dk_at dksX0_made_3 21 rfl rfl)
theorem dX0_made_82 : decode cX0_made 82 = .ok (.invokespecial 18, 3) := dk_183 0 18 (dk_at dksX0_made_4 0 rfl rfl)
theorem dX0_made_85 : decode cX0_made 85 = .ok (.areturn, 1) := dk_176 (dk_at dksX0_made_4 3 rfl rfl)
theorem dX0_made_86 : decode cX0_made 86 = .ok (.new 19, 3) := dk_187 0 19 (dk_at dksX0_made_4 4 rfl rfl)
theorem dX0_made_89 : decode cX0_made 89 = .ok (.dup, 1) := dk_89 (dk_at dksX0_made_4 7 rfl rfl)
theorem dX0_made_90 : decode cX0_made 90 = .ok (.iload_n 1, 1) := dk_27 (dk_at dksX0_made_4 8 rfl rfl)
theorem dX0_made_91 : decode cX0_made 91 = .ok (.iload_n 2, 1) := dk_28 (dk_at dksX0_made_4 9 rfl rfl)
theorem dX0_made_92 : decode cX0_made 92 = .ok (.invokespecial 21, 3) := dk_183 0 21 (dk_at dksX0_made_4 10 rfl rfl)
theorem dX0_made_95 : decode cX0_made 95 = .ok (.areturn, 1) := dk_176 (dk_at dksX0_made_4 13 rfl rfl)
abbrev cX0_tell : ByteArray := prog_1_method_25_code
def yX0_tell : MethodName := ⟨RX0, "tell", "(II)I"⟩
def dkwX0_tell_2 : List UInt8 := [180, 0, 30, 180, 0, 163, 27, 28, 79, 29, 172]
abbrev dktX0_tell_2 : List UInt8 := dkwX0_tell_2 ++ []
def dkwX0_tell_1 : List UInt8 := [184, 0, 73, 154, 0, 10, 42, 16, 254, 182, 0, 94, 172, 42, 180, 0, 30, 180, 0, 163, 27, 46, 62, 42]
abbrev dktX0_tell_1 : List UInt8 := dkwX0_tell_1 ++ dktX0_tell_2
def dkwX0_tell_0 : List UInt8 := [27, 3, 5, 184, 0, 73, 153, 0, 22, 28, 3, 27, 5, 160, 0, 8, 16, 12, 167, 0, 4, 4]
abbrev dktX0_tell_0 : List UInt8 := dkwX0_tell_0 ++ dktX0_tell_1
theorem dksX0_tell_0 : cX0_tell.data.toList.drop 0 = dktX0_tell_0 := by decide +kernel
theorem dksX0_tell_1 : cX0_tell.data.toList.drop 22 = dktX0_tell_1 := dk_seg dksX0_tell_0 22 rfl rfl
theorem dksX0_tell_2 : cX0_tell.data.toList.drop 46 = dktX0_tell_2 := dk_seg dksX0_tell_1 24 rfl rfl
theorem dX0_tell_0 : decode cX0_tell 0 = .ok (.iload_n 1, 1) := dk_27 (dk_at dksX0_tell_0 0 rfl rfl)
theorem dX0_tell_1 : decode cX0_tell 1 = .ok (.iconst 0, 1) := dk_3 (dk_at dksX0_tell_0 1 rfl rfl)
theorem dX0_tell_2 : decode cX0_tell 2 = .ok (.iconst 2, 1) := dk_5 (dk_at dksX0_tell_0 2 rfl rfl)
theorem dX0_tell_3 : decode cX0_tell 3 = .ok (.invokestatic 73, 3) := dk_184 0 73 (dk_at dksX0_tell_0 3 rfl rfl)
theorem dX0_tell_6 : decode cX0_tell 6 = .ok (.ifCond .eq 22, 3) := dk_153 0 22 (dk_at dksX0_tell_0 6 rfl rfl)
theorem dX0_tell_9 : decode cX0_tell 9 = .ok (.iload_n 2, 1) := dk_28 (dk_at dksX0_tell_0 9 rfl rfl)
theorem dX0_tell_10 : decode cX0_tell 10 = .ok (.iconst 0, 1) := dk_3 (dk_at dksX0_tell_0 10 rfl rfl)
theorem dX0_tell_11 : decode cX0_tell 11 = .ok (.iload_n 1, 1) := dk_27 (dk_at dksX0_tell_0 11 rfl rfl)
theorem dX0_tell_12 : decode cX0_tell 12 = .ok (.iconst 2, 1) := dk_5 (dk_at dksX0_tell_0 12 rfl rfl)
theorem dX0_tell_13 : decode cX0_tell 13 = .ok (.if_icmp .ne 8, 3) := dk_160 0 8 (dk_at dksX0_tell_0 13 rfl rfl)
theorem dX0_tell_16 : decode cX0_tell 16 = .ok (.bipush 12, 2) := dk_16 12 (dk_at dksX0_tell_0 16 rfl rfl)
theorem dX0_tell_18 : decode cX0_tell 18 = .ok (.goto 4, 3) := dk_167 0 4 (dk_at dksX0_tell_0 18 rfl rfl)
theorem dX0_tell_21 : decode cX0_tell 21 = .ok (.iconst 1, 1) := dk_4 (dk_at dksX0_tell_0 21 rfl rfl)
theorem dX0_tell_22 : decode cX0_tell 22 = .ok (.invokestatic 73, 3) := dk_184 0 73 (dk_at dksX0_tell_1 0 rfl rfl)
theorem dX0_tell_25 : decode cX0_tell 25 = .ok (.ifCond .ne 10, 3) := dk_154 0 10 (dk_at dksX0_tell_1 3 rfl rfl)
theorem dX0_tell_28 : decode cX0_tell 28 = .ok (.aload_n 0, 1) := dk_42 (dk_at dksX0_tell_1 6 rfl rfl)
theorem dX0_tell_29 : decode cX0_tell 29 = .ok (.bipush (-2), 2) := dk_16 254 (dk_at dksX0_tell_1 7 rfl rfl)
theorem dX0_tell_31 : decode cX0_tell 31 = .ok (.invokevirtual 94, 3) := dk_182 0 94 (dk_at dksX0_tell_1 9 rfl rfl)
theorem dX0_tell_34 : decode cX0_tell 34 = .ok (.ireturn, 1) := dk_172 (dk_at dksX0_tell_1 12 rfl rfl)
theorem dX0_tell_35 : decode cX0_tell 35 = .ok (.aload_n 0, 1) := dk_42 (dk_at dksX0_tell_1 13 rfl rfl)
theorem dX0_tell_36 : decode cX0_tell 36 = .ok (.getfield 30, 3) := dk_180 0 30 (dk_at dksX0_tell_1 14 rfl rfl)
theorem dX0_tell_39 : decode cX0_tell 39 = .ok (.getfield 163, 3) := dk_180 0 163 (dk_at dksX0_tell_1 17 rfl rfl)
theorem dX0_tell_42 : decode cX0_tell 42 = .ok (.iload_n 1, 1) := dk_27 (dk_at dksX0_tell_1 20 rfl rfl)
theorem dX0_tell_43 : decode cX0_tell 43 = .ok (.iaload, 1) := dk_46 (dk_at dksX0_tell_1 21 rfl rfl)
theorem dX0_tell_44 : decode cX0_tell 44 = .ok (.istore_n 3, 1) := dk_62 (dk_at dksX0_tell_1 22 rfl rfl)
theorem dX0_tell_45 : decode cX0_tell 45 = .ok (.aload_n 0, 1) := dk_42 (dk_at dksX0_tell_1 23 rfl rfl)
theorem dX0_tell_46 : decode cX0_tell 46 = .ok (.getfield 30, 3) := dk_180 0 30 (dk_at dksX0_tell_2 0 rfl rfl)
theorem dX0_tell_49 : decode cX0_tell 49 = .ok (.getfield 163, 3) := dk_180 0 163 (dk_at dksX0_tell_2 3 rfl rfl)
theorem dX0_tell_52 : decode cX0_tell 52 = .ok (.iload_n 1, 1) := dk_27 (dk_at dksX0_tell_2 6 rfl rfl)
theorem dX0_tell_53 : decode cX0_tell 53 = .ok (.iload_n 2, 1) := dk_28 (dk_at dksX0_tell_2 7 rfl rfl)
theorem dX0_tell_54 : decode cX0_tell 54 = .ok (.iastore, 1) := dk_79 (dk_at dksX0_tell_2 8 rfl rfl)
theorem dX0_tell_55 : decode cX0_tell 55 = .ok (.iload_n 3, 1) := dk_29 (dk_at dksX0_tell_2 9 rfl rfl)
theorem dX0_tell_56 : decode cX0_tell 56 = .ok (.ireturn, 1) := dk_172 (dk_at dksX0_tell_2 10 rfl rfl)
abbrev cX0_isFor : ByteArray := prog_1_method_26_code
def yX0_isFor : MethodName := ⟨RX0, "isFor", "(II)I"⟩
def dkwX0_isFor_2 : List UInt8 := [29, 172]
abbrev dktX0_isFor_2 : List UInt8 := dkwX0_isFor_2 ++ []
def dkwX0_isFor_1 : List UInt8 := [182, 0, 94, 172, 42, 180, 0, 30, 180, 0, 207, 27, 46, 62, 42, 180, 0, 30, 180, 0, 207, 27, 28, 79]
abbrev dktX0_isFor_1 : List UInt8 := dkwX0_isFor_1 ++ dktX0_isFor_2
def dkwX0_isFor_0 : List UInt8 := [42, 180, 0, 30, 27, 182, 0, 146, 153, 0, 12, 28, 3, 4, 184, 0, 73, 154, 0, 10, 42, 16, 254]
abbrev dktX0_isFor_0 : List UInt8 := dkwX0_isFor_0 ++ dktX0_isFor_1
theorem dksX0_isFor_0 : cX0_isFor.data.toList.drop 0 = dktX0_isFor_0 := by decide +kernel
theorem dksX0_isFor_1 : cX0_isFor.data.toList.drop 23 = dktX0_isFor_1 := dk_seg dksX0_isFor_0 23 rfl rfl
theorem dksX0_isFor_2 : cX0_isFor.data.toList.drop 47 = dktX0_isFor_2 := dk_seg dksX0_isFor_1 24 rfl rfl
theorem dX0_isFor_0 : decode cX0_isFor 0 = .ok (.aload_n 0, 1) := dk_42 (dk_at dksX0_isFor_0 0 rfl rfl)
theorem dX0_isFor_1 : decode cX0_isFor 1 = .ok (.getfield 30, 3) := dk_180 0 30 (dk_at dksX0_isFor_0 1 rfl rfl)
theorem dX0_isFor_4 : decode cX0_isFor 4 = .ok (.iload_n 1, 1) := dk_27 (dk_at dksX0_isFor_0 4 rfl rfl)
theorem dX0_isFor_5 : decode cX0_isFor 5 = .ok (.invokevirtual 146, 3) := dk_182 0 146 (dk_at dksX0_isFor_0 5 rfl rfl)
theorem dX0_isFor_8 : decode cX0_isFor 8 = .ok (.ifCond .eq 12, 3) := dk_153 0 12 (dk_at dksX0_isFor_0 8 rfl rfl)
theorem dX0_isFor_11 : decode cX0_isFor 11 = .ok (.iload_n 2, 1) := dk_28 (dk_at dksX0_isFor_0 11 rfl rfl)
theorem dX0_isFor_12 : decode cX0_isFor 12 = .ok (.iconst 0, 1) := dk_3 (dk_at dksX0_isFor_0 12 rfl rfl)
theorem dX0_isFor_13 : decode cX0_isFor 13 = .ok (.iconst 1, 1) := dk_4 (dk_at dksX0_isFor_0 13 rfl rfl)
theorem dX0_isFor_14 : decode cX0_isFor 14 = .ok (.invokestatic 73, 3) := dk_184 0 73 (dk_at dksX0_isFor_0 14 rfl rfl)
theorem dX0_isFor_17 : decode cX0_isFor 17 = .ok (.ifCond .ne 10, 3) := dk_154 0 10 (dk_at dksX0_isFor_0 17 rfl rfl)
theorem dX0_isFor_20 : decode cX0_isFor 20 = .ok (.aload_n 0, 1) := dk_42 (dk_at dksX0_isFor_0 20 rfl rfl)
theorem dX0_isFor_21 : decode cX0_isFor 21 = .ok (.bipush (-2), 2) := dk_16 254 (dk_at dksX0_isFor_0 21 rfl rfl)
theorem dX0_isFor_23 : decode cX0_isFor 23 = .ok (.invokevirtual 94, 3) := dk_182 0 94 (dk_at dksX0_isFor_1 0 rfl rfl)
theorem dX0_isFor_26 : decode cX0_isFor 26 = .ok (.ireturn, 1) := dk_172 (dk_at dksX0_isFor_1 3 rfl rfl)
theorem dX0_isFor_27 : decode cX0_isFor 27 = .ok (.aload_n 0, 1) := dk_42 (dk_at dksX0_isFor_1 4 rfl rfl)
theorem dX0_isFor_28 : decode cX0_isFor 28 = .ok (.getfield 30, 3) := dk_180 0 30 (dk_at dksX0_isFor_1 5 rfl rfl)
theorem dX0_isFor_31 : decode cX0_isFor 31 = .ok (.getfield 207, 3) := dk_180 0 207 (dk_at dksX0_isFor_1 8 rfl rfl)
theorem dX0_isFor_34 : decode cX0_isFor 34 = .ok (.iload_n 1, 1) := dk_27 (dk_at dksX0_isFor_1 11 rfl rfl)
theorem dX0_isFor_35 : decode cX0_isFor 35 = .ok (.iaload, 1) := dk_46 (dk_at dksX0_isFor_1 12 rfl rfl)
theorem dX0_isFor_36 : decode cX0_isFor 36 = .ok (.istore_n 3, 1) := dk_62 (dk_at dksX0_isFor_1 13 rfl rfl)
theorem dX0_isFor_37 : decode cX0_isFor 37 = .ok (.aload_n 0, 1) := dk_42 (dk_at dksX0_isFor_1 14 rfl rfl)
theorem dX0_isFor_38 : decode cX0_isFor 38 = .ok (.getfield 30, 3) := dk_180 0 30 (dk_at dksX0_isFor_1 15 rfl rfl)
theorem dX0_isFor_41 : decode cX0_isFor 41 = .ok (.getfield 207, 3) := dk_180 0 207 (dk_at dksX0_isFor_1 18 rfl rfl)
theorem dX0_isFor_44 : decode cX0_isFor 44 = .ok (.iload_n 1, 1) := dk_27 (dk_at dksX0_isFor_1 21 rfl rfl)
theorem dX0_isFor_45 : decode cX0_isFor 45 = .ok (.iload_n 2, 1) := dk_28 (dk_at dksX0_isFor_1 22 rfl rfl)
theorem dX0_isFor_46 : decode cX0_isFor 46 = .ok (.iastore, 1) := dk_79 (dk_at dksX0_isFor_1 23 rfl rfl)
theorem dX0_isFor_47 : decode cX0_isFor 47 = .ok (.iload_n 3, 1) := dk_29 (dk_at dksX0_isFor_2 0 rfl rfl)
theorem dX0_isFor_48 : decode cX0_isFor 48 = .ok (.ireturn, 1) := dk_172 (dk_at dksX0_isFor_2 1 rfl rfl)
abbrev cX0_put : ByteArray := prog_1_method_27_code
def yX0_put : MethodName := ⟨RX0, "put", "(III)I"⟩
def dkwX0_put_3 : List UInt8 := [180, 0, 153, 27, 28, 79, 42, 180, 0, 30, 180, 0, 156, 27, 29, 79, 21, 4, 172]
abbrev dktX0_put_3 : List UInt8 := dkwX0_put_3 ++ []
def dkwX0_put_2 : List UInt8 := [42, 16, 251, 182, 0, 94, 172, 42, 180, 0, 30, 180, 0, 153, 27, 46, 54, 4, 42, 180, 0, 30]
abbrev dktX0_put_2 : List UInt8 := dkwX0_put_2 ++ dktX0_put_3
def dkwX0_put_1 : List UInt8 := [184, 0, 197, 154, 0, 10, 42, 16, 254, 182, 0, 94, 172, 42, 180, 0, 30, 28, 182, 0, 190, 153, 0, 10]
abbrev dktX0_put_1 : List UInt8 := dkwX0_put_1 ++ dktX0_put_2
def dkwX0_put_0 : List UInt8 := [42, 180, 0, 30, 27, 182, 0, 146, 153, 0, 21, 42, 180, 0, 30, 28, 182, 0, 184, 153, 0, 10, 29]
abbrev dktX0_put_0 : List UInt8 := dkwX0_put_0 ++ dktX0_put_1
theorem dksX0_put_0 : cX0_put.data.toList.drop 0 = dktX0_put_0 := by decide +kernel
theorem dksX0_put_1 : cX0_put.data.toList.drop 23 = dktX0_put_1 := dk_seg dksX0_put_0 23 rfl rfl
theorem dksX0_put_2 : cX0_put.data.toList.drop 47 = dktX0_put_2 := dk_seg dksX0_put_1 24 rfl rfl
theorem dksX0_put_3 : cX0_put.data.toList.drop 69 = dktX0_put_3 := dk_seg dksX0_put_2 22 rfl rfl
theorem dX0_put_0 : decode cX0_put 0 = .ok (.aload_n 0, 1) := dk_42 (dk_at dksX0_put_0 0 rfl rfl)
theorem dX0_put_1 : decode cX0_put 1 = .ok (.getfield 30, 3) := dk_180 0 30 (dk_at dksX0_put_0 1 rfl rfl)
theorem dX0_put_4 : decode cX0_put 4 = .ok (.iload_n 1, 1) := dk_27 (dk_at dksX0_put_0 4 rfl rfl)
theorem dX0_put_5 : decode cX0_put 5 = .ok (.invokevirtual 146, 3) := dk_182 0 146 (dk_at dksX0_put_0 5 rfl rfl)
theorem dX0_put_8 : decode cX0_put 8 = .ok (.ifCond .eq 21, 3) := dk_153 0 21 (dk_at dksX0_put_0 8 rfl rfl)
theorem dX0_put_11 : decode cX0_put 11 = .ok (.aload_n 0, 1) := dk_42 (dk_at dksX0_put_0 11 rfl rfl)
theorem dX0_put_12 : decode cX0_put 12 = .ok (.getfield 30, 3) := dk_180 0 30 (dk_at dksX0_put_0 12 rfl rfl)
theorem dX0_put_15 : decode cX0_put 15 = .ok (.iload_n 2, 1) := dk_28 (dk_at dksX0_put_0 15 rfl rfl)
theorem dX0_put_16 : decode cX0_put 16 = .ok (.invokevirtual 184, 3) := dk_182 0 184 (dk_at dksX0_put_0 16 rfl rfl)
theorem dX0_put_19 : decode cX0_put 19 = .ok (.ifCond .eq 10, 3) := dk_153 0 10 (dk_at dksX0_put_0 19 rfl rfl)
theorem dX0_put_22 : decode cX0_put 22 = .ok (.iload_n 3, 1) := dk_29 (dk_at dksX0_put_0 22 rfl rfl)
theorem dX0_put_23 : decode cX0_put 23 = .ok (.invokestatic 197, 3) := dk_184 0 197 (dk_at dksX0_put_1 0 rfl rfl)
theorem dX0_put_26 : decode cX0_put 26 = .ok (.ifCond .ne 10, 3) := dk_154 0 10 (dk_at dksX0_put_1 3 rfl rfl)
theorem dX0_put_29 : decode cX0_put 29 = .ok (.aload_n 0, 1) := dk_42 (dk_at dksX0_put_1 6 rfl rfl)
theorem dX0_put_30 : decode cX0_put 30 = .ok (.bipush (-2), 2) := dk_16 254 (dk_at dksX0_put_1 7 rfl rfl)
theorem dX0_put_32 : decode cX0_put 32 = .ok (.invokevirtual 94, 3) := dk_182 0 94 (dk_at dksX0_put_1 9 rfl rfl)
theorem dX0_put_35 : decode cX0_put 35 = .ok (.ireturn, 1) := dk_172 (dk_at dksX0_put_1 12 rfl rfl)
theorem dX0_put_36 : decode cX0_put 36 = .ok (.aload_n 0, 1) := dk_42 (dk_at dksX0_put_1 13 rfl rfl)
theorem dX0_put_37 : decode cX0_put 37 = .ok (.getfield 30, 3) := dk_180 0 30 (dk_at dksX0_put_1 14 rfl rfl)
theorem dX0_put_40 : decode cX0_put 40 = .ok (.iload_n 2, 1) := dk_28 (dk_at dksX0_put_1 17 rfl rfl)
theorem dX0_put_41 : decode cX0_put 41 = .ok (.invokevirtual 190, 3) := dk_182 0 190 (dk_at dksX0_put_1 18 rfl rfl)
theorem dX0_put_44 : decode cX0_put 44 = .ok (.ifCond .eq 10, 3) := dk_153 0 10 (dk_at dksX0_put_1 21 rfl rfl)
theorem dX0_put_47 : decode cX0_put 47 = .ok (.aload_n 0, 1) := dk_42 (dk_at dksX0_put_2 0 rfl rfl)
theorem dX0_put_48 : decode cX0_put 48 = .ok (.bipush (-5), 2) := dk_16 251 (dk_at dksX0_put_2 1 rfl rfl)
theorem dX0_put_50 : decode cX0_put 50 = .ok (.invokevirtual 94, 3) := dk_182 0 94 (dk_at dksX0_put_2 3 rfl rfl)
theorem dX0_put_53 : decode cX0_put 53 = .ok (.ireturn, 1) := dk_172 (dk_at dksX0_put_2 6 rfl rfl)
theorem dX0_put_54 : decode cX0_put 54 = .ok (.aload_n 0, 1) := dk_42 (dk_at dksX0_put_2 7 rfl rfl)
theorem dX0_put_55 : decode cX0_put 55 = .ok (.getfield 30, 3) := dk_180 0 30 (dk_at dksX0_put_2 8 rfl rfl)
theorem dX0_put_58 : decode cX0_put 58 = .ok (.getfield 153, 3) := dk_180 0 153 (dk_at dksX0_put_2 11 rfl rfl)
theorem dX0_put_61 : decode cX0_put 61 = .ok (.iload_n 1, 1) := dk_27 (dk_at dksX0_put_2 14 rfl rfl)
theorem dX0_put_62 : decode cX0_put 62 = .ok (.iaload, 1) := dk_46 (dk_at dksX0_put_2 15 rfl rfl)
theorem dX0_put_63 : decode cX0_put 63 = .ok (.istore 4, 2) := dk_54 4 (dk_at dksX0_put_2 16 rfl rfl)
theorem dX0_put_65 : decode cX0_put 65 = .ok (.aload_n 0, 1) := dk_42 (dk_at dksX0_put_2 18 rfl rfl)
theorem dX0_put_66 : decode cX0_put 66 = .ok (.getfield 30, 3) := dk_180 0 30 (dk_at dksX0_put_2 19 rfl rfl)
theorem dX0_put_69 : decode cX0_put 69 = .ok (.getfield 153, 3) := dk_180 0 153 (dk_at dksX0_put_3 0 rfl rfl)
theorem dX0_put_72 : decode cX0_put 72 = .ok (.iload_n 1, 1) := dk_27 (dk_at dksX0_put_3 3 rfl rfl)
theorem dX0_put_73 : decode cX0_put 73 = .ok (.iload_n 2, 1) := dk_28 (dk_at dksX0_put_3 4 rfl rfl)
theorem dX0_put_74 : decode cX0_put 74 = .ok (.iastore, 1) := dk_79 (dk_at dksX0_put_3 5 rfl rfl)
theorem dX0_put_75 : decode cX0_put 75 = .ok (.aload_n 0, 1) := dk_42 (dk_at dksX0_put_3 6 rfl rfl)
theorem dX0_put_76 : decode cX0_put 76 = .ok (.getfield 30, 3) := dk_180 0 30 (dk_at dksX0_put_3 7 rfl rfl)
theorem dX0_put_79 : decode cX0_put 79 = .ok (.getfield 156, 3) := dk_180 0 156 (dk_at dksX0_put_3 10 rfl rfl)
theorem dX0_put_82 : decode cX0_put 82 = .ok (.iload_n 1, 1) := dk_27 (dk_at dksX0_put_3 13 rfl rfl)
theorem dX0_put_83 : decode cX0_put 83 = .ok (.iload_n 3, 1) := dk_29 (dk_at dksX0_put_3 14 rfl rfl)
theorem dX0_put_84 : decode cX0_put 84 = .ok (.iastore, 1) := dk_79 (dk_at dksX0_put_3 15 rfl rfl)
theorem dX0_put_85 : decode cX0_put 85 = .ok (.iload 4, 2) := dk_21 4 (dk_at dksX0_put_3 16 rfl rfl)
theorem dX0_put_87 : decode cX0_put 87 = .ok (.ireturn, 1) := dk_172 (dk_at dksX0_put_3 18 rfl rfl)
abbrev cX0_feed : ByteArray := prog_1_method_28_code
def yX0_feed : MethodName := ⟨RX0, "feed", "(I)I"⟩
def dkwX0_feed_2 : List UInt8 := [89, 180, 0, 210, 4, 96, 181, 0, 210, 42, 180, 0, 210, 172]
abbrev dktX0_feed_2 : List UInt8 := dkwX0_feed_2 ++ []
def dkwX0_feed_1 : List UInt8 := [17, 0, 250, 160, 0, 10, 42, 16, 250, 182, 0, 94, 172, 42, 180, 0, 66, 42, 180, 0, 210, 27, 79, 42]
abbrev dktX0_feed_1 : List UInt8 := dkwX0_feed_1 ++ dktX0_feed_2
def dkwX0_feed_0 : List UInt8 := [27, 3, 17, 0, 255, 184, 0, 73, 154, 0, 10, 42, 16, 254, 182, 0, 94, 172, 42, 180, 0, 210]
abbrev dktX0_feed_0 : List UInt8 := dkwX0_feed_0 ++ dktX0_feed_1
theorem dksX0_feed_0 : cX0_feed.data.toList.drop 0 = dktX0_feed_0 := by decide +kernel
theorem dksX0_feed_1 : cX0_feed.data.toList.drop 22 = dktX0_feed_1 := dk_seg dksX0_feed_0 22 rfl rfl
theorem dksX0_feed_2 : cX0_feed.data.toList.drop 46 = dktX0_feed_2 := dk_seg dksX0_feed_1 24 rfl rfl
theorem dX0_feed_0 : decode cX0_feed 0 = .ok (.iload_n 1, 1) := dk_27 (dk_at dksX0_feed_0 0 rfl rfl)
theorem dX0_feed_1 : decode cX0_feed 1 = .ok (.iconst 0, 1) := dk_3 (dk_at dksX0_feed_0 1 rfl rfl)
theorem dX0_feed_2 : decode cX0_feed 2 = .ok (.sipush 255, 3) := dk_17 0 255 (dk_at dksX0_feed_0 2 rfl rfl)
theorem dX0_feed_5 : decode cX0_feed 5 = .ok (.invokestatic 73, 3) := dk_184 0 73 (dk_at dksX0_feed_0 5 rfl rfl)
theorem dX0_feed_8 : decode cX0_feed 8 = .ok (.ifCond .ne 10, 3) := dk_154 0 10 (dk_at dksX0_feed_0 8 rfl rfl)
theorem dX0_feed_11 : decode cX0_feed 11 = .ok (.aload_n 0, 1) := dk_42 (dk_at dksX0_feed_0 11 rfl rfl)
theorem dX0_feed_12 : decode cX0_feed 12 = .ok (.bipush (-2), 2) := dk_16 254 (dk_at dksX0_feed_0 12 rfl rfl)
theorem dX0_feed_14 : decode cX0_feed 14 = .ok (.invokevirtual 94, 3) := dk_182 0 94 (dk_at dksX0_feed_0 14 rfl rfl)
theorem dX0_feed_17 : decode cX0_feed 17 = .ok (.ireturn, 1) := dk_172 (dk_at dksX0_feed_0 17 rfl rfl)
theorem dX0_feed_18 : decode cX0_feed 18 = .ok (.aload_n 0, 1) := dk_42 (dk_at dksX0_feed_0 18 rfl rfl)
theorem dX0_feed_19 : decode cX0_feed 19 = .ok (.getfield 210, 3) := dk_180 0 210 (dk_at dksX0_feed_0 19 rfl rfl)
theorem dX0_feed_22 : decode cX0_feed 22 = .ok (.sipush 250, 3) := dk_17 0 250 (dk_at dksX0_feed_1 0 rfl rfl)
theorem dX0_feed_25 : decode cX0_feed 25 = .ok (.if_icmp .ne 10, 3) := dk_160 0 10 (dk_at dksX0_feed_1 3 rfl rfl)
theorem dX0_feed_28 : decode cX0_feed 28 = .ok (.aload_n 0, 1) := dk_42 (dk_at dksX0_feed_1 6 rfl rfl)
theorem dX0_feed_29 : decode cX0_feed 29 = .ok (.bipush (-6), 2) := dk_16 250 (dk_at dksX0_feed_1 7 rfl rfl)
theorem dX0_feed_31 : decode cX0_feed 31 = .ok (.invokevirtual 94, 3) := dk_182 0 94 (dk_at dksX0_feed_1 9 rfl rfl)
theorem dX0_feed_34 : decode cX0_feed 34 = .ok (.ireturn, 1) := dk_172 (dk_at dksX0_feed_1 12 rfl rfl)
theorem dX0_feed_35 : decode cX0_feed 35 = .ok (.aload_n 0, 1) := dk_42 (dk_at dksX0_feed_1 13 rfl rfl)
theorem dX0_feed_36 : decode cX0_feed 36 = .ok (.getfield 66, 3) := dk_180 0 66 (dk_at dksX0_feed_1 14 rfl rfl)
theorem dX0_feed_39 : decode cX0_feed 39 = .ok (.aload_n 0, 1) := dk_42 (dk_at dksX0_feed_1 17 rfl rfl)
theorem dX0_feed_40 : decode cX0_feed 40 = .ok (.getfield 210, 3) := dk_180 0 210 (dk_at dksX0_feed_1 18 rfl rfl)
theorem dX0_feed_43 : decode cX0_feed 43 = .ok (.iload_n 1, 1) := dk_27 (dk_at dksX0_feed_1 21 rfl rfl)
theorem dX0_feed_44 : decode cX0_feed 44 = .ok (.iastore, 1) := dk_79 (dk_at dksX0_feed_1 22 rfl rfl)
theorem dX0_feed_45 : decode cX0_feed 45 = .ok (.aload_n 0, 1) := dk_42 (dk_at dksX0_feed_1 23 rfl rfl)
theorem dX0_feed_46 : decode cX0_feed 46 = .ok (.dup, 1) := dk_89 (dk_at dksX0_feed_2 0 rfl rfl)
theorem dX0_feed_47 : decode cX0_feed 47 = .ok (.getfield 210, 3) := dk_180 0 210 (dk_at dksX0_feed_2 1 rfl rfl)
theorem dX0_feed_50 : decode cX0_feed 50 = .ok (.iconst 1, 1) := dk_4 (dk_at dksX0_feed_2 4 rfl rfl)
theorem dX0_feed_51 : decode cX0_feed 51 = .ok (.iadd, 1) := dk_96 (dk_at dksX0_feed_2 5 rfl rfl)
theorem dX0_feed_52 : decode cX0_feed 52 = .ok (.putfield 210, 3) := dk_181 0 210 (dk_at dksX0_feed_2 6 rfl rfl)
theorem dX0_feed_55 : decode cX0_feed 55 = .ok (.aload_n 0, 1) := dk_42 (dk_at dksX0_feed_2 9 rfl rfl)
theorem dX0_feed_56 : decode cX0_feed 56 = .ok (.getfield 210, 3) := dk_180 0 210 (dk_at dksX0_feed_2 10 rfl rfl)
theorem dX0_feed_59 : decode cX0_feed 59 = .ok (.ireturn, 1) := dk_172 (dk_at dksX0_feed_2 13 rfl rfl)
abbrev cX0_wipe : ByteArray := prog_1_method_29_code
def yX0_wipe : MethodName := ⟨RX0, "wipe", "()I"⟩
def dkwX0_wipe_0 : List UInt8 := [42, 180, 0, 210, 60, 42, 3, 181, 0, 210, 27, 172]
abbrev dktX0_wipe_0 : List UInt8 := dkwX0_wipe_0 ++ []
theorem dksX0_wipe_0 : cX0_wipe.data.toList.drop 0 = dktX0_wipe_0 := by decide +kernel
theorem dX0_wipe_0 : decode cX0_wipe 0 = .ok (.aload_n 0, 1) := dk_42 (dk_at dksX0_wipe_0 0 rfl rfl)
theorem dX0_wipe_1 : decode cX0_wipe 1 = .ok (.getfield 210, 3) := dk_180 0 210 (dk_at dksX0_wipe_0 1 rfl rfl)
theorem dX0_wipe_4 : decode cX0_wipe 4 = .ok (.istore_n 1, 1) := dk_60 (dk_at dksX0_wipe_0 4 rfl rfl)
theorem dX0_wipe_5 : decode cX0_wipe 5 = .ok (.aload_n 0, 1) := dk_42 (dk_at dksX0_wipe_0 5 rfl rfl)
theorem dX0_wipe_6 : decode cX0_wipe 6 = .ok (.iconst 0, 1) := dk_3 (dk_at dksX0_wipe_0 6 rfl rfl)
theorem dX0_wipe_7 : decode cX0_wipe 7 = .ok (.putfield 210, 3) := dk_181 0 210 (dk_at dksX0_wipe_0 7 rfl rfl)
theorem dX0_wipe_10 : decode cX0_wipe 10 = .ok (.iload_n 1, 1) := dk_27 (dk_at dksX0_wipe_0 10 rfl rfl)
theorem dX0_wipe_11 : decode cX0_wipe 11 = .ok (.ireturn, 1) := dk_172 (dk_at dksX0_wipe_0 11 rfl rfl)
abbrev cX0_island : ByteArray := prog_1_method_30_code
def yX0_island : MethodName := ⟨RX0, "island", "()I"⟩
def dkwX0_island_3 : List UInt8 := [3, 181, 0, 210, 25, 4, 191]
abbrev dktX0_island_3 : List UInt8 := dkwX0_island_3 ++ []
def dkwX0_island_2 : List UInt8 := [16, 254, 182, 0, 94, 87, 16, 236, 43, 180, 0, 235, 100, 61, 42, 3, 181, 0, 210, 28, 172, 58, 4, 42]
abbrev dktX0_island_2 : List UInt8 := dkwX0_island_2 ++ dktX0_island_3
def dkwX0_island_1 : List UInt8 := [182, 0, 222, 61, 42, 43, 180, 0, 226, 182, 0, 229, 28, 62, 42, 3, 181, 0, 210, 29, 172, 76, 42]
abbrev dktX0_island_1 : List UInt8 := dkwX0_island_1 ++ dktX0_island_2
def dkwX0_island_0 : List UInt8 := [187, 0, 213, 89, 42, 180, 0, 66, 42, 180, 0, 210, 42, 180, 0, 30, 182, 0, 215, 183, 0, 219, 76, 43]
abbrev dktX0_island_0 : List UInt8 := dkwX0_island_0 ++ dktX0_island_1
theorem dksX0_island_0 : cX0_island.data.toList.drop 0 = dktX0_island_0 := by decide +kernel
theorem dksX0_island_1 : cX0_island.data.toList.drop 24 = dktX0_island_1 := dk_seg dksX0_island_0 24 rfl rfl
theorem dksX0_island_2 : cX0_island.data.toList.drop 47 = dktX0_island_2 := dk_seg dksX0_island_1 23 rfl rfl
theorem dksX0_island_3 : cX0_island.data.toList.drop 71 = dktX0_island_3 := dk_seg dksX0_island_2 24 rfl rfl
theorem dX0_island_0 : decode cX0_island 0 = .ok (.new 213, 3) := dk_187 0 213 (dk_at dksX0_island_0 0 rfl rfl)
theorem dX0_island_3 : decode cX0_island 3 = .ok (.dup, 1) := dk_89 (dk_at dksX0_island_0 3 rfl rfl)
theorem dX0_island_4 : decode cX0_island 4 = .ok (.aload_n 0, 1) := dk_42 (dk_at dksX0_island_0 4 rfl rfl)
theorem dX0_island_5 : decode cX0_island 5 = .ok (.getfield 66, 3) := dk_180 0 66 (dk_at dksX0_island_0 5 rfl rfl)
theorem dX0_island_8 : decode cX0_island 8 = .ok (.aload_n 0, 1) := dk_42 (dk_at dksX0_island_0 8 rfl rfl)
theorem dX0_island_9 : decode cX0_island 9 = .ok (.getfield 210, 3) := dk_180 0 210 (dk_at dksX0_island_0 9 rfl rfl)
theorem dX0_island_12 : decode cX0_island 12 = .ok (.aload_n 0, 1) := dk_42 (dk_at dksX0_island_0 12 rfl rfl)
theorem dX0_island_13 : decode cX0_island 13 = .ok (.getfield 30, 3) := dk_180 0 30 (dk_at dksX0_island_0 13 rfl rfl)
theorem dX0_island_16 : decode cX0_island 16 = .ok (.invokevirtual 215, 3) := dk_182 0 215 (dk_at dksX0_island_0 16 rfl rfl)
theorem dX0_island_19 : decode cX0_island 19 = .ok (.invokespecial 219, 3) := dk_183 0 219 (dk_at dksX0_island_0 19 rfl rfl)
theorem dX0_island_22 : decode cX0_island 22 = .ok (.astore_n 1, 1) := dk_76 (dk_at dksX0_island_0 22 rfl rfl)
theorem dX0_island_23 : decode cX0_island 23 = .ok (.aload_n 1, 1) := dk_43 (dk_at dksX0_island_0 23 rfl rfl)
theorem dX0_island_24 : decode cX0_island 24 = .ok (.invokevirtual 222, 3) := dk_182 0 222 (dk_at dksX0_island_1 0 rfl rfl)
theorem dX0_island_27 : decode cX0_island 27 = .ok (.istore_n 2, 1) := dk_61 (dk_at dksX0_island_1 3 rfl rfl)
theorem dX0_island_28 : decode cX0_island 28 = .ok (.aload_n 0, 1) := dk_42 (dk_at dksX0_island_1 4 rfl rfl)
theorem dX0_island_29 : decode cX0_island 29 = .ok (.aload_n 1, 1) := dk_43 (dk_at dksX0_island_1 5 rfl rfl)
theorem dX0_island_30 : decode cX0_island 30 = .ok (.getfield 226, 3) := dk_180 0 226 (dk_at dksX0_island_1 6 rfl rfl)
theorem dX0_island_33 : decode cX0_island 33 = .ok (.invokevirtual 229, 3) := dk_182 0 229 (dk_at dksX0_island_1 9 rfl rfl)
theorem dX0_island_36 : decode cX0_island 36 = .ok (.iload_n 2, 1) := dk_28 (dk_at dksX0_island_1 12 rfl rfl)
theorem dX0_island_37 : decode cX0_island 37 = .ok (.istore_n 3, 1) := dk_62 (dk_at dksX0_island_1 13 rfl rfl)
theorem dX0_island_38 : decode cX0_island 38 = .ok (.aload_n 0, 1) := dk_42 (dk_at dksX0_island_1 14 rfl rfl)
theorem dX0_island_39 : decode cX0_island 39 = .ok (.iconst 0, 1) := dk_3 (dk_at dksX0_island_1 15 rfl rfl)
theorem dX0_island_40 : decode cX0_island 40 = .ok (.putfield 210, 3) := dk_181 0 210 (dk_at dksX0_island_1 16 rfl rfl)
theorem dX0_island_43 : decode cX0_island 43 = .ok (.iload_n 3, 1) := dk_29 (dk_at dksX0_island_1 19 rfl rfl)
theorem dX0_island_44 : decode cX0_island 44 = .ok (.ireturn, 1) := dk_172 (dk_at dksX0_island_1 20 rfl rfl)
theorem dX0_island_45 : decode cX0_island 45 = .ok (.astore_n 1, 1) := dk_76 (dk_at dksX0_island_1 21 rfl rfl)
theorem dX0_island_46 : decode cX0_island 46 = .ok (.aload_n 0, 1) := dk_42 (dk_at dksX0_island_1 22 rfl rfl)
theorem dX0_island_47 : decode cX0_island 47 = .ok (.bipush (-2), 2) := dk_16 254 (dk_at dksX0_island_2 0 rfl rfl)
theorem dX0_island_49 : decode cX0_island 49 = .ok (.invokevirtual 94, 3) := dk_182 0 94 (dk_at dksX0_island_2 2 rfl rfl)
theorem dX0_island_52 : decode cX0_island 52 = .ok (.pop, 1) := dk_87 (dk_at dksX0_island_2 5 rfl rfl)
theorem dX0_island_53 : decode cX0_island 53 = .ok (.bipush (-20), 2) := dk_16 236 (dk_at dksX0_island_2 6 rfl rfl)
theorem dX0_island_55 : decode cX0_island 55 = .ok (.aload_n 1, 1) := dk_43 (dk_at dksX0_island_2 8 rfl rfl)
theorem dX0_island_56 : decode cX0_island 56 = .ok (.getfield 235, 3) := dk_180 0 235 (dk_at dksX0_island_2 9 rfl rfl)
theorem dX0_island_59 : decode cX0_island 59 = .ok (.isub, 1) := dk_100 (dk_at dksX0_island_2 12 rfl rfl)
theorem dX0_island_60 : decode cX0_island 60 = .ok (.istore_n 2, 1) := dk_61 (dk_at dksX0_island_2 13 rfl rfl)
theorem dX0_island_61 : decode cX0_island 61 = .ok (.aload_n 0, 1) := dk_42 (dk_at dksX0_island_2 14 rfl rfl)
theorem dX0_island_62 : decode cX0_island 62 = .ok (.iconst 0, 1) := dk_3 (dk_at dksX0_island_2 15 rfl rfl)
theorem dX0_island_63 : decode cX0_island 63 = .ok (.putfield 210, 3) := dk_181 0 210 (dk_at dksX0_island_2 16 rfl rfl)
theorem dX0_island_66 : decode cX0_island 66 = .ok (.iload_n 2, 1) := dk_28 (dk_at dksX0_island_2 19 rfl rfl)
theorem dX0_island_67 : decode cX0_island 67 = .ok (.ireturn, 1) := dk_172 (dk_at dksX0_island_2 20 rfl rfl)
theorem dX0_island_68 : decode cX0_island 68 = .ok (.astore 4, 2) := dk_58 4 (dk_at dksX0_island_2 21 rfl rfl)
theorem dX0_island_70 : decode cX0_island 70 = .ok (.aload_n 0, 1) := dk_42 (dk_at dksX0_island_2 23 rfl rfl)
theorem dX0_island_71 : decode cX0_island 71 = .ok (.iconst 0, 1) := dk_3 (dk_at dksX0_island_3 0 rfl rfl)
theorem dX0_island_72 : decode cX0_island 72 = .ok (.putfield 210, 3) := dk_181 0 210 (dk_at dksX0_island_3 1 rfl rfl)
theorem dX0_island_75 : decode cX0_island 75 = .ok (.aload 4, 2) := dk_25 4 (dk_at dksX0_island_3 4 rfl rfl)
theorem dX0_island_77 : decode cX0_island 77 = .ok (.athrow, 1) := dk_191 (dk_at dksX0_island_3 6 rfl rfl)
abbrev cX0_becomes : ByteArray := prog_1_method_20_code
def yX0_becomes : MethodName := ⟨RX0, "becomes", "(LLeftIsAgreedOn$Island;)V"⟩
def dkwX0_becomes_3 : List UInt8 := [50, 167, 0, 4, 1, 181, 0, 102, 132, 2, 1, 167, 255, 183, 177]
abbrev dktX0_becomes_3 : List UInt8 := dkwX0_becomes_3 ++ []
def dkwX0_becomes_2 : List UInt8 := [180, 0, 62, 28, 50, 42, 180, 0, 30, 29, 182, 0, 146, 153, 0, 15, 42, 180, 0, 30, 180, 0, 149, 29]
abbrev dktX0_becomes_2 : List UInt8 := dkwX0_becomes_2 ++ dktX0_becomes_3
def dkwX0_becomes_1 : List UInt8 := [193, 0, 1, 153, 0, 52, 42, 180, 0, 62, 28, 50, 180, 0, 102, 192, 0, 1, 180, 0, 143, 62, 42]
abbrev dktX0_becomes_1 : List UInt8 := dkwX0_becomes_1 ++ dktX0_becomes_2
def dkwX0_becomes_0 : List UInt8 := [42, 43, 181, 0, 30, 3, 61, 28, 16, 8, 162, 0, 73, 42, 180, 0, 62, 28, 50, 180, 0, 102]
abbrev dktX0_becomes_0 : List UInt8 := dkwX0_becomes_0 ++ dktX0_becomes_1
theorem dksX0_becomes_0 : cX0_becomes.data.toList.drop 0 = dktX0_becomes_0 := by decide +kernel
theorem dksX0_becomes_1 : cX0_becomes.data.toList.drop 22 = dktX0_becomes_1 := dk_seg dksX0_becomes_0 22 rfl rfl
theorem dksX0_becomes_2 : cX0_becomes.data.toList.drop 45 = dktX0_becomes_2 := dk_seg dksX0_becomes_1 23 rfl rfl
theorem dksX0_becomes_3 : cX0_becomes.data.toList.drop 69 = dktX0_becomes_3 := dk_seg dksX0_becomes_2 24 rfl rfl
theorem dX0_becomes_0 : decode cX0_becomes 0 = .ok (.aload_n 0, 1) := dk_42 (dk_at dksX0_becomes_0 0 rfl rfl)
theorem dX0_becomes_1 : decode cX0_becomes 1 = .ok (.aload_n 1, 1) := dk_43 (dk_at dksX0_becomes_0 1 rfl rfl)
theorem dX0_becomes_2 : decode cX0_becomes 2 = .ok (.putfield 30, 3) := dk_181 0 30 (dk_at dksX0_becomes_0 2 rfl rfl)
theorem dX0_becomes_5 : decode cX0_becomes 5 = .ok (.iconst 0, 1) := dk_3 (dk_at dksX0_becomes_0 5 rfl rfl)
theorem dX0_becomes_6 : decode cX0_becomes 6 = .ok (.istore_n 2, 1) := dk_61 (dk_at dksX0_becomes_0 6 rfl rfl)
theorem dX0_becomes_7 : decode cX0_becomes 7 = .ok (.iload_n 2, 1) := dk_28 (dk_at dksX0_becomes_0 7 rfl rfl)
theorem dX0_becomes_8 : decode cX0_becomes 8 = .ok (.bipush 8, 2) := dk_16 8 (dk_at dksX0_becomes_0 8 rfl rfl)
theorem dX0_becomes_10 : decode cX0_becomes 10 = .ok (.if_icmp .ge 73, 3) := dk_162 0 73 (dk_at dksX0_becomes_0 10 rfl rfl)
theorem dX0_becomes_13 : decode cX0_becomes 13 = .ok (.aload_n 0, 1) := dk_42 (dk_at dksX0_becomes_0 13 rfl rfl)
theorem dX0_becomes_14 : decode cX0_becomes 14 = .ok (.getfield 62, 3) := dk_180 0 62 (dk_at dksX0_becomes_0 14 rfl rfl)
theorem dX0_becomes_17 : decode cX0_becomes 17 = .ok (.iload_n 2, 1) := dk_28 (dk_at dksX0_becomes_0 17 rfl rfl)
theorem dX0_becomes_18 : decode cX0_becomes 18 = .ok (.aaload, 1) := dk_50 (dk_at dksX0_becomes_0 18 rfl rfl)
theorem dX0_becomes_19 : decode cX0_becomes 19 = .ok (.getfield 102, 3) := dk_180 0 102 (dk_at dksX0_becomes_0 19 rfl rfl)
theorem dX0_becomes_22 : decode cX0_becomes 22 = .ok (.instanceof 1, 3) := dk_193 0 1 (dk_at dksX0_becomes_1 0 rfl rfl)
theorem dX0_becomes_25 : decode cX0_becomes 25 = .ok (.ifCond .eq 52, 3) := dk_153 0 52 (dk_at dksX0_becomes_1 3 rfl rfl)
theorem dX0_becomes_28 : decode cX0_becomes 28 = .ok (.aload_n 0, 1) := dk_42 (dk_at dksX0_becomes_1 6 rfl rfl)
theorem dX0_becomes_29 : decode cX0_becomes 29 = .ok (.getfield 62, 3) := dk_180 0 62 (dk_at dksX0_becomes_1 7 rfl rfl)
theorem dX0_becomes_32 : decode cX0_becomes 32 = .ok (.iload_n 2, 1) := dk_28 (dk_at dksX0_becomes_1 10 rfl rfl)
theorem dX0_becomes_33 : decode cX0_becomes 33 = .ok (.aaload, 1) := dk_50 (dk_at dksX0_becomes_1 11 rfl rfl)
theorem dX0_becomes_34 : decode cX0_becomes 34 = .ok (.getfield 102, 3) := dk_180 0 102 (dk_at dksX0_becomes_1 12 rfl rfl)
theorem dX0_becomes_37 : decode cX0_becomes 37 = .ok (.checkcast 1, 3) := dk_192 0 1 (dk_at dksX0_becomes_1 15 rfl rfl)
theorem dX0_becomes_40 : decode cX0_becomes 40 = .ok (.getfield 143, 3) := dk_180 0 143 (dk_at dksX0_becomes_1 18 rfl rfl)
theorem dX0_becomes_43 : decode cX0_becomes 43 = .ok (.istore_n 3, 1) := dk_62 (dk_at dksX0_becomes_1 21 rfl rfl)
theorem dX0_becomes_44 : decode cX0_becomes 44 = .ok (.aload_n 0, 1) := dk_42 (dk_at dksX0_becomes_1 22 rfl rfl)
theorem dX0_becomes_45 : decode cX0_becomes 45 = .ok (.getfield 62, 3) := dk_180 0 62 (dk_at dksX0_becomes_2 0 rfl rfl)
theorem dX0_becomes_48 : decode cX0_becomes 48 = .ok (.iload_n 2, 1) := dk_28 (dk_at dksX0_becomes_2 3 rfl rfl)
theorem dX0_becomes_49 : decode cX0_becomes 49 = .ok (.aaload, 1) := dk_50 (dk_at dksX0_becomes_2 4 rfl rfl)
theorem dX0_becomes_50 : decode cX0_becomes 50 = .ok (.aload_n 0, 1) := dk_42 (dk_at dksX0_becomes_2 5 rfl rfl)
theorem dX0_becomes_51 : decode cX0_becomes 51 = .ok (.getfield 30, 3) := dk_180 0 30 (dk_at dksX0_becomes_2 6 rfl rfl)
theorem dX0_becomes_54 : decode cX0_becomes 54 = .ok (.iload_n 3, 1) := dk_29 (dk_at dksX0_becomes_2 9 rfl rfl)
theorem dX0_becomes_55 : decode cX0_becomes 55 = .ok (.invokevirtual 146, 3) := dk_182 0 146 (dk_at dksX0_becomes_2 10 rfl rfl)
theorem dX0_becomes_58 : decode cX0_becomes 58 = .ok (.ifCond .eq 15, 3) := dk_153 0 15 (dk_at dksX0_becomes_2 13 rfl rfl)
theorem dX0_becomes_61 : decode cX0_becomes 61 = .ok (.aload_n 0, 1) := dk_42 (dk_at dksX0_becomes_2 16 rfl rfl)
theorem dX0_becomes_62 : decode cX0_becomes 62 = .ok (.getfield 30, 3) := dk_180 0 30 (dk_at dksX0_becomes_2 17 rfl rfl)
theorem dX0_becomes_65 : decode cX0_becomes 65 = .ok (.getfield 149, 3) := dk_180 0 149 (dk_at dksX0_becomes_2 20 rfl rfl)
theorem dX0_becomes_68 : decode cX0_becomes 68 = .ok (.iload_n 3, 1) := dk_29 (dk_at dksX0_becomes_2 23 rfl rfl)
theorem dX0_becomes_69 : decode cX0_becomes 69 = .ok (.aaload, 1) := dk_50 (dk_at dksX0_becomes_3 0 rfl rfl)
theorem dX0_becomes_70 : decode cX0_becomes 70 = .ok (.goto 4, 3) := dk_167 0 4 (dk_at dksX0_becomes_3 1 rfl rfl)
theorem dX0_becomes_73 : decode cX0_becomes 73 = .ok (.aconst_null, 1) := dk_1 (dk_at dksX0_becomes_3 4 rfl rfl)
theorem dX0_becomes_74 : decode cX0_becomes 74 = .ok (.putfield 102, 3) := dk_181 0 102 (dk_at dksX0_becomes_3 5 rfl rfl)
theorem dX0_becomes_77 : decode cX0_becomes 77 = .ok (.iinc 2 1, 3) := dk_132 2 1 (dk_at dksX0_becomes_3 8 rfl rfl)
theorem dX0_becomes_80 : decode cX0_becomes 80 = .ok (.goto (-73), 3) := dk_167 255 183 (dk_at dksX0_becomes_3 11 rfl rfl)
theorem dX0_becomes_83 : decode cX0_becomes 83 = .ok (.return_, 1) := dk_177 (dk_at dksX0_becomes_3 14 rfl rfl)
abbrev cX0_personOf : ByteArray := prog_1_method_31_code
def yX0_personOf : MethodName := ⟨RX0, "personOf", "(II)I"⟩
def dkwX0_personOf_4 : List UInt8 := [42, 180, 0, 30, 180, 0, 207, 27, 46, 172, 42, 27, 182, 0, 241, 172, 42, 16, 254, 182, 0, 94, 172]
abbrev dktX0_personOf_4 : List UInt8 := dkwX0_personOf_4 ++ []
def dkwX0_personOf_3 : List UInt8 := [180, 0, 172, 172, 42, 180, 0, 30, 180, 0, 153, 27, 46, 172, 42, 180, 0, 30, 180, 0, 156, 27, 46, 172]
abbrev dktX0_personOf_3 : List UInt8 := dkwX0_personOf_3 ++ dktX0_personOf_4
def dkwX0_personOf_2 : List UInt8 := [42, 180, 0, 30, 180, 0, 149, 27, 50, 182, 0, 238, 172, 42, 180, 0, 30, 180, 0, 149, 27, 50]
abbrev dktX0_personOf_2 : List UInt8 := dkwX0_personOf_2 ++ dktX0_personOf_3
def dkwX0_personOf_1 : List UInt8 := [170, 0, 0, 0, 99, 0, 0, 0, 0, 0, 0, 0, 5, 0, 0, 0, 37, 0, 0, 0, 50, 0, 0, 0, 63, 0, 0, 0, 73, 0, 0, 0, 83, 0, 0, 0, 93]
abbrev dktX0_personOf_1 : List UInt8 := dkwX0_personOf_1 ++ dktX0_personOf_2
def dkwX0_personOf_0 : List UInt8 := [42, 180, 0, 30, 27, 182, 0, 146, 154, 0, 10, 42, 16, 254, 182, 0, 94, 172, 28]
abbrev dktX0_personOf_0 : List UInt8 := dkwX0_personOf_0 ++ dktX0_personOf_1
theorem dksX0_personOf_0 : cX0_personOf.data.toList.drop 0 = dktX0_personOf_0 := by decide +kernel
theorem dksX0_personOf_1 : cX0_personOf.data.toList.drop 19 = dktX0_personOf_1 := dk_seg dksX0_personOf_0 19 rfl rfl
theorem dksX0_personOf_2 : cX0_personOf.data.toList.drop 56 = dktX0_personOf_2 := dk_seg dksX0_personOf_1 37 rfl rfl
theorem dksX0_personOf_3 : cX0_personOf.data.toList.drop 78 = dktX0_personOf_3 := dk_seg dksX0_personOf_2 22 rfl rfl
theorem dksX0_personOf_4 : cX0_personOf.data.toList.drop 102 = dktX0_personOf_4 := dk_seg dksX0_personOf_3 24 rfl rfl
theorem dX0_personOf_0 : decode cX0_personOf 0 = .ok (.aload_n 0, 1) := dk_42 (dk_at dksX0_personOf_0 0 rfl rfl)
theorem dX0_personOf_1 : decode cX0_personOf 1 = .ok (.getfield 30, 3) := dk_180 0 30 (dk_at dksX0_personOf_0 1 rfl rfl)
theorem dX0_personOf_4 : decode cX0_personOf 4 = .ok (.iload_n 1, 1) := dk_27 (dk_at dksX0_personOf_0 4 rfl rfl)
theorem dX0_personOf_5 : decode cX0_personOf 5 = .ok (.invokevirtual 146, 3) := dk_182 0 146 (dk_at dksX0_personOf_0 5 rfl rfl)
theorem dX0_personOf_8 : decode cX0_personOf 8 = .ok (.ifCond .ne 10, 3) := dk_154 0 10 (dk_at dksX0_personOf_0 8 rfl rfl)
theorem dX0_personOf_11 : decode cX0_personOf 11 = .ok (.aload_n 0, 1) := dk_42 (dk_at dksX0_personOf_0 11 rfl rfl)
theorem dX0_personOf_12 : decode cX0_personOf 12 = .ok (.bipush (-2), 2) := dk_16 254 (dk_at dksX0_personOf_0 12 rfl rfl)
theorem dX0_personOf_14 : decode cX0_personOf 14 = .ok (.invokevirtual 94, 3) := dk_182 0 94 (dk_at dksX0_personOf_0 14 rfl rfl)
theorem dX0_personOf_17 : decode cX0_personOf 17 = .ok (.ireturn, 1) := dk_172 (dk_at dksX0_personOf_0 17 rfl rfl)
theorem dX0_personOf_18 : decode cX0_personOf 18 = .ok (.iload_n 2, 1) := dk_28 (dk_at dksX0_personOf_0 18 rfl rfl)
theorem dX0_personOf_19 : decode cX0_personOf 19 = .ok (.tableswitch 99 0 5 #[37, 50, 63, 73, 83, 93], 37) := by decide +kernel
theorem dX0_personOf_56 : decode cX0_personOf 56 = .ok (.aload_n 0, 1) := dk_42 (dk_at dksX0_personOf_2 0 rfl rfl)
theorem dX0_personOf_57 : decode cX0_personOf 57 = .ok (.getfield 30, 3) := dk_180 0 30 (dk_at dksX0_personOf_2 1 rfl rfl)
theorem dX0_personOf_60 : decode cX0_personOf 60 = .ok (.getfield 149, 3) := dk_180 0 149 (dk_at dksX0_personOf_2 4 rfl rfl)
theorem dX0_personOf_63 : decode cX0_personOf 63 = .ok (.iload_n 1, 1) := dk_27 (dk_at dksX0_personOf_2 7 rfl rfl)
theorem dX0_personOf_64 : decode cX0_personOf 64 = .ok (.aaload, 1) := dk_50 (dk_at dksX0_personOf_2 8 rfl rfl)
theorem dX0_personOf_65 : decode cX0_personOf 65 = .ok (.invokevirtual 238, 3) := dk_182 0 238 (dk_at dksX0_personOf_2 9 rfl rfl)
theorem dX0_personOf_68 : decode cX0_personOf 68 = .ok (.ireturn, 1) := dk_172 (dk_at dksX0_personOf_2 12 rfl rfl)
theorem dX0_personOf_69 : decode cX0_personOf 69 = .ok (.aload_n 0, 1) := dk_42 (dk_at dksX0_personOf_2 13 rfl rfl)
theorem dX0_personOf_70 : decode cX0_personOf 70 = .ok (.getfield 30, 3) := dk_180 0 30 (dk_at dksX0_personOf_2 14 rfl rfl)
theorem dX0_personOf_73 : decode cX0_personOf 73 = .ok (.getfield 149, 3) := dk_180 0 149 (dk_at dksX0_personOf_2 17 rfl rfl)
theorem dX0_personOf_76 : decode cX0_personOf 76 = .ok (.iload_n 1, 1) := dk_27 (dk_at dksX0_personOf_2 20 rfl rfl)
theorem dX0_personOf_77 : decode cX0_personOf 77 = .ok (.aaload, 1) := dk_50 (dk_at dksX0_personOf_2 21 rfl rfl)
theorem dX0_personOf_78 : decode cX0_personOf 78 = .ok (.getfield 172, 3) := dk_180 0 172 (dk_at dksX0_personOf_3 0 rfl rfl)
theorem dX0_personOf_81 : decode cX0_personOf 81 = .ok (.ireturn, 1) := dk_172 (dk_at dksX0_personOf_3 3 rfl rfl)
theorem dX0_personOf_82 : decode cX0_personOf 82 = .ok (.aload_n 0, 1) := dk_42 (dk_at dksX0_personOf_3 4 rfl rfl)
theorem dX0_personOf_83 : decode cX0_personOf 83 = .ok (.getfield 30, 3) := dk_180 0 30 (dk_at dksX0_personOf_3 5 rfl rfl)
theorem dX0_personOf_86 : decode cX0_personOf 86 = .ok (.getfield 153, 3) := dk_180 0 153 (dk_at dksX0_personOf_3 8 rfl rfl)
theorem dX0_personOf_89 : decode cX0_personOf 89 = .ok (.iload_n 1, 1) := dk_27 (dk_at dksX0_personOf_3 11 rfl rfl)
theorem dX0_personOf_90 : decode cX0_personOf 90 = .ok (.iaload, 1) := dk_46 (dk_at dksX0_personOf_3 12 rfl rfl)
theorem dX0_personOf_91 : decode cX0_personOf 91 = .ok (.ireturn, 1) := dk_172 (dk_at dksX0_personOf_3 13 rfl rfl)
theorem dX0_personOf_92 : decode cX0_personOf 92 = .ok (.aload_n 0, 1) := dk_42 (dk_at dksX0_personOf_3 14 rfl rfl)
theorem dX0_personOf_93 : decode cX0_personOf 93 = .ok (.getfield 30, 3) := dk_180 0 30 (dk_at dksX0_personOf_3 15 rfl rfl)
theorem dX0_personOf_96 : decode cX0_personOf 96 = .ok (.getfield 156, 3) := dk_180 0 156 (dk_at dksX0_personOf_3 18 rfl rfl)
theorem dX0_personOf_99 : decode cX0_personOf 99 = .ok (.iload_n 1, 1) := dk_27 (dk_at dksX0_personOf_3 21 rfl rfl)
theorem dX0_personOf_100 : decode cX0_personOf 100 = .ok (.iaload, 1) := dk_46 (dk_at dksX0_personOf_3 22 rfl rfl)
theorem dX0_personOf_101 : decode cX0_personOf 101 = .ok (.ireturn, 1) := dk_172 (dk_at dksX0_personOf_3 23 rfl rfl)
theorem dX0_personOf_102 : decode cX0_personOf 102 = .ok (.aload_n 0, 1) := dk_42 (dk_at dksX0_personOf_4 0 rfl rfl)
theorem dX0_personOf_103 : decode cX0_personOf 103 = .ok (.getfield 30, 3) := dk_180 0 30 (dk_at dksX0_personOf_4 1 rfl rfl)
theorem dX0_personOf_106 : decode cX0_personOf 106 = .ok (.getfield 207, 3) := dk_180 0 207 (dk_at dksX0_personOf_4 4 rfl rfl)
theorem dX0_personOf_109 : decode cX0_personOf 109 = .ok (.iload_n 1, 1) := dk_27 (dk_at dksX0_personOf_4 7 rfl rfl)
theorem dX0_personOf_110 : decode cX0_personOf 110 = .ok (.iaload, 1) := dk_46 (dk_at dksX0_personOf_4 8 rfl rfl)
theorem dX0_personOf_111 : decode cX0_personOf 111 = .ok (.ireturn, 1) := dk_172 (dk_at dksX0_personOf_4 9 rfl rfl)
theorem dX0_personOf_112 : decode cX0_personOf 112 = .ok (.aload_n 0, 1) := dk_42 (dk_at dksX0_personOf_4 10 rfl rfl)
theorem dX0_personOf_113 : decode cX0_personOf 113 = .ok (.iload_n 1, 1) := dk_27 (dk_at dksX0_personOf_4 11 rfl rfl)
theorem dX0_personOf_114 : decode cX0_personOf 114 = .ok (.invokevirtual 241, 3) := dk_182 0 241 (dk_at dksX0_personOf_4 12 rfl rfl)
theorem dX0_personOf_117 : decode cX0_personOf 117 = .ok (.ireturn, 1) := dk_172 (dk_at dksX0_personOf_4 15 rfl rfl)
theorem dX0_personOf_118 : decode cX0_personOf 118 = .ok (.aload_n 0, 1) := dk_42 (dk_at dksX0_personOf_4 16 rfl rfl)
theorem dX0_personOf_119 : decode cX0_personOf 119 = .ok (.bipush (-2), 2) := dk_16 254 (dk_at dksX0_personOf_4 17 rfl rfl)
theorem dX0_personOf_121 : decode cX0_personOf 121 = .ok (.invokevirtual 94, 3) := dk_182 0 94 (dk_at dksX0_personOf_4 19 rfl rfl)
theorem dX0_personOf_124 : decode cX0_personOf 124 = .ok (.ireturn, 1) := dk_172 (dk_at dksX0_personOf_4 22 rfl rfl)
abbrev cX0_power : ByteArray := prog_1_method_63_code
def yX0_power : MethodName := ⟨RX0, "power", "(I)I"⟩
def dkwX0_power_4 : List UInt8 := [62, 132, 4, 1, 167, 255, 178, 29, 172]
abbrev dktX0_power_4 : List UInt8 := dkwX0_power_4 ++ []
def dkwX0_power_3 : List UInt8 := [42, 180, 0, 30, 21, 4, 4, 27, 120, 128, 182, 1, 63, 104, 28, 164, 0, 7, 4, 167, 0, 4, 3, 96]
abbrev dktX0_power_3 : List UInt8 := dkwX0_power_3 ++ dktX0_power_4
def dkwX0_power_2 : List UInt8 := [21, 4, 182, 1, 63, 104, 28, 163, 0, 7, 4, 167, 0, 4, 3, 54, 5, 29, 21, 5, 153, 0, 26, 5]
abbrev dktX0_power_2 : List UInt8 := dkwX0_power_2 ++ dktX0_power_3
def dkwX0_power_1 : List UInt8 := [180, 0, 30, 182, 1, 60, 163, 0, 72, 21, 4, 27, 184, 1, 66, 154, 0, 22, 5, 42, 180, 0, 30]
abbrev dktX0_power_1 : List UInt8 := dkwX0_power_1 ++ dktX0_power_2
def dkwX0_power_0 : List UInt8 := [42, 180, 0, 30, 42, 180, 0, 30, 182, 1, 60, 182, 1, 63, 61, 3, 62, 3, 54, 4, 21, 4, 42]
abbrev dktX0_power_0 : List UInt8 := dkwX0_power_0 ++ dktX0_power_1
theorem dksX0_power_0 : cX0_power.data.toList.drop 0 = dktX0_power_0 := by decide +kernel
theorem dksX0_power_1 : cX0_power.data.toList.drop 23 = dktX0_power_1 := dk_seg dksX0_power_0 23 rfl rfl
theorem dksX0_power_2 : cX0_power.data.toList.drop 46 = dktX0_power_2 := dk_seg dksX0_power_1 23 rfl rfl
theorem dksX0_power_3 : cX0_power.data.toList.drop 70 = dktX0_power_3 := dk_seg dksX0_power_2 24 rfl rfl
theorem dksX0_power_4 : cX0_power.data.toList.drop 94 = dktX0_power_4 := dk_seg dksX0_power_3 24 rfl rfl
theorem dX0_power_0 : decode cX0_power 0 = .ok (.aload_n 0, 1) := dk_42 (dk_at dksX0_power_0 0 rfl rfl)
theorem dX0_power_1 : decode cX0_power 1 = .ok (.getfield 30, 3) := dk_180 0 30 (dk_at dksX0_power_0 1 rfl rfl)
theorem dX0_power_4 : decode cX0_power 4 = .ok (.aload_n 0, 1) := dk_42 (dk_at dksX0_power_0 4 rfl rfl)
theorem dX0_power_5 : decode cX0_power 5 = .ok (.getfield 30, 3) := dk_180 0 30 (dk_at dksX0_power_0 5 rfl rfl)
theorem dX0_power_8 : decode cX0_power 8 = .ok (.invokevirtual 316, 3) := dk_182 1 60 (dk_at dksX0_power_0 8 rfl rfl)
theorem dX0_power_11 : decode cX0_power 11 = .ok (.invokevirtual 319, 3) := dk_182 1 63 (dk_at dksX0_power_0 11 rfl rfl)
theorem dX0_power_14 : decode cX0_power 14 = .ok (.istore_n 2, 1) := dk_61 (dk_at dksX0_power_0 14 rfl rfl)
theorem dX0_power_15 : decode cX0_power 15 = .ok (.iconst 0, 1) := dk_3 (dk_at dksX0_power_0 15 rfl rfl)
theorem dX0_power_16 : decode cX0_power 16 = .ok (.istore_n 3, 1) := dk_62 (dk_at dksX0_power_0 16 rfl rfl)
theorem dX0_power_17 : decode cX0_power 17 = .ok (.iconst 0, 1) := dk_3 (dk_at dksX0_power_0 17 rfl rfl)
theorem dX0_power_18 : decode cX0_power 18 = .ok (.istore 4, 2) := dk_54 4 (dk_at dksX0_power_0 18 rfl rfl)
theorem dX0_power_20 : decode cX0_power 20 = .ok (.iload 4, 2) := dk_21 4 (dk_at dksX0_power_0 20 rfl rfl)
theorem dX0_power_22 : decode cX0_power 22 = .ok (.aload_n 0, 1) := dk_42 (dk_at dksX0_power_0 22 rfl rfl)
theorem dX0_power_23 : decode cX0_power 23 = .ok (.getfield 30, 3) := dk_180 0 30 (dk_at dksX0_power_1 0 rfl rfl)
theorem dX0_power_26 : decode cX0_power 26 = .ok (.invokevirtual 316, 3) := dk_182 1 60 (dk_at dksX0_power_1 3 rfl rfl)
theorem dX0_power_29 : decode cX0_power 29 = .ok (.if_icmp .gt 72, 3) := dk_163 0 72 (dk_at dksX0_power_1 6 rfl rfl)
theorem dX0_power_32 : decode cX0_power 32 = .ok (.iload 4, 2) := dk_21 4 (dk_at dksX0_power_1 9 rfl rfl)
theorem dX0_power_34 : decode cX0_power 34 = .ok (.iload_n 1, 1) := dk_27 (dk_at dksX0_power_1 11 rfl rfl)
theorem dX0_power_35 : decode cX0_power 35 = .ok (.invokestatic 322, 3) := dk_184 1 66 (dk_at dksX0_power_1 12 rfl rfl)
theorem dX0_power_38 : decode cX0_power 38 = .ok (.ifCond .ne 22, 3) := dk_154 0 22 (dk_at dksX0_power_1 15 rfl rfl)
theorem dX0_power_41 : decode cX0_power 41 = .ok (.iconst 2, 1) := dk_5 (dk_at dksX0_power_1 18 rfl rfl)
theorem dX0_power_42 : decode cX0_power 42 = .ok (.aload_n 0, 1) := dk_42 (dk_at dksX0_power_1 19 rfl rfl)
theorem dX0_power_43 : decode cX0_power 43 = .ok (.getfield 30, 3) := dk_180 0 30 (dk_at dksX0_power_1 20 rfl rfl)
theorem dX0_power_46 : decode cX0_power 46 = .ok (.iload 4, 2) := dk_21 4 (dk_at dksX0_power_2 0 rfl rfl)
theorem dX0_power_48 : decode cX0_power 48 = .ok (.invokevirtual 319, 3) := dk_182 1 63 (dk_at dksX0_power_2 2 rfl rfl)
theorem dX0_power_51 : decode cX0_power 51 = .ok (.imul, 1) := dk_104 (dk_at dksX0_power_2 5 rfl rfl)
theorem dX0_power_52 : decode cX0_power 52 = .ok (.iload_n 2, 1) := dk_28 (dk_at dksX0_power_2 6 rfl rfl)
theorem dX0_power_53 : decode cX0_power 53 = .ok (.if_icmp .gt 7, 3) := dk_163 0 7 (dk_at dksX0_power_2 7 rfl rfl)
theorem dX0_power_56 : decode cX0_power 56 = .ok (.iconst 1, 1) := dk_4 (dk_at dksX0_power_2 10 rfl rfl)
theorem dX0_power_57 : decode cX0_power 57 = .ok (.goto 4, 3) := dk_167 0 4 (dk_at dksX0_power_2 11 rfl rfl)
theorem dX0_power_60 : decode cX0_power 60 = .ok (.iconst 0, 1) := dk_3 (dk_at dksX0_power_2 14 rfl rfl)
theorem dX0_power_61 : decode cX0_power 61 = .ok (.istore 5, 2) := dk_54 5 (dk_at dksX0_power_2 15 rfl rfl)
theorem dX0_power_63 : decode cX0_power 63 = .ok (.iload_n 3, 1) := dk_29 (dk_at dksX0_power_2 17 rfl rfl)
theorem dX0_power_64 : decode cX0_power 64 = .ok (.iload 5, 2) := dk_21 5 (dk_at dksX0_power_2 18 rfl rfl)
theorem dX0_power_66 : decode cX0_power 66 = .ok (.ifCond .eq 26, 3) := dk_153 0 26 (dk_at dksX0_power_2 20 rfl rfl)
theorem dX0_power_69 : decode cX0_power 69 = .ok (.iconst 2, 1) := dk_5 (dk_at dksX0_power_2 23 rfl rfl)
theorem dX0_power_70 : decode cX0_power 70 = .ok (.aload_n 0, 1) := dk_42 (dk_at dksX0_power_3 0 rfl rfl)
theorem dX0_power_71 : decode cX0_power 71 = .ok (.getfield 30, 3) := dk_180 0 30 (dk_at dksX0_power_3 1 rfl rfl)
theorem dX0_power_74 : decode cX0_power 74 = .ok (.iload 4, 2) := dk_21 4 (dk_at dksX0_power_3 4 rfl rfl)
theorem dX0_power_76 : decode cX0_power 76 = .ok (.iconst 1, 1) := dk_4 (dk_at dksX0_power_3 6 rfl rfl)
theorem dX0_power_77 : decode cX0_power 77 = .ok (.iload_n 1, 1) := dk_27 (dk_at dksX0_power_3 7 rfl rfl)
theorem dX0_power_78 : decode cX0_power 78 = .ok (.ishl, 1) := dk_120 (dk_at dksX0_power_3 8 rfl rfl)
theorem dX0_power_79 : decode cX0_power 79 = .ok (.ior, 1) := dk_128 (dk_at dksX0_power_3 9 rfl rfl)
theorem dX0_power_80 : decode cX0_power 80 = .ok (.invokevirtual 319, 3) := dk_182 1 63 (dk_at dksX0_power_3 10 rfl rfl)
theorem dX0_power_83 : decode cX0_power 83 = .ok (.imul, 1) := dk_104 (dk_at dksX0_power_3 13 rfl rfl)
theorem dX0_power_84 : decode cX0_power 84 = .ok (.iload_n 2, 1) := dk_28 (dk_at dksX0_power_3 14 rfl rfl)
theorem dX0_power_85 : decode cX0_power 85 = .ok (.if_icmp .le 7, 3) := dk_164 0 7 (dk_at dksX0_power_3 15 rfl rfl)
theorem dX0_power_88 : decode cX0_power 88 = .ok (.iconst 1, 1) := dk_4 (dk_at dksX0_power_3 18 rfl rfl)
theorem dX0_power_89 : decode cX0_power 89 = .ok (.goto 4, 3) := dk_167 0 4 (dk_at dksX0_power_3 19 rfl rfl)
theorem dX0_power_92 : decode cX0_power 92 = .ok (.iconst 0, 1) := dk_3 (dk_at dksX0_power_3 22 rfl rfl)
theorem dX0_power_93 : decode cX0_power 93 = .ok (.iadd, 1) := dk_96 (dk_at dksX0_power_3 23 rfl rfl)
theorem dX0_power_94 : decode cX0_power 94 = .ok (.istore_n 3, 1) := dk_62 (dk_at dksX0_power_4 0 rfl rfl)
theorem dX0_power_95 : decode cX0_power 95 = .ok (.iinc 4 1, 3) := dk_132 4 1 (dk_at dksX0_power_4 1 rfl rfl)
theorem dX0_power_98 : decode cX0_power 98 = .ok (.goto (-78), 3) := dk_167 255 178 (dk_at dksX0_power_4 4 rfl rfl)
theorem dX0_power_101 : decode cX0_power 101 = .ok (.iload_n 3, 1) := dk_29 (dk_at dksX0_power_4 7 rfl rfl)
theorem dX0_power_102 : decode cX0_power 102 = .ok (.ireturn, 1) := dk_172 (dk_at dksX0_power_4 8 rfl rfl)
abbrev cX0_isPond : ByteArray := prog_1_method_32_code
def yX0_isPond : MethodName := ⟨RX0, "isPond", "(I)I"⟩
def dkwX0_isPond_1 : List UInt8 := [27, 182, 0, 190, 153, 0, 7, 4, 167, 0, 4, 3, 172]
abbrev dktX0_isPond_1 : List UInt8 := dkwX0_isPond_1 ++ []
def dkwX0_isPond_0 : List UInt8 := [42, 180, 0, 30, 27, 182, 0, 184, 154, 0, 12, 42, 16, 254, 182, 0, 94, 167, 0, 19, 42, 180, 0, 30]
abbrev dktX0_isPond_0 : List UInt8 := dkwX0_isPond_0 ++ dktX0_isPond_1
theorem dksX0_isPond_0 : cX0_isPond.data.toList.drop 0 = dktX0_isPond_0 := by decide +kernel
theorem dksX0_isPond_1 : cX0_isPond.data.toList.drop 24 = dktX0_isPond_1 := dk_seg dksX0_isPond_0 24 rfl rfl
theorem dX0_isPond_0 : decode cX0_isPond 0 = .ok (.aload_n 0, 1) := dk_42 (dk_at dksX0_isPond_0 0 rfl rfl)
theorem dX0_isPond_1 : decode cX0_isPond 1 = .ok (.getfield 30, 3) := dk_180 0 30 (dk_at dksX0_isPond_0 1 rfl rfl)
theorem dX0_isPond_4 : decode cX0_isPond 4 = .ok (.iload_n 1, 1) := dk_27 (dk_at dksX0_isPond_0 4 rfl rfl)
theorem dX0_isPond_5 : decode cX0_isPond 5 = .ok (.invokevirtual 184, 3) := dk_182 0 184 (dk_at dksX0_isPond_0 5 rfl rfl)
theorem dX0_isPond_8 : decode cX0_isPond 8 = .ok (.ifCond .ne 12, 3) := dk_154 0 12 (dk_at dksX0_isPond_0 8 rfl rfl)
theorem dX0_isPond_11 : decode cX0_isPond 11 = .ok (.aload_n 0, 1) := dk_42 (dk_at dksX0_isPond_0 11 rfl rfl)
theorem dX0_isPond_12 : decode cX0_isPond 12 = .ok (.bipush (-2), 2) := dk_16 254 (dk_at dksX0_isPond_0 12 rfl rfl)
theorem dX0_isPond_14 : decode cX0_isPond 14 = .ok (.invokevirtual 94, 3) := dk_182 0 94 (dk_at dksX0_isPond_0 14 rfl rfl)
theorem dX0_isPond_17 : decode cX0_isPond 17 = .ok (.goto 19, 3) := dk_167 0 19 (dk_at dksX0_isPond_0 17 rfl rfl)
theorem dX0_isPond_20 : decode cX0_isPond 20 = .ok (.aload_n 0, 1) := dk_42 (dk_at dksX0_isPond_0 20 rfl rfl)
theorem dX0_isPond_21 : decode cX0_isPond 21 = .ok (.getfield 30, 3) := dk_180 0 30 (dk_at dksX0_isPond_0 21 rfl rfl)
theorem dX0_isPond_24 : decode cX0_isPond 24 = .ok (.iload_n 1, 1) := dk_27 (dk_at dksX0_isPond_1 0 rfl rfl)
theorem dX0_isPond_25 : decode cX0_isPond 25 = .ok (.invokevirtual 190, 3) := dk_182 0 190 (dk_at dksX0_isPond_1 1 rfl rfl)
theorem dX0_isPond_28 : decode cX0_isPond 28 = .ok (.ifCond .eq 7, 3) := dk_153 0 7 (dk_at dksX0_isPond_1 4 rfl rfl)
theorem dX0_isPond_31 : decode cX0_isPond 31 = .ok (.iconst 1, 1) := dk_4 (dk_at dksX0_isPond_1 7 rfl rfl)
theorem dX0_isPond_32 : decode cX0_isPond 32 = .ok (.goto 4, 3) := dk_167 0 4 (dk_at dksX0_isPond_1 8 rfl rfl)
theorem dX0_isPond_35 : decode cX0_isPond 35 = .ok (.iconst 0, 1) := dk_3 (dk_at dksX0_isPond_1 11 rfl rfl)
theorem dX0_isPond_36 : decode cX0_isPond 36 = .ok (.ireturn, 1) := dk_172 (dk_at dksX0_isPond_1 12 rfl rfl)
abbrev cX0_judge : ByteArray := prog_1_method_38_code
def yX0_judge : MethodName := ⟨RX0, "judge", "(II)I"⟩
def dkwX0_judge_0 : List UInt8 := [42, 4, 27, 28, 182, 0, 254, 184, 0, 250, 172, 78, 42, 45, 180, 0, 121, 182, 0, 94, 172]
abbrev dktX0_judge_0 : List UInt8 := dkwX0_judge_0 ++ []
theorem dksX0_judge_0 : cX0_judge.data.toList.drop 0 = dktX0_judge_0 := by decide +kernel
theorem dX0_judge_0 : decode cX0_judge 0 = .ok (.aload_n 0, 1) := dk_42 (dk_at dksX0_judge_0 0 rfl rfl)
theorem dX0_judge_1 : decode cX0_judge 1 = .ok (.iconst 1, 1) := dk_4 (dk_at dksX0_judge_0 1 rfl rfl)
theorem dX0_judge_2 : decode cX0_judge 2 = .ok (.iload_n 1, 1) := dk_27 (dk_at dksX0_judge_0 2 rfl rfl)
theorem dX0_judge_3 : decode cX0_judge 3 = .ok (.iload_n 2, 1) := dk_28 (dk_at dksX0_judge_0 3 rfl rfl)
theorem dX0_judge_4 : decode cX0_judge 4 = .ok (.invokevirtual 254, 3) := dk_182 0 254 (dk_at dksX0_judge_0 4 rfl rfl)
theorem dX0_judge_7 : decode cX0_judge 7 = .ok (.invokestatic 250, 3) := dk_184 0 250 (dk_at dksX0_judge_0 7 rfl rfl)
theorem dX0_judge_10 : decode cX0_judge 10 = .ok (.ireturn, 1) := dk_172 (dk_at dksX0_judge_0 10 rfl rfl)
theorem dX0_judge_11 : decode cX0_judge 11 = .ok (.astore_n 3, 1) := dk_78 (dk_at dksX0_judge_0 11 rfl rfl)
theorem dX0_judge_12 : decode cX0_judge 12 = .ok (.aload_n 0, 1) := dk_42 (dk_at dksX0_judge_0 12 rfl rfl)
theorem dX0_judge_13 : decode cX0_judge 13 = .ok (.aload_n 3, 1) := dk_45 (dk_at dksX0_judge_0 13 rfl rfl)
theorem dX0_judge_14 : decode cX0_judge 14 = .ok (.getfield 121, 3) := dk_180 0 121 (dk_at dksX0_judge_0 14 rfl rfl)
theorem dX0_judge_17 : decode cX0_judge 17 = .ok (.invokevirtual 94, 3) := dk_182 0 94 (dk_at dksX0_judge_0 17 rfl rfl)
theorem dX0_judge_20 : decode cX0_judge 20 = .ok (.ireturn, 1) := dk_172 (dk_at dksX0_judge_0 20 rfl rfl)
abbrev cX0_toldIn : ByteArray := prog_1_method_34_code
def yX0_toldIn : MethodName := ⟨RX0, "toldIn", "(ZII)[J"⟩
def dkwX0_toldIn_1 : List UInt8 := [89, 16, 254, 183, 0, 110, 191, 42, 28, 182, 0, 113, 29, 184, 0, 244, 176]
abbrev dktX0_toldIn_1 : List UInt8 := dkwX0_toldIn_1 ++ []
def dkwX0_toldIn_0 : List UInt8 := [27, 153, 0, 20, 28, 184, 0, 90, 153, 0, 13, 29, 3, 16, 40, 184, 0, 73, 154, 0, 13, 187, 0, 108]
abbrev dktX0_toldIn_0 : List UInt8 := dkwX0_toldIn_0 ++ dktX0_toldIn_1
theorem dksX0_toldIn_0 : cX0_toldIn.data.toList.drop 0 = dktX0_toldIn_0 := by decide +kernel
theorem dksX0_toldIn_1 : cX0_toldIn.data.toList.drop 24 = dktX0_toldIn_1 := dk_seg dksX0_toldIn_0 24 rfl rfl
theorem dX0_toldIn_0 : decode cX0_toldIn 0 = .ok (.iload_n 1, 1) := dk_27 (dk_at dksX0_toldIn_0 0 rfl rfl)
theorem dX0_toldIn_1 : decode cX0_toldIn 1 = .ok (.ifCond .eq 20, 3) := dk_153 0 20 (dk_at dksX0_toldIn_0 1 rfl rfl)
theorem dX0_toldIn_4 : decode cX0_toldIn 4 = .ok (.iload_n 2, 1) := dk_28 (dk_at dksX0_toldIn_0 4 rfl rfl)
theorem dX0_toldIn_5 : decode cX0_toldIn 5 = .ok (.invokestatic 90, 3) := dk_184 0 90 (dk_at dksX0_toldIn_0 5 rfl rfl)
theorem dX0_toldIn_8 : decode cX0_toldIn 8 = .ok (.ifCond .eq 13, 3) := dk_153 0 13 (dk_at dksX0_toldIn_0 8 rfl rfl)
theorem dX0_toldIn_11 : decode cX0_toldIn 11 = .ok (.iload_n 3, 1) := dk_29 (dk_at dksX0_toldIn_0 11 rfl rfl)
theorem dX0_toldIn_12 : decode cX0_toldIn 12 = .ok (.iconst 0, 1) := dk_3 (dk_at dksX0_toldIn_0 12 rfl rfl)
theorem dX0_toldIn_13 : decode cX0_toldIn 13 = .ok (.bipush 40, 2) := dk_16 40 (dk_at dksX0_toldIn_0 13 rfl rfl)
theorem dX0_toldIn_15 : decode cX0_toldIn 15 = .ok (.invokestatic 73, 3) := dk_184 0 73 (dk_at dksX0_toldIn_0 15 rfl rfl)
theorem dX0_toldIn_18 : decode cX0_toldIn 18 = .ok (.ifCond .ne 13, 3) := dk_154 0 13 (dk_at dksX0_toldIn_0 18 rfl rfl)
theorem dX0_toldIn_21 : decode cX0_toldIn 21 = .ok (.new 108, 3) := dk_187 0 108 (dk_at dksX0_toldIn_0 21 rfl rfl)
theorem dX0_toldIn_24 : decode cX0_toldIn 24 = .ok (.dup, 1) := dk_89 (dk_at dksX0_toldIn_1 0 rfl rfl)
theorem dX0_toldIn_25 : decode cX0_toldIn 25 = .ok (.bipush (-2), 2) := dk_16 254 (dk_at dksX0_toldIn_1 1 rfl rfl)
theorem dX0_toldIn_27 : decode cX0_toldIn 27 = .ok (.invokespecial 110, 3) := dk_183 0 110 (dk_at dksX0_toldIn_1 3 rfl rfl)
theorem dX0_toldIn_30 : decode cX0_toldIn 30 = .ok (.athrow, 1) := dk_191 (dk_at dksX0_toldIn_1 6 rfl rfl)
theorem dX0_toldIn_31 : decode cX0_toldIn 31 = .ok (.aload_n 0, 1) := dk_42 (dk_at dksX0_toldIn_1 7 rfl rfl)
theorem dX0_toldIn_32 : decode cX0_toldIn 32 = .ok (.iload_n 2, 1) := dk_28 (dk_at dksX0_toldIn_1 8 rfl rfl)
theorem dX0_toldIn_33 : decode cX0_toldIn 33 = .ok (.invokevirtual 113, 3) := dk_182 0 113 (dk_at dksX0_toldIn_1 9 rfl rfl)
theorem dX0_toldIn_36 : decode cX0_toldIn 36 = .ok (.iload_n 3, 1) := dk_29 (dk_at dksX0_toldIn_1 12 rfl rfl)
theorem dX0_toldIn_37 : decode cX0_toldIn 37 = .ok (.invokestatic 244, 3) := dk_184 0 244 (dk_at dksX0_toldIn_1 13 rfl rfl)
theorem dX0_toldIn_40 : decode cX0_toldIn 40 = .ok (.areturn, 1) := dk_176 (dk_at dksX0_toldIn_1 16 rfl rfl)
abbrev cX0_elementsIn : ByteArray := prog_1_method_33_code
def yX0_elementsIn : MethodName := ⟨RX0, "elementsIn", "(Ljava/lang/Object;I)[J"⟩
def dkwX0_elementsIn_1 : List UInt8 := [167, 255, 240, 167, 0, 14, 78, 187, 0, 108, 89, 16, 254, 183, 0, 110, 191, 44, 176]
abbrev dktX0_elementsIn_1 : List UInt8 := dkwX0_elementsIn_1 ++ []
def dkwX0_elementsIn_0 : List UInt8 := [27, 188, 11, 77, 3, 62, 29, 27, 162, 0, 17, 44, 29, 42, 29, 184, 0, 139, 80, 132, 3, 1]
abbrev dktX0_elementsIn_0 : List UInt8 := dkwX0_elementsIn_0 ++ dktX0_elementsIn_1
theorem dksX0_elementsIn_0 : cX0_elementsIn.data.toList.drop 0 = dktX0_elementsIn_0 := by decide +kernel
theorem dksX0_elementsIn_1 : cX0_elementsIn.data.toList.drop 22 = dktX0_elementsIn_1 := dk_seg dksX0_elementsIn_0 22 rfl rfl
theorem dX0_elementsIn_0 : decode cX0_elementsIn 0 = .ok (.iload_n 1, 1) := dk_27 (dk_at dksX0_elementsIn_0 0 rfl rfl)
theorem dX0_elementsIn_1 : decode cX0_elementsIn 1 = .ok (.newarray .long, 2) := dk_188_11 (dk_at dksX0_elementsIn_0 1 rfl rfl)
theorem dX0_elementsIn_3 : decode cX0_elementsIn 3 = .ok (.astore_n 2, 1) := dk_77 (dk_at dksX0_elementsIn_0 3 rfl rfl)
theorem dX0_elementsIn_4 : decode cX0_elementsIn 4 = .ok (.iconst 0, 1) := dk_3 (dk_at dksX0_elementsIn_0 4 rfl rfl)
theorem dX0_elementsIn_5 : decode cX0_elementsIn 5 = .ok (.istore_n 3, 1) := dk_62 (dk_at dksX0_elementsIn_0 5 rfl rfl)
theorem dX0_elementsIn_6 : decode cX0_elementsIn 6 = .ok (.iload_n 3, 1) := dk_29 (dk_at dksX0_elementsIn_0 6 rfl rfl)
theorem dX0_elementsIn_7 : decode cX0_elementsIn 7 = .ok (.iload_n 1, 1) := dk_27 (dk_at dksX0_elementsIn_0 7 rfl rfl)
theorem dX0_elementsIn_8 : decode cX0_elementsIn 8 = .ok (.if_icmp .ge 17, 3) := dk_162 0 17 (dk_at dksX0_elementsIn_0 8 rfl rfl)
theorem dX0_elementsIn_11 : decode cX0_elementsIn 11 = .ok (.aload_n 2, 1) := dk_44 (dk_at dksX0_elementsIn_0 11 rfl rfl)
theorem dX0_elementsIn_12 : decode cX0_elementsIn 12 = .ok (.iload_n 3, 1) := dk_29 (dk_at dksX0_elementsIn_0 12 rfl rfl)
theorem dX0_elementsIn_13 : decode cX0_elementsIn 13 = .ok (.aload_n 0, 1) := dk_42 (dk_at dksX0_elementsIn_0 13 rfl rfl)
theorem dX0_elementsIn_14 : decode cX0_elementsIn 14 = .ok (.iload_n 3, 1) := dk_29 (dk_at dksX0_elementsIn_0 14 rfl rfl)
theorem dX0_elementsIn_15 : decode cX0_elementsIn 15 = .ok (.invokestatic 139, 3) := dk_184 0 139 (dk_at dksX0_elementsIn_0 15 rfl rfl)
theorem dX0_elementsIn_18 : decode cX0_elementsIn 18 = .ok (.lastore, 1) := dk_80 (dk_at dksX0_elementsIn_0 18 rfl rfl)
theorem dX0_elementsIn_19 : decode cX0_elementsIn 19 = .ok (.iinc 3 1, 3) := dk_132 3 1 (dk_at dksX0_elementsIn_0 19 rfl rfl)
theorem dX0_elementsIn_22 : decode cX0_elementsIn 22 = .ok (.goto (-16), 3) := dk_167 255 240 (dk_at dksX0_elementsIn_1 0 rfl rfl)
theorem dX0_elementsIn_25 : decode cX0_elementsIn 25 = .ok (.goto 14, 3) := dk_167 0 14 (dk_at dksX0_elementsIn_1 3 rfl rfl)
theorem dX0_elementsIn_28 : decode cX0_elementsIn 28 = .ok (.astore_n 3, 1) := dk_78 (dk_at dksX0_elementsIn_1 6 rfl rfl)
theorem dX0_elementsIn_29 : decode cX0_elementsIn 29 = .ok (.new 108, 3) := dk_187 0 108 (dk_at dksX0_elementsIn_1 7 rfl rfl)
theorem dX0_elementsIn_32 : decode cX0_elementsIn 32 = .ok (.dup, 1) := dk_89 (dk_at dksX0_elementsIn_1 10 rfl rfl)
theorem dX0_elementsIn_33 : decode cX0_elementsIn 33 = .ok (.bipush (-2), 2) := dk_16 254 (dk_at dksX0_elementsIn_1 11 rfl rfl)
theorem dX0_elementsIn_35 : decode cX0_elementsIn 35 = .ok (.invokespecial 110, 3) := dk_183 0 110 (dk_at dksX0_elementsIn_1 13 rfl rfl)
theorem dX0_elementsIn_38 : decode cX0_elementsIn 38 = .ok (.athrow, 1) := dk_191 (dk_at dksX0_elementsIn_1 16 rfl rfl)
theorem dX0_elementsIn_39 : decode cX0_elementsIn 39 = .ok (.aload_n 2, 1) := dk_44 (dk_at dksX0_elementsIn_1 17 rfl rfl)
theorem dX0_elementsIn_40 : decode cX0_elementsIn 40 = .ok (.areturn, 1) := dk_176 (dk_at dksX0_elementsIn_1 18 rfl rfl)
abbrev cX0_wrongIn : ByteArray := prog_1_method_35_code
def yX0_wrongIn : MethodName := ⟨RX0, "wrongIn", "([J)I"⟩
def dkwX0_wrongIn_1 : List UInt8 := [155, 0, 5, 27, 172, 132, 1, 1, 167, 255, 227, 2, 172]
abbrev dktX0_wrongIn_1 : List UInt8 := dkwX0_wrongIn_1 ++ []
def dkwX0_wrongIn_0 : List UInt8 := [3, 60, 27, 42, 190, 162, 0, 29, 42, 27, 47, 9, 148, 155, 0, 13, 42, 27, 47, 20, 0, 248, 148]
abbrev dktX0_wrongIn_0 : List UInt8 := dkwX0_wrongIn_0 ++ dktX0_wrongIn_1
theorem dksX0_wrongIn_0 : cX0_wrongIn.data.toList.drop 0 = dktX0_wrongIn_0 := by decide +kernel
theorem dksX0_wrongIn_1 : cX0_wrongIn.data.toList.drop 23 = dktX0_wrongIn_1 := dk_seg dksX0_wrongIn_0 23 rfl rfl
theorem dX0_wrongIn_0 : decode cX0_wrongIn 0 = .ok (.iconst 0, 1) := dk_3 (dk_at dksX0_wrongIn_0 0 rfl rfl)
theorem dX0_wrongIn_1 : decode cX0_wrongIn 1 = .ok (.istore_n 1, 1) := dk_60 (dk_at dksX0_wrongIn_0 1 rfl rfl)
theorem dX0_wrongIn_2 : decode cX0_wrongIn 2 = .ok (.iload_n 1, 1) := dk_27 (dk_at dksX0_wrongIn_0 2 rfl rfl)
theorem dX0_wrongIn_3 : decode cX0_wrongIn 3 = .ok (.aload_n 0, 1) := dk_42 (dk_at dksX0_wrongIn_0 3 rfl rfl)
theorem dX0_wrongIn_4 : decode cX0_wrongIn 4 = .ok (.arraylength, 1) := dk_190 (dk_at dksX0_wrongIn_0 4 rfl rfl)
theorem dX0_wrongIn_5 : decode cX0_wrongIn 5 = .ok (.if_icmp .ge 29, 3) := dk_162 0 29 (dk_at dksX0_wrongIn_0 5 rfl rfl)
theorem dX0_wrongIn_8 : decode cX0_wrongIn 8 = .ok (.aload_n 0, 1) := dk_42 (dk_at dksX0_wrongIn_0 8 rfl rfl)
theorem dX0_wrongIn_9 : decode cX0_wrongIn 9 = .ok (.iload_n 1, 1) := dk_27 (dk_at dksX0_wrongIn_0 9 rfl rfl)
theorem dX0_wrongIn_10 : decode cX0_wrongIn 10 = .ok (.laload, 1) := dk_47 (dk_at dksX0_wrongIn_0 10 rfl rfl)
theorem dX0_wrongIn_11 : decode cX0_wrongIn 11 = .ok (.lconst 0, 1) := dk_9 (dk_at dksX0_wrongIn_0 11 rfl rfl)
theorem dX0_wrongIn_12 : decode cX0_wrongIn 12 = .ok (.lcmp, 1) := dk_148 (dk_at dksX0_wrongIn_0 12 rfl rfl)
theorem dX0_wrongIn_13 : decode cX0_wrongIn 13 = .ok (.ifCond .lt 13, 3) := dk_155 0 13 (dk_at dksX0_wrongIn_0 13 rfl rfl)
theorem dX0_wrongIn_16 : decode cX0_wrongIn 16 = .ok (.aload_n 0, 1) := dk_42 (dk_at dksX0_wrongIn_0 16 rfl rfl)
theorem dX0_wrongIn_17 : decode cX0_wrongIn 17 = .ok (.iload_n 1, 1) := dk_27 (dk_at dksX0_wrongIn_0 17 rfl rfl)
theorem dX0_wrongIn_18 : decode cX0_wrongIn 18 = .ok (.laload, 1) := dk_47 (dk_at dksX0_wrongIn_0 18 rfl rfl)
theorem dX0_wrongIn_19 : decode cX0_wrongIn 19 = .ok (.ldc2_w 248, 3) := dk_20 0 248 (dk_at dksX0_wrongIn_0 19 rfl rfl)
theorem dX0_wrongIn_22 : decode cX0_wrongIn 22 = .ok (.lcmp, 1) := dk_148 (dk_at dksX0_wrongIn_0 22 rfl rfl)
theorem dX0_wrongIn_23 : decode cX0_wrongIn 23 = .ok (.ifCond .lt 5, 3) := dk_155 0 5 (dk_at dksX0_wrongIn_1 0 rfl rfl)
theorem dX0_wrongIn_26 : decode cX0_wrongIn 26 = .ok (.iload_n 1, 1) := dk_27 (dk_at dksX0_wrongIn_1 3 rfl rfl)
theorem dX0_wrongIn_27 : decode cX0_wrongIn 27 = .ok (.ireturn, 1) := dk_172 (dk_at dksX0_wrongIn_1 4 rfl rfl)
theorem dX0_wrongIn_28 : decode cX0_wrongIn 28 = .ok (.iinc 1 1, 3) := dk_132 1 1 (dk_at dksX0_wrongIn_1 5 rfl rfl)
theorem dX0_wrongIn_31 : decode cX0_wrongIn 31 = .ok (.goto (-29), 3) := dk_167 255 227 (dk_at dksX0_wrongIn_1 8 rfl rfl)
theorem dX0_wrongIn_34 : decode cX0_wrongIn 34 = .ok (.iconst (-1), 1) := dk_2 (dk_at dksX0_wrongIn_1 11 rfl rfl)
theorem dX0_wrongIn_35 : decode cX0_wrongIn 35 = .ok (.ireturn, 1) := dk_172 (dk_at dksX0_wrongIn_1 12 rfl rfl)
abbrev cX0_comes : ByteArray := prog_1_method_41_code
def yX0_comes : MethodName := ⟨RX0, "comes", "(IIII)I"⟩
def dkwX0_comes_3 : List UInt8 := [180, 1, 19, 172, 58, 5, 42, 25, 5, 180, 0, 121, 182, 0, 94, 172]
abbrev dktX0_comes_3 : List UInt8 := dkwX0_comes_3 ++ []
def dkwX0_comes_2 : List UInt8 := [180, 1, 17, 167, 0, 22, 21, 4, 4, 160, 0, 11, 25, 5, 180, 0, 170, 167, 0, 8, 25, 5]
abbrev dktX0_comes_2 : List UInt8 := dkwX0_comes_2 ++ dktX0_comes_3
def dkwX0_comes_1 : List UInt8 := [4, 167, 0, 4, 3, 27, 28, 182, 1, 10, 182, 1, 13, 58, 5, 21, 4, 154, 0, 11, 25, 5]
abbrev dktX0_comes_1 : List UInt8 := dkwX0_comes_1 ++ dktX0_comes_2
def dkwX0_comes_0 : List UInt8 := [42, 29, 42, 42, 180, 0, 30, 29, 182, 0, 146, 153, 0, 17, 21, 4, 3, 5, 184, 0, 73, 153, 0, 7]
abbrev dktX0_comes_0 : List UInt8 := dkwX0_comes_0 ++ dktX0_comes_1
theorem dksX0_comes_0 : cX0_comes.data.toList.drop 0 = dktX0_comes_0 := by decide +kernel
theorem dksX0_comes_1 : cX0_comes.data.toList.drop 24 = dktX0_comes_1 := dk_seg dksX0_comes_0 24 rfl rfl
theorem dksX0_comes_2 : cX0_comes.data.toList.drop 46 = dktX0_comes_2 := dk_seg dksX0_comes_1 22 rfl rfl
theorem dksX0_comes_3 : cX0_comes.data.toList.drop 68 = dktX0_comes_3 := dk_seg dksX0_comes_2 22 rfl rfl
theorem dX0_comes_0 : decode cX0_comes 0 = .ok (.aload_n 0, 1) := dk_42 (dk_at dksX0_comes_0 0 rfl rfl)
theorem dX0_comes_1 : decode cX0_comes 1 = .ok (.iload_n 3, 1) := dk_29 (dk_at dksX0_comes_0 1 rfl rfl)
theorem dX0_comes_2 : decode cX0_comes 2 = .ok (.aload_n 0, 1) := dk_42 (dk_at dksX0_comes_0 2 rfl rfl)
theorem dX0_comes_3 : decode cX0_comes 3 = .ok (.aload_n 0, 1) := dk_42 (dk_at dksX0_comes_0 3 rfl rfl)
theorem dX0_comes_4 : decode cX0_comes 4 = .ok (.getfield 30, 3) := dk_180 0 30 (dk_at dksX0_comes_0 4 rfl rfl)
theorem dX0_comes_7 : decode cX0_comes 7 = .ok (.iload_n 3, 1) := dk_29 (dk_at dksX0_comes_0 7 rfl rfl)
theorem dX0_comes_8 : decode cX0_comes 8 = .ok (.invokevirtual 146, 3) := dk_182 0 146 (dk_at dksX0_comes_0 8 rfl rfl)
theorem dX0_comes_11 : decode cX0_comes 11 = .ok (.ifCond .eq 17, 3) := dk_153 0 17 (dk_at dksX0_comes_0 11 rfl rfl)
theorem dX0_comes_14 : decode cX0_comes 14 = .ok (.iload 4, 2) := dk_21 4 (dk_at dksX0_comes_0 14 rfl rfl)
theorem dX0_comes_16 : decode cX0_comes 16 = .ok (.iconst 0, 1) := dk_3 (dk_at dksX0_comes_0 16 rfl rfl)
theorem dX0_comes_17 : decode cX0_comes 17 = .ok (.iconst 2, 1) := dk_5 (dk_at dksX0_comes_0 17 rfl rfl)
theorem dX0_comes_18 : decode cX0_comes 18 = .ok (.invokestatic 73, 3) := dk_184 0 73 (dk_at dksX0_comes_0 18 rfl rfl)
theorem dX0_comes_21 : decode cX0_comes 21 = .ok (.ifCond .eq 7, 3) := dk_153 0 7 (dk_at dksX0_comes_0 21 rfl rfl)
theorem dX0_comes_24 : decode cX0_comes 24 = .ok (.iconst 1, 1) := dk_4 (dk_at dksX0_comes_1 0 rfl rfl)
theorem dX0_comes_25 : decode cX0_comes 25 = .ok (.goto 4, 3) := dk_167 0 4 (dk_at dksX0_comes_1 1 rfl rfl)
theorem dX0_comes_28 : decode cX0_comes 28 = .ok (.iconst 0, 1) := dk_3 (dk_at dksX0_comes_1 4 rfl rfl)
theorem dX0_comes_29 : decode cX0_comes 29 = .ok (.iload_n 1, 1) := dk_27 (dk_at dksX0_comes_1 5 rfl rfl)
theorem dX0_comes_30 : decode cX0_comes 30 = .ok (.iload_n 2, 1) := dk_28 (dk_at dksX0_comes_1 6 rfl rfl)
theorem dX0_comes_31 : decode cX0_comes 31 = .ok (.invokevirtual 266, 3) := dk_182 1 10 (dk_at dksX0_comes_1 7 rfl rfl)
theorem dX0_comes_34 : decode cX0_comes 34 = .ok (.invokevirtual 269, 3) := dk_182 1 13 (dk_at dksX0_comes_1 10 rfl rfl)
theorem dX0_comes_37 : decode cX0_comes 37 = .ok (.astore 5, 2) := dk_58 5 (dk_at dksX0_comes_1 13 rfl rfl)
theorem dX0_comes_39 : decode cX0_comes 39 = .ok (.iload 4, 2) := dk_21 4 (dk_at dksX0_comes_1 15 rfl rfl)
theorem dX0_comes_41 : decode cX0_comes 41 = .ok (.ifCond .ne 11, 3) := dk_154 0 11 (dk_at dksX0_comes_1 17 rfl rfl)
theorem dX0_comes_44 : decode cX0_comes 44 = .ok (.aload 5, 2) := dk_25 5 (dk_at dksX0_comes_1 20 rfl rfl)
theorem dX0_comes_46 : decode cX0_comes 46 = .ok (.getfield 273, 3) := dk_180 1 17 (dk_at dksX0_comes_2 0 rfl rfl)
theorem dX0_comes_49 : decode cX0_comes 49 = .ok (.goto 22, 3) := dk_167 0 22 (dk_at dksX0_comes_2 3 rfl rfl)
theorem dX0_comes_52 : decode cX0_comes 52 = .ok (.iload 4, 2) := dk_21 4 (dk_at dksX0_comes_2 6 rfl rfl)
theorem dX0_comes_54 : decode cX0_comes 54 = .ok (.iconst 1, 1) := dk_4 (dk_at dksX0_comes_2 8 rfl rfl)
theorem dX0_comes_55 : decode cX0_comes 55 = .ok (.if_icmp .ne 11, 3) := dk_160 0 11 (dk_at dksX0_comes_2 9 rfl rfl)
theorem dX0_comes_58 : decode cX0_comes 58 = .ok (.aload 5, 2) := dk_25 5 (dk_at dksX0_comes_2 12 rfl rfl)
theorem dX0_comes_60 : decode cX0_comes 60 = .ok (.getfield 170, 3) := dk_180 0 170 (dk_at dksX0_comes_2 14 rfl rfl)
theorem dX0_comes_63 : decode cX0_comes 63 = .ok (.goto 8, 3) := dk_167 0 8 (dk_at dksX0_comes_2 17 rfl rfl)
theorem dX0_comes_66 : decode cX0_comes 66 = .ok (.aload 5, 2) := dk_25 5 (dk_at dksX0_comes_2 20 rfl rfl)
theorem dX0_comes_68 : decode cX0_comes 68 = .ok (.getfield 275, 3) := dk_180 1 19 (dk_at dksX0_comes_3 0 rfl rfl)
theorem dX0_comes_71 : decode cX0_comes 71 = .ok (.ireturn, 1) := dk_172 (dk_at dksX0_comes_3 3 rfl rfl)
theorem dX0_comes_72 : decode cX0_comes 72 = .ok (.astore 5, 2) := dk_58 5 (dk_at dksX0_comes_3 4 rfl rfl)
theorem dX0_comes_74 : decode cX0_comes 74 = .ok (.aload_n 0, 1) := dk_42 (dk_at dksX0_comes_3 6 rfl rfl)
theorem dX0_comes_75 : decode cX0_comes 75 = .ok (.aload 5, 2) := dk_25 5 (dk_at dksX0_comes_3 7 rfl rfl)
theorem dX0_comes_77 : decode cX0_comes 77 = .ok (.getfield 121, 3) := dk_180 0 121 (dk_at dksX0_comes_3 9 rfl rfl)
theorem dX0_comes_80 : decode cX0_comes 80 = .ok (.invokevirtual 94, 3) := dk_182 0 94 (dk_at dksX0_comes_3 12 rfl rfl)
theorem dX0_comes_83 : decode cX0_comes 83 = .ok (.ireturn, 1) := dk_172 (dk_at dksX0_comes_3 15 rfl rfl)
abbrev cX0_signsIn : ByteArray := prog_1_method_37_code
def yX0_signsIn : MethodName := ⟨RX0, "signsIn", "(ZII)[J"⟩
def dkwX0_signsIn_0 : List UInt8 := [42, 27, 28, 29, 182, 0, 254, 184, 1, 2, 176]
abbrev dktX0_signsIn_0 : List UInt8 := dkwX0_signsIn_0 ++ []
theorem dksX0_signsIn_0 : cX0_signsIn.data.toList.drop 0 = dktX0_signsIn_0 := by decide +kernel
theorem dX0_signsIn_0 : decode cX0_signsIn 0 = .ok (.aload_n 0, 1) := dk_42 (dk_at dksX0_signsIn_0 0 rfl rfl)
theorem dX0_signsIn_1 : decode cX0_signsIn 1 = .ok (.iload_n 1, 1) := dk_27 (dk_at dksX0_signsIn_0 1 rfl rfl)
theorem dX0_signsIn_2 : decode cX0_signsIn 2 = .ok (.iload_n 2, 1) := dk_28 (dk_at dksX0_signsIn_0 2 rfl rfl)
theorem dX0_signsIn_3 : decode cX0_signsIn 3 = .ok (.iload_n 3, 1) := dk_29 (dk_at dksX0_signsIn_0 3 rfl rfl)
theorem dX0_signsIn_4 : decode cX0_signsIn 4 = .ok (.invokevirtual 254, 3) := dk_182 0 254 (dk_at dksX0_signsIn_0 4 rfl rfl)
theorem dX0_signsIn_7 : decode cX0_signsIn 7 = .ok (.invokestatic 258, 3) := dk_184 1 2 (dk_at dksX0_signsIn_0 7 rfl rfl)
theorem dX0_signsIn_10 : decode cX0_signsIn 10 = .ok (.areturn, 1) := dk_176 (dk_at dksX0_signsIn_0 10 rfl rfl)
abbrev cX0_signs : ByteArray := prog_1_method_36_code
def yX0_signs : MethodName := ⟨RX0, "signs", "([J)[J"⟩
def dkwX0_signs_0 : List UInt8 := [42, 184, 0, 250, 2, 159, 0, 13, 187, 0, 108, 89, 16, 251, 183, 0, 110, 191, 42, 176]
abbrev dktX0_signs_0 : List UInt8 := dkwX0_signs_0 ++ []
theorem dksX0_signs_0 : cX0_signs.data.toList.drop 0 = dktX0_signs_0 := by decide +kernel
theorem dX0_signs_0 : decode cX0_signs 0 = .ok (.aload_n 0, 1) := dk_42 (dk_at dksX0_signs_0 0 rfl rfl)
theorem dX0_signs_1 : decode cX0_signs 1 = .ok (.invokestatic 250, 3) := dk_184 0 250 (dk_at dksX0_signs_0 1 rfl rfl)
theorem dX0_signs_4 : decode cX0_signs 4 = .ok (.iconst (-1), 1) := dk_2 (dk_at dksX0_signs_0 4 rfl rfl)
theorem dX0_signs_5 : decode cX0_signs 5 = .ok (.if_icmp .eq 13, 3) := dk_159 0 13 (dk_at dksX0_signs_0 5 rfl rfl)
theorem dX0_signs_8 : decode cX0_signs 8 = .ok (.new 108, 3) := dk_187 0 108 (dk_at dksX0_signs_0 8 rfl rfl)
theorem dX0_signs_11 : decode cX0_signs 11 = .ok (.dup, 1) := dk_89 (dk_at dksX0_signs_0 11 rfl rfl)
theorem dX0_signs_12 : decode cX0_signs 12 = .ok (.bipush (-5), 2) := dk_16 251 (dk_at dksX0_signs_0 12 rfl rfl)
theorem dX0_signs_14 : decode cX0_signs 14 = .ok (.invokespecial 110, 3) := dk_183 0 110 (dk_at dksX0_signs_0 14 rfl rfl)
theorem dX0_signs_17 : decode cX0_signs 17 = .ok (.athrow, 1) := dk_191 (dk_at dksX0_signs_0 17 rfl rfl)
theorem dX0_signs_18 : decode cX0_signs 18 = .ok (.aload_n 0, 1) := dk_42 (dk_at dksX0_signs_0 18 rfl rfl)
theorem dX0_signs_19 : decode cX0_signs 19 = .ok (.areturn, 1) := dk_176 (dk_at dksX0_signs_0 19 rfl rfl)
abbrev cX0_walkedBy : ByteArray := prog_1_method_40_code
def yX0_walkedBy : MethodName := ⟨RX0, "walkedBy", "(I[J)LLeftIsAgreedOn$Walk;"⟩
def dkwX0_walkedBy_1 : List UInt8 := [180, 0, 163, 3, 46, 182, 1, 6, 176]
abbrev dktX0_walkedBy_1 : List UInt8 := dkwX0_walkedBy_1 ++ []
def dkwX0_walkedBy_0 : List UInt8 := [42, 42, 180, 0, 30, 180, 0, 149, 27, 50, 42, 180, 0, 30, 180, 0, 153, 27, 46, 44, 42, 180, 0, 30]
abbrev dktX0_walkedBy_0 : List UInt8 := dkwX0_walkedBy_0 ++ dktX0_walkedBy_1
theorem dksX0_walkedBy_0 : cX0_walkedBy.data.toList.drop 0 = dktX0_walkedBy_0 := by decide +kernel
theorem dksX0_walkedBy_1 : cX0_walkedBy.data.toList.drop 24 = dktX0_walkedBy_1 := dk_seg dksX0_walkedBy_0 24 rfl rfl
theorem dX0_walkedBy_0 : decode cX0_walkedBy 0 = .ok (.aload_n 0, 1) := dk_42 (dk_at dksX0_walkedBy_0 0 rfl rfl)
theorem dX0_walkedBy_1 : decode cX0_walkedBy 1 = .ok (.aload_n 0, 1) := dk_42 (dk_at dksX0_walkedBy_0 1 rfl rfl)
theorem dX0_walkedBy_2 : decode cX0_walkedBy 2 = .ok (.getfield 30, 3) := dk_180 0 30 (dk_at dksX0_walkedBy_0 2 rfl rfl)
theorem dX0_walkedBy_5 : decode cX0_walkedBy 5 = .ok (.getfield 149, 3) := dk_180 0 149 (dk_at dksX0_walkedBy_0 5 rfl rfl)
theorem dX0_walkedBy_8 : decode cX0_walkedBy 8 = .ok (.iload_n 1, 1) := dk_27 (dk_at dksX0_walkedBy_0 8 rfl rfl)
theorem dX0_walkedBy_9 : decode cX0_walkedBy 9 = .ok (.aaload, 1) := dk_50 (dk_at dksX0_walkedBy_0 9 rfl rfl)
theorem dX0_walkedBy_10 : decode cX0_walkedBy 10 = .ok (.aload_n 0, 1) := dk_42 (dk_at dksX0_walkedBy_0 10 rfl rfl)
theorem dX0_walkedBy_11 : decode cX0_walkedBy 11 = .ok (.getfield 30, 3) := dk_180 0 30 (dk_at dksX0_walkedBy_0 11 rfl rfl)
theorem dX0_walkedBy_14 : decode cX0_walkedBy 14 = .ok (.getfield 153, 3) := dk_180 0 153 (dk_at dksX0_walkedBy_0 14 rfl rfl)
theorem dX0_walkedBy_17 : decode cX0_walkedBy 17 = .ok (.iload_n 1, 1) := dk_27 (dk_at dksX0_walkedBy_0 17 rfl rfl)
theorem dX0_walkedBy_18 : decode cX0_walkedBy 18 = .ok (.iaload, 1) := dk_46 (dk_at dksX0_walkedBy_0 18 rfl rfl)
theorem dX0_walkedBy_19 : decode cX0_walkedBy 19 = .ok (.aload_n 2, 1) := dk_44 (dk_at dksX0_walkedBy_0 19 rfl rfl)
theorem dX0_walkedBy_20 : decode cX0_walkedBy 20 = .ok (.aload_n 0, 1) := dk_42 (dk_at dksX0_walkedBy_0 20 rfl rfl)
theorem dX0_walkedBy_21 : decode cX0_walkedBy 21 = .ok (.getfield 30, 3) := dk_180 0 30 (dk_at dksX0_walkedBy_0 21 rfl rfl)
theorem dX0_walkedBy_24 : decode cX0_walkedBy 24 = .ok (.getfield 163, 3) := dk_180 0 163 (dk_at dksX0_walkedBy_1 0 rfl rfl)
theorem dX0_walkedBy_27 : decode cX0_walkedBy 27 = .ok (.iconst 0, 1) := dk_3 (dk_at dksX0_walkedBy_1 3 rfl rfl)
theorem dX0_walkedBy_28 : decode cX0_walkedBy 28 = .ok (.iaload, 1) := dk_46 (dk_at dksX0_walkedBy_1 4 rfl rfl)
theorem dX0_walkedBy_29 : decode cX0_walkedBy 29 = .ok (.invokevirtual 262, 3) := dk_182 1 6 (dk_at dksX0_walkedBy_1 5 rfl rfl)
theorem dX0_walkedBy_32 : decode cX0_walkedBy 32 = .ok (.areturn, 1) := dk_176 (dk_at dksX0_walkedBy_1 8 rfl rfl)
abbrev cX0_walked : ByteArray := prog_1_method_39_code
def yX0_walked : MethodName := ⟨RX0, "walked", "(LLeftIsAgreedOn$Voter;I[JI)LLeftIsAgreedOn$Walk;"⟩
def dkwX0_walked_3 : List UInt8 := [180, 0, 39, 176]
abbrev dktX0_walked_3 : List UInt8 := dkwX0_walked_3 ++ []
def dkwX0_walked_2 : List UInt8 := [180, 0, 39, 42, 180, 0, 30, 43, 22, 8, 136, 21, 4, 182, 0, 166, 132, 7, 1, 167, 255, 222, 42]
abbrev dktX0_walked_2 : List UInt8 := dkwX0_walked_2 ++ dktX0_walked_3
def dkwX0_walked_1 : List UInt8 := [25, 5, 190, 54, 6, 3, 54, 7, 21, 7, 21, 6, 162, 0, 33, 25, 5, 21, 7, 47, 55, 8, 42]
abbrev dktX0_walked_1 : List UInt8 := dkwX0_walked_1 ++ dktX0_walked_2
def dkwX0_walked_0 : List UInt8 := [42, 180, 0, 39, 28, 42, 180, 0, 30, 180, 0, 156, 43, 180, 0, 143, 46, 182, 0, 159, 87, 45, 58, 5]
abbrev dktX0_walked_0 : List UInt8 := dkwX0_walked_0 ++ dktX0_walked_1
theorem dksX0_walked_0 : cX0_walked.data.toList.drop 0 = dktX0_walked_0 := by decide +kernel
theorem dksX0_walked_1 : cX0_walked.data.toList.drop 24 = dktX0_walked_1 := dk_seg dksX0_walked_0 24 rfl rfl
theorem dksX0_walked_2 : cX0_walked.data.toList.drop 47 = dktX0_walked_2 := dk_seg dksX0_walked_1 23 rfl rfl
theorem dksX0_walked_3 : cX0_walked.data.toList.drop 70 = dktX0_walked_3 := dk_seg dksX0_walked_2 23 rfl rfl
theorem dX0_walked_0 : decode cX0_walked 0 = .ok (.aload_n 0, 1) := dk_42 (dk_at dksX0_walked_0 0 rfl rfl)
theorem dX0_walked_1 : decode cX0_walked 1 = .ok (.getfield 39, 3) := dk_180 0 39 (dk_at dksX0_walked_0 1 rfl rfl)
theorem dX0_walked_4 : decode cX0_walked 4 = .ok (.iload_n 2, 1) := dk_28 (dk_at dksX0_walked_0 4 rfl rfl)
theorem dX0_walked_5 : decode cX0_walked 5 = .ok (.aload_n 0, 1) := dk_42 (dk_at dksX0_walked_0 5 rfl rfl)
theorem dX0_walked_6 : decode cX0_walked 6 = .ok (.getfield 30, 3) := dk_180 0 30 (dk_at dksX0_walked_0 6 rfl rfl)
theorem dX0_walked_9 : decode cX0_walked 9 = .ok (.getfield 156, 3) := dk_180 0 156 (dk_at dksX0_walked_0 9 rfl rfl)
theorem dX0_walked_12 : decode cX0_walked 12 = .ok (.aload_n 1, 1) := dk_43 (dk_at dksX0_walked_0 12 rfl rfl)
theorem dX0_walked_13 : decode cX0_walked 13 = .ok (.getfield 143, 3) := dk_180 0 143 (dk_at dksX0_walked_0 13 rfl rfl)
theorem dX0_walked_16 : decode cX0_walked 16 = .ok (.iaload, 1) := dk_46 (dk_at dksX0_walked_0 16 rfl rfl)
theorem dX0_walked_17 : decode cX0_walked 17 = .ok (.invokevirtual 159, 3) := dk_182 0 159 (dk_at dksX0_walked_0 17 rfl rfl)
theorem dX0_walked_20 : decode cX0_walked 20 = .ok (.pop, 1) := dk_87 (dk_at dksX0_walked_0 20 rfl rfl)
theorem dX0_walked_21 : decode cX0_walked 21 = .ok (.aload_n 3, 1) := dk_45 (dk_at dksX0_walked_0 21 rfl rfl)
theorem dX0_walked_22 : decode cX0_walked 22 = .ok (.astore 5, 2) := dk_58 5 (dk_at dksX0_walked_0 22 rfl rfl)
theorem dX0_walked_24 : decode cX0_walked 24 = .ok (.aload 5, 2) := dk_25 5 (dk_at dksX0_walked_1 0 rfl rfl)
theorem dX0_walked_26 : decode cX0_walked 26 = .ok (.arraylength, 1) := dk_190 (dk_at dksX0_walked_1 2 rfl rfl)
theorem dX0_walked_27 : decode cX0_walked 27 = .ok (.istore 6, 2) := dk_54 6 (dk_at dksX0_walked_1 3 rfl rfl)
theorem dX0_walked_29 : decode cX0_walked 29 = .ok (.iconst 0, 1) := dk_3 (dk_at dksX0_walked_1 5 rfl rfl)
theorem dX0_walked_30 : decode cX0_walked 30 = .ok (.istore 7, 2) := dk_54 7 (dk_at dksX0_walked_1 6 rfl rfl)
theorem dX0_walked_32 : decode cX0_walked 32 = .ok (.iload 7, 2) := dk_21 7 (dk_at dksX0_walked_1 8 rfl rfl)
theorem dX0_walked_34 : decode cX0_walked 34 = .ok (.iload 6, 2) := dk_21 6 (dk_at dksX0_walked_1 10 rfl rfl)
theorem dX0_walked_36 : decode cX0_walked 36 = .ok (.if_icmp .ge 33, 3) := dk_162 0 33 (dk_at dksX0_walked_1 12 rfl rfl)
theorem dX0_walked_39 : decode cX0_walked 39 = .ok (.aload 5, 2) := dk_25 5 (dk_at dksX0_walked_1 15 rfl rfl)
theorem dX0_walked_41 : decode cX0_walked 41 = .ok (.iload 7, 2) := dk_21 7 (dk_at dksX0_walked_1 17 rfl rfl)
theorem dX0_walked_43 : decode cX0_walked 43 = .ok (.laload, 1) := dk_47 (dk_at dksX0_walked_1 19 rfl rfl)
theorem dX0_walked_44 : decode cX0_walked 44 = .ok (.lstore 8, 2) := dk_55 8 (dk_at dksX0_walked_1 20 rfl rfl)
theorem dX0_walked_46 : decode cX0_walked 46 = .ok (.aload_n 0, 1) := dk_42 (dk_at dksX0_walked_1 22 rfl rfl)
theorem dX0_walked_47 : decode cX0_walked 47 = .ok (.getfield 39, 3) := dk_180 0 39 (dk_at dksX0_walked_2 0 rfl rfl)
theorem dX0_walked_50 : decode cX0_walked 50 = .ok (.aload_n 0, 1) := dk_42 (dk_at dksX0_walked_2 3 rfl rfl)
theorem dX0_walked_51 : decode cX0_walked 51 = .ok (.getfield 30, 3) := dk_180 0 30 (dk_at dksX0_walked_2 4 rfl rfl)
theorem dX0_walked_54 : decode cX0_walked 54 = .ok (.aload_n 1, 1) := dk_43 (dk_at dksX0_walked_2 7 rfl rfl)
theorem dX0_walked_55 : decode cX0_walked 55 = .ok (.lload 8, 2) := dk_22 8 (dk_at dksX0_walked_2 8 rfl rfl)
theorem dX0_walked_57 : decode cX0_walked 57 = .ok (.l2i, 1) := dk_136 (dk_at dksX0_walked_2 10 rfl rfl)
theorem dX0_walked_58 : decode cX0_walked 58 = .ok (.iload 4, 2) := dk_21 4 (dk_at dksX0_walked_2 11 rfl rfl)
theorem dX0_walked_60 : decode cX0_walked 60 = .ok (.invokevirtual 166, 3) := dk_182 0 166 (dk_at dksX0_walked_2 13 rfl rfl)
theorem dX0_walked_63 : decode cX0_walked 63 = .ok (.iinc 7 1, 3) := dk_132 7 1 (dk_at dksX0_walked_2 16 rfl rfl)
theorem dX0_walked_66 : decode cX0_walked 66 = .ok (.goto (-34), 3) := dk_167 255 222 (dk_at dksX0_walked_2 19 rfl rfl)
theorem dX0_walked_69 : decode cX0_walked 69 = .ok (.aload_n 0, 1) := dk_42 (dk_at dksX0_walked_2 22 rfl rfl)
theorem dX0_walked_70 : decode cX0_walked 70 = .ok (.getfield 39, 3) := dk_180 0 39 (dk_at dksX0_walked_3 0 rfl rfl)
theorem dX0_walked_73 : decode cX0_walked 73 = .ok (.areturn, 1) := dk_176 (dk_at dksX0_walked_3 3 rfl rfl)
abbrev cX0_fell : ByteArray := prog_1_method_42_code
def yX0_fell : MethodName := ⟨RX0, "fell", "(II)I"⟩
def dkwX0_fell_2 : List UInt8 := [96, 54, 4, 132, 5, 1, 167, 255, 217, 21, 4, 172, 78, 42, 45, 180, 0, 121, 182, 0, 94, 172]
abbrev dktX0_fell_2 : List UInt8 := dkwX0_fell_2 ++ []
def dkwX0_fell_1 : List UInt8 := [162, 0, 33, 21, 4, 42, 21, 5, 45, 182, 1, 13, 180, 1, 19, 2, 159, 0, 7, 4, 167, 0, 4, 3]
abbrev dktX0_fell_1 : List UInt8 := dkwX0_fell_1 ++ dktX0_fell_2
def dkwX0_fell_0 : List UInt8 := [42, 4, 27, 28, 182, 1, 10, 78, 3, 54, 4, 3, 54, 5, 21, 5, 42, 180, 0, 30, 180, 0, 200]
abbrev dktX0_fell_0 : List UInt8 := dkwX0_fell_0 ++ dktX0_fell_1
theorem dksX0_fell_0 : cX0_fell.data.toList.drop 0 = dktX0_fell_0 := by decide +kernel
theorem dksX0_fell_1 : cX0_fell.data.toList.drop 23 = dktX0_fell_1 := dk_seg dksX0_fell_0 23 rfl rfl
theorem dksX0_fell_2 : cX0_fell.data.toList.drop 47 = dktX0_fell_2 := dk_seg dksX0_fell_1 24 rfl rfl
theorem dX0_fell_0 : decode cX0_fell 0 = .ok (.aload_n 0, 1) := dk_42 (dk_at dksX0_fell_0 0 rfl rfl)
theorem dX0_fell_1 : decode cX0_fell 1 = .ok (.iconst 1, 1) := dk_4 (dk_at dksX0_fell_0 1 rfl rfl)
theorem dX0_fell_2 : decode cX0_fell 2 = .ok (.iload_n 1, 1) := dk_27 (dk_at dksX0_fell_0 2 rfl rfl)
theorem dX0_fell_3 : decode cX0_fell 3 = .ok (.iload_n 2, 1) := dk_28 (dk_at dksX0_fell_0 3 rfl rfl)
theorem dX0_fell_4 : decode cX0_fell 4 = .ok (.invokevirtual 266, 3) := dk_182 1 10 (dk_at dksX0_fell_0 4 rfl rfl)
theorem dX0_fell_7 : decode cX0_fell 7 = .ok (.astore_n 3, 1) := dk_78 (dk_at dksX0_fell_0 7 rfl rfl)
theorem dX0_fell_8 : decode cX0_fell 8 = .ok (.iconst 0, 1) := dk_3 (dk_at dksX0_fell_0 8 rfl rfl)
theorem dX0_fell_9 : decode cX0_fell 9 = .ok (.istore 4, 2) := dk_54 4 (dk_at dksX0_fell_0 9 rfl rfl)
theorem dX0_fell_11 : decode cX0_fell 11 = .ok (.iconst 0, 1) := dk_3 (dk_at dksX0_fell_0 11 rfl rfl)
theorem dX0_fell_12 : decode cX0_fell 12 = .ok (.istore 5, 2) := dk_54 5 (dk_at dksX0_fell_0 12 rfl rfl)
theorem dX0_fell_14 : decode cX0_fell 14 = .ok (.iload 5, 2) := dk_21 5 (dk_at dksX0_fell_0 14 rfl rfl)
theorem dX0_fell_16 : decode cX0_fell 16 = .ok (.aload_n 0, 1) := dk_42 (dk_at dksX0_fell_0 16 rfl rfl)
theorem dX0_fell_17 : decode cX0_fell 17 = .ok (.getfield 30, 3) := dk_180 0 30 (dk_at dksX0_fell_0 17 rfl rfl)
theorem dX0_fell_20 : decode cX0_fell 20 = .ok (.getfield 200, 3) := dk_180 0 200 (dk_at dksX0_fell_0 20 rfl rfl)
theorem dX0_fell_23 : decode cX0_fell 23 = .ok (.if_icmp .ge 33, 3) := dk_162 0 33 (dk_at dksX0_fell_1 0 rfl rfl)
theorem dX0_fell_26 : decode cX0_fell 26 = .ok (.iload 4, 2) := dk_21 4 (dk_at dksX0_fell_1 3 rfl rfl)
theorem dX0_fell_28 : decode cX0_fell 28 = .ok (.aload_n 0, 1) := dk_42 (dk_at dksX0_fell_1 5 rfl rfl)
theorem dX0_fell_29 : decode cX0_fell 29 = .ok (.iload 5, 2) := dk_21 5 (dk_at dksX0_fell_1 6 rfl rfl)
theorem dX0_fell_31 : decode cX0_fell 31 = .ok (.aload_n 3, 1) := dk_45 (dk_at dksX0_fell_1 8 rfl rfl)
theorem dX0_fell_32 : decode cX0_fell 32 = .ok (.invokevirtual 269, 3) := dk_182 1 13 (dk_at dksX0_fell_1 9 rfl rfl)
theorem dX0_fell_35 : decode cX0_fell 35 = .ok (.getfield 275, 3) := dk_180 1 19 (dk_at dksX0_fell_1 12 rfl rfl)
theorem dX0_fell_38 : decode cX0_fell 38 = .ok (.iconst (-1), 1) := dk_2 (dk_at dksX0_fell_1 15 rfl rfl)
theorem dX0_fell_39 : decode cX0_fell 39 = .ok (.if_icmp .eq 7, 3) := dk_159 0 7 (dk_at dksX0_fell_1 16 rfl rfl)
theorem dX0_fell_42 : decode cX0_fell 42 = .ok (.iconst 1, 1) := dk_4 (dk_at dksX0_fell_1 19 rfl rfl)
theorem dX0_fell_43 : decode cX0_fell 43 = .ok (.goto 4, 3) := dk_167 0 4 (dk_at dksX0_fell_1 20 rfl rfl)
theorem dX0_fell_46 : decode cX0_fell 46 = .ok (.iconst 0, 1) := dk_3 (dk_at dksX0_fell_1 23 rfl rfl)
theorem dX0_fell_47 : decode cX0_fell 47 = .ok (.iadd, 1) := dk_96 (dk_at dksX0_fell_2 0 rfl rfl)
theorem dX0_fell_48 : decode cX0_fell 48 = .ok (.istore 4, 2) := dk_54 4 (dk_at dksX0_fell_2 1 rfl rfl)
theorem dX0_fell_50 : decode cX0_fell 50 = .ok (.iinc 5 1, 3) := dk_132 5 1 (dk_at dksX0_fell_2 3 rfl rfl)
theorem dX0_fell_53 : decode cX0_fell 53 = .ok (.goto (-39), 3) := dk_167 255 217 (dk_at dksX0_fell_2 6 rfl rfl)
theorem dX0_fell_56 : decode cX0_fell 56 = .ok (.iload 4, 2) := dk_21 4 (dk_at dksX0_fell_2 9 rfl rfl)
theorem dX0_fell_58 : decode cX0_fell 58 = .ok (.ireturn, 1) := dk_172 (dk_at dksX0_fell_2 11 rfl rfl)
theorem dX0_fell_59 : decode cX0_fell 59 = .ok (.astore_n 3, 1) := dk_78 (dk_at dksX0_fell_2 12 rfl rfl)
theorem dX0_fell_60 : decode cX0_fell 60 = .ok (.aload_n 0, 1) := dk_42 (dk_at dksX0_fell_2 13 rfl rfl)
theorem dX0_fell_61 : decode cX0_fell 61 = .ok (.aload_n 3, 1) := dk_45 (dk_at dksX0_fell_2 14 rfl rfl)
theorem dX0_fell_62 : decode cX0_fell 62 = .ok (.getfield 121, 3) := dk_180 0 121 (dk_at dksX0_fell_2 15 rfl rfl)
theorem dX0_fell_65 : decode cX0_fell 65 = .ok (.invokevirtual 94, 3) := dk_182 0 94 (dk_at dksX0_fell_2 18 rfl rfl)
theorem dX0_fell_68 : decode cX0_fell 68 = .ok (.ireturn, 1) := dk_172 (dk_at dksX0_fell_2 21 rfl rfl)
abbrev cX0_ponds : ByteArray := prog_1_method_43_code
def yX0_ponds : MethodName := ⟨RX0, "ponds", "(III)I"⟩
def dkwX0_ponds_5 : List UInt8 := [58, 4, 42, 25, 4, 180, 0, 121, 182, 0, 94, 172]
abbrev dktX0_ponds_5 : List UInt8 := dkwX0_ponds_5 ++ []
def dkwX0_ponds_4 : List UInt8 := [180, 1, 19, 2, 159, 0, 7, 4, 167, 0, 4, 3, 96, 54, 5, 132, 6, 1, 167, 255, 167, 21, 5, 172]
abbrev dktX0_ponds_4 : List UInt8 := dkwX0_ponds_4 ++ dktX0_ponds_5
def dkwX0_ponds_3 : List UInt8 := [180, 0, 30, 180, 0, 149, 29, 50, 21, 6, 25, 4, 42, 180, 0, 30, 180, 0, 163, 3, 46, 182, 1, 6]
abbrev dktX0_ponds_3 : List UInt8 := dkwX0_ponds_3 ++ dktX0_ponds_4
def dkwX0_ponds_2 : List UInt8 := [182, 0, 190, 154, 0, 7, 4, 167, 0, 4, 3, 54, 7, 21, 5, 21, 7, 153, 0, 40, 42, 42]
abbrev dktX0_ponds_2 : List UInt8 := dkwX0_ponds_2 ++ dktX0_ponds_3
def dkwX0_ponds_1 : List UInt8 := [16, 70, 162, 0, 88, 42, 180, 0, 30, 21, 6, 182, 0, 184, 153, 0, 19, 42, 180, 0, 30, 21, 6]
abbrev dktX0_ponds_1 : List UInt8 := dkwX0_ponds_1 ++ dktX0_ponds_2
def dkwX0_ponds_0 : List UInt8 := [42, 42, 180, 0, 30, 29, 182, 0, 146, 27, 28, 182, 1, 10, 58, 4, 3, 54, 5, 3, 54, 6, 21, 6]
abbrev dktX0_ponds_0 : List UInt8 := dkwX0_ponds_0 ++ dktX0_ponds_1
theorem dksX0_ponds_0 : cX0_ponds.data.toList.drop 0 = dktX0_ponds_0 := by decide +kernel
theorem dksX0_ponds_1 : cX0_ponds.data.toList.drop 24 = dktX0_ponds_1 := dk_seg dksX0_ponds_0 24 rfl rfl
theorem dksX0_ponds_2 : cX0_ponds.data.toList.drop 47 = dktX0_ponds_2 := dk_seg dksX0_ponds_1 23 rfl rfl
theorem dksX0_ponds_3 : cX0_ponds.data.toList.drop 69 = dktX0_ponds_3 := dk_seg dksX0_ponds_2 22 rfl rfl
theorem dksX0_ponds_4 : cX0_ponds.data.toList.drop 93 = dktX0_ponds_4 := dk_seg dksX0_ponds_3 24 rfl rfl
theorem dksX0_ponds_5 : cX0_ponds.data.toList.drop 117 = dktX0_ponds_5 := dk_seg dksX0_ponds_4 24 rfl rfl
theorem dX0_ponds_0 : decode cX0_ponds 0 = .ok (.aload_n 0, 1) := dk_42 (dk_at dksX0_ponds_0 0 rfl rfl)
theorem dX0_ponds_1 : decode cX0_ponds 1 = .ok (.aload_n 0, 1) := dk_42 (dk_at dksX0_ponds_0 1 rfl rfl)
theorem dX0_ponds_2 : decode cX0_ponds 2 = .ok (.getfield 30, 3) := dk_180 0 30 (dk_at dksX0_ponds_0 2 rfl rfl)
theorem dX0_ponds_5 : decode cX0_ponds 5 = .ok (.iload_n 3, 1) := dk_29 (dk_at dksX0_ponds_0 5 rfl rfl)
theorem dX0_ponds_6 : decode cX0_ponds 6 = .ok (.invokevirtual 146, 3) := dk_182 0 146 (dk_at dksX0_ponds_0 6 rfl rfl)
theorem dX0_ponds_9 : decode cX0_ponds 9 = .ok (.iload_n 1, 1) := dk_27 (dk_at dksX0_ponds_0 9 rfl rfl)
theorem dX0_ponds_10 : decode cX0_ponds 10 = .ok (.iload_n 2, 1) := dk_28 (dk_at dksX0_ponds_0 10 rfl rfl)
theorem dX0_ponds_11 : decode cX0_ponds 11 = .ok (.invokevirtual 266, 3) := dk_182 1 10 (dk_at dksX0_ponds_0 11 rfl rfl)
theorem dX0_ponds_14 : decode cX0_ponds 14 = .ok (.astore 4, 2) := dk_58 4 (dk_at dksX0_ponds_0 14 rfl rfl)
theorem dX0_ponds_16 : decode cX0_ponds 16 = .ok (.iconst 0, 1) := dk_3 (dk_at dksX0_ponds_0 16 rfl rfl)
theorem dX0_ponds_17 : decode cX0_ponds 17 = .ok (.istore 5, 2) := dk_54 5 (dk_at dksX0_ponds_0 17 rfl rfl)
theorem dX0_ponds_19 : decode cX0_ponds 19 = .ok (.iconst 0, 1) := dk_3 (dk_at dksX0_ponds_0 19 rfl rfl)
theorem dX0_ponds_20 : decode cX0_ponds 20 = .ok (.istore 6, 2) := dk_54 6 (dk_at dksX0_ponds_0 20 rfl rfl)
theorem dX0_ponds_22 : decode cX0_ponds 22 = .ok (.iload 6, 2) := dk_21 6 (dk_at dksX0_ponds_0 22 rfl rfl)
theorem dX0_ponds_24 : decode cX0_ponds 24 = .ok (.bipush 70, 2) := dk_16 70 (dk_at dksX0_ponds_1 0 rfl rfl)
theorem dX0_ponds_26 : decode cX0_ponds 26 = .ok (.if_icmp .ge 88, 3) := dk_162 0 88 (dk_at dksX0_ponds_1 2 rfl rfl)
theorem dX0_ponds_29 : decode cX0_ponds 29 = .ok (.aload_n 0, 1) := dk_42 (dk_at dksX0_ponds_1 5 rfl rfl)
theorem dX0_ponds_30 : decode cX0_ponds 30 = .ok (.getfield 30, 3) := dk_180 0 30 (dk_at dksX0_ponds_1 6 rfl rfl)
theorem dX0_ponds_33 : decode cX0_ponds 33 = .ok (.iload 6, 2) := dk_21 6 (dk_at dksX0_ponds_1 9 rfl rfl)
theorem dX0_ponds_35 : decode cX0_ponds 35 = .ok (.invokevirtual 184, 3) := dk_182 0 184 (dk_at dksX0_ponds_1 11 rfl rfl)
theorem dX0_ponds_38 : decode cX0_ponds 38 = .ok (.ifCond .eq 19, 3) := dk_153 0 19 (dk_at dksX0_ponds_1 14 rfl rfl)
theorem dX0_ponds_41 : decode cX0_ponds 41 = .ok (.aload_n 0, 1) := dk_42 (dk_at dksX0_ponds_1 17 rfl rfl)
theorem dX0_ponds_42 : decode cX0_ponds 42 = .ok (.getfield 30, 3) := dk_180 0 30 (dk_at dksX0_ponds_1 18 rfl rfl)
theorem dX0_ponds_45 : decode cX0_ponds 45 = .ok (.iload 6, 2) := dk_21 6 (dk_at dksX0_ponds_1 21 rfl rfl)
theorem dX0_ponds_47 : decode cX0_ponds 47 = .ok (.invokevirtual 190, 3) := dk_182 0 190 (dk_at dksX0_ponds_2 0 rfl rfl)
theorem dX0_ponds_50 : decode cX0_ponds 50 = .ok (.ifCond .ne 7, 3) := dk_154 0 7 (dk_at dksX0_ponds_2 3 rfl rfl)
theorem dX0_ponds_53 : decode cX0_ponds 53 = .ok (.iconst 1, 1) := dk_4 (dk_at dksX0_ponds_2 6 rfl rfl)
theorem dX0_ponds_54 : decode cX0_ponds 54 = .ok (.goto 4, 3) := dk_167 0 4 (dk_at dksX0_ponds_2 7 rfl rfl)
theorem dX0_ponds_57 : decode cX0_ponds 57 = .ok (.iconst 0, 1) := dk_3 (dk_at dksX0_ponds_2 10 rfl rfl)
theorem dX0_ponds_58 : decode cX0_ponds 58 = .ok (.istore 7, 2) := dk_54 7 (dk_at dksX0_ponds_2 11 rfl rfl)
theorem dX0_ponds_60 : decode cX0_ponds 60 = .ok (.iload 5, 2) := dk_21 5 (dk_at dksX0_ponds_2 13 rfl rfl)
theorem dX0_ponds_62 : decode cX0_ponds 62 = .ok (.iload 7, 2) := dk_21 7 (dk_at dksX0_ponds_2 15 rfl rfl)
theorem dX0_ponds_64 : decode cX0_ponds 64 = .ok (.ifCond .eq 40, 3) := dk_153 0 40 (dk_at dksX0_ponds_2 17 rfl rfl)
theorem dX0_ponds_67 : decode cX0_ponds 67 = .ok (.aload_n 0, 1) := dk_42 (dk_at dksX0_ponds_2 20 rfl rfl)
theorem dX0_ponds_68 : decode cX0_ponds 68 = .ok (.aload_n 0, 1) := dk_42 (dk_at dksX0_ponds_2 21 rfl rfl)
theorem dX0_ponds_69 : decode cX0_ponds 69 = .ok (.getfield 30, 3) := dk_180 0 30 (dk_at dksX0_ponds_3 0 rfl rfl)
theorem dX0_ponds_72 : decode cX0_ponds 72 = .ok (.getfield 149, 3) := dk_180 0 149 (dk_at dksX0_ponds_3 3 rfl rfl)
theorem dX0_ponds_75 : decode cX0_ponds 75 = .ok (.iload_n 3, 1) := dk_29 (dk_at dksX0_ponds_3 6 rfl rfl)
theorem dX0_ponds_76 : decode cX0_ponds 76 = .ok (.aaload, 1) := dk_50 (dk_at dksX0_ponds_3 7 rfl rfl)
theorem dX0_ponds_77 : decode cX0_ponds 77 = .ok (.iload 6, 2) := dk_21 6 (dk_at dksX0_ponds_3 8 rfl rfl)
theorem dX0_ponds_79 : decode cX0_ponds 79 = .ok (.aload 4, 2) := dk_25 4 (dk_at dksX0_ponds_3 10 rfl rfl)
theorem dX0_ponds_81 : decode cX0_ponds 81 = .ok (.aload_n 0, 1) := dk_42 (dk_at dksX0_ponds_3 12 rfl rfl)
theorem dX0_ponds_82 : decode cX0_ponds 82 = .ok (.getfield 30, 3) := dk_180 0 30 (dk_at dksX0_ponds_3 13 rfl rfl)
theorem dX0_ponds_85 : decode cX0_ponds 85 = .ok (.getfield 163, 3) := dk_180 0 163 (dk_at dksX0_ponds_3 16 rfl rfl)
theorem dX0_ponds_88 : decode cX0_ponds 88 = .ok (.iconst 0, 1) := dk_3 (dk_at dksX0_ponds_3 19 rfl rfl)
theorem dX0_ponds_89 : decode cX0_ponds 89 = .ok (.iaload, 1) := dk_46 (dk_at dksX0_ponds_3 20 rfl rfl)
theorem dX0_ponds_90 : decode cX0_ponds 90 = .ok (.invokevirtual 262, 3) := dk_182 1 6 (dk_at dksX0_ponds_3 21 rfl rfl)
theorem dX0_ponds_93 : decode cX0_ponds 93 = .ok (.getfield 275, 3) := dk_180 1 19 (dk_at dksX0_ponds_4 0 rfl rfl)
theorem dX0_ponds_96 : decode cX0_ponds 96 = .ok (.iconst (-1), 1) := dk_2 (dk_at dksX0_ponds_4 3 rfl rfl)
theorem dX0_ponds_97 : decode cX0_ponds 97 = .ok (.if_icmp .eq 7, 3) := dk_159 0 7 (dk_at dksX0_ponds_4 4 rfl rfl)
theorem dX0_ponds_100 : decode cX0_ponds 100 = .ok (.iconst 1, 1) := dk_4 (dk_at dksX0_ponds_4 7 rfl rfl)
theorem dX0_ponds_101 : decode cX0_ponds 101 = .ok (.goto 4, 3) := dk_167 0 4 (dk_at dksX0_ponds_4 8 rfl rfl)
theorem dX0_ponds_104 : decode cX0_ponds 104 = .ok (.iconst 0, 1) := dk_3 (dk_at dksX0_ponds_4 11 rfl rfl)
theorem dX0_ponds_105 : decode cX0_ponds 105 = .ok (.iadd, 1) := dk_96 (dk_at dksX0_ponds_4 12 rfl rfl)
theorem dX0_ponds_106 : decode cX0_ponds 106 = .ok (.istore 5, 2) := dk_54 5 (dk_at dksX0_ponds_4 13 rfl rfl)
theorem dX0_ponds_108 : decode cX0_ponds 108 = .ok (.iinc 6 1, 3) := dk_132 6 1 (dk_at dksX0_ponds_4 15 rfl rfl)
theorem dX0_ponds_111 : decode cX0_ponds 111 = .ok (.goto (-89), 3) := dk_167 255 167 (dk_at dksX0_ponds_4 18 rfl rfl)
theorem dX0_ponds_114 : decode cX0_ponds 114 = .ok (.iload 5, 2) := dk_21 5 (dk_at dksX0_ponds_4 21 rfl rfl)
theorem dX0_ponds_116 : decode cX0_ponds 116 = .ok (.ireturn, 1) := dk_172 (dk_at dksX0_ponds_4 23 rfl rfl)
theorem dX0_ponds_117 : decode cX0_ponds 117 = .ok (.astore 4, 2) := dk_58 4 (dk_at dksX0_ponds_5 0 rfl rfl)
theorem dX0_ponds_119 : decode cX0_ponds 119 = .ok (.aload_n 0, 1) := dk_42 (dk_at dksX0_ponds_5 2 rfl rfl)
theorem dX0_ponds_120 : decode cX0_ponds 120 = .ok (.aload 4, 2) := dk_25 4 (dk_at dksX0_ponds_5 3 rfl rfl)
theorem dX0_ponds_122 : decode cX0_ponds 122 = .ok (.getfield 121, 3) := dk_180 0 121 (dk_at dksX0_ponds_5 5 rfl rfl)
theorem dX0_ponds_125 : decode cX0_ponds 125 = .ok (.invokevirtual 94, 3) := dk_182 0 94 (dk_at dksX0_ponds_5 8 rfl rfl)
theorem dX0_ponds_128 : decode cX0_ponds 128 = .ok (.ireturn, 1) := dk_172 (dk_at dksX0_ponds_5 11 rfl rfl)
abbrev cX0_kinds : ByteArray := prog_1_method_44_code
def yX0_kinds : MethodName := ⟨RX0, "kinds", "(IIIII)I"⟩
def dkwX0_kinds_8 : List UInt8 := [172]
abbrev dktX0_kinds_8 : List UInt8 := dkwX0_kinds_8 ++ []
def dkwX0_kinds_7 : List UInt8 := [3, 128, 54, 10, 132, 11, 1, 167, 255, 164, 21, 10, 172, 58, 6, 42, 25, 6, 180, 0, 121, 182, 0, 94]
abbrev dktX0_kinds_7 : List UInt8 := dkwX0_kinds_7 ++ dktX0_kinds_8
def dkwX0_kinds_6 : List UInt8 := [46, 167, 0, 5, 21, 11, 182, 1, 6, 180, 1, 17, 21, 4, 160, 0, 10, 4, 21, 11, 120, 167, 0, 4]
abbrev dktX0_kinds_6 : List UInt8 := dkwX0_kinds_6 ++ dktX0_kinds_7
def dkwX0_kinds_5 : List UInt8 := [58, 12, 21, 10, 42, 25, 12, 21, 9, 25, 7, 21, 5, 154, 0, 15, 42, 180, 0, 30, 180, 0, 163, 3]
abbrev dktX0_kinds_5 : List UInt8 := dkwX0_kinds_5 ++ dktX0_kinds_6
def dkwX0_kinds_4 : List UInt8 := [162, 0, 82, 21, 5, 154, 0, 17, 21, 11, 29, 25, 8, 180, 0, 172, 184, 1, 22, 167, 0, 5, 25, 8]
abbrev dktX0_kinds_4 : List UInt8 := dkwX0_kinds_4 ++ dktX0_kinds_5
def dkwX0_kinds_3 : List UInt8 := [46, 54, 9, 3, 54, 10, 3, 54, 11, 21, 11, 21, 5, 154, 0, 8, 16, 6, 167, 0, 4, 5]
abbrev dktX0_kinds_3 : List UInt8 := dkwX0_kinds_3 ++ dktX0_kinds_4
def dkwX0_kinds_2 : List UInt8 := [182, 1, 10, 58, 7, 42, 180, 0, 30, 180, 0, 149, 29, 50, 58, 8, 42, 180, 0, 30, 180, 0, 153, 29]
abbrev dktX0_kinds_2 : List UInt8 := dkwX0_kinds_2 ++ dktX0_kinds_3
def dkwX0_kinds_1 : List UInt8 := [21, 5, 3, 4, 184, 0, 73, 153, 0, 7, 4, 167, 0, 4, 3, 54, 6, 42, 21, 6, 27, 28]
abbrev dktX0_kinds_1 : List UInt8 := dkwX0_kinds_1 ++ dktX0_kinds_2
def dkwX0_kinds_0 : List UInt8 := [42, 180, 0, 30, 29, 182, 0, 146, 153, 0, 29, 42, 180, 0, 30, 21, 4, 182, 0, 184, 153, 0, 17]
abbrev dktX0_kinds_0 : List UInt8 := dkwX0_kinds_0 ++ dktX0_kinds_1
theorem dksX0_kinds_0 : cX0_kinds.data.toList.drop 0 = dktX0_kinds_0 := by decide +kernel
theorem dksX0_kinds_1 : cX0_kinds.data.toList.drop 23 = dktX0_kinds_1 := dk_seg dksX0_kinds_0 23 rfl rfl
theorem dksX0_kinds_2 : cX0_kinds.data.toList.drop 45 = dktX0_kinds_2 := dk_seg dksX0_kinds_1 22 rfl rfl
theorem dksX0_kinds_3 : cX0_kinds.data.toList.drop 69 = dktX0_kinds_3 := dk_seg dksX0_kinds_2 24 rfl rfl
theorem dksX0_kinds_4 : cX0_kinds.data.toList.drop 91 = dktX0_kinds_4 := dk_seg dksX0_kinds_3 22 rfl rfl
theorem dksX0_kinds_5 : cX0_kinds.data.toList.drop 115 = dktX0_kinds_5 := dk_seg dksX0_kinds_4 24 rfl rfl
theorem dksX0_kinds_6 : cX0_kinds.data.toList.drop 139 = dktX0_kinds_6 := dk_seg dksX0_kinds_5 24 rfl rfl
theorem dksX0_kinds_7 : cX0_kinds.data.toList.drop 163 = dktX0_kinds_7 := dk_seg dksX0_kinds_6 24 rfl rfl
theorem dksX0_kinds_8 : cX0_kinds.data.toList.drop 187 = dktX0_kinds_8 := dk_seg dksX0_kinds_7 24 rfl rfl
theorem dX0_kinds_0 : decode cX0_kinds 0 = .ok (.aload_n 0, 1) := dk_42 (dk_at dksX0_kinds_0 0 rfl rfl)
theorem dX0_kinds_1 : decode cX0_kinds 1 = .ok (.getfield 30, 3) := dk_180 0 30 (dk_at dksX0_kinds_0 1 rfl rfl)
theorem dX0_kinds_4 : decode cX0_kinds 4 = .ok (.iload_n 3, 1) := dk_29 (dk_at dksX0_kinds_0 4 rfl rfl)
theorem dX0_kinds_5 : decode cX0_kinds 5 = .ok (.invokevirtual 146, 3) := dk_182 0 146 (dk_at dksX0_kinds_0 5 rfl rfl)
theorem dX0_kinds_8 : decode cX0_kinds 8 = .ok (.ifCond .eq 29, 3) := dk_153 0 29 (dk_at dksX0_kinds_0 8 rfl rfl)
theorem dX0_kinds_11 : decode cX0_kinds 11 = .ok (.aload_n 0, 1) := dk_42 (dk_at dksX0_kinds_0 11 rfl rfl)
theorem dX0_kinds_12 : decode cX0_kinds 12 = .ok (.getfield 30, 3) := dk_180 0 30 (dk_at dksX0_kinds_0 12 rfl rfl)
theorem dX0_kinds_15 : decode cX0_kinds 15 = .ok (.iload 4, 2) := dk_21 4 (dk_at dksX0_kinds_0 15 rfl rfl)
theorem dX0_kinds_17 : decode cX0_kinds 17 = .ok (.invokevirtual 184, 3) := dk_182 0 184 (dk_at dksX0_kinds_0 17 rfl rfl)
theorem dX0_kinds_20 : decode cX0_kinds 20 = .ok (.ifCond .eq 17, 3) := dk_153 0 17 (dk_at dksX0_kinds_0 20 rfl rfl)
theorem dX0_kinds_23 : decode cX0_kinds 23 = .ok (.iload 5, 2) := dk_21 5 (dk_at dksX0_kinds_1 0 rfl rfl)
theorem dX0_kinds_25 : decode cX0_kinds 25 = .ok (.iconst 0, 1) := dk_3 (dk_at dksX0_kinds_1 2 rfl rfl)
theorem dX0_kinds_26 : decode cX0_kinds 26 = .ok (.iconst 1, 1) := dk_4 (dk_at dksX0_kinds_1 3 rfl rfl)
theorem dX0_kinds_27 : decode cX0_kinds 27 = .ok (.invokestatic 73, 3) := dk_184 0 73 (dk_at dksX0_kinds_1 4 rfl rfl)
theorem dX0_kinds_30 : decode cX0_kinds 30 = .ok (.ifCond .eq 7, 3) := dk_153 0 7 (dk_at dksX0_kinds_1 7 rfl rfl)
theorem dX0_kinds_33 : decode cX0_kinds 33 = .ok (.iconst 1, 1) := dk_4 (dk_at dksX0_kinds_1 10 rfl rfl)
theorem dX0_kinds_34 : decode cX0_kinds 34 = .ok (.goto 4, 3) := dk_167 0 4 (dk_at dksX0_kinds_1 11 rfl rfl)
theorem dX0_kinds_37 : decode cX0_kinds 37 = .ok (.iconst 0, 1) := dk_3 (dk_at dksX0_kinds_1 14 rfl rfl)
theorem dX0_kinds_38 : decode cX0_kinds 38 = .ok (.istore 6, 2) := dk_54 6 (dk_at dksX0_kinds_1 15 rfl rfl)
theorem dX0_kinds_40 : decode cX0_kinds 40 = .ok (.aload_n 0, 1) := dk_42 (dk_at dksX0_kinds_1 17 rfl rfl)
theorem dX0_kinds_41 : decode cX0_kinds 41 = .ok (.iload 6, 2) := dk_21 6 (dk_at dksX0_kinds_1 18 rfl rfl)
theorem dX0_kinds_43 : decode cX0_kinds 43 = .ok (.iload_n 1, 1) := dk_27 (dk_at dksX0_kinds_1 20 rfl rfl)
theorem dX0_kinds_44 : decode cX0_kinds 44 = .ok (.iload_n 2, 1) := dk_28 (dk_at dksX0_kinds_1 21 rfl rfl)
theorem dX0_kinds_45 : decode cX0_kinds 45 = .ok (.invokevirtual 266, 3) := dk_182 1 10 (dk_at dksX0_kinds_2 0 rfl rfl)
theorem dX0_kinds_48 : decode cX0_kinds 48 = .ok (.astore 7, 2) := dk_58 7 (dk_at dksX0_kinds_2 3 rfl rfl)
theorem dX0_kinds_50 : decode cX0_kinds 50 = .ok (.aload_n 0, 1) := dk_42 (dk_at dksX0_kinds_2 5 rfl rfl)
theorem dX0_kinds_51 : decode cX0_kinds 51 = .ok (.getfield 30, 3) := dk_180 0 30 (dk_at dksX0_kinds_2 6 rfl rfl)
theorem dX0_kinds_54 : decode cX0_kinds 54 = .ok (.getfield 149, 3) := dk_180 0 149 (dk_at dksX0_kinds_2 9 rfl rfl)
theorem dX0_kinds_57 : decode cX0_kinds 57 = .ok (.iload_n 3, 1) := dk_29 (dk_at dksX0_kinds_2 12 rfl rfl)
theorem dX0_kinds_58 : decode cX0_kinds 58 = .ok (.aaload, 1) := dk_50 (dk_at dksX0_kinds_2 13 rfl rfl)
theorem dX0_kinds_59 : decode cX0_kinds 59 = .ok (.astore 8, 2) := dk_58 8 (dk_at dksX0_kinds_2 14 rfl rfl)
theorem dX0_kinds_61 : decode cX0_kinds 61 = .ok (.aload_n 0, 1) := dk_42 (dk_at dksX0_kinds_2 16 rfl rfl)
theorem dX0_kinds_62 : decode cX0_kinds 62 = .ok (.getfield 30, 3) := dk_180 0 30 (dk_at dksX0_kinds_2 17 rfl rfl)
theorem dX0_kinds_65 : decode cX0_kinds 65 = .ok (.getfield 153, 3) := dk_180 0 153 (dk_at dksX0_kinds_2 20 rfl rfl)
theorem dX0_kinds_68 : decode cX0_kinds 68 = .ok (.iload_n 3, 1) := dk_29 (dk_at dksX0_kinds_2 23 rfl rfl)
theorem dX0_kinds_69 : decode cX0_kinds 69 = .ok (.iaload, 1) := dk_46 (dk_at dksX0_kinds_3 0 rfl rfl)
theorem dX0_kinds_70 : decode cX0_kinds 70 = .ok (.istore 9, 2) := dk_54 9 (dk_at dksX0_kinds_3 1 rfl rfl)
theorem dX0_kinds_72 : decode cX0_kinds 72 = .ok (.iconst 0, 1) := dk_3 (dk_at dksX0_kinds_3 3 rfl rfl)
theorem dX0_kinds_73 : decode cX0_kinds 73 = .ok (.istore 10, 2) := dk_54 10 (dk_at dksX0_kinds_3 4 rfl rfl)
theorem dX0_kinds_75 : decode cX0_kinds 75 = .ok (.iconst 0, 1) := dk_3 (dk_at dksX0_kinds_3 6 rfl rfl)
theorem dX0_kinds_76 : decode cX0_kinds 76 = .ok (.istore 11, 2) := dk_54 11 (dk_at dksX0_kinds_3 7 rfl rfl)
theorem dX0_kinds_78 : decode cX0_kinds 78 = .ok (.iload 11, 2) := dk_21 11 (dk_at dksX0_kinds_3 9 rfl rfl)
theorem dX0_kinds_80 : decode cX0_kinds 80 = .ok (.iload 5, 2) := dk_21 5 (dk_at dksX0_kinds_3 11 rfl rfl)
theorem dX0_kinds_82 : decode cX0_kinds 82 = .ok (.ifCond .ne 8, 3) := dk_154 0 8 (dk_at dksX0_kinds_3 13 rfl rfl)
theorem dX0_kinds_85 : decode cX0_kinds 85 = .ok (.bipush 6, 2) := dk_16 6 (dk_at dksX0_kinds_3 16 rfl rfl)
theorem dX0_kinds_87 : decode cX0_kinds 87 = .ok (.goto 4, 3) := dk_167 0 4 (dk_at dksX0_kinds_3 18 rfl rfl)
theorem dX0_kinds_90 : decode cX0_kinds 90 = .ok (.iconst 2, 1) := dk_5 (dk_at dksX0_kinds_3 21 rfl rfl)
theorem dX0_kinds_91 : decode cX0_kinds 91 = .ok (.if_icmp .ge 82, 3) := dk_162 0 82 (dk_at dksX0_kinds_4 0 rfl rfl)
theorem dX0_kinds_94 : decode cX0_kinds 94 = .ok (.iload 5, 2) := dk_21 5 (dk_at dksX0_kinds_4 3 rfl rfl)
theorem dX0_kinds_96 : decode cX0_kinds 96 = .ok (.ifCond .ne 17, 3) := dk_154 0 17 (dk_at dksX0_kinds_4 5 rfl rfl)
theorem dX0_kinds_99 : decode cX0_kinds 99 = .ok (.iload 11, 2) := dk_21 11 (dk_at dksX0_kinds_4 8 rfl rfl)
theorem dX0_kinds_101 : decode cX0_kinds 101 = .ok (.iload_n 3, 1) := dk_29 (dk_at dksX0_kinds_4 10 rfl rfl)
theorem dX0_kinds_102 : decode cX0_kinds 102 = .ok (.aload 8, 2) := dk_25 8 (dk_at dksX0_kinds_4 11 rfl rfl)
theorem dX0_kinds_104 : decode cX0_kinds 104 = .ok (.getfield 172, 3) := dk_180 0 172 (dk_at dksX0_kinds_4 13 rfl rfl)
theorem dX0_kinds_107 : decode cX0_kinds 107 = .ok (.invokestatic 278, 3) := dk_184 1 22 (dk_at dksX0_kinds_4 16 rfl rfl)
theorem dX0_kinds_110 : decode cX0_kinds 110 = .ok (.goto 5, 3) := dk_167 0 5 (dk_at dksX0_kinds_4 19 rfl rfl)
theorem dX0_kinds_113 : decode cX0_kinds 113 = .ok (.aload 8, 2) := dk_25 8 (dk_at dksX0_kinds_4 22 rfl rfl)
theorem dX0_kinds_115 : decode cX0_kinds 115 = .ok (.astore 12, 2) := dk_58 12 (dk_at dksX0_kinds_5 0 rfl rfl)
theorem dX0_kinds_117 : decode cX0_kinds 117 = .ok (.iload 10, 2) := dk_21 10 (dk_at dksX0_kinds_5 2 rfl rfl)
theorem dX0_kinds_119 : decode cX0_kinds 119 = .ok (.aload_n 0, 1) := dk_42 (dk_at dksX0_kinds_5 4 rfl rfl)
theorem dX0_kinds_120 : decode cX0_kinds 120 = .ok (.aload 12, 2) := dk_25 12 (dk_at dksX0_kinds_5 5 rfl rfl)
theorem dX0_kinds_122 : decode cX0_kinds 122 = .ok (.iload 9, 2) := dk_21 9 (dk_at dksX0_kinds_5 7 rfl rfl)
theorem dX0_kinds_124 : decode cX0_kinds 124 = .ok (.aload 7, 2) := dk_25 7 (dk_at dksX0_kinds_5 9 rfl rfl)
theorem dX0_kinds_126 : decode cX0_kinds 126 = .ok (.iload 5, 2) := dk_21 5 (dk_at dksX0_kinds_5 11 rfl rfl)
theorem dX0_kinds_128 : decode cX0_kinds 128 = .ok (.ifCond .ne 15, 3) := dk_154 0 15 (dk_at dksX0_kinds_5 13 rfl rfl)
theorem dX0_kinds_131 : decode cX0_kinds 131 = .ok (.aload_n 0, 1) := dk_42 (dk_at dksX0_kinds_5 16 rfl rfl)
theorem dX0_kinds_132 : decode cX0_kinds 132 = .ok (.getfield 30, 3) := dk_180 0 30 (dk_at dksX0_kinds_5 17 rfl rfl)
theorem dX0_kinds_135 : decode cX0_kinds 135 = .ok (.getfield 163, 3) := dk_180 0 163 (dk_at dksX0_kinds_5 20 rfl rfl)
theorem dX0_kinds_138 : decode cX0_kinds 138 = .ok (.iconst 0, 1) := dk_3 (dk_at dksX0_kinds_5 23 rfl rfl)
theorem dX0_kinds_139 : decode cX0_kinds 139 = .ok (.iaload, 1) := dk_46 (dk_at dksX0_kinds_6 0 rfl rfl)
theorem dX0_kinds_140 : decode cX0_kinds 140 = .ok (.goto 5, 3) := dk_167 0 5 (dk_at dksX0_kinds_6 1 rfl rfl)
theorem dX0_kinds_143 : decode cX0_kinds 143 = .ok (.iload 11, 2) := dk_21 11 (dk_at dksX0_kinds_6 4 rfl rfl)
theorem dX0_kinds_145 : decode cX0_kinds 145 = .ok (.invokevirtual 262, 3) := dk_182 1 6 (dk_at dksX0_kinds_6 6 rfl rfl)
theorem dX0_kinds_148 : decode cX0_kinds 148 = .ok (.getfield 273, 3) := dk_180 1 17 (dk_at dksX0_kinds_6 9 rfl rfl)
theorem dX0_kinds_151 : decode cX0_kinds 151 = .ok (.iload 4, 2) := dk_21 4 (dk_at dksX0_kinds_6 12 rfl rfl)
theorem dX0_kinds_153 : decode cX0_kinds 153 = .ok (.if_icmp .ne 10, 3) := dk_160 0 10 (dk_at dksX0_kinds_6 14 rfl rfl)
theorem dX0_kinds_156 : decode cX0_kinds 156 = .ok (.iconst 1, 1) := dk_4 (dk_at dksX0_kinds_6 17 rfl rfl)
theorem dX0_kinds_157 : decode cX0_kinds 157 = .ok (.iload 11, 2) := dk_21 11 (dk_at dksX0_kinds_6 18 rfl rfl)
theorem dX0_kinds_159 : decode cX0_kinds 159 = .ok (.ishl, 1) := dk_120 (dk_at dksX0_kinds_6 20 rfl rfl)
theorem dX0_kinds_160 : decode cX0_kinds 160 = .ok (.goto 4, 3) := dk_167 0 4 (dk_at dksX0_kinds_6 21 rfl rfl)
theorem dX0_kinds_163 : decode cX0_kinds 163 = .ok (.iconst 0, 1) := dk_3 (dk_at dksX0_kinds_7 0 rfl rfl)
theorem dX0_kinds_164 : decode cX0_kinds 164 = .ok (.ior, 1) := dk_128 (dk_at dksX0_kinds_7 1 rfl rfl)
theorem dX0_kinds_165 : decode cX0_kinds 165 = .ok (.istore 10, 2) := dk_54 10 (dk_at dksX0_kinds_7 2 rfl rfl)
theorem dX0_kinds_167 : decode cX0_kinds 167 = .ok (.iinc 11 1, 3) := dk_132 11 1 (dk_at dksX0_kinds_7 4 rfl rfl)
theorem dX0_kinds_170 : decode cX0_kinds 170 = .ok (.goto (-92), 3) := dk_167 255 164 (dk_at dksX0_kinds_7 7 rfl rfl)
theorem dX0_kinds_173 : decode cX0_kinds 173 = .ok (.iload 10, 2) := dk_21 10 (dk_at dksX0_kinds_7 10 rfl rfl)
theorem dX0_kinds_175 : decode cX0_kinds 175 = .ok (.ireturn, 1) := dk_172 (dk_at dksX0_kinds_7 12 rfl rfl)
theorem dX0_kinds_176 : decode cX0_kinds 176 = .ok (.astore 6, 2) := dk_58 6 (dk_at dksX0_kinds_7 13 rfl rfl)
theorem dX0_kinds_178 : decode cX0_kinds 178 = .ok (.aload_n 0, 1) := dk_42 (dk_at dksX0_kinds_7 15 rfl rfl)
theorem dX0_kinds_179 : decode cX0_kinds 179 = .ok (.aload 6, 2) := dk_25 6 (dk_at dksX0_kinds_7 16 rfl rfl)
theorem dX0_kinds_181 : decode cX0_kinds 181 = .ok (.getfield 121, 3) := dk_180 0 121 (dk_at dksX0_kinds_7 18 rfl rfl)
theorem dX0_kinds_184 : decode cX0_kinds 184 = .ok (.invokevirtual 94, 3) := dk_182 0 94 (dk_at dksX0_kinds_7 21 rfl rfl)
theorem dX0_kinds_187 : decode cX0_kinds 187 = .ok (.ireturn, 1) := dk_172 (dk_at dksX0_kinds_8 0 rfl rfl)
abbrev cX0_who : ByteArray := prog_1_method_45_code
def yX0_who : MethodName := ⟨RX0, "who", "(III)I"⟩
def dkwX0_who_3 : List UInt8 := [58, 4, 42, 25, 4, 180, 0, 121, 182, 0, 94, 172]
abbrev dktX0_who_3 : List UInt8 := dkwX0_who_3 ++ []
def dkwX0_who_2 : List UInt8 := [160, 0, 10, 4, 21, 6, 120, 167, 0, 4, 3, 128, 54, 5, 132, 6, 1, 167, 255, 213, 21, 5, 172]
abbrev dktX0_who_2 : List UInt8 := dkwX0_who_2 ++ dktX0_who_3
def dkwX0_who_1 : List UInt8 := [42, 180, 0, 30, 180, 0, 200, 162, 0, 37, 21, 5, 42, 21, 6, 25, 4, 182, 1, 13, 180, 1, 17, 29]
abbrev dktX0_who_1 : List UInt8 := dkwX0_who_1 ++ dktX0_who_2
def dkwX0_who_0 : List UInt8 := [42, 42, 180, 0, 30, 29, 182, 0, 184, 27, 28, 182, 1, 10, 58, 4, 3, 54, 5, 3, 54, 6, 21, 6]
abbrev dktX0_who_0 : List UInt8 := dkwX0_who_0 ++ dktX0_who_1
theorem dksX0_who_0 : cX0_who.data.toList.drop 0 = dktX0_who_0 := by decide +kernel
theorem dksX0_who_1 : cX0_who.data.toList.drop 24 = dktX0_who_1 := dk_seg dksX0_who_0 24 rfl rfl
theorem dksX0_who_2 : cX0_who.data.toList.drop 48 = dktX0_who_2 := dk_seg dksX0_who_1 24 rfl rfl
theorem dksX0_who_3 : cX0_who.data.toList.drop 71 = dktX0_who_3 := dk_seg dksX0_who_2 23 rfl rfl
theorem dX0_who_0 : decode cX0_who 0 = .ok (.aload_n 0, 1) := dk_42 (dk_at dksX0_who_0 0 rfl rfl)
theorem dX0_who_1 : decode cX0_who 1 = .ok (.aload_n 0, 1) := dk_42 (dk_at dksX0_who_0 1 rfl rfl)
theorem dX0_who_2 : decode cX0_who 2 = .ok (.getfield 30, 3) := dk_180 0 30 (dk_at dksX0_who_0 2 rfl rfl)
theorem dX0_who_5 : decode cX0_who 5 = .ok (.iload_n 3, 1) := dk_29 (dk_at dksX0_who_0 5 rfl rfl)
theorem dX0_who_6 : decode cX0_who 6 = .ok (.invokevirtual 184, 3) := dk_182 0 184 (dk_at dksX0_who_0 6 rfl rfl)
theorem dX0_who_9 : decode cX0_who 9 = .ok (.iload_n 1, 1) := dk_27 (dk_at dksX0_who_0 9 rfl rfl)
theorem dX0_who_10 : decode cX0_who 10 = .ok (.iload_n 2, 1) := dk_28 (dk_at dksX0_who_0 10 rfl rfl)
theorem dX0_who_11 : decode cX0_who 11 = .ok (.invokevirtual 266, 3) := dk_182 1 10 (dk_at dksX0_who_0 11 rfl rfl)
theorem dX0_who_14 : decode cX0_who 14 = .ok (.astore 4, 2) := dk_58 4 (dk_at dksX0_who_0 14 rfl rfl)
theorem dX0_who_16 : decode cX0_who 16 = .ok (.iconst 0, 1) := dk_3 (dk_at dksX0_who_0 16 rfl rfl)
theorem dX0_who_17 : decode cX0_who 17 = .ok (.istore 5, 2) := dk_54 5 (dk_at dksX0_who_0 17 rfl rfl)
theorem dX0_who_19 : decode cX0_who 19 = .ok (.iconst 0, 1) := dk_3 (dk_at dksX0_who_0 19 rfl rfl)
theorem dX0_who_20 : decode cX0_who 20 = .ok (.istore 6, 2) := dk_54 6 (dk_at dksX0_who_0 20 rfl rfl)
theorem dX0_who_22 : decode cX0_who 22 = .ok (.iload 6, 2) := dk_21 6 (dk_at dksX0_who_0 22 rfl rfl)
theorem dX0_who_24 : decode cX0_who 24 = .ok (.aload_n 0, 1) := dk_42 (dk_at dksX0_who_1 0 rfl rfl)
theorem dX0_who_25 : decode cX0_who 25 = .ok (.getfield 30, 3) := dk_180 0 30 (dk_at dksX0_who_1 1 rfl rfl)
theorem dX0_who_28 : decode cX0_who 28 = .ok (.getfield 200, 3) := dk_180 0 200 (dk_at dksX0_who_1 4 rfl rfl)
theorem dX0_who_31 : decode cX0_who 31 = .ok (.if_icmp .ge 37, 3) := dk_162 0 37 (dk_at dksX0_who_1 7 rfl rfl)
theorem dX0_who_34 : decode cX0_who 34 = .ok (.iload 5, 2) := dk_21 5 (dk_at dksX0_who_1 10 rfl rfl)
theorem dX0_who_36 : decode cX0_who 36 = .ok (.aload_n 0, 1) := dk_42 (dk_at dksX0_who_1 12 rfl rfl)
theorem dX0_who_37 : decode cX0_who 37 = .ok (.iload 6, 2) := dk_21 6 (dk_at dksX0_who_1 13 rfl rfl)
theorem dX0_who_39 : decode cX0_who 39 = .ok (.aload 4, 2) := dk_25 4 (dk_at dksX0_who_1 15 rfl rfl)
theorem dX0_who_41 : decode cX0_who 41 = .ok (.invokevirtual 269, 3) := dk_182 1 13 (dk_at dksX0_who_1 17 rfl rfl)
theorem dX0_who_44 : decode cX0_who 44 = .ok (.getfield 273, 3) := dk_180 1 17 (dk_at dksX0_who_1 20 rfl rfl)
theorem dX0_who_47 : decode cX0_who 47 = .ok (.iload_n 3, 1) := dk_29 (dk_at dksX0_who_1 23 rfl rfl)
theorem dX0_who_48 : decode cX0_who 48 = .ok (.if_icmp .ne 10, 3) := dk_160 0 10 (dk_at dksX0_who_2 0 rfl rfl)
theorem dX0_who_51 : decode cX0_who 51 = .ok (.iconst 1, 1) := dk_4 (dk_at dksX0_who_2 3 rfl rfl)
theorem dX0_who_52 : decode cX0_who 52 = .ok (.iload 6, 2) := dk_21 6 (dk_at dksX0_who_2 4 rfl rfl)
theorem dX0_who_54 : decode cX0_who 54 = .ok (.ishl, 1) := dk_120 (dk_at dksX0_who_2 6 rfl rfl)
theorem dX0_who_55 : decode cX0_who 55 = .ok (.goto 4, 3) := dk_167 0 4 (dk_at dksX0_who_2 7 rfl rfl)
theorem dX0_who_58 : decode cX0_who 58 = .ok (.iconst 0, 1) := dk_3 (dk_at dksX0_who_2 10 rfl rfl)
theorem dX0_who_59 : decode cX0_who 59 = .ok (.ior, 1) := dk_128 (dk_at dksX0_who_2 11 rfl rfl)
theorem dX0_who_60 : decode cX0_who 60 = .ok (.istore 5, 2) := dk_54 5 (dk_at dksX0_who_2 12 rfl rfl)
theorem dX0_who_62 : decode cX0_who 62 = .ok (.iinc 6 1, 3) := dk_132 6 1 (dk_at dksX0_who_2 14 rfl rfl)
theorem dX0_who_65 : decode cX0_who 65 = .ok (.goto (-43), 3) := dk_167 255 213 (dk_at dksX0_who_2 17 rfl rfl)
theorem dX0_who_68 : decode cX0_who 68 = .ok (.iload 5, 2) := dk_21 5 (dk_at dksX0_who_2 20 rfl rfl)
theorem dX0_who_70 : decode cX0_who 70 = .ok (.ireturn, 1) := dk_172 (dk_at dksX0_who_2 22 rfl rfl)
theorem dX0_who_71 : decode cX0_who 71 = .ok (.astore 4, 2) := dk_58 4 (dk_at dksX0_who_3 0 rfl rfl)
theorem dX0_who_73 : decode cX0_who 73 = .ok (.aload_n 0, 1) := dk_42 (dk_at dksX0_who_3 2 rfl rfl)
theorem dX0_who_74 : decode cX0_who 74 = .ok (.aload 4, 2) := dk_25 4 (dk_at dksX0_who_3 3 rfl rfl)
theorem dX0_who_76 : decode cX0_who 76 = .ok (.getfield 121, 3) := dk_180 0 121 (dk_at dksX0_who_3 5 rfl rfl)
theorem dX0_who_79 : decode cX0_who 79 = .ok (.invokevirtual 94, 3) := dk_182 0 94 (dk_at dksX0_who_3 8 rfl rfl)
theorem dX0_who_82 : decode cX0_who 82 = .ok (.ireturn, 1) := dk_172 (dk_at dksX0_who_3 11 rfl rfl)
abbrev cX0_crowd : ByteArray := prog_1_method_46_code
def yX0_crowd : MethodName := ⟨RX0, "crowd", "(III)I"⟩
def dkwX0_crowd_6 : List UInt8 := [172, 58, 4, 42, 25, 4, 180, 0, 121, 182, 0, 94, 172]
abbrev dktX0_crowd_6 : List UInt8 := dkwX0_crowd_6 ++ []
def dkwX0_crowd_5 : List UInt8 := [54, 5, 132, 6, 1, 167, 255, 220, 29, 154, 0, 8, 21, 5, 167, 0, 10, 42, 180, 0, 57, 21, 5, 46]
abbrev dktX0_crowd_5 : List UInt8 := dkwX0_crowd_5 ++ dktX0_crowd_6
def dkwX0_crowd_4 : List UInt8 := [42, 180, 0, 57, 21, 6, 46, 42, 180, 0, 57, 21, 5, 46, 164, 0, 8, 21, 6, 167, 0, 5, 21, 5]
abbrev dktX0_crowd_4 : List UInt8 := dkwX0_crowd_4 ++ dktX0_crowd_5
def dkwX0_crowd_3 : List UInt8 := [92, 46, 4, 96, 79, 132, 5, 1, 167, 255, 221, 3, 54, 5, 4, 54, 6, 21, 6, 16, 70, 162, 0, 35]
abbrev dktX0_crowd_3 : List UInt8 := dkwX0_crowd_3 ++ dktX0_crowd_4
def dkwX0_crowd_2 : List UInt8 := [180, 0, 30, 180, 0, 200, 162, 0, 29, 42, 180, 0, 57, 42, 21, 5, 25, 4, 182, 1, 13, 180, 1, 17]
abbrev dktX0_crowd_2 : List UInt8 := dkwX0_crowd_2 ++ dktX0_crowd_3
def dkwX0_crowd_1 : List UInt8 := [187, 0, 108, 89, 16, 251, 183, 0, 110, 191, 42, 180, 0, 57, 3, 184, 1, 26, 3, 54, 5, 21, 5, 42]
abbrev dktX0_crowd_1 : List UInt8 := dkwX0_crowd_1 ++ dktX0_crowd_2
def dkwX0_crowd_0 : List UInt8 := [42, 29, 3, 4, 184, 0, 73, 27, 28, 182, 1, 10, 58, 4, 42, 180, 0, 30, 180, 0, 200, 154, 0, 13]
abbrev dktX0_crowd_0 : List UInt8 := dkwX0_crowd_0 ++ dktX0_crowd_1
theorem dksX0_crowd_0 : cX0_crowd.data.toList.drop 0 = dktX0_crowd_0 := by decide +kernel
theorem dksX0_crowd_1 : cX0_crowd.data.toList.drop 24 = dktX0_crowd_1 := dk_seg dksX0_crowd_0 24 rfl rfl
theorem dksX0_crowd_2 : cX0_crowd.data.toList.drop 48 = dktX0_crowd_2 := dk_seg dksX0_crowd_1 24 rfl rfl
theorem dksX0_crowd_3 : cX0_crowd.data.toList.drop 72 = dktX0_crowd_3 := dk_seg dksX0_crowd_2 24 rfl rfl
theorem dksX0_crowd_4 : cX0_crowd.data.toList.drop 96 = dktX0_crowd_4 := dk_seg dksX0_crowd_3 24 rfl rfl
theorem dksX0_crowd_5 : cX0_crowd.data.toList.drop 120 = dktX0_crowd_5 := dk_seg dksX0_crowd_4 24 rfl rfl
theorem dksX0_crowd_6 : cX0_crowd.data.toList.drop 144 = dktX0_crowd_6 := dk_seg dksX0_crowd_5 24 rfl rfl
theorem dX0_crowd_0 : decode cX0_crowd 0 = .ok (.aload_n 0, 1) := dk_42 (dk_at dksX0_crowd_0 0 rfl rfl)
theorem dX0_crowd_1 : decode cX0_crowd 1 = .ok (.iload_n 3, 1) := dk_29 (dk_at dksX0_crowd_0 1 rfl rfl)
theorem dX0_crowd_2 : decode cX0_crowd 2 = .ok (.iconst 0, 1) := dk_3 (dk_at dksX0_crowd_0 2 rfl rfl)
theorem dX0_crowd_3 : decode cX0_crowd 3 = .ok (.iconst 1, 1) := dk_4 (dk_at dksX0_crowd_0 3 rfl rfl)
theorem dX0_crowd_4 : decode cX0_crowd 4 = .ok (.invokestatic 73, 3) := dk_184 0 73 (dk_at dksX0_crowd_0 4 rfl rfl)
theorem dX0_crowd_7 : decode cX0_crowd 7 = .ok (.iload_n 1, 1) := dk_27 (dk_at dksX0_crowd_0 7 rfl rfl)
theorem dX0_crowd_8 : decode cX0_crowd 8 = .ok (.iload_n 2, 1) := dk_28 (dk_at dksX0_crowd_0 8 rfl rfl)
theorem dX0_crowd_9 : decode cX0_crowd 9 = .ok (.invokevirtual 266, 3) := dk_182 1 10 (dk_at dksX0_crowd_0 9 rfl rfl)
theorem dX0_crowd_12 : decode cX0_crowd 12 = .ok (.astore 4, 2) := dk_58 4 (dk_at dksX0_crowd_0 12 rfl rfl)
theorem dX0_crowd_14 : decode cX0_crowd 14 = .ok (.aload_n 0, 1) := dk_42 (dk_at dksX0_crowd_0 14 rfl rfl)
theorem dX0_crowd_15 : decode cX0_crowd 15 = .ok (.getfield 30, 3) := dk_180 0 30 (dk_at dksX0_crowd_0 15 rfl rfl)
theorem dX0_crowd_18 : decode cX0_crowd 18 = .ok (.getfield 200, 3) := dk_180 0 200 (dk_at dksX0_crowd_0 18 rfl rfl)
theorem dX0_crowd_21 : decode cX0_crowd 21 = .ok (.ifCond .ne 13, 3) := dk_154 0 13 (dk_at dksX0_crowd_0 21 rfl rfl)
theorem dX0_crowd_24 : decode cX0_crowd 24 = .ok (.new 108, 3) := dk_187 0 108 (dk_at dksX0_crowd_1 0 rfl rfl)
theorem dX0_crowd_27 : decode cX0_crowd 27 = .ok (.dup, 1) := dk_89 (dk_at dksX0_crowd_1 3 rfl rfl)
theorem dX0_crowd_28 : decode cX0_crowd 28 = .ok (.bipush (-5), 2) := dk_16 251 (dk_at dksX0_crowd_1 4 rfl rfl)
theorem dX0_crowd_30 : decode cX0_crowd 30 = .ok (.invokespecial 110, 3) := dk_183 0 110 (dk_at dksX0_crowd_1 6 rfl rfl)
theorem dX0_crowd_33 : decode cX0_crowd 33 = .ok (.athrow, 1) := dk_191 (dk_at dksX0_crowd_1 9 rfl rfl)
theorem dX0_crowd_34 : decode cX0_crowd 34 = .ok (.aload_n 0, 1) := dk_42 (dk_at dksX0_crowd_1 10 rfl rfl)
theorem dX0_crowd_35 : decode cX0_crowd 35 = .ok (.getfield 57, 3) := dk_180 0 57 (dk_at dksX0_crowd_1 11 rfl rfl)
theorem dX0_crowd_38 : decode cX0_crowd 38 = .ok (.iconst 0, 1) := dk_3 (dk_at dksX0_crowd_1 14 rfl rfl)
theorem dX0_crowd_39 : decode cX0_crowd 39 = .ok (.invokestatic 282, 3) := dk_184 1 26 (dk_at dksX0_crowd_1 15 rfl rfl)
theorem dX0_crowd_42 : decode cX0_crowd 42 = .ok (.iconst 0, 1) := dk_3 (dk_at dksX0_crowd_1 18 rfl rfl)
theorem dX0_crowd_43 : decode cX0_crowd 43 = .ok (.istore 5, 2) := dk_54 5 (dk_at dksX0_crowd_1 19 rfl rfl)
theorem dX0_crowd_45 : decode cX0_crowd 45 = .ok (.iload 5, 2) := dk_21 5 (dk_at dksX0_crowd_1 21 rfl rfl)
theorem dX0_crowd_47 : decode cX0_crowd 47 = .ok (.aload_n 0, 1) := dk_42 (dk_at dksX0_crowd_1 23 rfl rfl)
theorem dX0_crowd_48 : decode cX0_crowd 48 = .ok (.getfield 30, 3) := dk_180 0 30 (dk_at dksX0_crowd_2 0 rfl rfl)
theorem dX0_crowd_51 : decode cX0_crowd 51 = .ok (.getfield 200, 3) := dk_180 0 200 (dk_at dksX0_crowd_2 3 rfl rfl)
theorem dX0_crowd_54 : decode cX0_crowd 54 = .ok (.if_icmp .ge 29, 3) := dk_162 0 29 (dk_at dksX0_crowd_2 6 rfl rfl)
theorem dX0_crowd_57 : decode cX0_crowd 57 = .ok (.aload_n 0, 1) := dk_42 (dk_at dksX0_crowd_2 9 rfl rfl)
theorem dX0_crowd_58 : decode cX0_crowd 58 = .ok (.getfield 57, 3) := dk_180 0 57 (dk_at dksX0_crowd_2 10 rfl rfl)
theorem dX0_crowd_61 : decode cX0_crowd 61 = .ok (.aload_n 0, 1) := dk_42 (dk_at dksX0_crowd_2 13 rfl rfl)
theorem dX0_crowd_62 : decode cX0_crowd 62 = .ok (.iload 5, 2) := dk_21 5 (dk_at dksX0_crowd_2 14 rfl rfl)
theorem dX0_crowd_64 : decode cX0_crowd 64 = .ok (.aload 4, 2) := dk_25 4 (dk_at dksX0_crowd_2 16 rfl rfl)
theorem dX0_crowd_66 : decode cX0_crowd 66 = .ok (.invokevirtual 269, 3) := dk_182 1 13 (dk_at dksX0_crowd_2 18 rfl rfl)
theorem dX0_crowd_69 : decode cX0_crowd 69 = .ok (.getfield 273, 3) := dk_180 1 17 (dk_at dksX0_crowd_2 21 rfl rfl)
theorem dX0_crowd_72 : decode cX0_crowd 72 = .ok (.dup2, 1) := dk_92 (dk_at dksX0_crowd_3 0 rfl rfl)
theorem dX0_crowd_73 : decode cX0_crowd 73 = .ok (.iaload, 1) := dk_46 (dk_at dksX0_crowd_3 1 rfl rfl)
theorem dX0_crowd_74 : decode cX0_crowd 74 = .ok (.iconst 1, 1) := dk_4 (dk_at dksX0_crowd_3 2 rfl rfl)
theorem dX0_crowd_75 : decode cX0_crowd 75 = .ok (.iadd, 1) := dk_96 (dk_at dksX0_crowd_3 3 rfl rfl)
theorem dX0_crowd_76 : decode cX0_crowd 76 = .ok (.iastore, 1) := dk_79 (dk_at dksX0_crowd_3 4 rfl rfl)
theorem dX0_crowd_77 : decode cX0_crowd 77 = .ok (.iinc 5 1, 3) := dk_132 5 1 (dk_at dksX0_crowd_3 5 rfl rfl)
theorem dX0_crowd_80 : decode cX0_crowd 80 = .ok (.goto (-35), 3) := dk_167 255 221 (dk_at dksX0_crowd_3 8 rfl rfl)
theorem dX0_crowd_83 : decode cX0_crowd 83 = .ok (.iconst 0, 1) := dk_3 (dk_at dksX0_crowd_3 11 rfl rfl)
theorem dX0_crowd_84 : decode cX0_crowd 84 = .ok (.istore 5, 2) := dk_54 5 (dk_at dksX0_crowd_3 12 rfl rfl)
theorem dX0_crowd_86 : decode cX0_crowd 86 = .ok (.iconst 1, 1) := dk_4 (dk_at dksX0_crowd_3 14 rfl rfl)
theorem dX0_crowd_87 : decode cX0_crowd 87 = .ok (.istore 6, 2) := dk_54 6 (dk_at dksX0_crowd_3 15 rfl rfl)
theorem dX0_crowd_89 : decode cX0_crowd 89 = .ok (.iload 6, 2) := dk_21 6 (dk_at dksX0_crowd_3 17 rfl rfl)
theorem dX0_crowd_91 : decode cX0_crowd 91 = .ok (.bipush 70, 2) := dk_16 70 (dk_at dksX0_crowd_3 19 rfl rfl)
theorem dX0_crowd_93 : decode cX0_crowd 93 = .ok (.if_icmp .ge 35, 3) := dk_162 0 35 (dk_at dksX0_crowd_3 21 rfl rfl)
theorem dX0_crowd_96 : decode cX0_crowd 96 = .ok (.aload_n 0, 1) := dk_42 (dk_at dksX0_crowd_4 0 rfl rfl)
theorem dX0_crowd_97 : decode cX0_crowd 97 = .ok (.getfield 57, 3) := dk_180 0 57 (dk_at dksX0_crowd_4 1 rfl rfl)
theorem dX0_crowd_100 : decode cX0_crowd 100 = .ok (.iload 6, 2) := dk_21 6 (dk_at dksX0_crowd_4 4 rfl rfl)
theorem dX0_crowd_102 : decode cX0_crowd 102 = .ok (.iaload, 1) := dk_46 (dk_at dksX0_crowd_4 6 rfl rfl)
theorem dX0_crowd_103 : decode cX0_crowd 103 = .ok (.aload_n 0, 1) := dk_42 (dk_at dksX0_crowd_4 7 rfl rfl)
theorem dX0_crowd_104 : decode cX0_crowd 104 = .ok (.getfield 57, 3) := dk_180 0 57 (dk_at dksX0_crowd_4 8 rfl rfl)
theorem dX0_crowd_107 : decode cX0_crowd 107 = .ok (.iload 5, 2) := dk_21 5 (dk_at dksX0_crowd_4 11 rfl rfl)
theorem dX0_crowd_109 : decode cX0_crowd 109 = .ok (.iaload, 1) := dk_46 (dk_at dksX0_crowd_4 13 rfl rfl)
theorem dX0_crowd_110 : decode cX0_crowd 110 = .ok (.if_icmp .le 8, 3) := dk_164 0 8 (dk_at dksX0_crowd_4 14 rfl rfl)
theorem dX0_crowd_113 : decode cX0_crowd 113 = .ok (.iload 6, 2) := dk_21 6 (dk_at dksX0_crowd_4 17 rfl rfl)
theorem dX0_crowd_115 : decode cX0_crowd 115 = .ok (.goto 5, 3) := dk_167 0 5 (dk_at dksX0_crowd_4 19 rfl rfl)
theorem dX0_crowd_118 : decode cX0_crowd 118 = .ok (.iload 5, 2) := dk_21 5 (dk_at dksX0_crowd_4 22 rfl rfl)
theorem dX0_crowd_120 : decode cX0_crowd 120 = .ok (.istore 5, 2) := dk_54 5 (dk_at dksX0_crowd_5 0 rfl rfl)
theorem dX0_crowd_122 : decode cX0_crowd 122 = .ok (.iinc 6 1, 3) := dk_132 6 1 (dk_at dksX0_crowd_5 2 rfl rfl)
theorem dX0_crowd_125 : decode cX0_crowd 125 = .ok (.goto (-36), 3) := dk_167 255 220 (dk_at dksX0_crowd_5 5 rfl rfl)
theorem dX0_crowd_128 : decode cX0_crowd 128 = .ok (.iload_n 3, 1) := dk_29 (dk_at dksX0_crowd_5 8 rfl rfl)
theorem dX0_crowd_129 : decode cX0_crowd 129 = .ok (.ifCond .ne 8, 3) := dk_154 0 8 (dk_at dksX0_crowd_5 9 rfl rfl)
theorem dX0_crowd_132 : decode cX0_crowd 132 = .ok (.iload 5, 2) := dk_21 5 (dk_at dksX0_crowd_5 12 rfl rfl)
theorem dX0_crowd_134 : decode cX0_crowd 134 = .ok (.goto 10, 3) := dk_167 0 10 (dk_at dksX0_crowd_5 14 rfl rfl)
theorem dX0_crowd_137 : decode cX0_crowd 137 = .ok (.aload_n 0, 1) := dk_42 (dk_at dksX0_crowd_5 17 rfl rfl)
theorem dX0_crowd_138 : decode cX0_crowd 138 = .ok (.getfield 57, 3) := dk_180 0 57 (dk_at dksX0_crowd_5 18 rfl rfl)
theorem dX0_crowd_141 : decode cX0_crowd 141 = .ok (.iload 5, 2) := dk_21 5 (dk_at dksX0_crowd_5 21 rfl rfl)
theorem dX0_crowd_143 : decode cX0_crowd 143 = .ok (.iaload, 1) := dk_46 (dk_at dksX0_crowd_5 23 rfl rfl)
theorem dX0_crowd_144 : decode cX0_crowd 144 = .ok (.ireturn, 1) := dk_172 (dk_at dksX0_crowd_6 0 rfl rfl)
theorem dX0_crowd_145 : decode cX0_crowd 145 = .ok (.astore 4, 2) := dk_58 4 (dk_at dksX0_crowd_6 1 rfl rfl)
theorem dX0_crowd_147 : decode cX0_crowd 147 = .ok (.aload_n 0, 1) := dk_42 (dk_at dksX0_crowd_6 3 rfl rfl)
theorem dX0_crowd_148 : decode cX0_crowd 148 = .ok (.aload 4, 2) := dk_25 4 (dk_at dksX0_crowd_6 4 rfl rfl)
theorem dX0_crowd_150 : decode cX0_crowd 150 = .ok (.getfield 121, 3) := dk_180 0 121 (dk_at dksX0_crowd_6 6 rfl rfl)
theorem dX0_crowd_153 : decode cX0_crowd 153 = .ok (.invokevirtual 94, 3) := dk_182 0 94 (dk_at dksX0_crowd_6 9 rfl rfl)
theorem dX0_crowd_156 : decode cX0_crowd 156 = .ok (.ireturn, 1) := dk_172 (dk_at dksX0_crowd_6 12 rfl rfl)
abbrev cX0_firstFall : ByteArray := prog_1_method_47_code
def yX0_firstFall : MethodName := ⟨RX0, "firstFall", "(II)I"⟩
def dkwX0_firstFall_3 : List UInt8 := [167, 255, 201, 21, 4, 172, 78, 42, 45, 180, 0, 121, 182, 0, 94, 172]
abbrev dktX0_firstFall_3 : List UInt8 := dkwX0_firstFall_3 ++ []
def dkwX0_firstFall_2 : List UInt8 := [159, 0, 10, 21, 6, 21, 4, 162, 0, 8, 21, 6, 167, 0, 5, 21, 4, 54, 4, 132, 5, 1]
abbrev dktX0_firstFall_2 : List UInt8 := dkwX0_firstFall_2 ++ dktX0_firstFall_3
def dkwX0_firstFall_1 : List UInt8 := [162, 0, 49, 42, 21, 5, 45, 182, 1, 13, 180, 1, 19, 54, 6, 21, 6, 2, 159, 0, 21, 21, 4, 2]
abbrev dktX0_firstFall_1 : List UInt8 := dkwX0_firstFall_1 ++ dktX0_firstFall_2
def dkwX0_firstFall_0 : List UInt8 := [42, 4, 27, 28, 182, 1, 10, 78, 2, 54, 4, 3, 54, 5, 21, 5, 42, 180, 0, 30, 180, 0, 200]
abbrev dktX0_firstFall_0 : List UInt8 := dkwX0_firstFall_0 ++ dktX0_firstFall_1
theorem dksX0_firstFall_0 : cX0_firstFall.data.toList.drop 0 = dktX0_firstFall_0 := by decide +kernel
theorem dksX0_firstFall_1 : cX0_firstFall.data.toList.drop 23 = dktX0_firstFall_1 := dk_seg dksX0_firstFall_0 23 rfl rfl
theorem dksX0_firstFall_2 : cX0_firstFall.data.toList.drop 47 = dktX0_firstFall_2 := dk_seg dksX0_firstFall_1 24 rfl rfl
theorem dksX0_firstFall_3 : cX0_firstFall.data.toList.drop 69 = dktX0_firstFall_3 := dk_seg dksX0_firstFall_2 22 rfl rfl
theorem dX0_firstFall_0 : decode cX0_firstFall 0 = .ok (.aload_n 0, 1) := dk_42 (dk_at dksX0_firstFall_0 0 rfl rfl)
theorem dX0_firstFall_1 : decode cX0_firstFall 1 = .ok (.iconst 1, 1) := dk_4 (dk_at dksX0_firstFall_0 1 rfl rfl)
theorem dX0_firstFall_2 : decode cX0_firstFall 2 = .ok (.iload_n 1, 1) := dk_27 (dk_at dksX0_firstFall_0 2 rfl rfl)
theorem dX0_firstFall_3 : decode cX0_firstFall 3 = .ok (.iload_n 2, 1) := dk_28 (dk_at dksX0_firstFall_0 3 rfl rfl)
theorem dX0_firstFall_4 : decode cX0_firstFall 4 = .ok (.invokevirtual 266, 3) := dk_182 1 10 (dk_at dksX0_firstFall_0 4 rfl rfl)
theorem dX0_firstFall_7 : decode cX0_firstFall 7 = .ok (.astore_n 3, 1) := dk_78 (dk_at dksX0_firstFall_0 7 rfl rfl)
theorem dX0_firstFall_8 : decode cX0_firstFall 8 = .ok (.iconst (-1), 1) := dk_2 (dk_at dksX0_firstFall_0 8 rfl rfl)
theorem dX0_firstFall_9 : decode cX0_firstFall 9 = .ok (.istore 4, 2) := dk_54 4 (dk_at dksX0_firstFall_0 9 rfl rfl)
theorem dX0_firstFall_11 : decode cX0_firstFall 11 = .ok (.iconst 0, 1) := dk_3 (dk_at dksX0_firstFall_0 11 rfl rfl)
theorem dX0_firstFall_12 : decode cX0_firstFall 12 = .ok (.istore 5, 2) := dk_54 5 (dk_at dksX0_firstFall_0 12 rfl rfl)
theorem dX0_firstFall_14 : decode cX0_firstFall 14 = .ok (.iload 5, 2) := dk_21 5 (dk_at dksX0_firstFall_0 14 rfl rfl)
theorem dX0_firstFall_16 : decode cX0_firstFall 16 = .ok (.aload_n 0, 1) := dk_42 (dk_at dksX0_firstFall_0 16 rfl rfl)
theorem dX0_firstFall_17 : decode cX0_firstFall 17 = .ok (.getfield 30, 3) := dk_180 0 30 (dk_at dksX0_firstFall_0 17 rfl rfl)
theorem dX0_firstFall_20 : decode cX0_firstFall 20 = .ok (.getfield 200, 3) := dk_180 0 200 (dk_at dksX0_firstFall_0 20 rfl rfl)
theorem dX0_firstFall_23 : decode cX0_firstFall 23 = .ok (.if_icmp .ge 49, 3) := dk_162 0 49 (dk_at dksX0_firstFall_1 0 rfl rfl)
theorem dX0_firstFall_26 : decode cX0_firstFall 26 = .ok (.aload_n 0, 1) := dk_42 (dk_at dksX0_firstFall_1 3 rfl rfl)
theorem dX0_firstFall_27 : decode cX0_firstFall 27 = .ok (.iload 5, 2) := dk_21 5 (dk_at dksX0_firstFall_1 4 rfl rfl)
theorem dX0_firstFall_29 : decode cX0_firstFall 29 = .ok (.aload_n 3, 1) := dk_45 (dk_at dksX0_firstFall_1 6 rfl rfl)
theorem dX0_firstFall_30 : decode cX0_firstFall 30 = .ok (.invokevirtual 269, 3) := dk_182 1 13 (dk_at dksX0_firstFall_1 7 rfl rfl)
theorem dX0_firstFall_33 : decode cX0_firstFall 33 = .ok (.getfield 275, 3) := dk_180 1 19 (dk_at dksX0_firstFall_1 10 rfl rfl)
theorem dX0_firstFall_36 : decode cX0_firstFall 36 = .ok (.istore 6, 2) := dk_54 6 (dk_at dksX0_firstFall_1 13 rfl rfl)
theorem dX0_firstFall_38 : decode cX0_firstFall 38 = .ok (.iload 6, 2) := dk_21 6 (dk_at dksX0_firstFall_1 15 rfl rfl)
theorem dX0_firstFall_40 : decode cX0_firstFall 40 = .ok (.iconst (-1), 1) := dk_2 (dk_at dksX0_firstFall_1 17 rfl rfl)
theorem dX0_firstFall_41 : decode cX0_firstFall 41 = .ok (.if_icmp .eq 21, 3) := dk_159 0 21 (dk_at dksX0_firstFall_1 18 rfl rfl)
theorem dX0_firstFall_44 : decode cX0_firstFall 44 = .ok (.iload 4, 2) := dk_21 4 (dk_at dksX0_firstFall_1 21 rfl rfl)
theorem dX0_firstFall_46 : decode cX0_firstFall 46 = .ok (.iconst (-1), 1) := dk_2 (dk_at dksX0_firstFall_1 23 rfl rfl)
theorem dX0_firstFall_47 : decode cX0_firstFall 47 = .ok (.if_icmp .eq 10, 3) := dk_159 0 10 (dk_at dksX0_firstFall_2 0 rfl rfl)
theorem dX0_firstFall_50 : decode cX0_firstFall 50 = .ok (.iload 6, 2) := dk_21 6 (dk_at dksX0_firstFall_2 3 rfl rfl)
theorem dX0_firstFall_52 : decode cX0_firstFall 52 = .ok (.iload 4, 2) := dk_21 4 (dk_at dksX0_firstFall_2 5 rfl rfl)
theorem dX0_firstFall_54 : decode cX0_firstFall 54 = .ok (.if_icmp .ge 8, 3) := dk_162 0 8 (dk_at dksX0_firstFall_2 7 rfl rfl)
theorem dX0_firstFall_57 : decode cX0_firstFall 57 = .ok (.iload 6, 2) := dk_21 6 (dk_at dksX0_firstFall_2 10 rfl rfl)
theorem dX0_firstFall_59 : decode cX0_firstFall 59 = .ok (.goto 5, 3) := dk_167 0 5 (dk_at dksX0_firstFall_2 12 rfl rfl)
theorem dX0_firstFall_62 : decode cX0_firstFall 62 = .ok (.iload 4, 2) := dk_21 4 (dk_at dksX0_firstFall_2 15 rfl rfl)
theorem dX0_firstFall_64 : decode cX0_firstFall 64 = .ok (.istore 4, 2) := dk_54 4 (dk_at dksX0_firstFall_2 17 rfl rfl)
theorem dX0_firstFall_66 : decode cX0_firstFall 66 = .ok (.iinc 5 1, 3) := dk_132 5 1 (dk_at dksX0_firstFall_2 19 rfl rfl)
theorem dX0_firstFall_69 : decode cX0_firstFall 69 = .ok (.goto (-55), 3) := dk_167 255 201 (dk_at dksX0_firstFall_3 0 rfl rfl)
theorem dX0_firstFall_72 : decode cX0_firstFall 72 = .ok (.iload 4, 2) := dk_21 4 (dk_at dksX0_firstFall_3 3 rfl rfl)
theorem dX0_firstFall_74 : decode cX0_firstFall 74 = .ok (.ireturn, 1) := dk_172 (dk_at dksX0_firstFall_3 5 rfl rfl)
theorem dX0_firstFall_75 : decode cX0_firstFall 75 = .ok (.astore_n 3, 1) := dk_78 (dk_at dksX0_firstFall_3 6 rfl rfl)
theorem dX0_firstFall_76 : decode cX0_firstFall 76 = .ok (.aload_n 0, 1) := dk_42 (dk_at dksX0_firstFall_3 7 rfl rfl)
theorem dX0_firstFall_77 : decode cX0_firstFall 77 = .ok (.aload_n 3, 1) := dk_45 (dk_at dksX0_firstFall_3 8 rfl rfl)
theorem dX0_firstFall_78 : decode cX0_firstFall 78 = .ok (.getfield 121, 3) := dk_180 0 121 (dk_at dksX0_firstFall_3 9 rfl rfl)
theorem dX0_firstFall_81 : decode cX0_firstFall 81 = .ok (.invokevirtual 94, 3) := dk_182 0 94 (dk_at dksX0_firstFall_3 12 rfl rfl)
theorem dX0_firstFall_84 : decode cX0_firstFall 84 = .ok (.ireturn, 1) := dk_172 (dk_at dksX0_firstFall_3 15 rfl rfl)
abbrev cX0_alike : ByteArray := prog_1_method_48_code
def yX0_alike : MethodName := ⟨RX0, "alike", "(III)I"⟩
def dkwX0_alike_5 : List UInt8 := [42, 25, 4, 180, 0, 121, 182, 0, 94, 172]
abbrev dktX0_alike_5 : List UInt8 := dkwX0_alike_5 ++ []
def dkwX0_alike_4 : List UInt8 := [180, 0, 39, 180, 0, 170, 42, 180, 0, 43, 180, 0, 170, 160, 0, 7, 4, 167, 0, 4, 3, 172, 58, 4]
abbrev dktX0_alike_4 : List UInt8 := dkwX0_alike_4 ++ dktX0_alike_5
def dkwX0_alike_3 : List UInt8 := [182, 1, 6, 87, 42, 180, 0, 39, 180, 1, 17, 42, 180, 0, 43, 180, 1, 17, 160, 0, 24, 42]
abbrev dktX0_alike_3 : List UInt8 := dkwX0_alike_3 ++ dktX0_alike_4
def dkwX0_alike_2 : List UInt8 := [182, 1, 6, 182, 1, 32, 87, 42, 25, 5, 42, 180, 0, 30, 180, 0, 153, 29, 46, 25, 4, 4]
abbrev dktX0_alike_2 : List UInt8 := dkwX0_alike_2 ++ dktX0_alike_3
def dkwX0_alike_1 : List UInt8 := [50, 58, 5, 42, 180, 0, 43, 42, 25, 5, 42, 180, 0, 30, 180, 0, 153, 29, 46, 25, 4, 3]
abbrev dktX0_alike_1 : List UInt8 := dkwX0_alike_1 ++ dktX0_alike_2
def dkwX0_alike_0 : List UInt8 := [42, 42, 180, 0, 30, 29, 182, 0, 146, 27, 28, 182, 1, 10, 58, 4, 42, 180, 0, 30, 180, 0, 149, 29]
abbrev dktX0_alike_0 : List UInt8 := dkwX0_alike_0 ++ dktX0_alike_1
theorem dksX0_alike_0 : cX0_alike.data.toList.drop 0 = dktX0_alike_0 := by decide +kernel
theorem dksX0_alike_1 : cX0_alike.data.toList.drop 24 = dktX0_alike_1 := dk_seg dksX0_alike_0 24 rfl rfl
theorem dksX0_alike_2 : cX0_alike.data.toList.drop 46 = dktX0_alike_2 := dk_seg dksX0_alike_1 22 rfl rfl
theorem dksX0_alike_3 : cX0_alike.data.toList.drop 68 = dktX0_alike_3 := dk_seg dksX0_alike_2 22 rfl rfl
theorem dksX0_alike_4 : cX0_alike.data.toList.drop 90 = dktX0_alike_4 := dk_seg dksX0_alike_3 22 rfl rfl
theorem dksX0_alike_5 : cX0_alike.data.toList.drop 114 = dktX0_alike_5 := dk_seg dksX0_alike_4 24 rfl rfl
theorem dX0_alike_0 : decode cX0_alike 0 = .ok (.aload_n 0, 1) := dk_42 (dk_at dksX0_alike_0 0 rfl rfl)
theorem dX0_alike_1 : decode cX0_alike 1 = .ok (.aload_n 0, 1) := dk_42 (dk_at dksX0_alike_0 1 rfl rfl)
theorem dX0_alike_2 : decode cX0_alike 2 = .ok (.getfield 30, 3) := dk_180 0 30 (dk_at dksX0_alike_0 2 rfl rfl)
theorem dX0_alike_5 : decode cX0_alike 5 = .ok (.iload_n 3, 1) := dk_29 (dk_at dksX0_alike_0 5 rfl rfl)
theorem dX0_alike_6 : decode cX0_alike 6 = .ok (.invokevirtual 146, 3) := dk_182 0 146 (dk_at dksX0_alike_0 6 rfl rfl)
theorem dX0_alike_9 : decode cX0_alike 9 = .ok (.iload_n 1, 1) := dk_27 (dk_at dksX0_alike_0 9 rfl rfl)
theorem dX0_alike_10 : decode cX0_alike 10 = .ok (.iload_n 2, 1) := dk_28 (dk_at dksX0_alike_0 10 rfl rfl)
theorem dX0_alike_11 : decode cX0_alike 11 = .ok (.invokevirtual 266, 3) := dk_182 1 10 (dk_at dksX0_alike_0 11 rfl rfl)
theorem dX0_alike_14 : decode cX0_alike 14 = .ok (.astore 4, 2) := dk_58 4 (dk_at dksX0_alike_0 14 rfl rfl)
theorem dX0_alike_16 : decode cX0_alike 16 = .ok (.aload_n 0, 1) := dk_42 (dk_at dksX0_alike_0 16 rfl rfl)
theorem dX0_alike_17 : decode cX0_alike 17 = .ok (.getfield 30, 3) := dk_180 0 30 (dk_at dksX0_alike_0 17 rfl rfl)
theorem dX0_alike_20 : decode cX0_alike 20 = .ok (.getfield 149, 3) := dk_180 0 149 (dk_at dksX0_alike_0 20 rfl rfl)
theorem dX0_alike_23 : decode cX0_alike 23 = .ok (.iload_n 3, 1) := dk_29 (dk_at dksX0_alike_0 23 rfl rfl)
theorem dX0_alike_24 : decode cX0_alike 24 = .ok (.aaload, 1) := dk_50 (dk_at dksX0_alike_1 0 rfl rfl)
theorem dX0_alike_25 : decode cX0_alike 25 = .ok (.astore 5, 2) := dk_58 5 (dk_at dksX0_alike_1 1 rfl rfl)
theorem dX0_alike_27 : decode cX0_alike 27 = .ok (.aload_n 0, 1) := dk_42 (dk_at dksX0_alike_1 3 rfl rfl)
theorem dX0_alike_28 : decode cX0_alike 28 = .ok (.getfield 43, 3) := dk_180 0 43 (dk_at dksX0_alike_1 4 rfl rfl)
theorem dX0_alike_31 : decode cX0_alike 31 = .ok (.aload_n 0, 1) := dk_42 (dk_at dksX0_alike_1 7 rfl rfl)
theorem dX0_alike_32 : decode cX0_alike 32 = .ok (.aload 5, 2) := dk_25 5 (dk_at dksX0_alike_1 8 rfl rfl)
theorem dX0_alike_34 : decode cX0_alike 34 = .ok (.aload_n 0, 1) := dk_42 (dk_at dksX0_alike_1 10 rfl rfl)
theorem dX0_alike_35 : decode cX0_alike 35 = .ok (.getfield 30, 3) := dk_180 0 30 (dk_at dksX0_alike_1 11 rfl rfl)
theorem dX0_alike_38 : decode cX0_alike 38 = .ok (.getfield 153, 3) := dk_180 0 153 (dk_at dksX0_alike_1 14 rfl rfl)
theorem dX0_alike_41 : decode cX0_alike 41 = .ok (.iload_n 3, 1) := dk_29 (dk_at dksX0_alike_1 17 rfl rfl)
theorem dX0_alike_42 : decode cX0_alike 42 = .ok (.iaload, 1) := dk_46 (dk_at dksX0_alike_1 18 rfl rfl)
theorem dX0_alike_43 : decode cX0_alike 43 = .ok (.aload 4, 2) := dk_25 4 (dk_at dksX0_alike_1 19 rfl rfl)
theorem dX0_alike_45 : decode cX0_alike 45 = .ok (.iconst 0, 1) := dk_3 (dk_at dksX0_alike_1 21 rfl rfl)
theorem dX0_alike_46 : decode cX0_alike 46 = .ok (.invokevirtual 262, 3) := dk_182 1 6 (dk_at dksX0_alike_2 0 rfl rfl)
theorem dX0_alike_49 : decode cX0_alike 49 = .ok (.invokevirtual 288, 3) := dk_182 1 32 (dk_at dksX0_alike_2 3 rfl rfl)
theorem dX0_alike_52 : decode cX0_alike 52 = .ok (.pop, 1) := dk_87 (dk_at dksX0_alike_2 6 rfl rfl)
theorem dX0_alike_53 : decode cX0_alike 53 = .ok (.aload_n 0, 1) := dk_42 (dk_at dksX0_alike_2 7 rfl rfl)
theorem dX0_alike_54 : decode cX0_alike 54 = .ok (.aload 5, 2) := dk_25 5 (dk_at dksX0_alike_2 8 rfl rfl)
theorem dX0_alike_56 : decode cX0_alike 56 = .ok (.aload_n 0, 1) := dk_42 (dk_at dksX0_alike_2 10 rfl rfl)
theorem dX0_alike_57 : decode cX0_alike 57 = .ok (.getfield 30, 3) := dk_180 0 30 (dk_at dksX0_alike_2 11 rfl rfl)
theorem dX0_alike_60 : decode cX0_alike 60 = .ok (.getfield 153, 3) := dk_180 0 153 (dk_at dksX0_alike_2 14 rfl rfl)
theorem dX0_alike_63 : decode cX0_alike 63 = .ok (.iload_n 3, 1) := dk_29 (dk_at dksX0_alike_2 17 rfl rfl)
theorem dX0_alike_64 : decode cX0_alike 64 = .ok (.iaload, 1) := dk_46 (dk_at dksX0_alike_2 18 rfl rfl)
theorem dX0_alike_65 : decode cX0_alike 65 = .ok (.aload 4, 2) := dk_25 4 (dk_at dksX0_alike_2 19 rfl rfl)
theorem dX0_alike_67 : decode cX0_alike 67 = .ok (.iconst 1, 1) := dk_4 (dk_at dksX0_alike_2 21 rfl rfl)
theorem dX0_alike_68 : decode cX0_alike 68 = .ok (.invokevirtual 262, 3) := dk_182 1 6 (dk_at dksX0_alike_3 0 rfl rfl)
theorem dX0_alike_71 : decode cX0_alike 71 = .ok (.pop, 1) := dk_87 (dk_at dksX0_alike_3 3 rfl rfl)
theorem dX0_alike_72 : decode cX0_alike 72 = .ok (.aload_n 0, 1) := dk_42 (dk_at dksX0_alike_3 4 rfl rfl)
theorem dX0_alike_73 : decode cX0_alike 73 = .ok (.getfield 39, 3) := dk_180 0 39 (dk_at dksX0_alike_3 5 rfl rfl)
theorem dX0_alike_76 : decode cX0_alike 76 = .ok (.getfield 273, 3) := dk_180 1 17 (dk_at dksX0_alike_3 8 rfl rfl)
theorem dX0_alike_79 : decode cX0_alike 79 = .ok (.aload_n 0, 1) := dk_42 (dk_at dksX0_alike_3 11 rfl rfl)
theorem dX0_alike_80 : decode cX0_alike 80 = .ok (.getfield 43, 3) := dk_180 0 43 (dk_at dksX0_alike_3 12 rfl rfl)
theorem dX0_alike_83 : decode cX0_alike 83 = .ok (.getfield 273, 3) := dk_180 1 17 (dk_at dksX0_alike_3 15 rfl rfl)
theorem dX0_alike_86 : decode cX0_alike 86 = .ok (.if_icmp .ne 24, 3) := dk_160 0 24 (dk_at dksX0_alike_3 18 rfl rfl)
theorem dX0_alike_89 : decode cX0_alike 89 = .ok (.aload_n 0, 1) := dk_42 (dk_at dksX0_alike_3 21 rfl rfl)
theorem dX0_alike_90 : decode cX0_alike 90 = .ok (.getfield 39, 3) := dk_180 0 39 (dk_at dksX0_alike_4 0 rfl rfl)
theorem dX0_alike_93 : decode cX0_alike 93 = .ok (.getfield 170, 3) := dk_180 0 170 (dk_at dksX0_alike_4 3 rfl rfl)
theorem dX0_alike_96 : decode cX0_alike 96 = .ok (.aload_n 0, 1) := dk_42 (dk_at dksX0_alike_4 6 rfl rfl)
theorem dX0_alike_97 : decode cX0_alike 97 = .ok (.getfield 43, 3) := dk_180 0 43 (dk_at dksX0_alike_4 7 rfl rfl)
theorem dX0_alike_100 : decode cX0_alike 100 = .ok (.getfield 170, 3) := dk_180 0 170 (dk_at dksX0_alike_4 10 rfl rfl)
theorem dX0_alike_103 : decode cX0_alike 103 = .ok (.if_icmp .ne 7, 3) := dk_160 0 7 (dk_at dksX0_alike_4 13 rfl rfl)
theorem dX0_alike_106 : decode cX0_alike 106 = .ok (.iconst 1, 1) := dk_4 (dk_at dksX0_alike_4 16 rfl rfl)
theorem dX0_alike_107 : decode cX0_alike 107 = .ok (.goto 4, 3) := dk_167 0 4 (dk_at dksX0_alike_4 17 rfl rfl)
theorem dX0_alike_110 : decode cX0_alike 110 = .ok (.iconst 0, 1) := dk_3 (dk_at dksX0_alike_4 20 rfl rfl)
theorem dX0_alike_111 : decode cX0_alike 111 = .ok (.ireturn, 1) := dk_172 (dk_at dksX0_alike_4 21 rfl rfl)
theorem dX0_alike_112 : decode cX0_alike 112 = .ok (.astore 4, 2) := dk_58 4 (dk_at dksX0_alike_4 22 rfl rfl)
theorem dX0_alike_114 : decode cX0_alike 114 = .ok (.aload_n 0, 1) := dk_42 (dk_at dksX0_alike_5 0 rfl rfl)
theorem dX0_alike_115 : decode cX0_alike 115 = .ok (.aload 4, 2) := dk_25 4 (dk_at dksX0_alike_5 1 rfl rfl)
theorem dX0_alike_117 : decode cX0_alike 117 = .ok (.getfield 121, 3) := dk_180 0 121 (dk_at dksX0_alike_5 3 rfl rfl)
theorem dX0_alike_120 : decode cX0_alike 120 = .ok (.invokevirtual 94, 3) := dk_182 0 94 (dk_at dksX0_alike_5 6 rfl rfl)
theorem dX0_alike_123 : decode cX0_alike 123 = .ok (.ireturn, 1) := dk_172 (dk_at dksX0_alike_5 9 rfl rfl)
abbrev cX0_differ : ByteArray := prog_1_method_49_code
def yX0_differ : MethodName := ⟨RX0, "differ", "(IIII)I"⟩
def dkwX0_differ_9 : List UInt8 := [42, 25, 5, 180, 0, 121, 182, 0, 94, 172]
abbrev dktX0_differ_9 : List UInt8 := dkwX0_differ_9 ++ []
def dkwX0_differ_8 : List UInt8 := [180, 0, 43, 180, 0, 170, 159, 0, 8, 21, 6, 4, 96, 172, 132, 6, 1, 167, 255, 137, 2, 172, 58, 5]
abbrev dktX0_differ_8 : List UInt8 := dkwX0_differ_8 ++ dktX0_differ_9
def dkwX0_differ_7 : List UInt8 := [180, 0, 39, 180, 1, 17, 42, 180, 0, 43, 180, 1, 17, 160, 0, 20, 42, 180, 0, 39, 180, 0, 170, 42]
abbrev dktX0_differ_7 : List UInt8 := dkwX0_differ_7 ++ dktX0_differ_8
def dkwX0_differ_6 : List UInt8 := [21, 4, 50, 25, 5, 21, 6, 47, 136, 42, 180, 0, 30, 180, 0, 163, 3, 46, 182, 0, 166, 42]
abbrev dktX0_differ_6 : List UInt8 := dkwX0_differ_6 ++ dktX0_differ_7
def dkwX0_differ_5 : List UInt8 := [180, 0, 163, 3, 46, 182, 0, 166, 42, 180, 0, 43, 42, 180, 0, 30, 42, 180, 0, 30, 180, 0, 149]
abbrev dktX0_differ_5 : List UInt8 := dkwX0_differ_5 ++ dktX0_differ_6
def dkwX0_differ_4 : List UInt8 := [42, 180, 0, 30, 42, 180, 0, 30, 180, 0, 149, 29, 50, 25, 5, 21, 6, 47, 136, 42, 180, 0, 30]
abbrev dktX0_differ_4 : List UInt8 := dkwX0_differ_4 ++ dktX0_differ_5
def dkwX0_differ_3 : List UInt8 := [180, 0, 43, 42, 180, 0, 39, 182, 1, 32, 87, 3, 54, 6, 21, 6, 28, 162, 0, 119, 42, 180, 0, 39]
abbrev dktX0_differ_3 : List UInt8 := dkwX0_differ_3 ++ dktX0_differ_4
def dkwX0_differ_2 : List UInt8 := [180, 0, 30, 180, 0, 153, 29, 46, 42, 180, 0, 30, 180, 0, 156, 29, 46, 182, 0, 159, 87, 42]
abbrev dktX0_differ_2 : List UInt8 := dkwX0_differ_2 ++ dktX0_differ_3
def dkwX0_differ_1 : List UInt8 := [29, 21, 4, 159, 0, 7, 4, 167, 0, 4, 3, 27, 28, 182, 1, 10, 58, 5, 42, 180, 0, 39, 42]
abbrev dktX0_differ_1 : List UInt8 := dkwX0_differ_1 ++ dktX0_differ_2
def dkwX0_differ_0 : List UInt8 := [42, 42, 180, 0, 30, 29, 182, 0, 146, 153, 0, 25, 42, 180, 0, 30, 21, 4, 182, 0, 146, 153, 0, 13]
abbrev dktX0_differ_0 : List UInt8 := dkwX0_differ_0 ++ dktX0_differ_1
theorem dksX0_differ_0 : cX0_differ.data.toList.drop 0 = dktX0_differ_0 := by decide +kernel
theorem dksX0_differ_1 : cX0_differ.data.toList.drop 24 = dktX0_differ_1 := dk_seg dksX0_differ_0 24 rfl rfl
theorem dksX0_differ_2 : cX0_differ.data.toList.drop 47 = dktX0_differ_2 := dk_seg dksX0_differ_1 23 rfl rfl
theorem dksX0_differ_3 : cX0_differ.data.toList.drop 69 = dktX0_differ_3 := dk_seg dksX0_differ_2 22 rfl rfl
theorem dksX0_differ_4 : cX0_differ.data.toList.drop 93 = dktX0_differ_4 := dk_seg dksX0_differ_3 24 rfl rfl
theorem dksX0_differ_5 : cX0_differ.data.toList.drop 116 = dktX0_differ_5 := dk_seg dksX0_differ_4 23 rfl rfl
theorem dksX0_differ_6 : cX0_differ.data.toList.drop 139 = dktX0_differ_6 := dk_seg dksX0_differ_5 23 rfl rfl
theorem dksX0_differ_7 : cX0_differ.data.toList.drop 161 = dktX0_differ_7 := dk_seg dksX0_differ_6 22 rfl rfl
theorem dksX0_differ_8 : cX0_differ.data.toList.drop 185 = dktX0_differ_8 := dk_seg dksX0_differ_7 24 rfl rfl
theorem dksX0_differ_9 : cX0_differ.data.toList.drop 209 = dktX0_differ_9 := dk_seg dksX0_differ_8 24 rfl rfl
theorem dX0_differ_0 : decode cX0_differ 0 = .ok (.aload_n 0, 1) := dk_42 (dk_at dksX0_differ_0 0 rfl rfl)
theorem dX0_differ_1 : decode cX0_differ 1 = .ok (.aload_n 0, 1) := dk_42 (dk_at dksX0_differ_0 1 rfl rfl)
theorem dX0_differ_2 : decode cX0_differ 2 = .ok (.getfield 30, 3) := dk_180 0 30 (dk_at dksX0_differ_0 2 rfl rfl)
theorem dX0_differ_5 : decode cX0_differ 5 = .ok (.iload_n 3, 1) := dk_29 (dk_at dksX0_differ_0 5 rfl rfl)
theorem dX0_differ_6 : decode cX0_differ 6 = .ok (.invokevirtual 146, 3) := dk_182 0 146 (dk_at dksX0_differ_0 6 rfl rfl)
theorem dX0_differ_9 : decode cX0_differ 9 = .ok (.ifCond .eq 25, 3) := dk_153 0 25 (dk_at dksX0_differ_0 9 rfl rfl)
theorem dX0_differ_12 : decode cX0_differ 12 = .ok (.aload_n 0, 1) := dk_42 (dk_at dksX0_differ_0 12 rfl rfl)
theorem dX0_differ_13 : decode cX0_differ 13 = .ok (.getfield 30, 3) := dk_180 0 30 (dk_at dksX0_differ_0 13 rfl rfl)
theorem dX0_differ_16 : decode cX0_differ 16 = .ok (.iload 4, 2) := dk_21 4 (dk_at dksX0_differ_0 16 rfl rfl)
theorem dX0_differ_18 : decode cX0_differ 18 = .ok (.invokevirtual 146, 3) := dk_182 0 146 (dk_at dksX0_differ_0 18 rfl rfl)
theorem dX0_differ_21 : decode cX0_differ 21 = .ok (.ifCond .eq 13, 3) := dk_153 0 13 (dk_at dksX0_differ_0 21 rfl rfl)
theorem dX0_differ_24 : decode cX0_differ 24 = .ok (.iload_n 3, 1) := dk_29 (dk_at dksX0_differ_1 0 rfl rfl)
theorem dX0_differ_25 : decode cX0_differ 25 = .ok (.iload 4, 2) := dk_21 4 (dk_at dksX0_differ_1 1 rfl rfl)
theorem dX0_differ_27 : decode cX0_differ 27 = .ok (.if_icmp .eq 7, 3) := dk_159 0 7 (dk_at dksX0_differ_1 3 rfl rfl)
theorem dX0_differ_30 : decode cX0_differ 30 = .ok (.iconst 1, 1) := dk_4 (dk_at dksX0_differ_1 6 rfl rfl)
theorem dX0_differ_31 : decode cX0_differ 31 = .ok (.goto 4, 3) := dk_167 0 4 (dk_at dksX0_differ_1 7 rfl rfl)
theorem dX0_differ_34 : decode cX0_differ 34 = .ok (.iconst 0, 1) := dk_3 (dk_at dksX0_differ_1 10 rfl rfl)
theorem dX0_differ_35 : decode cX0_differ 35 = .ok (.iload_n 1, 1) := dk_27 (dk_at dksX0_differ_1 11 rfl rfl)
theorem dX0_differ_36 : decode cX0_differ 36 = .ok (.iload_n 2, 1) := dk_28 (dk_at dksX0_differ_1 12 rfl rfl)
theorem dX0_differ_37 : decode cX0_differ 37 = .ok (.invokevirtual 266, 3) := dk_182 1 10 (dk_at dksX0_differ_1 13 rfl rfl)
theorem dX0_differ_40 : decode cX0_differ 40 = .ok (.astore 5, 2) := dk_58 5 (dk_at dksX0_differ_1 16 rfl rfl)
theorem dX0_differ_42 : decode cX0_differ 42 = .ok (.aload_n 0, 1) := dk_42 (dk_at dksX0_differ_1 18 rfl rfl)
theorem dX0_differ_43 : decode cX0_differ 43 = .ok (.getfield 39, 3) := dk_180 0 39 (dk_at dksX0_differ_1 19 rfl rfl)
theorem dX0_differ_46 : decode cX0_differ 46 = .ok (.aload_n 0, 1) := dk_42 (dk_at dksX0_differ_1 22 rfl rfl)
theorem dX0_differ_47 : decode cX0_differ 47 = .ok (.getfield 30, 3) := dk_180 0 30 (dk_at dksX0_differ_2 0 rfl rfl)
theorem dX0_differ_50 : decode cX0_differ 50 = .ok (.getfield 153, 3) := dk_180 0 153 (dk_at dksX0_differ_2 3 rfl rfl)
theorem dX0_differ_53 : decode cX0_differ 53 = .ok (.iload_n 3, 1) := dk_29 (dk_at dksX0_differ_2 6 rfl rfl)
theorem dX0_differ_54 : decode cX0_differ 54 = .ok (.iaload, 1) := dk_46 (dk_at dksX0_differ_2 7 rfl rfl)
theorem dX0_differ_55 : decode cX0_differ 55 = .ok (.aload_n 0, 1) := dk_42 (dk_at dksX0_differ_2 8 rfl rfl)
theorem dX0_differ_56 : decode cX0_differ 56 = .ok (.getfield 30, 3) := dk_180 0 30 (dk_at dksX0_differ_2 9 rfl rfl)
theorem dX0_differ_59 : decode cX0_differ 59 = .ok (.getfield 156, 3) := dk_180 0 156 (dk_at dksX0_differ_2 12 rfl rfl)
theorem dX0_differ_62 : decode cX0_differ 62 = .ok (.iload_n 3, 1) := dk_29 (dk_at dksX0_differ_2 15 rfl rfl)
theorem dX0_differ_63 : decode cX0_differ 63 = .ok (.iaload, 1) := dk_46 (dk_at dksX0_differ_2 16 rfl rfl)
theorem dX0_differ_64 : decode cX0_differ 64 = .ok (.invokevirtual 159, 3) := dk_182 0 159 (dk_at dksX0_differ_2 17 rfl rfl)
theorem dX0_differ_67 : decode cX0_differ 67 = .ok (.pop, 1) := dk_87 (dk_at dksX0_differ_2 20 rfl rfl)
theorem dX0_differ_68 : decode cX0_differ 68 = .ok (.aload_n 0, 1) := dk_42 (dk_at dksX0_differ_2 21 rfl rfl)
theorem dX0_differ_69 : decode cX0_differ 69 = .ok (.getfield 43, 3) := dk_180 0 43 (dk_at dksX0_differ_3 0 rfl rfl)
theorem dX0_differ_72 : decode cX0_differ 72 = .ok (.aload_n 0, 1) := dk_42 (dk_at dksX0_differ_3 3 rfl rfl)
theorem dX0_differ_73 : decode cX0_differ 73 = .ok (.getfield 39, 3) := dk_180 0 39 (dk_at dksX0_differ_3 4 rfl rfl)
theorem dX0_differ_76 : decode cX0_differ 76 = .ok (.invokevirtual 288, 3) := dk_182 1 32 (dk_at dksX0_differ_3 7 rfl rfl)
theorem dX0_differ_79 : decode cX0_differ 79 = .ok (.pop, 1) := dk_87 (dk_at dksX0_differ_3 10 rfl rfl)
theorem dX0_differ_80 : decode cX0_differ 80 = .ok (.iconst 0, 1) := dk_3 (dk_at dksX0_differ_3 11 rfl rfl)
theorem dX0_differ_81 : decode cX0_differ 81 = .ok (.istore 6, 2) := dk_54 6 (dk_at dksX0_differ_3 12 rfl rfl)
theorem dX0_differ_83 : decode cX0_differ 83 = .ok (.iload 6, 2) := dk_21 6 (dk_at dksX0_differ_3 14 rfl rfl)
theorem dX0_differ_85 : decode cX0_differ 85 = .ok (.iload_n 2, 1) := dk_28 (dk_at dksX0_differ_3 16 rfl rfl)
theorem dX0_differ_86 : decode cX0_differ 86 = .ok (.if_icmp .ge 119, 3) := dk_162 0 119 (dk_at dksX0_differ_3 17 rfl rfl)
theorem dX0_differ_89 : decode cX0_differ 89 = .ok (.aload_n 0, 1) := dk_42 (dk_at dksX0_differ_3 20 rfl rfl)
theorem dX0_differ_90 : decode cX0_differ 90 = .ok (.getfield 39, 3) := dk_180 0 39 (dk_at dksX0_differ_3 21 rfl rfl)
theorem dX0_differ_93 : decode cX0_differ 93 = .ok (.aload_n 0, 1) := dk_42 (dk_at dksX0_differ_4 0 rfl rfl)
theorem dX0_differ_94 : decode cX0_differ 94 = .ok (.getfield 30, 3) := dk_180 0 30 (dk_at dksX0_differ_4 1 rfl rfl)
theorem dX0_differ_97 : decode cX0_differ 97 = .ok (.aload_n 0, 1) := dk_42 (dk_at dksX0_differ_4 4 rfl rfl)
theorem dX0_differ_98 : decode cX0_differ 98 = .ok (.getfield 30, 3) := dk_180 0 30 (dk_at dksX0_differ_4 5 rfl rfl)
theorem dX0_differ_101 : decode cX0_differ 101 = .ok (.getfield 149, 3) := dk_180 0 149 (dk_at dksX0_differ_4 8 rfl rfl)
theorem dX0_differ_104 : decode cX0_differ 104 = .ok (.iload_n 3, 1) := dk_29 (dk_at dksX0_differ_4 11 rfl rfl)
theorem dX0_differ_105 : decode cX0_differ 105 = .ok (.aaload, 1) := dk_50 (dk_at dksX0_differ_4 12 rfl rfl)
theorem dX0_differ_106 : decode cX0_differ 106 = .ok (.aload 5, 2) := dk_25 5 (dk_at dksX0_differ_4 13 rfl rfl)
theorem dX0_differ_108 : decode cX0_differ 108 = .ok (.iload 6, 2) := dk_21 6 (dk_at dksX0_differ_4 15 rfl rfl)
theorem dX0_differ_110 : decode cX0_differ 110 = .ok (.laload, 1) := dk_47 (dk_at dksX0_differ_4 17 rfl rfl)
theorem dX0_differ_111 : decode cX0_differ 111 = .ok (.l2i, 1) := dk_136 (dk_at dksX0_differ_4 18 rfl rfl)
theorem dX0_differ_112 : decode cX0_differ 112 = .ok (.aload_n 0, 1) := dk_42 (dk_at dksX0_differ_4 19 rfl rfl)
theorem dX0_differ_113 : decode cX0_differ 113 = .ok (.getfield 30, 3) := dk_180 0 30 (dk_at dksX0_differ_4 20 rfl rfl)
theorem dX0_differ_116 : decode cX0_differ 116 = .ok (.getfield 163, 3) := dk_180 0 163 (dk_at dksX0_differ_5 0 rfl rfl)
theorem dX0_differ_119 : decode cX0_differ 119 = .ok (.iconst 0, 1) := dk_3 (dk_at dksX0_differ_5 3 rfl rfl)
theorem dX0_differ_120 : decode cX0_differ 120 = .ok (.iaload, 1) := dk_46 (dk_at dksX0_differ_5 4 rfl rfl)
theorem dX0_differ_121 : decode cX0_differ 121 = .ok (.invokevirtual 166, 3) := dk_182 0 166 (dk_at dksX0_differ_5 5 rfl rfl)
theorem dX0_differ_124 : decode cX0_differ 124 = .ok (.aload_n 0, 1) := dk_42 (dk_at dksX0_differ_5 8 rfl rfl)
theorem dX0_differ_125 : decode cX0_differ 125 = .ok (.getfield 43, 3) := dk_180 0 43 (dk_at dksX0_differ_5 9 rfl rfl)
theorem dX0_differ_128 : decode cX0_differ 128 = .ok (.aload_n 0, 1) := dk_42 (dk_at dksX0_differ_5 12 rfl rfl)
theorem dX0_differ_129 : decode cX0_differ 129 = .ok (.getfield 30, 3) := dk_180 0 30 (dk_at dksX0_differ_5 13 rfl rfl)
theorem dX0_differ_132 : decode cX0_differ 132 = .ok (.aload_n 0, 1) := dk_42 (dk_at dksX0_differ_5 16 rfl rfl)
theorem dX0_differ_133 : decode cX0_differ 133 = .ok (.getfield 30, 3) := dk_180 0 30 (dk_at dksX0_differ_5 17 rfl rfl)
theorem dX0_differ_136 : decode cX0_differ 136 = .ok (.getfield 149, 3) := dk_180 0 149 (dk_at dksX0_differ_5 20 rfl rfl)
theorem dX0_differ_139 : decode cX0_differ 139 = .ok (.iload 4, 2) := dk_21 4 (dk_at dksX0_differ_6 0 rfl rfl)
theorem dX0_differ_141 : decode cX0_differ 141 = .ok (.aaload, 1) := dk_50 (dk_at dksX0_differ_6 2 rfl rfl)
theorem dX0_differ_142 : decode cX0_differ 142 = .ok (.aload 5, 2) := dk_25 5 (dk_at dksX0_differ_6 3 rfl rfl)
theorem dX0_differ_144 : decode cX0_differ 144 = .ok (.iload 6, 2) := dk_21 6 (dk_at dksX0_differ_6 5 rfl rfl)
theorem dX0_differ_146 : decode cX0_differ 146 = .ok (.laload, 1) := dk_47 (dk_at dksX0_differ_6 7 rfl rfl)
theorem dX0_differ_147 : decode cX0_differ 147 = .ok (.l2i, 1) := dk_136 (dk_at dksX0_differ_6 8 rfl rfl)
theorem dX0_differ_148 : decode cX0_differ 148 = .ok (.aload_n 0, 1) := dk_42 (dk_at dksX0_differ_6 9 rfl rfl)
theorem dX0_differ_149 : decode cX0_differ 149 = .ok (.getfield 30, 3) := dk_180 0 30 (dk_at dksX0_differ_6 10 rfl rfl)
theorem dX0_differ_152 : decode cX0_differ 152 = .ok (.getfield 163, 3) := dk_180 0 163 (dk_at dksX0_differ_6 13 rfl rfl)
theorem dX0_differ_155 : decode cX0_differ 155 = .ok (.iconst 0, 1) := dk_3 (dk_at dksX0_differ_6 16 rfl rfl)
theorem dX0_differ_156 : decode cX0_differ 156 = .ok (.iaload, 1) := dk_46 (dk_at dksX0_differ_6 17 rfl rfl)
theorem dX0_differ_157 : decode cX0_differ 157 = .ok (.invokevirtual 166, 3) := dk_182 0 166 (dk_at dksX0_differ_6 18 rfl rfl)
theorem dX0_differ_160 : decode cX0_differ 160 = .ok (.aload_n 0, 1) := dk_42 (dk_at dksX0_differ_6 21 rfl rfl)
theorem dX0_differ_161 : decode cX0_differ 161 = .ok (.getfield 39, 3) := dk_180 0 39 (dk_at dksX0_differ_7 0 rfl rfl)
theorem dX0_differ_164 : decode cX0_differ 164 = .ok (.getfield 273, 3) := dk_180 1 17 (dk_at dksX0_differ_7 3 rfl rfl)
theorem dX0_differ_167 : decode cX0_differ 167 = .ok (.aload_n 0, 1) := dk_42 (dk_at dksX0_differ_7 6 rfl rfl)
theorem dX0_differ_168 : decode cX0_differ 168 = .ok (.getfield 43, 3) := dk_180 0 43 (dk_at dksX0_differ_7 7 rfl rfl)
theorem dX0_differ_171 : decode cX0_differ 171 = .ok (.getfield 273, 3) := dk_180 1 17 (dk_at dksX0_differ_7 10 rfl rfl)
theorem dX0_differ_174 : decode cX0_differ 174 = .ok (.if_icmp .ne 20, 3) := dk_160 0 20 (dk_at dksX0_differ_7 13 rfl rfl)
theorem dX0_differ_177 : decode cX0_differ 177 = .ok (.aload_n 0, 1) := dk_42 (dk_at dksX0_differ_7 16 rfl rfl)
theorem dX0_differ_178 : decode cX0_differ 178 = .ok (.getfield 39, 3) := dk_180 0 39 (dk_at dksX0_differ_7 17 rfl rfl)
theorem dX0_differ_181 : decode cX0_differ 181 = .ok (.getfield 170, 3) := dk_180 0 170 (dk_at dksX0_differ_7 20 rfl rfl)
theorem dX0_differ_184 : decode cX0_differ 184 = .ok (.aload_n 0, 1) := dk_42 (dk_at dksX0_differ_7 23 rfl rfl)
theorem dX0_differ_185 : decode cX0_differ 185 = .ok (.getfield 43, 3) := dk_180 0 43 (dk_at dksX0_differ_8 0 rfl rfl)
theorem dX0_differ_188 : decode cX0_differ 188 = .ok (.getfield 170, 3) := dk_180 0 170 (dk_at dksX0_differ_8 3 rfl rfl)
theorem dX0_differ_191 : decode cX0_differ 191 = .ok (.if_icmp .eq 8, 3) := dk_159 0 8 (dk_at dksX0_differ_8 6 rfl rfl)
theorem dX0_differ_194 : decode cX0_differ 194 = .ok (.iload 6, 2) := dk_21 6 (dk_at dksX0_differ_8 9 rfl rfl)
theorem dX0_differ_196 : decode cX0_differ 196 = .ok (.iconst 1, 1) := dk_4 (dk_at dksX0_differ_8 11 rfl rfl)
theorem dX0_differ_197 : decode cX0_differ 197 = .ok (.iadd, 1) := dk_96 (dk_at dksX0_differ_8 12 rfl rfl)
theorem dX0_differ_198 : decode cX0_differ 198 = .ok (.ireturn, 1) := dk_172 (dk_at dksX0_differ_8 13 rfl rfl)
theorem dX0_differ_199 : decode cX0_differ 199 = .ok (.iinc 6 1, 3) := dk_132 6 1 (dk_at dksX0_differ_8 14 rfl rfl)
theorem dX0_differ_202 : decode cX0_differ 202 = .ok (.goto (-119), 3) := dk_167 255 137 (dk_at dksX0_differ_8 17 rfl rfl)
theorem dX0_differ_205 : decode cX0_differ 205 = .ok (.iconst (-1), 1) := dk_2 (dk_at dksX0_differ_8 20 rfl rfl)
theorem dX0_differ_206 : decode cX0_differ 206 = .ok (.ireturn, 1) := dk_172 (dk_at dksX0_differ_8 21 rfl rfl)
theorem dX0_differ_207 : decode cX0_differ 207 = .ok (.astore 5, 2) := dk_58 5 (dk_at dksX0_differ_8 22 rfl rfl)
theorem dX0_differ_209 : decode cX0_differ 209 = .ok (.aload_n 0, 1) := dk_42 (dk_at dksX0_differ_9 0 rfl rfl)
theorem dX0_differ_210 : decode cX0_differ 210 = .ok (.aload 5, 2) := dk_25 5 (dk_at dksX0_differ_9 1 rfl rfl)
theorem dX0_differ_212 : decode cX0_differ 212 = .ok (.getfield 121, 3) := dk_180 0 121 (dk_at dksX0_differ_9 3 rfl rfl)
theorem dX0_differ_215 : decode cX0_differ 215 = .ok (.invokevirtual 94, 3) := dk_182 0 94 (dk_at dksX0_differ_9 6 rfl rfl)
theorem dX0_differ_218 : decode cX0_differ 218 = .ok (.ireturn, 1) := dk_172 (dk_at dksX0_differ_9 9 rfl rfl)
abbrev cX0_again : ByteArray := prog_1_method_50_code
def yX0_again : MethodName := ⟨RX0, "again", "(IIII)I"⟩
def dkwX0_again_5 : List UInt8 := [180, 0, 39, 180, 1, 17, 172, 58, 5, 42, 25, 5, 180, 0, 121, 182, 0, 94, 172]
abbrev dktX0_again_5 : List UInt8 := dkwX0_again_5 ++ []
def dkwX0_again_4 : List UInt8 := [28, 112, 47, 136, 42, 180, 0, 30, 180, 0, 163, 3, 46, 182, 0, 166, 132, 6, 1, 167, 255, 207, 42]
abbrev dktX0_again_4 : List UInt8 := dkwX0_again_4 ++ dktX0_again_5
def dkwX0_again_3 : List UInt8 := [162, 0, 46, 42, 180, 0, 39, 42, 180, 0, 30, 42, 180, 0, 30, 180, 0, 149, 29, 50, 25, 5, 21, 6]
abbrev dktX0_again_3 : List UInt8 := dkwX0_again_3 ++ dktX0_again_4
def dkwX0_again_2 : List UInt8 := [42, 180, 0, 30, 180, 0, 156, 29, 46, 182, 0, 159, 87, 3, 54, 6, 21, 6, 21, 4, 28, 104]
abbrev dktX0_again_2 : List UInt8 := dkwX0_again_2 ++ dktX0_again_3
def dkwX0_again_1 : List UInt8 := [167, 0, 4, 3, 27, 28, 182, 1, 10, 58, 5, 42, 180, 0, 39, 42, 180, 0, 30, 180, 0, 153, 29, 46]
abbrev dktX0_again_1 : List UInt8 := dkwX0_again_1 ++ dktX0_again_2
def dkwX0_again_0 : List UInt8 := [42, 42, 180, 0, 30, 29, 182, 0, 146, 153, 0, 18, 21, 4, 3, 16, 20, 184, 0, 73, 153, 0, 7, 4]
abbrev dktX0_again_0 : List UInt8 := dkwX0_again_0 ++ dktX0_again_1
theorem dksX0_again_0 : cX0_again.data.toList.drop 0 = dktX0_again_0 := by decide +kernel
theorem dksX0_again_1 : cX0_again.data.toList.drop 24 = dktX0_again_1 := dk_seg dksX0_again_0 24 rfl rfl
theorem dksX0_again_2 : cX0_again.data.toList.drop 48 = dktX0_again_2 := dk_seg dksX0_again_1 24 rfl rfl
theorem dksX0_again_3 : cX0_again.data.toList.drop 70 = dktX0_again_3 := dk_seg dksX0_again_2 22 rfl rfl
theorem dksX0_again_4 : cX0_again.data.toList.drop 94 = dktX0_again_4 := dk_seg dksX0_again_3 24 rfl rfl
theorem dksX0_again_5 : cX0_again.data.toList.drop 117 = dktX0_again_5 := dk_seg dksX0_again_4 23 rfl rfl
theorem dX0_again_0 : decode cX0_again 0 = .ok (.aload_n 0, 1) := dk_42 (dk_at dksX0_again_0 0 rfl rfl)
theorem dX0_again_1 : decode cX0_again 1 = .ok (.aload_n 0, 1) := dk_42 (dk_at dksX0_again_0 1 rfl rfl)
theorem dX0_again_2 : decode cX0_again 2 = .ok (.getfield 30, 3) := dk_180 0 30 (dk_at dksX0_again_0 2 rfl rfl)
theorem dX0_again_5 : decode cX0_again 5 = .ok (.iload_n 3, 1) := dk_29 (dk_at dksX0_again_0 5 rfl rfl)
theorem dX0_again_6 : decode cX0_again 6 = .ok (.invokevirtual 146, 3) := dk_182 0 146 (dk_at dksX0_again_0 6 rfl rfl)
theorem dX0_again_9 : decode cX0_again 9 = .ok (.ifCond .eq 18, 3) := dk_153 0 18 (dk_at dksX0_again_0 9 rfl rfl)
theorem dX0_again_12 : decode cX0_again 12 = .ok (.iload 4, 2) := dk_21 4 (dk_at dksX0_again_0 12 rfl rfl)
theorem dX0_again_14 : decode cX0_again 14 = .ok (.iconst 0, 1) := dk_3 (dk_at dksX0_again_0 14 rfl rfl)
theorem dX0_again_15 : decode cX0_again 15 = .ok (.bipush 20, 2) := dk_16 20 (dk_at dksX0_again_0 15 rfl rfl)
theorem dX0_again_17 : decode cX0_again 17 = .ok (.invokestatic 73, 3) := dk_184 0 73 (dk_at dksX0_again_0 17 rfl rfl)
theorem dX0_again_20 : decode cX0_again 20 = .ok (.ifCond .eq 7, 3) := dk_153 0 7 (dk_at dksX0_again_0 20 rfl rfl)
theorem dX0_again_23 : decode cX0_again 23 = .ok (.iconst 1, 1) := dk_4 (dk_at dksX0_again_0 23 rfl rfl)
theorem dX0_again_24 : decode cX0_again 24 = .ok (.goto 4, 3) := dk_167 0 4 (dk_at dksX0_again_1 0 rfl rfl)
theorem dX0_again_27 : decode cX0_again 27 = .ok (.iconst 0, 1) := dk_3 (dk_at dksX0_again_1 3 rfl rfl)
theorem dX0_again_28 : decode cX0_again 28 = .ok (.iload_n 1, 1) := dk_27 (dk_at dksX0_again_1 4 rfl rfl)
theorem dX0_again_29 : decode cX0_again 29 = .ok (.iload_n 2, 1) := dk_28 (dk_at dksX0_again_1 5 rfl rfl)
theorem dX0_again_30 : decode cX0_again 30 = .ok (.invokevirtual 266, 3) := dk_182 1 10 (dk_at dksX0_again_1 6 rfl rfl)
theorem dX0_again_33 : decode cX0_again 33 = .ok (.astore 5, 2) := dk_58 5 (dk_at dksX0_again_1 9 rfl rfl)
theorem dX0_again_35 : decode cX0_again 35 = .ok (.aload_n 0, 1) := dk_42 (dk_at dksX0_again_1 11 rfl rfl)
theorem dX0_again_36 : decode cX0_again 36 = .ok (.getfield 39, 3) := dk_180 0 39 (dk_at dksX0_again_1 12 rfl rfl)
theorem dX0_again_39 : decode cX0_again 39 = .ok (.aload_n 0, 1) := dk_42 (dk_at dksX0_again_1 15 rfl rfl)
theorem dX0_again_40 : decode cX0_again 40 = .ok (.getfield 30, 3) := dk_180 0 30 (dk_at dksX0_again_1 16 rfl rfl)
theorem dX0_again_43 : decode cX0_again 43 = .ok (.getfield 153, 3) := dk_180 0 153 (dk_at dksX0_again_1 19 rfl rfl)
theorem dX0_again_46 : decode cX0_again 46 = .ok (.iload_n 3, 1) := dk_29 (dk_at dksX0_again_1 22 rfl rfl)
theorem dX0_again_47 : decode cX0_again 47 = .ok (.iaload, 1) := dk_46 (dk_at dksX0_again_1 23 rfl rfl)
theorem dX0_again_48 : decode cX0_again 48 = .ok (.aload_n 0, 1) := dk_42 (dk_at dksX0_again_2 0 rfl rfl)
theorem dX0_again_49 : decode cX0_again 49 = .ok (.getfield 30, 3) := dk_180 0 30 (dk_at dksX0_again_2 1 rfl rfl)
theorem dX0_again_52 : decode cX0_again 52 = .ok (.getfield 156, 3) := dk_180 0 156 (dk_at dksX0_again_2 4 rfl rfl)
theorem dX0_again_55 : decode cX0_again 55 = .ok (.iload_n 3, 1) := dk_29 (dk_at dksX0_again_2 7 rfl rfl)
theorem dX0_again_56 : decode cX0_again 56 = .ok (.iaload, 1) := dk_46 (dk_at dksX0_again_2 8 rfl rfl)
theorem dX0_again_57 : decode cX0_again 57 = .ok (.invokevirtual 159, 3) := dk_182 0 159 (dk_at dksX0_again_2 9 rfl rfl)
theorem dX0_again_60 : decode cX0_again 60 = .ok (.pop, 1) := dk_87 (dk_at dksX0_again_2 12 rfl rfl)
theorem dX0_again_61 : decode cX0_again 61 = .ok (.iconst 0, 1) := dk_3 (dk_at dksX0_again_2 13 rfl rfl)
theorem dX0_again_62 : decode cX0_again 62 = .ok (.istore 6, 2) := dk_54 6 (dk_at dksX0_again_2 14 rfl rfl)
theorem dX0_again_64 : decode cX0_again 64 = .ok (.iload 6, 2) := dk_21 6 (dk_at dksX0_again_2 16 rfl rfl)
theorem dX0_again_66 : decode cX0_again 66 = .ok (.iload 4, 2) := dk_21 4 (dk_at dksX0_again_2 18 rfl rfl)
theorem dX0_again_68 : decode cX0_again 68 = .ok (.iload_n 2, 1) := dk_28 (dk_at dksX0_again_2 20 rfl rfl)
theorem dX0_again_69 : decode cX0_again 69 = .ok (.imul, 1) := dk_104 (dk_at dksX0_again_2 21 rfl rfl)
theorem dX0_again_70 : decode cX0_again 70 = .ok (.if_icmp .ge 46, 3) := dk_162 0 46 (dk_at dksX0_again_3 0 rfl rfl)
theorem dX0_again_73 : decode cX0_again 73 = .ok (.aload_n 0, 1) := dk_42 (dk_at dksX0_again_3 3 rfl rfl)
theorem dX0_again_74 : decode cX0_again 74 = .ok (.getfield 39, 3) := dk_180 0 39 (dk_at dksX0_again_3 4 rfl rfl)
theorem dX0_again_77 : decode cX0_again 77 = .ok (.aload_n 0, 1) := dk_42 (dk_at dksX0_again_3 7 rfl rfl)
theorem dX0_again_78 : decode cX0_again 78 = .ok (.getfield 30, 3) := dk_180 0 30 (dk_at dksX0_again_3 8 rfl rfl)
theorem dX0_again_81 : decode cX0_again 81 = .ok (.aload_n 0, 1) := dk_42 (dk_at dksX0_again_3 11 rfl rfl)
theorem dX0_again_82 : decode cX0_again 82 = .ok (.getfield 30, 3) := dk_180 0 30 (dk_at dksX0_again_3 12 rfl rfl)
theorem dX0_again_85 : decode cX0_again 85 = .ok (.getfield 149, 3) := dk_180 0 149 (dk_at dksX0_again_3 15 rfl rfl)
theorem dX0_again_88 : decode cX0_again 88 = .ok (.iload_n 3, 1) := dk_29 (dk_at dksX0_again_3 18 rfl rfl)
theorem dX0_again_89 : decode cX0_again 89 = .ok (.aaload, 1) := dk_50 (dk_at dksX0_again_3 19 rfl rfl)
theorem dX0_again_90 : decode cX0_again 90 = .ok (.aload 5, 2) := dk_25 5 (dk_at dksX0_again_3 20 rfl rfl)
theorem dX0_again_92 : decode cX0_again 92 = .ok (.iload 6, 2) := dk_21 6 (dk_at dksX0_again_3 22 rfl rfl)
theorem dX0_again_94 : decode cX0_again 94 = .ok (.iload_n 2, 1) := dk_28 (dk_at dksX0_again_4 0 rfl rfl)
theorem dX0_again_95 : decode cX0_again 95 = .ok (.irem, 1) := dk_112 (dk_at dksX0_again_4 1 rfl rfl)
theorem dX0_again_96 : decode cX0_again 96 = .ok (.laload, 1) := dk_47 (dk_at dksX0_again_4 2 rfl rfl)
theorem dX0_again_97 : decode cX0_again 97 = .ok (.l2i, 1) := dk_136 (dk_at dksX0_again_4 3 rfl rfl)
theorem dX0_again_98 : decode cX0_again 98 = .ok (.aload_n 0, 1) := dk_42 (dk_at dksX0_again_4 4 rfl rfl)
theorem dX0_again_99 : decode cX0_again 99 = .ok (.getfield 30, 3) := dk_180 0 30 (dk_at dksX0_again_4 5 rfl rfl)
theorem dX0_again_102 : decode cX0_again 102 = .ok (.getfield 163, 3) := dk_180 0 163 (dk_at dksX0_again_4 8 rfl rfl)
theorem dX0_again_105 : decode cX0_again 105 = .ok (.iconst 0, 1) := dk_3 (dk_at dksX0_again_4 11 rfl rfl)
theorem dX0_again_106 : decode cX0_again 106 = .ok (.iaload, 1) := dk_46 (dk_at dksX0_again_4 12 rfl rfl)
theorem dX0_again_107 : decode cX0_again 107 = .ok (.invokevirtual 166, 3) := dk_182 0 166 (dk_at dksX0_again_4 13 rfl rfl)
theorem dX0_again_110 : decode cX0_again 110 = .ok (.iinc 6 1, 3) := dk_132 6 1 (dk_at dksX0_again_4 16 rfl rfl)
theorem dX0_again_113 : decode cX0_again 113 = .ok (.goto (-49), 3) := dk_167 255 207 (dk_at dksX0_again_4 19 rfl rfl)
theorem dX0_again_116 : decode cX0_again 116 = .ok (.aload_n 0, 1) := dk_42 (dk_at dksX0_again_4 22 rfl rfl)
theorem dX0_again_117 : decode cX0_again 117 = .ok (.getfield 39, 3) := dk_180 0 39 (dk_at dksX0_again_5 0 rfl rfl)
theorem dX0_again_120 : decode cX0_again 120 = .ok (.getfield 273, 3) := dk_180 1 17 (dk_at dksX0_again_5 3 rfl rfl)
theorem dX0_again_123 : decode cX0_again 123 = .ok (.ireturn, 1) := dk_172 (dk_at dksX0_again_5 6 rfl rfl)
theorem dX0_again_124 : decode cX0_again 124 = .ok (.astore 5, 2) := dk_58 5 (dk_at dksX0_again_5 7 rfl rfl)
theorem dX0_again_126 : decode cX0_again 126 = .ok (.aload_n 0, 1) := dk_42 (dk_at dksX0_again_5 9 rfl rfl)
theorem dX0_again_127 : decode cX0_again 127 = .ok (.aload 5, 2) := dk_25 5 (dk_at dksX0_again_5 10 rfl rfl)
theorem dX0_again_129 : decode cX0_again 129 = .ok (.getfield 121, 3) := dk_180 0 121 (dk_at dksX0_again_5 12 rfl rfl)
theorem dX0_again_132 : decode cX0_again 132 = .ok (.invokevirtual 94, 3) := dk_182 0 94 (dk_at dksX0_again_5 15 rfl rfl)
theorem dX0_again_135 : decode cX0_again 135 = .ok (.ireturn, 1) := dk_172 (dk_at dksX0_again_5 18 rfl rfl)
abbrev cX0_ring : ByteArray := prog_1_method_51_code
def yX0_ring : MethodName := ⟨RX0, "ring", "(III)I"⟩
def dkwX0_ring_7 : List UInt8 := [2, 172, 58, 4, 42, 25, 4, 180, 0, 121, 182, 0, 94, 172]
abbrev dktX0_ring_7 : List UInt8 := dkwX0_ring_7 ++ []
def dkwX0_ring_6 : List UInt8 := [180, 0, 170, 42, 180, 0, 30, 180, 0, 156, 29, 46, 160, 0, 6, 21, 5, 172, 132, 5, 1, 167, 255, 141]
abbrev dktX0_ring_6 : List UInt8 := dkwX0_ring_6 ++ dktX0_ring_7
def dkwX0_ring_5 : List UInt8 := [180, 0, 39, 180, 1, 17, 42, 180, 0, 30, 180, 0, 153, 29, 46, 160, 0, 25, 42, 180, 0, 39]
abbrev dktX0_ring_5 : List UInt8 := dkwX0_ring_5 ++ dktX0_ring_6
def dkwX0_ring_4 : List UInt8 := [22, 9, 136, 42, 180, 0, 30, 180, 0, 163, 3, 46, 182, 0, 166, 132, 8, 1, 167, 255, 207, 42]
abbrev dktX0_ring_4 : List UInt8 := dkwX0_ring_4 ++ dktX0_ring_5
def dkwX0_ring_3 : List UInt8 := [25, 6, 21, 8, 47, 55, 9, 42, 180, 0, 39, 42, 180, 0, 30, 42, 180, 0, 30, 180, 0, 149, 29, 50]
abbrev dktX0_ring_3 : List UInt8 := dkwX0_ring_3 ++ dktX0_ring_4
def dkwX0_ring_2 : List UInt8 := [16, 20, 163, 0, 114, 25, 4, 58, 6, 25, 6, 190, 54, 7, 3, 54, 8, 21, 8, 21, 7, 162, 0, 48]
abbrev dktX0_ring_2 : List UInt8 := dkwX0_ring_2 ++ dktX0_ring_3
def dkwX0_ring_1 : List UInt8 := [180, 0, 153, 29, 46, 42, 180, 0, 30, 180, 0, 156, 29, 46, 182, 0, 159, 87, 4, 54, 5, 21, 5]
abbrev dktX0_ring_1 : List UInt8 := dkwX0_ring_1 ++ dktX0_ring_2
def dkwX0_ring_0 : List UInt8 := [42, 42, 180, 0, 30, 29, 182, 0, 146, 27, 28, 182, 1, 10, 58, 4, 42, 180, 0, 39, 42, 180, 0, 30]
abbrev dktX0_ring_0 : List UInt8 := dkwX0_ring_0 ++ dktX0_ring_1
theorem dksX0_ring_0 : cX0_ring.data.toList.drop 0 = dktX0_ring_0 := by decide +kernel
theorem dksX0_ring_1 : cX0_ring.data.toList.drop 24 = dktX0_ring_1 := dk_seg dksX0_ring_0 24 rfl rfl
theorem dksX0_ring_2 : cX0_ring.data.toList.drop 47 = dktX0_ring_2 := dk_seg dksX0_ring_1 23 rfl rfl
theorem dksX0_ring_3 : cX0_ring.data.toList.drop 71 = dktX0_ring_3 := dk_seg dksX0_ring_2 24 rfl rfl
theorem dksX0_ring_4 : cX0_ring.data.toList.drop 95 = dktX0_ring_4 := dk_seg dksX0_ring_3 24 rfl rfl
theorem dksX0_ring_5 : cX0_ring.data.toList.drop 117 = dktX0_ring_5 := dk_seg dksX0_ring_4 22 rfl rfl
theorem dksX0_ring_6 : cX0_ring.data.toList.drop 139 = dktX0_ring_6 := dk_seg dksX0_ring_5 22 rfl rfl
theorem dksX0_ring_7 : cX0_ring.data.toList.drop 163 = dktX0_ring_7 := dk_seg dksX0_ring_6 24 rfl rfl
theorem dX0_ring_0 : decode cX0_ring 0 = .ok (.aload_n 0, 1) := dk_42 (dk_at dksX0_ring_0 0 rfl rfl)
theorem dX0_ring_1 : decode cX0_ring 1 = .ok (.aload_n 0, 1) := dk_42 (dk_at dksX0_ring_0 1 rfl rfl)
theorem dX0_ring_2 : decode cX0_ring 2 = .ok (.getfield 30, 3) := dk_180 0 30 (dk_at dksX0_ring_0 2 rfl rfl)
theorem dX0_ring_5 : decode cX0_ring 5 = .ok (.iload_n 3, 1) := dk_29 (dk_at dksX0_ring_0 5 rfl rfl)
theorem dX0_ring_6 : decode cX0_ring 6 = .ok (.invokevirtual 146, 3) := dk_182 0 146 (dk_at dksX0_ring_0 6 rfl rfl)
theorem dX0_ring_9 : decode cX0_ring 9 = .ok (.iload_n 1, 1) := dk_27 (dk_at dksX0_ring_0 9 rfl rfl)
theorem dX0_ring_10 : decode cX0_ring 10 = .ok (.iload_n 2, 1) := dk_28 (dk_at dksX0_ring_0 10 rfl rfl)
theorem dX0_ring_11 : decode cX0_ring 11 = .ok (.invokevirtual 266, 3) := dk_182 1 10 (dk_at dksX0_ring_0 11 rfl rfl)
theorem dX0_ring_14 : decode cX0_ring 14 = .ok (.astore 4, 2) := dk_58 4 (dk_at dksX0_ring_0 14 rfl rfl)
theorem dX0_ring_16 : decode cX0_ring 16 = .ok (.aload_n 0, 1) := dk_42 (dk_at dksX0_ring_0 16 rfl rfl)
theorem dX0_ring_17 : decode cX0_ring 17 = .ok (.getfield 39, 3) := dk_180 0 39 (dk_at dksX0_ring_0 17 rfl rfl)
theorem dX0_ring_20 : decode cX0_ring 20 = .ok (.aload_n 0, 1) := dk_42 (dk_at dksX0_ring_0 20 rfl rfl)
theorem dX0_ring_21 : decode cX0_ring 21 = .ok (.getfield 30, 3) := dk_180 0 30 (dk_at dksX0_ring_0 21 rfl rfl)
theorem dX0_ring_24 : decode cX0_ring 24 = .ok (.getfield 153, 3) := dk_180 0 153 (dk_at dksX0_ring_1 0 rfl rfl)
theorem dX0_ring_27 : decode cX0_ring 27 = .ok (.iload_n 3, 1) := dk_29 (dk_at dksX0_ring_1 3 rfl rfl)
theorem dX0_ring_28 : decode cX0_ring 28 = .ok (.iaload, 1) := dk_46 (dk_at dksX0_ring_1 4 rfl rfl)
theorem dX0_ring_29 : decode cX0_ring 29 = .ok (.aload_n 0, 1) := dk_42 (dk_at dksX0_ring_1 5 rfl rfl)
theorem dX0_ring_30 : decode cX0_ring 30 = .ok (.getfield 30, 3) := dk_180 0 30 (dk_at dksX0_ring_1 6 rfl rfl)
theorem dX0_ring_33 : decode cX0_ring 33 = .ok (.getfield 156, 3) := dk_180 0 156 (dk_at dksX0_ring_1 9 rfl rfl)
theorem dX0_ring_36 : decode cX0_ring 36 = .ok (.iload_n 3, 1) := dk_29 (dk_at dksX0_ring_1 12 rfl rfl)
theorem dX0_ring_37 : decode cX0_ring 37 = .ok (.iaload, 1) := dk_46 (dk_at dksX0_ring_1 13 rfl rfl)
theorem dX0_ring_38 : decode cX0_ring 38 = .ok (.invokevirtual 159, 3) := dk_182 0 159 (dk_at dksX0_ring_1 14 rfl rfl)
theorem dX0_ring_41 : decode cX0_ring 41 = .ok (.pop, 1) := dk_87 (dk_at dksX0_ring_1 17 rfl rfl)
theorem dX0_ring_42 : decode cX0_ring 42 = .ok (.iconst 1, 1) := dk_4 (dk_at dksX0_ring_1 18 rfl rfl)
theorem dX0_ring_43 : decode cX0_ring 43 = .ok (.istore 5, 2) := dk_54 5 (dk_at dksX0_ring_1 19 rfl rfl)
theorem dX0_ring_45 : decode cX0_ring 45 = .ok (.iload 5, 2) := dk_21 5 (dk_at dksX0_ring_1 21 rfl rfl)
theorem dX0_ring_47 : decode cX0_ring 47 = .ok (.bipush 20, 2) := dk_16 20 (dk_at dksX0_ring_2 0 rfl rfl)
theorem dX0_ring_49 : decode cX0_ring 49 = .ok (.if_icmp .gt 114, 3) := dk_163 0 114 (dk_at dksX0_ring_2 2 rfl rfl)
theorem dX0_ring_52 : decode cX0_ring 52 = .ok (.aload 4, 2) := dk_25 4 (dk_at dksX0_ring_2 5 rfl rfl)
theorem dX0_ring_54 : decode cX0_ring 54 = .ok (.astore 6, 2) := dk_58 6 (dk_at dksX0_ring_2 7 rfl rfl)
theorem dX0_ring_56 : decode cX0_ring 56 = .ok (.aload 6, 2) := dk_25 6 (dk_at dksX0_ring_2 9 rfl rfl)
theorem dX0_ring_58 : decode cX0_ring 58 = .ok (.arraylength, 1) := dk_190 (dk_at dksX0_ring_2 11 rfl rfl)
theorem dX0_ring_59 : decode cX0_ring 59 = .ok (.istore 7, 2) := dk_54 7 (dk_at dksX0_ring_2 12 rfl rfl)
theorem dX0_ring_61 : decode cX0_ring 61 = .ok (.iconst 0, 1) := dk_3 (dk_at dksX0_ring_2 14 rfl rfl)
theorem dX0_ring_62 : decode cX0_ring 62 = .ok (.istore 8, 2) := dk_54 8 (dk_at dksX0_ring_2 15 rfl rfl)
theorem dX0_ring_64 : decode cX0_ring 64 = .ok (.iload 8, 2) := dk_21 8 (dk_at dksX0_ring_2 17 rfl rfl)
theorem dX0_ring_66 : decode cX0_ring 66 = .ok (.iload 7, 2) := dk_21 7 (dk_at dksX0_ring_2 19 rfl rfl)
theorem dX0_ring_68 : decode cX0_ring 68 = .ok (.if_icmp .ge 48, 3) := dk_162 0 48 (dk_at dksX0_ring_2 21 rfl rfl)
theorem dX0_ring_71 : decode cX0_ring 71 = .ok (.aload 6, 2) := dk_25 6 (dk_at dksX0_ring_3 0 rfl rfl)
theorem dX0_ring_73 : decode cX0_ring 73 = .ok (.iload 8, 2) := dk_21 8 (dk_at dksX0_ring_3 2 rfl rfl)
theorem dX0_ring_75 : decode cX0_ring 75 = .ok (.laload, 1) := dk_47 (dk_at dksX0_ring_3 4 rfl rfl)
theorem dX0_ring_76 : decode cX0_ring 76 = .ok (.lstore 9, 2) := dk_55 9 (dk_at dksX0_ring_3 5 rfl rfl)
theorem dX0_ring_78 : decode cX0_ring 78 = .ok (.aload_n 0, 1) := dk_42 (dk_at dksX0_ring_3 7 rfl rfl)
theorem dX0_ring_79 : decode cX0_ring 79 = .ok (.getfield 39, 3) := dk_180 0 39 (dk_at dksX0_ring_3 8 rfl rfl)
theorem dX0_ring_82 : decode cX0_ring 82 = .ok (.aload_n 0, 1) := dk_42 (dk_at dksX0_ring_3 11 rfl rfl)
theorem dX0_ring_83 : decode cX0_ring 83 = .ok (.getfield 30, 3) := dk_180 0 30 (dk_at dksX0_ring_3 12 rfl rfl)
theorem dX0_ring_86 : decode cX0_ring 86 = .ok (.aload_n 0, 1) := dk_42 (dk_at dksX0_ring_3 15 rfl rfl)
theorem dX0_ring_87 : decode cX0_ring 87 = .ok (.getfield 30, 3) := dk_180 0 30 (dk_at dksX0_ring_3 16 rfl rfl)
theorem dX0_ring_90 : decode cX0_ring 90 = .ok (.getfield 149, 3) := dk_180 0 149 (dk_at dksX0_ring_3 19 rfl rfl)
theorem dX0_ring_93 : decode cX0_ring 93 = .ok (.iload_n 3, 1) := dk_29 (dk_at dksX0_ring_3 22 rfl rfl)
theorem dX0_ring_94 : decode cX0_ring 94 = .ok (.aaload, 1) := dk_50 (dk_at dksX0_ring_3 23 rfl rfl)
theorem dX0_ring_95 : decode cX0_ring 95 = .ok (.lload 9, 2) := dk_22 9 (dk_at dksX0_ring_4 0 rfl rfl)
theorem dX0_ring_97 : decode cX0_ring 97 = .ok (.l2i, 1) := dk_136 (dk_at dksX0_ring_4 2 rfl rfl)
theorem dX0_ring_98 : decode cX0_ring 98 = .ok (.aload_n 0, 1) := dk_42 (dk_at dksX0_ring_4 3 rfl rfl)
theorem dX0_ring_99 : decode cX0_ring 99 = .ok (.getfield 30, 3) := dk_180 0 30 (dk_at dksX0_ring_4 4 rfl rfl)
theorem dX0_ring_102 : decode cX0_ring 102 = .ok (.getfield 163, 3) := dk_180 0 163 (dk_at dksX0_ring_4 7 rfl rfl)
theorem dX0_ring_105 : decode cX0_ring 105 = .ok (.iconst 0, 1) := dk_3 (dk_at dksX0_ring_4 10 rfl rfl)
theorem dX0_ring_106 : decode cX0_ring 106 = .ok (.iaload, 1) := dk_46 (dk_at dksX0_ring_4 11 rfl rfl)
theorem dX0_ring_107 : decode cX0_ring 107 = .ok (.invokevirtual 166, 3) := dk_182 0 166 (dk_at dksX0_ring_4 12 rfl rfl)
theorem dX0_ring_110 : decode cX0_ring 110 = .ok (.iinc 8 1, 3) := dk_132 8 1 (dk_at dksX0_ring_4 15 rfl rfl)
theorem dX0_ring_113 : decode cX0_ring 113 = .ok (.goto (-49), 3) := dk_167 255 207 (dk_at dksX0_ring_4 18 rfl rfl)
theorem dX0_ring_116 : decode cX0_ring 116 = .ok (.aload_n 0, 1) := dk_42 (dk_at dksX0_ring_4 21 rfl rfl)
theorem dX0_ring_117 : decode cX0_ring 117 = .ok (.getfield 39, 3) := dk_180 0 39 (dk_at dksX0_ring_5 0 rfl rfl)
theorem dX0_ring_120 : decode cX0_ring 120 = .ok (.getfield 273, 3) := dk_180 1 17 (dk_at dksX0_ring_5 3 rfl rfl)
theorem dX0_ring_123 : decode cX0_ring 123 = .ok (.aload_n 0, 1) := dk_42 (dk_at dksX0_ring_5 6 rfl rfl)
theorem dX0_ring_124 : decode cX0_ring 124 = .ok (.getfield 30, 3) := dk_180 0 30 (dk_at dksX0_ring_5 7 rfl rfl)
theorem dX0_ring_127 : decode cX0_ring 127 = .ok (.getfield 153, 3) := dk_180 0 153 (dk_at dksX0_ring_5 10 rfl rfl)
theorem dX0_ring_130 : decode cX0_ring 130 = .ok (.iload_n 3, 1) := dk_29 (dk_at dksX0_ring_5 13 rfl rfl)
theorem dX0_ring_131 : decode cX0_ring 131 = .ok (.iaload, 1) := dk_46 (dk_at dksX0_ring_5 14 rfl rfl)
theorem dX0_ring_132 : decode cX0_ring 132 = .ok (.if_icmp .ne 25, 3) := dk_160 0 25 (dk_at dksX0_ring_5 15 rfl rfl)
theorem dX0_ring_135 : decode cX0_ring 135 = .ok (.aload_n 0, 1) := dk_42 (dk_at dksX0_ring_5 18 rfl rfl)
theorem dX0_ring_136 : decode cX0_ring 136 = .ok (.getfield 39, 3) := dk_180 0 39 (dk_at dksX0_ring_5 19 rfl rfl)
theorem dX0_ring_139 : decode cX0_ring 139 = .ok (.getfield 170, 3) := dk_180 0 170 (dk_at dksX0_ring_6 0 rfl rfl)
theorem dX0_ring_142 : decode cX0_ring 142 = .ok (.aload_n 0, 1) := dk_42 (dk_at dksX0_ring_6 3 rfl rfl)
theorem dX0_ring_143 : decode cX0_ring 143 = .ok (.getfield 30, 3) := dk_180 0 30 (dk_at dksX0_ring_6 4 rfl rfl)
theorem dX0_ring_146 : decode cX0_ring 146 = .ok (.getfield 156, 3) := dk_180 0 156 (dk_at dksX0_ring_6 7 rfl rfl)
theorem dX0_ring_149 : decode cX0_ring 149 = .ok (.iload_n 3, 1) := dk_29 (dk_at dksX0_ring_6 10 rfl rfl)
theorem dX0_ring_150 : decode cX0_ring 150 = .ok (.iaload, 1) := dk_46 (dk_at dksX0_ring_6 11 rfl rfl)
theorem dX0_ring_151 : decode cX0_ring 151 = .ok (.if_icmp .ne 6, 3) := dk_160 0 6 (dk_at dksX0_ring_6 12 rfl rfl)
theorem dX0_ring_154 : decode cX0_ring 154 = .ok (.iload 5, 2) := dk_21 5 (dk_at dksX0_ring_6 15 rfl rfl)
theorem dX0_ring_156 : decode cX0_ring 156 = .ok (.ireturn, 1) := dk_172 (dk_at dksX0_ring_6 17 rfl rfl)
theorem dX0_ring_157 : decode cX0_ring 157 = .ok (.iinc 5 1, 3) := dk_132 5 1 (dk_at dksX0_ring_6 18 rfl rfl)
theorem dX0_ring_160 : decode cX0_ring 160 = .ok (.goto (-115), 3) := dk_167 255 141 (dk_at dksX0_ring_6 21 rfl rfl)
theorem dX0_ring_163 : decode cX0_ring 163 = .ok (.iconst (-1), 1) := dk_2 (dk_at dksX0_ring_7 0 rfl rfl)
theorem dX0_ring_164 : decode cX0_ring 164 = .ok (.ireturn, 1) := dk_172 (dk_at dksX0_ring_7 1 rfl rfl)
theorem dX0_ring_165 : decode cX0_ring 165 = .ok (.astore 4, 2) := dk_58 4 (dk_at dksX0_ring_7 2 rfl rfl)
theorem dX0_ring_167 : decode cX0_ring 167 = .ok (.aload_n 0, 1) := dk_42 (dk_at dksX0_ring_7 4 rfl rfl)
theorem dX0_ring_168 : decode cX0_ring 168 = .ok (.aload 4, 2) := dk_25 4 (dk_at dksX0_ring_7 5 rfl rfl)
theorem dX0_ring_170 : decode cX0_ring 170 = .ok (.getfield 121, 3) := dk_180 0 121 (dk_at dksX0_ring_7 7 rfl rfl)
theorem dX0_ring_173 : decode cX0_ring 173 = .ok (.invokevirtual 94, 3) := dk_182 0 94 (dk_at dksX0_ring_7 10 rfl rfl)
theorem dX0_ring_176 : decode cX0_ring 176 = .ok (.ireturn, 1) := dk_172 (dk_at dksX0_ring_7 13 rfl rfl)
abbrev cX0_lonely : ByteArray := prog_1_method_52_code
def yX0_lonely : MethodName := ⟨RX0, "lonely", "(II)I"⟩
def dkwX0_lonely_5 : List UInt8 := [42, 45, 180, 0, 121, 182, 0, 94, 172]
abbrev dktX0_lonely_5 : List UInt8 := dkwX0_lonely_5 ++ []
def dkwX0_lonely_4 : List UInt8 := [160, 0, 10, 4, 21, 5, 120, 167, 0, 4, 3, 128, 54, 4, 132, 5, 1, 167, 255, 209, 21, 4, 172, 78]
abbrev dktX0_lonely_4 : List UInt8 := dkwX0_lonely_4 ++ dktX0_lonely_5
def dkwX0_lonely_3 : List UInt8 := [180, 0, 200, 162, 0, 41, 21, 4, 42, 180, 0, 57, 42, 21, 5, 45, 182, 1, 13, 180, 1, 17, 46, 4]
abbrev dktX0_lonely_3 : List UInt8 := dkwX0_lonely_3 ++ dktX0_lonely_4
def dkwX0_lonely_2 : List UInt8 := [46, 4, 96, 79, 132, 4, 1, 167, 255, 222, 3, 54, 4, 3, 54, 5, 21, 5, 42, 180, 0, 30]
abbrev dktX0_lonely_2 : List UInt8 := dkwX0_lonely_2 ++ dktX0_lonely_3
def dkwX0_lonely_1 : List UInt8 := [180, 0, 30, 180, 0, 200, 162, 0, 28, 42, 180, 0, 57, 42, 21, 4, 45, 182, 1, 13, 180, 1, 17, 92]
abbrev dktX0_lonely_1 : List UInt8 := dkwX0_lonely_1 ++ dktX0_lonely_2
def dkwX0_lonely_0 : List UInt8 := [42, 4, 27, 28, 182, 1, 10, 78, 42, 180, 0, 57, 3, 184, 1, 26, 3, 54, 4, 21, 4, 42]
abbrev dktX0_lonely_0 : List UInt8 := dkwX0_lonely_0 ++ dktX0_lonely_1
theorem dksX0_lonely_0 : cX0_lonely.data.toList.drop 0 = dktX0_lonely_0 := by decide +kernel
theorem dksX0_lonely_1 : cX0_lonely.data.toList.drop 22 = dktX0_lonely_1 := dk_seg dksX0_lonely_0 22 rfl rfl
theorem dksX0_lonely_2 : cX0_lonely.data.toList.drop 46 = dktX0_lonely_2 := dk_seg dksX0_lonely_1 24 rfl rfl
theorem dksX0_lonely_3 : cX0_lonely.data.toList.drop 68 = dktX0_lonely_3 := dk_seg dksX0_lonely_2 22 rfl rfl
theorem dksX0_lonely_4 : cX0_lonely.data.toList.drop 92 = dktX0_lonely_4 := dk_seg dksX0_lonely_3 24 rfl rfl
theorem dksX0_lonely_5 : cX0_lonely.data.toList.drop 116 = dktX0_lonely_5 := dk_seg dksX0_lonely_4 24 rfl rfl
theorem dX0_lonely_0 : decode cX0_lonely 0 = .ok (.aload_n 0, 1) := dk_42 (dk_at dksX0_lonely_0 0 rfl rfl)
theorem dX0_lonely_1 : decode cX0_lonely 1 = .ok (.iconst 1, 1) := dk_4 (dk_at dksX0_lonely_0 1 rfl rfl)
theorem dX0_lonely_2 : decode cX0_lonely 2 = .ok (.iload_n 1, 1) := dk_27 (dk_at dksX0_lonely_0 2 rfl rfl)
theorem dX0_lonely_3 : decode cX0_lonely 3 = .ok (.iload_n 2, 1) := dk_28 (dk_at dksX0_lonely_0 3 rfl rfl)
theorem dX0_lonely_4 : decode cX0_lonely 4 = .ok (.invokevirtual 266, 3) := dk_182 1 10 (dk_at dksX0_lonely_0 4 rfl rfl)
theorem dX0_lonely_7 : decode cX0_lonely 7 = .ok (.astore_n 3, 1) := dk_78 (dk_at dksX0_lonely_0 7 rfl rfl)
theorem dX0_lonely_8 : decode cX0_lonely 8 = .ok (.aload_n 0, 1) := dk_42 (dk_at dksX0_lonely_0 8 rfl rfl)
theorem dX0_lonely_9 : decode cX0_lonely 9 = .ok (.getfield 57, 3) := dk_180 0 57 (dk_at dksX0_lonely_0 9 rfl rfl)
theorem dX0_lonely_12 : decode cX0_lonely 12 = .ok (.iconst 0, 1) := dk_3 (dk_at dksX0_lonely_0 12 rfl rfl)
theorem dX0_lonely_13 : decode cX0_lonely 13 = .ok (.invokestatic 282, 3) := dk_184 1 26 (dk_at dksX0_lonely_0 13 rfl rfl)
theorem dX0_lonely_16 : decode cX0_lonely 16 = .ok (.iconst 0, 1) := dk_3 (dk_at dksX0_lonely_0 16 rfl rfl)
theorem dX0_lonely_17 : decode cX0_lonely 17 = .ok (.istore 4, 2) := dk_54 4 (dk_at dksX0_lonely_0 17 rfl rfl)
theorem dX0_lonely_19 : decode cX0_lonely 19 = .ok (.iload 4, 2) := dk_21 4 (dk_at dksX0_lonely_0 19 rfl rfl)
theorem dX0_lonely_21 : decode cX0_lonely 21 = .ok (.aload_n 0, 1) := dk_42 (dk_at dksX0_lonely_0 21 rfl rfl)
theorem dX0_lonely_22 : decode cX0_lonely 22 = .ok (.getfield 30, 3) := dk_180 0 30 (dk_at dksX0_lonely_1 0 rfl rfl)
theorem dX0_lonely_25 : decode cX0_lonely 25 = .ok (.getfield 200, 3) := dk_180 0 200 (dk_at dksX0_lonely_1 3 rfl rfl)
theorem dX0_lonely_28 : decode cX0_lonely 28 = .ok (.if_icmp .ge 28, 3) := dk_162 0 28 (dk_at dksX0_lonely_1 6 rfl rfl)
theorem dX0_lonely_31 : decode cX0_lonely 31 = .ok (.aload_n 0, 1) := dk_42 (dk_at dksX0_lonely_1 9 rfl rfl)
theorem dX0_lonely_32 : decode cX0_lonely 32 = .ok (.getfield 57, 3) := dk_180 0 57 (dk_at dksX0_lonely_1 10 rfl rfl)
theorem dX0_lonely_35 : decode cX0_lonely 35 = .ok (.aload_n 0, 1) := dk_42 (dk_at dksX0_lonely_1 13 rfl rfl)
theorem dX0_lonely_36 : decode cX0_lonely 36 = .ok (.iload 4, 2) := dk_21 4 (dk_at dksX0_lonely_1 14 rfl rfl)
theorem dX0_lonely_38 : decode cX0_lonely 38 = .ok (.aload_n 3, 1) := dk_45 (dk_at dksX0_lonely_1 16 rfl rfl)
theorem dX0_lonely_39 : decode cX0_lonely 39 = .ok (.invokevirtual 269, 3) := dk_182 1 13 (dk_at dksX0_lonely_1 17 rfl rfl)
theorem dX0_lonely_42 : decode cX0_lonely 42 = .ok (.getfield 273, 3) := dk_180 1 17 (dk_at dksX0_lonely_1 20 rfl rfl)
theorem dX0_lonely_45 : decode cX0_lonely 45 = .ok (.dup2, 1) := dk_92 (dk_at dksX0_lonely_1 23 rfl rfl)
theorem dX0_lonely_46 : decode cX0_lonely 46 = .ok (.iaload, 1) := dk_46 (dk_at dksX0_lonely_2 0 rfl rfl)
theorem dX0_lonely_47 : decode cX0_lonely 47 = .ok (.iconst 1, 1) := dk_4 (dk_at dksX0_lonely_2 1 rfl rfl)
theorem dX0_lonely_48 : decode cX0_lonely 48 = .ok (.iadd, 1) := dk_96 (dk_at dksX0_lonely_2 2 rfl rfl)
theorem dX0_lonely_49 : decode cX0_lonely 49 = .ok (.iastore, 1) := dk_79 (dk_at dksX0_lonely_2 3 rfl rfl)
theorem dX0_lonely_50 : decode cX0_lonely 50 = .ok (.iinc 4 1, 3) := dk_132 4 1 (dk_at dksX0_lonely_2 4 rfl rfl)
theorem dX0_lonely_53 : decode cX0_lonely 53 = .ok (.goto (-34), 3) := dk_167 255 222 (dk_at dksX0_lonely_2 7 rfl rfl)
theorem dX0_lonely_56 : decode cX0_lonely 56 = .ok (.iconst 0, 1) := dk_3 (dk_at dksX0_lonely_2 10 rfl rfl)
theorem dX0_lonely_57 : decode cX0_lonely 57 = .ok (.istore 4, 2) := dk_54 4 (dk_at dksX0_lonely_2 11 rfl rfl)
theorem dX0_lonely_59 : decode cX0_lonely 59 = .ok (.iconst 0, 1) := dk_3 (dk_at dksX0_lonely_2 13 rfl rfl)
theorem dX0_lonely_60 : decode cX0_lonely 60 = .ok (.istore 5, 2) := dk_54 5 (dk_at dksX0_lonely_2 14 rfl rfl)
theorem dX0_lonely_62 : decode cX0_lonely 62 = .ok (.iload 5, 2) := dk_21 5 (dk_at dksX0_lonely_2 16 rfl rfl)
theorem dX0_lonely_64 : decode cX0_lonely 64 = .ok (.aload_n 0, 1) := dk_42 (dk_at dksX0_lonely_2 18 rfl rfl)
theorem dX0_lonely_65 : decode cX0_lonely 65 = .ok (.getfield 30, 3) := dk_180 0 30 (dk_at dksX0_lonely_2 19 rfl rfl)
theorem dX0_lonely_68 : decode cX0_lonely 68 = .ok (.getfield 200, 3) := dk_180 0 200 (dk_at dksX0_lonely_3 0 rfl rfl)
theorem dX0_lonely_71 : decode cX0_lonely 71 = .ok (.if_icmp .ge 41, 3) := dk_162 0 41 (dk_at dksX0_lonely_3 3 rfl rfl)
theorem dX0_lonely_74 : decode cX0_lonely 74 = .ok (.iload 4, 2) := dk_21 4 (dk_at dksX0_lonely_3 6 rfl rfl)
theorem dX0_lonely_76 : decode cX0_lonely 76 = .ok (.aload_n 0, 1) := dk_42 (dk_at dksX0_lonely_3 8 rfl rfl)
theorem dX0_lonely_77 : decode cX0_lonely 77 = .ok (.getfield 57, 3) := dk_180 0 57 (dk_at dksX0_lonely_3 9 rfl rfl)
theorem dX0_lonely_80 : decode cX0_lonely 80 = .ok (.aload_n 0, 1) := dk_42 (dk_at dksX0_lonely_3 12 rfl rfl)
theorem dX0_lonely_81 : decode cX0_lonely 81 = .ok (.iload 5, 2) := dk_21 5 (dk_at dksX0_lonely_3 13 rfl rfl)
theorem dX0_lonely_83 : decode cX0_lonely 83 = .ok (.aload_n 3, 1) := dk_45 (dk_at dksX0_lonely_3 15 rfl rfl)
theorem dX0_lonely_84 : decode cX0_lonely 84 = .ok (.invokevirtual 269, 3) := dk_182 1 13 (dk_at dksX0_lonely_3 16 rfl rfl)
theorem dX0_lonely_87 : decode cX0_lonely 87 = .ok (.getfield 273, 3) := dk_180 1 17 (dk_at dksX0_lonely_3 19 rfl rfl)
theorem dX0_lonely_90 : decode cX0_lonely 90 = .ok (.iaload, 1) := dk_46 (dk_at dksX0_lonely_3 22 rfl rfl)
theorem dX0_lonely_91 : decode cX0_lonely 91 = .ok (.iconst 1, 1) := dk_4 (dk_at dksX0_lonely_3 23 rfl rfl)
theorem dX0_lonely_92 : decode cX0_lonely 92 = .ok (.if_icmp .ne 10, 3) := dk_160 0 10 (dk_at dksX0_lonely_4 0 rfl rfl)
theorem dX0_lonely_95 : decode cX0_lonely 95 = .ok (.iconst 1, 1) := dk_4 (dk_at dksX0_lonely_4 3 rfl rfl)
theorem dX0_lonely_96 : decode cX0_lonely 96 = .ok (.iload 5, 2) := dk_21 5 (dk_at dksX0_lonely_4 4 rfl rfl)
theorem dX0_lonely_98 : decode cX0_lonely 98 = .ok (.ishl, 1) := dk_120 (dk_at dksX0_lonely_4 6 rfl rfl)
theorem dX0_lonely_99 : decode cX0_lonely 99 = .ok (.goto 4, 3) := dk_167 0 4 (dk_at dksX0_lonely_4 7 rfl rfl)
theorem dX0_lonely_102 : decode cX0_lonely 102 = .ok (.iconst 0, 1) := dk_3 (dk_at dksX0_lonely_4 10 rfl rfl)
theorem dX0_lonely_103 : decode cX0_lonely 103 = .ok (.ior, 1) := dk_128 (dk_at dksX0_lonely_4 11 rfl rfl)
theorem dX0_lonely_104 : decode cX0_lonely 104 = .ok (.istore 4, 2) := dk_54 4 (dk_at dksX0_lonely_4 12 rfl rfl)
theorem dX0_lonely_106 : decode cX0_lonely 106 = .ok (.iinc 5 1, 3) := dk_132 5 1 (dk_at dksX0_lonely_4 14 rfl rfl)
theorem dX0_lonely_109 : decode cX0_lonely 109 = .ok (.goto (-47), 3) := dk_167 255 209 (dk_at dksX0_lonely_4 17 rfl rfl)
theorem dX0_lonely_112 : decode cX0_lonely 112 = .ok (.iload 4, 2) := dk_21 4 (dk_at dksX0_lonely_4 20 rfl rfl)
theorem dX0_lonely_114 : decode cX0_lonely 114 = .ok (.ireturn, 1) := dk_172 (dk_at dksX0_lonely_4 22 rfl rfl)
theorem dX0_lonely_115 : decode cX0_lonely 115 = .ok (.astore_n 3, 1) := dk_78 (dk_at dksX0_lonely_4 23 rfl rfl)
theorem dX0_lonely_116 : decode cX0_lonely 116 = .ok (.aload_n 0, 1) := dk_42 (dk_at dksX0_lonely_5 0 rfl rfl)
theorem dX0_lonely_117 : decode cX0_lonely 117 = .ok (.aload_n 3, 1) := dk_45 (dk_at dksX0_lonely_5 1 rfl rfl)
theorem dX0_lonely_118 : decode cX0_lonely 118 = .ok (.getfield 121, 3) := dk_180 0 121 (dk_at dksX0_lonely_5 2 rfl rfl)
theorem dX0_lonely_121 : decode cX0_lonely 121 = .ok (.invokevirtual 94, 3) := dk_182 0 94 (dk_at dksX0_lonely_5 5 rfl rfl)
theorem dX0_lonely_124 : decode cX0_lonely 124 = .ok (.ireturn, 1) := dk_172 (dk_at dksX0_lonely_5 8 rfl rfl)
abbrev cX0_idle : ByteArray := prog_1_method_53_code
def yX0_idle : MethodName := ⟨RX0, "idle", "(III)I"⟩
def dkwX0_idle_6 : List UInt8 := [25, 4, 180, 0, 121, 182, 0, 94, 172]
abbrev dktX0_idle_6 : List UInt8 := dkwX0_idle_6 ++ []
def dkwX0_idle_5 : List UInt8 := [160, 0, 7, 4, 167, 0, 4, 3, 96, 54, 5, 132, 8, 1, 167, 255, 180, 21, 5, 172, 58, 4, 42]
abbrev dktX0_idle_5 : List UInt8 := dkwX0_idle_5 ++ dktX0_idle_6
def dkwX0_idle_4 : List UInt8 := [180, 0, 163, 3, 46, 182, 0, 166, 21, 5, 42, 180, 0, 39, 180, 1, 17, 42, 180, 0, 39, 180, 1, 35]
abbrev dktX0_idle_4 : List UInt8 := dkwX0_idle_4 ++ dktX0_idle_5
def dkwX0_idle_3 : List UInt8 := [42, 180, 0, 39, 42, 180, 0, 30, 42, 180, 0, 30, 180, 0, 149, 29, 50, 22, 9, 136, 42, 180, 0, 30]
abbrev dktX0_idle_3 : List UInt8 := dkwX0_idle_3 ++ dktX0_idle_4
def dkwX0_idle_2 : List UInt8 := [58, 6, 25, 6, 190, 54, 7, 3, 54, 8, 21, 8, 21, 7, 162, 0, 75, 25, 6, 21, 8, 47, 55, 9]
abbrev dktX0_idle_2 : List UInt8 := dkwX0_idle_2 ++ dktX0_idle_3
def dkwX0_idle_1 : List UInt8 := [180, 0, 153, 29, 46, 42, 180, 0, 30, 180, 0, 156, 29, 46, 182, 0, 159, 87, 3, 54, 5, 25, 4]
abbrev dktX0_idle_1 : List UInt8 := dkwX0_idle_1 ++ dktX0_idle_2
def dkwX0_idle_0 : List UInt8 := [42, 42, 180, 0, 30, 29, 182, 0, 146, 27, 28, 182, 1, 10, 58, 4, 42, 180, 0, 39, 42, 180, 0, 30]
abbrev dktX0_idle_0 : List UInt8 := dkwX0_idle_0 ++ dktX0_idle_1
theorem dksX0_idle_0 : cX0_idle.data.toList.drop 0 = dktX0_idle_0 := by decide +kernel
theorem dksX0_idle_1 : cX0_idle.data.toList.drop 24 = dktX0_idle_1 := dk_seg dksX0_idle_0 24 rfl rfl
theorem dksX0_idle_2 : cX0_idle.data.toList.drop 47 = dktX0_idle_2 := dk_seg dksX0_idle_1 23 rfl rfl
theorem dksX0_idle_3 : cX0_idle.data.toList.drop 71 = dktX0_idle_3 := dk_seg dksX0_idle_2 24 rfl rfl
theorem dksX0_idle_4 : cX0_idle.data.toList.drop 95 = dktX0_idle_4 := dk_seg dksX0_idle_3 24 rfl rfl
theorem dksX0_idle_5 : cX0_idle.data.toList.drop 119 = dktX0_idle_5 := dk_seg dksX0_idle_4 24 rfl rfl
theorem dksX0_idle_6 : cX0_idle.data.toList.drop 142 = dktX0_idle_6 := dk_seg dksX0_idle_5 23 rfl rfl
theorem dX0_idle_0 : decode cX0_idle 0 = .ok (.aload_n 0, 1) := dk_42 (dk_at dksX0_idle_0 0 rfl rfl)
theorem dX0_idle_1 : decode cX0_idle 1 = .ok (.aload_n 0, 1) := dk_42 (dk_at dksX0_idle_0 1 rfl rfl)
theorem dX0_idle_2 : decode cX0_idle 2 = .ok (.getfield 30, 3) := dk_180 0 30 (dk_at dksX0_idle_0 2 rfl rfl)
theorem dX0_idle_5 : decode cX0_idle 5 = .ok (.iload_n 3, 1) := dk_29 (dk_at dksX0_idle_0 5 rfl rfl)
theorem dX0_idle_6 : decode cX0_idle 6 = .ok (.invokevirtual 146, 3) := dk_182 0 146 (dk_at dksX0_idle_0 6 rfl rfl)
theorem dX0_idle_9 : decode cX0_idle 9 = .ok (.iload_n 1, 1) := dk_27 (dk_at dksX0_idle_0 9 rfl rfl)
theorem dX0_idle_10 : decode cX0_idle 10 = .ok (.iload_n 2, 1) := dk_28 (dk_at dksX0_idle_0 10 rfl rfl)
theorem dX0_idle_11 : decode cX0_idle 11 = .ok (.invokevirtual 266, 3) := dk_182 1 10 (dk_at dksX0_idle_0 11 rfl rfl)
theorem dX0_idle_14 : decode cX0_idle 14 = .ok (.astore 4, 2) := dk_58 4 (dk_at dksX0_idle_0 14 rfl rfl)
theorem dX0_idle_16 : decode cX0_idle 16 = .ok (.aload_n 0, 1) := dk_42 (dk_at dksX0_idle_0 16 rfl rfl)
theorem dX0_idle_17 : decode cX0_idle 17 = .ok (.getfield 39, 3) := dk_180 0 39 (dk_at dksX0_idle_0 17 rfl rfl)
theorem dX0_idle_20 : decode cX0_idle 20 = .ok (.aload_n 0, 1) := dk_42 (dk_at dksX0_idle_0 20 rfl rfl)
theorem dX0_idle_21 : decode cX0_idle 21 = .ok (.getfield 30, 3) := dk_180 0 30 (dk_at dksX0_idle_0 21 rfl rfl)
theorem dX0_idle_24 : decode cX0_idle 24 = .ok (.getfield 153, 3) := dk_180 0 153 (dk_at dksX0_idle_1 0 rfl rfl)
theorem dX0_idle_27 : decode cX0_idle 27 = .ok (.iload_n 3, 1) := dk_29 (dk_at dksX0_idle_1 3 rfl rfl)
theorem dX0_idle_28 : decode cX0_idle 28 = .ok (.iaload, 1) := dk_46 (dk_at dksX0_idle_1 4 rfl rfl)
theorem dX0_idle_29 : decode cX0_idle 29 = .ok (.aload_n 0, 1) := dk_42 (dk_at dksX0_idle_1 5 rfl rfl)
theorem dX0_idle_30 : decode cX0_idle 30 = .ok (.getfield 30, 3) := dk_180 0 30 (dk_at dksX0_idle_1 6 rfl rfl)
theorem dX0_idle_33 : decode cX0_idle 33 = .ok (.getfield 156, 3) := dk_180 0 156 (dk_at dksX0_idle_1 9 rfl rfl)
theorem dX0_idle_36 : decode cX0_idle 36 = .ok (.iload_n 3, 1) := dk_29 (dk_at dksX0_idle_1 12 rfl rfl)
theorem dX0_idle_37 : decode cX0_idle 37 = .ok (.iaload, 1) := dk_46 (dk_at dksX0_idle_1 13 rfl rfl)
theorem dX0_idle_38 : decode cX0_idle 38 = .ok (.invokevirtual 159, 3) := dk_182 0 159 (dk_at dksX0_idle_1 14 rfl rfl)
theorem dX0_idle_41 : decode cX0_idle 41 = .ok (.pop, 1) := dk_87 (dk_at dksX0_idle_1 17 rfl rfl)
theorem dX0_idle_42 : decode cX0_idle 42 = .ok (.iconst 0, 1) := dk_3 (dk_at dksX0_idle_1 18 rfl rfl)
theorem dX0_idle_43 : decode cX0_idle 43 = .ok (.istore 5, 2) := dk_54 5 (dk_at dksX0_idle_1 19 rfl rfl)
theorem dX0_idle_45 : decode cX0_idle 45 = .ok (.aload 4, 2) := dk_25 4 (dk_at dksX0_idle_1 21 rfl rfl)
theorem dX0_idle_47 : decode cX0_idle 47 = .ok (.astore 6, 2) := dk_58 6 (dk_at dksX0_idle_2 0 rfl rfl)
theorem dX0_idle_49 : decode cX0_idle 49 = .ok (.aload 6, 2) := dk_25 6 (dk_at dksX0_idle_2 2 rfl rfl)
theorem dX0_idle_51 : decode cX0_idle 51 = .ok (.arraylength, 1) := dk_190 (dk_at dksX0_idle_2 4 rfl rfl)
theorem dX0_idle_52 : decode cX0_idle 52 = .ok (.istore 7, 2) := dk_54 7 (dk_at dksX0_idle_2 5 rfl rfl)
theorem dX0_idle_54 : decode cX0_idle 54 = .ok (.iconst 0, 1) := dk_3 (dk_at dksX0_idle_2 7 rfl rfl)
theorem dX0_idle_55 : decode cX0_idle 55 = .ok (.istore 8, 2) := dk_54 8 (dk_at dksX0_idle_2 8 rfl rfl)
theorem dX0_idle_57 : decode cX0_idle 57 = .ok (.iload 8, 2) := dk_21 8 (dk_at dksX0_idle_2 10 rfl rfl)
theorem dX0_idle_59 : decode cX0_idle 59 = .ok (.iload 7, 2) := dk_21 7 (dk_at dksX0_idle_2 12 rfl rfl)
theorem dX0_idle_61 : decode cX0_idle 61 = .ok (.if_icmp .ge 75, 3) := dk_162 0 75 (dk_at dksX0_idle_2 14 rfl rfl)
theorem dX0_idle_64 : decode cX0_idle 64 = .ok (.aload 6, 2) := dk_25 6 (dk_at dksX0_idle_2 17 rfl rfl)
theorem dX0_idle_66 : decode cX0_idle 66 = .ok (.iload 8, 2) := dk_21 8 (dk_at dksX0_idle_2 19 rfl rfl)
theorem dX0_idle_68 : decode cX0_idle 68 = .ok (.laload, 1) := dk_47 (dk_at dksX0_idle_2 21 rfl rfl)
theorem dX0_idle_69 : decode cX0_idle 69 = .ok (.lstore 9, 2) := dk_55 9 (dk_at dksX0_idle_2 22 rfl rfl)
theorem dX0_idle_71 : decode cX0_idle 71 = .ok (.aload_n 0, 1) := dk_42 (dk_at dksX0_idle_3 0 rfl rfl)
theorem dX0_idle_72 : decode cX0_idle 72 = .ok (.getfield 39, 3) := dk_180 0 39 (dk_at dksX0_idle_3 1 rfl rfl)
theorem dX0_idle_75 : decode cX0_idle 75 = .ok (.aload_n 0, 1) := dk_42 (dk_at dksX0_idle_3 4 rfl rfl)
theorem dX0_idle_76 : decode cX0_idle 76 = .ok (.getfield 30, 3) := dk_180 0 30 (dk_at dksX0_idle_3 5 rfl rfl)
theorem dX0_idle_79 : decode cX0_idle 79 = .ok (.aload_n 0, 1) := dk_42 (dk_at dksX0_idle_3 8 rfl rfl)
theorem dX0_idle_80 : decode cX0_idle 80 = .ok (.getfield 30, 3) := dk_180 0 30 (dk_at dksX0_idle_3 9 rfl rfl)
theorem dX0_idle_83 : decode cX0_idle 83 = .ok (.getfield 149, 3) := dk_180 0 149 (dk_at dksX0_idle_3 12 rfl rfl)
theorem dX0_idle_86 : decode cX0_idle 86 = .ok (.iload_n 3, 1) := dk_29 (dk_at dksX0_idle_3 15 rfl rfl)
theorem dX0_idle_87 : decode cX0_idle 87 = .ok (.aaload, 1) := dk_50 (dk_at dksX0_idle_3 16 rfl rfl)
theorem dX0_idle_88 : decode cX0_idle 88 = .ok (.lload 9, 2) := dk_22 9 (dk_at dksX0_idle_3 17 rfl rfl)
theorem dX0_idle_90 : decode cX0_idle 90 = .ok (.l2i, 1) := dk_136 (dk_at dksX0_idle_3 19 rfl rfl)
theorem dX0_idle_91 : decode cX0_idle 91 = .ok (.aload_n 0, 1) := dk_42 (dk_at dksX0_idle_3 20 rfl rfl)
theorem dX0_idle_92 : decode cX0_idle 92 = .ok (.getfield 30, 3) := dk_180 0 30 (dk_at dksX0_idle_3 21 rfl rfl)
theorem dX0_idle_95 : decode cX0_idle 95 = .ok (.getfield 163, 3) := dk_180 0 163 (dk_at dksX0_idle_4 0 rfl rfl)
theorem dX0_idle_98 : decode cX0_idle 98 = .ok (.iconst 0, 1) := dk_3 (dk_at dksX0_idle_4 3 rfl rfl)
theorem dX0_idle_99 : decode cX0_idle 99 = .ok (.iaload, 1) := dk_46 (dk_at dksX0_idle_4 4 rfl rfl)
theorem dX0_idle_100 : decode cX0_idle 100 = .ok (.invokevirtual 166, 3) := dk_182 0 166 (dk_at dksX0_idle_4 5 rfl rfl)
theorem dX0_idle_103 : decode cX0_idle 103 = .ok (.iload 5, 2) := dk_21 5 (dk_at dksX0_idle_4 8 rfl rfl)
theorem dX0_idle_105 : decode cX0_idle 105 = .ok (.aload_n 0, 1) := dk_42 (dk_at dksX0_idle_4 10 rfl rfl)
theorem dX0_idle_106 : decode cX0_idle 106 = .ok (.getfield 39, 3) := dk_180 0 39 (dk_at dksX0_idle_4 11 rfl rfl)
theorem dX0_idle_109 : decode cX0_idle 109 = .ok (.getfield 273, 3) := dk_180 1 17 (dk_at dksX0_idle_4 14 rfl rfl)
theorem dX0_idle_112 : decode cX0_idle 112 = .ok (.aload_n 0, 1) := dk_42 (dk_at dksX0_idle_4 17 rfl rfl)
theorem dX0_idle_113 : decode cX0_idle 113 = .ok (.getfield 39, 3) := dk_180 0 39 (dk_at dksX0_idle_4 18 rfl rfl)
theorem dX0_idle_116 : decode cX0_idle 116 = .ok (.getfield 291, 3) := dk_180 1 35 (dk_at dksX0_idle_4 21 rfl rfl)
theorem dX0_idle_119 : decode cX0_idle 119 = .ok (.if_icmp .ne 7, 3) := dk_160 0 7 (dk_at dksX0_idle_5 0 rfl rfl)
theorem dX0_idle_122 : decode cX0_idle 122 = .ok (.iconst 1, 1) := dk_4 (dk_at dksX0_idle_5 3 rfl rfl)
theorem dX0_idle_123 : decode cX0_idle 123 = .ok (.goto 4, 3) := dk_167 0 4 (dk_at dksX0_idle_5 4 rfl rfl)
theorem dX0_idle_126 : decode cX0_idle 126 = .ok (.iconst 0, 1) := dk_3 (dk_at dksX0_idle_5 7 rfl rfl)
theorem dX0_idle_127 : decode cX0_idle 127 = .ok (.iadd, 1) := dk_96 (dk_at dksX0_idle_5 8 rfl rfl)
theorem dX0_idle_128 : decode cX0_idle 128 = .ok (.istore 5, 2) := dk_54 5 (dk_at dksX0_idle_5 9 rfl rfl)
theorem dX0_idle_130 : decode cX0_idle 130 = .ok (.iinc 8 1, 3) := dk_132 8 1 (dk_at dksX0_idle_5 11 rfl rfl)
theorem dX0_idle_133 : decode cX0_idle 133 = .ok (.goto (-76), 3) := dk_167 255 180 (dk_at dksX0_idle_5 14 rfl rfl)
theorem dX0_idle_136 : decode cX0_idle 136 = .ok (.iload 5, 2) := dk_21 5 (dk_at dksX0_idle_5 17 rfl rfl)
theorem dX0_idle_138 : decode cX0_idle 138 = .ok (.ireturn, 1) := dk_172 (dk_at dksX0_idle_5 19 rfl rfl)
theorem dX0_idle_139 : decode cX0_idle 139 = .ok (.astore 4, 2) := dk_58 4 (dk_at dksX0_idle_5 20 rfl rfl)
theorem dX0_idle_141 : decode cX0_idle 141 = .ok (.aload_n 0, 1) := dk_42 (dk_at dksX0_idle_5 22 rfl rfl)
theorem dX0_idle_142 : decode cX0_idle 142 = .ok (.aload 4, 2) := dk_25 4 (dk_at dksX0_idle_6 0 rfl rfl)
theorem dX0_idle_144 : decode cX0_idle 144 = .ok (.getfield 121, 3) := dk_180 0 121 (dk_at dksX0_idle_6 2 rfl rfl)
theorem dX0_idle_147 : decode cX0_idle 147 = .ok (.invokevirtual 94, 3) := dk_182 0 94 (dk_at dksX0_idle_6 5 rfl rfl)
theorem dX0_idle_150 : decode cX0_idle 150 = .ok (.ireturn, 1) := dk_172 (dk_at dksX0_idle_6 8 rfl rfl)
abbrev cX0_lefts : ByteArray := prog_1_method_54_code
def yX0_lefts : MethodName := ⟨RX0, "lefts", "(II)I"⟩
def dkwX0_lefts_4 : List UInt8 := [180, 0, 163, 3, 46, 182, 0, 166, 132, 3, 1, 167, 255, 204, 2, 172]
abbrev dktX0_lefts_4 : List UInt8 := dkwX0_lefts_4 ++ []
def dkwX0_lefts_3 : List UInt8 := [172, 42, 180, 0, 39, 42, 180, 0, 30, 42, 180, 0, 30, 180, 0, 149, 27, 50, 4, 42, 180, 0, 30]
abbrev dktX0_lefts_3 : List UInt8 := dkwX0_lefts_3 ++ dktX0_lefts_4
def dkwX0_lefts_2 : List UInt8 := [182, 0, 159, 87, 3, 62, 29, 16, 20, 163, 0, 52, 42, 180, 0, 39, 180, 0, 170, 28, 160, 0, 5, 29]
abbrev dktX0_lefts_2 : List UInt8 := dkwX0_lefts_2 ++ dktX0_lefts_3
def dkwX0_lefts_1 : List UInt8 := [172, 42, 180, 0, 39, 42, 180, 0, 30, 180, 0, 153, 27, 46, 42, 180, 0, 30, 180, 0, 156, 27, 46]
abbrev dktX0_lefts_1 : List UInt8 := dkwX0_lefts_1 ++ dktX0_lefts_2
def dkwX0_lefts_0 : List UInt8 := [42, 180, 0, 30, 27, 182, 0, 146, 153, 0, 10, 28, 184, 0, 197, 154, 0, 10, 42, 16, 254, 182, 0, 94]
abbrev dktX0_lefts_0 : List UInt8 := dkwX0_lefts_0 ++ dktX0_lefts_1
theorem dksX0_lefts_0 : cX0_lefts.data.toList.drop 0 = dktX0_lefts_0 := by decide +kernel
theorem dksX0_lefts_1 : cX0_lefts.data.toList.drop 24 = dktX0_lefts_1 := dk_seg dksX0_lefts_0 24 rfl rfl
theorem dksX0_lefts_2 : cX0_lefts.data.toList.drop 47 = dktX0_lefts_2 := dk_seg dksX0_lefts_1 23 rfl rfl
theorem dksX0_lefts_3 : cX0_lefts.data.toList.drop 71 = dktX0_lefts_3 := dk_seg dksX0_lefts_2 24 rfl rfl
theorem dksX0_lefts_4 : cX0_lefts.data.toList.drop 94 = dktX0_lefts_4 := dk_seg dksX0_lefts_3 23 rfl rfl
theorem dX0_lefts_0 : decode cX0_lefts 0 = .ok (.aload_n 0, 1) := dk_42 (dk_at dksX0_lefts_0 0 rfl rfl)
theorem dX0_lefts_1 : decode cX0_lefts 1 = .ok (.getfield 30, 3) := dk_180 0 30 (dk_at dksX0_lefts_0 1 rfl rfl)
theorem dX0_lefts_4 : decode cX0_lefts 4 = .ok (.iload_n 1, 1) := dk_27 (dk_at dksX0_lefts_0 4 rfl rfl)
theorem dX0_lefts_5 : decode cX0_lefts 5 = .ok (.invokevirtual 146, 3) := dk_182 0 146 (dk_at dksX0_lefts_0 5 rfl rfl)
theorem dX0_lefts_8 : decode cX0_lefts 8 = .ok (.ifCond .eq 10, 3) := dk_153 0 10 (dk_at dksX0_lefts_0 8 rfl rfl)
theorem dX0_lefts_11 : decode cX0_lefts 11 = .ok (.iload_n 2, 1) := dk_28 (dk_at dksX0_lefts_0 11 rfl rfl)
theorem dX0_lefts_12 : decode cX0_lefts 12 = .ok (.invokestatic 197, 3) := dk_184 0 197 (dk_at dksX0_lefts_0 12 rfl rfl)
theorem dX0_lefts_15 : decode cX0_lefts 15 = .ok (.ifCond .ne 10, 3) := dk_154 0 10 (dk_at dksX0_lefts_0 15 rfl rfl)
theorem dX0_lefts_18 : decode cX0_lefts 18 = .ok (.aload_n 0, 1) := dk_42 (dk_at dksX0_lefts_0 18 rfl rfl)
theorem dX0_lefts_19 : decode cX0_lefts 19 = .ok (.bipush (-2), 2) := dk_16 254 (dk_at dksX0_lefts_0 19 rfl rfl)
theorem dX0_lefts_21 : decode cX0_lefts 21 = .ok (.invokevirtual 94, 3) := dk_182 0 94 (dk_at dksX0_lefts_0 21 rfl rfl)
theorem dX0_lefts_24 : decode cX0_lefts 24 = .ok (.ireturn, 1) := dk_172 (dk_at dksX0_lefts_1 0 rfl rfl)
theorem dX0_lefts_25 : decode cX0_lefts 25 = .ok (.aload_n 0, 1) := dk_42 (dk_at dksX0_lefts_1 1 rfl rfl)
theorem dX0_lefts_26 : decode cX0_lefts 26 = .ok (.getfield 39, 3) := dk_180 0 39 (dk_at dksX0_lefts_1 2 rfl rfl)
theorem dX0_lefts_29 : decode cX0_lefts 29 = .ok (.aload_n 0, 1) := dk_42 (dk_at dksX0_lefts_1 5 rfl rfl)
theorem dX0_lefts_30 : decode cX0_lefts 30 = .ok (.getfield 30, 3) := dk_180 0 30 (dk_at dksX0_lefts_1 6 rfl rfl)
theorem dX0_lefts_33 : decode cX0_lefts 33 = .ok (.getfield 153, 3) := dk_180 0 153 (dk_at dksX0_lefts_1 9 rfl rfl)
theorem dX0_lefts_36 : decode cX0_lefts 36 = .ok (.iload_n 1, 1) := dk_27 (dk_at dksX0_lefts_1 12 rfl rfl)
theorem dX0_lefts_37 : decode cX0_lefts 37 = .ok (.iaload, 1) := dk_46 (dk_at dksX0_lefts_1 13 rfl rfl)
theorem dX0_lefts_38 : decode cX0_lefts 38 = .ok (.aload_n 0, 1) := dk_42 (dk_at dksX0_lefts_1 14 rfl rfl)
theorem dX0_lefts_39 : decode cX0_lefts 39 = .ok (.getfield 30, 3) := dk_180 0 30 (dk_at dksX0_lefts_1 15 rfl rfl)
theorem dX0_lefts_42 : decode cX0_lefts 42 = .ok (.getfield 156, 3) := dk_180 0 156 (dk_at dksX0_lefts_1 18 rfl rfl)
theorem dX0_lefts_45 : decode cX0_lefts 45 = .ok (.iload_n 1, 1) := dk_27 (dk_at dksX0_lefts_1 21 rfl rfl)
theorem dX0_lefts_46 : decode cX0_lefts 46 = .ok (.iaload, 1) := dk_46 (dk_at dksX0_lefts_1 22 rfl rfl)
theorem dX0_lefts_47 : decode cX0_lefts 47 = .ok (.invokevirtual 159, 3) := dk_182 0 159 (dk_at dksX0_lefts_2 0 rfl rfl)
theorem dX0_lefts_50 : decode cX0_lefts 50 = .ok (.pop, 1) := dk_87 (dk_at dksX0_lefts_2 3 rfl rfl)
theorem dX0_lefts_51 : decode cX0_lefts 51 = .ok (.iconst 0, 1) := dk_3 (dk_at dksX0_lefts_2 4 rfl rfl)
theorem dX0_lefts_52 : decode cX0_lefts 52 = .ok (.istore_n 3, 1) := dk_62 (dk_at dksX0_lefts_2 5 rfl rfl)
theorem dX0_lefts_53 : decode cX0_lefts 53 = .ok (.iload_n 3, 1) := dk_29 (dk_at dksX0_lefts_2 6 rfl rfl)
theorem dX0_lefts_54 : decode cX0_lefts 54 = .ok (.bipush 20, 2) := dk_16 20 (dk_at dksX0_lefts_2 7 rfl rfl)
theorem dX0_lefts_56 : decode cX0_lefts 56 = .ok (.if_icmp .gt 52, 3) := dk_163 0 52 (dk_at dksX0_lefts_2 9 rfl rfl)
theorem dX0_lefts_59 : decode cX0_lefts 59 = .ok (.aload_n 0, 1) := dk_42 (dk_at dksX0_lefts_2 12 rfl rfl)
theorem dX0_lefts_60 : decode cX0_lefts 60 = .ok (.getfield 39, 3) := dk_180 0 39 (dk_at dksX0_lefts_2 13 rfl rfl)
theorem dX0_lefts_63 : decode cX0_lefts 63 = .ok (.getfield 170, 3) := dk_180 0 170 (dk_at dksX0_lefts_2 16 rfl rfl)
theorem dX0_lefts_66 : decode cX0_lefts 66 = .ok (.iload_n 2, 1) := dk_28 (dk_at dksX0_lefts_2 19 rfl rfl)
theorem dX0_lefts_67 : decode cX0_lefts 67 = .ok (.if_icmp .ne 5, 3) := dk_160 0 5 (dk_at dksX0_lefts_2 20 rfl rfl)
theorem dX0_lefts_70 : decode cX0_lefts 70 = .ok (.iload_n 3, 1) := dk_29 (dk_at dksX0_lefts_2 23 rfl rfl)
theorem dX0_lefts_71 : decode cX0_lefts 71 = .ok (.ireturn, 1) := dk_172 (dk_at dksX0_lefts_3 0 rfl rfl)
theorem dX0_lefts_72 : decode cX0_lefts 72 = .ok (.aload_n 0, 1) := dk_42 (dk_at dksX0_lefts_3 1 rfl rfl)
theorem dX0_lefts_73 : decode cX0_lefts 73 = .ok (.getfield 39, 3) := dk_180 0 39 (dk_at dksX0_lefts_3 2 rfl rfl)
theorem dX0_lefts_76 : decode cX0_lefts 76 = .ok (.aload_n 0, 1) := dk_42 (dk_at dksX0_lefts_3 5 rfl rfl)
theorem dX0_lefts_77 : decode cX0_lefts 77 = .ok (.getfield 30, 3) := dk_180 0 30 (dk_at dksX0_lefts_3 6 rfl rfl)
theorem dX0_lefts_80 : decode cX0_lefts 80 = .ok (.aload_n 0, 1) := dk_42 (dk_at dksX0_lefts_3 9 rfl rfl)
theorem dX0_lefts_81 : decode cX0_lefts 81 = .ok (.getfield 30, 3) := dk_180 0 30 (dk_at dksX0_lefts_3 10 rfl rfl)
theorem dX0_lefts_84 : decode cX0_lefts 84 = .ok (.getfield 149, 3) := dk_180 0 149 (dk_at dksX0_lefts_3 13 rfl rfl)
theorem dX0_lefts_87 : decode cX0_lefts 87 = .ok (.iload_n 1, 1) := dk_27 (dk_at dksX0_lefts_3 16 rfl rfl)
theorem dX0_lefts_88 : decode cX0_lefts 88 = .ok (.aaload, 1) := dk_50 (dk_at dksX0_lefts_3 17 rfl rfl)
theorem dX0_lefts_89 : decode cX0_lefts 89 = .ok (.iconst 1, 1) := dk_4 (dk_at dksX0_lefts_3 18 rfl rfl)
theorem dX0_lefts_90 : decode cX0_lefts 90 = .ok (.aload_n 0, 1) := dk_42 (dk_at dksX0_lefts_3 19 rfl rfl)
theorem dX0_lefts_91 : decode cX0_lefts 91 = .ok (.getfield 30, 3) := dk_180 0 30 (dk_at dksX0_lefts_3 20 rfl rfl)
theorem dX0_lefts_94 : decode cX0_lefts 94 = .ok (.getfield 163, 3) := dk_180 0 163 (dk_at dksX0_lefts_4 0 rfl rfl)
theorem dX0_lefts_97 : decode cX0_lefts 97 = .ok (.iconst 0, 1) := dk_3 (dk_at dksX0_lefts_4 3 rfl rfl)
theorem dX0_lefts_98 : decode cX0_lefts 98 = .ok (.iaload, 1) := dk_46 (dk_at dksX0_lefts_4 4 rfl rfl)
theorem dX0_lefts_99 : decode cX0_lefts 99 = .ok (.invokevirtual 166, 3) := dk_182 0 166 (dk_at dksX0_lefts_4 5 rfl rfl)
theorem dX0_lefts_102 : decode cX0_lefts 102 = .ok (.iinc 3 1, 3) := dk_132 3 1 (dk_at dksX0_lefts_4 8 rfl rfl)
theorem dX0_lefts_105 : decode cX0_lefts 105 = .ok (.goto (-52), 3) := dk_167 255 204 (dk_at dksX0_lefts_4 11 rfl rfl)
theorem dX0_lefts_108 : decode cX0_lefts 108 = .ok (.iconst (-1), 1) := dk_2 (dk_at dksX0_lefts_4 14 rfl rfl)
theorem dX0_lefts_109 : decode cX0_lefts 109 = .ok (.ireturn, 1) := dk_172 (dk_at dksX0_lefts_4 15 rfl rfl)
abbrev cX0_reach : ByteArray := prog_1_method_56_code
def yX0_reach : MethodName := ⟨RX0, "reach", "(II)I"⟩
def dkwX0_reach_5 : List UInt8 := [167, 255, 234, 29, 172]
abbrev dktX0_reach_5 : List UInt8 := dkwX0_reach_5 ++ []
def dkwX0_reach_4 : List UInt8 := [54, 6, 21, 6, 21, 5, 162, 0, 21, 25, 4, 21, 6, 46, 54, 7, 29, 21, 7, 96, 62, 132, 6, 1]
abbrev dktX0_reach_4 : List UInt8 := dkwX0_reach_4 ++ dktX0_reach_5
def dkwX0_reach_3 : List UInt8 := [180, 0, 149, 27, 50, 3, 28, 182, 1, 38, 3, 62, 42, 180, 0, 57, 58, 4, 25, 4, 190, 54, 5, 3]
abbrev dktX0_reach_3 : List UInt8 := dkwX0_reach_3 ++ dktX0_reach_4
def dkwX0_reach_2 : List UInt8 := [180, 0, 153, 27, 46, 42, 180, 0, 30, 180, 0, 156, 27, 46, 182, 0, 159, 87, 42, 42, 180, 0, 30]
abbrev dktX0_reach_2 : List UInt8 := dkwX0_reach_2 ++ dktX0_reach_3
def dkwX0_reach_1 : List UInt8 := [182, 0, 94, 172, 42, 180, 0, 57, 3, 184, 1, 26, 42, 180, 0, 46, 3, 50, 42, 180, 0, 30]
abbrev dktX0_reach_1 : List UInt8 := dkwX0_reach_1 ++ dktX0_reach_2
def dkwX0_reach_0 : List UInt8 := [42, 180, 0, 30, 27, 182, 0, 146, 153, 0, 13, 28, 3, 16, 6, 184, 0, 73, 154, 0, 10, 42, 16, 254]
abbrev dktX0_reach_0 : List UInt8 := dkwX0_reach_0 ++ dktX0_reach_1
theorem dksX0_reach_0 : cX0_reach.data.toList.drop 0 = dktX0_reach_0 := by decide +kernel
theorem dksX0_reach_1 : cX0_reach.data.toList.drop 24 = dktX0_reach_1 := dk_seg dksX0_reach_0 24 rfl rfl
theorem dksX0_reach_2 : cX0_reach.data.toList.drop 46 = dktX0_reach_2 := dk_seg dksX0_reach_1 22 rfl rfl
theorem dksX0_reach_3 : cX0_reach.data.toList.drop 69 = dktX0_reach_3 := dk_seg dksX0_reach_2 23 rfl rfl
theorem dksX0_reach_4 : cX0_reach.data.toList.drop 93 = dktX0_reach_4 := dk_seg dksX0_reach_3 24 rfl rfl
theorem dksX0_reach_5 : cX0_reach.data.toList.drop 117 = dktX0_reach_5 := dk_seg dksX0_reach_4 24 rfl rfl
theorem dX0_reach_0 : decode cX0_reach 0 = .ok (.aload_n 0, 1) := dk_42 (dk_at dksX0_reach_0 0 rfl rfl)
theorem dX0_reach_1 : decode cX0_reach 1 = .ok (.getfield 30, 3) := dk_180 0 30 (dk_at dksX0_reach_0 1 rfl rfl)
theorem dX0_reach_4 : decode cX0_reach 4 = .ok (.iload_n 1, 1) := dk_27 (dk_at dksX0_reach_0 4 rfl rfl)
theorem dX0_reach_5 : decode cX0_reach 5 = .ok (.invokevirtual 146, 3) := dk_182 0 146 (dk_at dksX0_reach_0 5 rfl rfl)
theorem dX0_reach_8 : decode cX0_reach 8 = .ok (.ifCond .eq 13, 3) := dk_153 0 13 (dk_at dksX0_reach_0 8 rfl rfl)
theorem dX0_reach_11 : decode cX0_reach 11 = .ok (.iload_n 2, 1) := dk_28 (dk_at dksX0_reach_0 11 rfl rfl)
theorem dX0_reach_12 : decode cX0_reach 12 = .ok (.iconst 0, 1) := dk_3 (dk_at dksX0_reach_0 12 rfl rfl)
theorem dX0_reach_13 : decode cX0_reach 13 = .ok (.bipush 6, 2) := dk_16 6 (dk_at dksX0_reach_0 13 rfl rfl)
theorem dX0_reach_15 : decode cX0_reach 15 = .ok (.invokestatic 73, 3) := dk_184 0 73 (dk_at dksX0_reach_0 15 rfl rfl)
theorem dX0_reach_18 : decode cX0_reach 18 = .ok (.ifCond .ne 10, 3) := dk_154 0 10 (dk_at dksX0_reach_0 18 rfl rfl)
theorem dX0_reach_21 : decode cX0_reach 21 = .ok (.aload_n 0, 1) := dk_42 (dk_at dksX0_reach_0 21 rfl rfl)
theorem dX0_reach_22 : decode cX0_reach 22 = .ok (.bipush (-2), 2) := dk_16 254 (dk_at dksX0_reach_0 22 rfl rfl)
theorem dX0_reach_24 : decode cX0_reach 24 = .ok (.invokevirtual 94, 3) := dk_182 0 94 (dk_at dksX0_reach_1 0 rfl rfl)
theorem dX0_reach_27 : decode cX0_reach 27 = .ok (.ireturn, 1) := dk_172 (dk_at dksX0_reach_1 3 rfl rfl)
theorem dX0_reach_28 : decode cX0_reach 28 = .ok (.aload_n 0, 1) := dk_42 (dk_at dksX0_reach_1 4 rfl rfl)
theorem dX0_reach_29 : decode cX0_reach 29 = .ok (.getfield 57, 3) := dk_180 0 57 (dk_at dksX0_reach_1 5 rfl rfl)
theorem dX0_reach_32 : decode cX0_reach 32 = .ok (.iconst 0, 1) := dk_3 (dk_at dksX0_reach_1 8 rfl rfl)
theorem dX0_reach_33 : decode cX0_reach 33 = .ok (.invokestatic 282, 3) := dk_184 1 26 (dk_at dksX0_reach_1 9 rfl rfl)
theorem dX0_reach_36 : decode cX0_reach 36 = .ok (.aload_n 0, 1) := dk_42 (dk_at dksX0_reach_1 12 rfl rfl)
theorem dX0_reach_37 : decode cX0_reach 37 = .ok (.getfield 46, 3) := dk_180 0 46 (dk_at dksX0_reach_1 13 rfl rfl)
theorem dX0_reach_40 : decode cX0_reach 40 = .ok (.iconst 0, 1) := dk_3 (dk_at dksX0_reach_1 16 rfl rfl)
theorem dX0_reach_41 : decode cX0_reach 41 = .ok (.aaload, 1) := dk_50 (dk_at dksX0_reach_1 17 rfl rfl)
theorem dX0_reach_42 : decode cX0_reach 42 = .ok (.aload_n 0, 1) := dk_42 (dk_at dksX0_reach_1 18 rfl rfl)
theorem dX0_reach_43 : decode cX0_reach 43 = .ok (.getfield 30, 3) := dk_180 0 30 (dk_at dksX0_reach_1 19 rfl rfl)
theorem dX0_reach_46 : decode cX0_reach 46 = .ok (.getfield 153, 3) := dk_180 0 153 (dk_at dksX0_reach_2 0 rfl rfl)
theorem dX0_reach_49 : decode cX0_reach 49 = .ok (.iload_n 1, 1) := dk_27 (dk_at dksX0_reach_2 3 rfl rfl)
theorem dX0_reach_50 : decode cX0_reach 50 = .ok (.iaload, 1) := dk_46 (dk_at dksX0_reach_2 4 rfl rfl)
theorem dX0_reach_51 : decode cX0_reach 51 = .ok (.aload_n 0, 1) := dk_42 (dk_at dksX0_reach_2 5 rfl rfl)
theorem dX0_reach_52 : decode cX0_reach 52 = .ok (.getfield 30, 3) := dk_180 0 30 (dk_at dksX0_reach_2 6 rfl rfl)
theorem dX0_reach_55 : decode cX0_reach 55 = .ok (.getfield 156, 3) := dk_180 0 156 (dk_at dksX0_reach_2 9 rfl rfl)
theorem dX0_reach_58 : decode cX0_reach 58 = .ok (.iload_n 1, 1) := dk_27 (dk_at dksX0_reach_2 12 rfl rfl)
theorem dX0_reach_59 : decode cX0_reach 59 = .ok (.iaload, 1) := dk_46 (dk_at dksX0_reach_2 13 rfl rfl)
theorem dX0_reach_60 : decode cX0_reach 60 = .ok (.invokevirtual 159, 3) := dk_182 0 159 (dk_at dksX0_reach_2 14 rfl rfl)
theorem dX0_reach_63 : decode cX0_reach 63 = .ok (.pop, 1) := dk_87 (dk_at dksX0_reach_2 17 rfl rfl)
theorem dX0_reach_64 : decode cX0_reach 64 = .ok (.aload_n 0, 1) := dk_42 (dk_at dksX0_reach_2 18 rfl rfl)
theorem dX0_reach_65 : decode cX0_reach 65 = .ok (.aload_n 0, 1) := dk_42 (dk_at dksX0_reach_2 19 rfl rfl)
theorem dX0_reach_66 : decode cX0_reach 66 = .ok (.getfield 30, 3) := dk_180 0 30 (dk_at dksX0_reach_2 20 rfl rfl)
theorem dX0_reach_69 : decode cX0_reach 69 = .ok (.getfield 149, 3) := dk_180 0 149 (dk_at dksX0_reach_3 0 rfl rfl)
theorem dX0_reach_72 : decode cX0_reach 72 = .ok (.iload_n 1, 1) := dk_27 (dk_at dksX0_reach_3 3 rfl rfl)
theorem dX0_reach_73 : decode cX0_reach 73 = .ok (.aaload, 1) := dk_50 (dk_at dksX0_reach_3 4 rfl rfl)
theorem dX0_reach_74 : decode cX0_reach 74 = .ok (.iconst 0, 1) := dk_3 (dk_at dksX0_reach_3 5 rfl rfl)
theorem dX0_reach_75 : decode cX0_reach 75 = .ok (.iload_n 2, 1) := dk_28 (dk_at dksX0_reach_3 6 rfl rfl)
theorem dX0_reach_76 : decode cX0_reach 76 = .ok (.invokevirtual 294, 3) := dk_182 1 38 (dk_at dksX0_reach_3 7 rfl rfl)
theorem dX0_reach_79 : decode cX0_reach 79 = .ok (.iconst 0, 1) := dk_3 (dk_at dksX0_reach_3 10 rfl rfl)
theorem dX0_reach_80 : decode cX0_reach 80 = .ok (.istore_n 3, 1) := dk_62 (dk_at dksX0_reach_3 11 rfl rfl)
theorem dX0_reach_81 : decode cX0_reach 81 = .ok (.aload_n 0, 1) := dk_42 (dk_at dksX0_reach_3 12 rfl rfl)
theorem dX0_reach_82 : decode cX0_reach 82 = .ok (.getfield 57, 3) := dk_180 0 57 (dk_at dksX0_reach_3 13 rfl rfl)
theorem dX0_reach_85 : decode cX0_reach 85 = .ok (.astore 4, 2) := dk_58 4 (dk_at dksX0_reach_3 16 rfl rfl)
theorem dX0_reach_87 : decode cX0_reach 87 = .ok (.aload 4, 2) := dk_25 4 (dk_at dksX0_reach_3 18 rfl rfl)
theorem dX0_reach_89 : decode cX0_reach 89 = .ok (.arraylength, 1) := dk_190 (dk_at dksX0_reach_3 20 rfl rfl)
theorem dX0_reach_90 : decode cX0_reach 90 = .ok (.istore 5, 2) := dk_54 5 (dk_at dksX0_reach_3 21 rfl rfl)
theorem dX0_reach_92 : decode cX0_reach 92 = .ok (.iconst 0, 1) := dk_3 (dk_at dksX0_reach_3 23 rfl rfl)
theorem dX0_reach_93 : decode cX0_reach 93 = .ok (.istore 6, 2) := dk_54 6 (dk_at dksX0_reach_4 0 rfl rfl)
theorem dX0_reach_95 : decode cX0_reach 95 = .ok (.iload 6, 2) := dk_21 6 (dk_at dksX0_reach_4 2 rfl rfl)
theorem dX0_reach_97 : decode cX0_reach 97 = .ok (.iload 5, 2) := dk_21 5 (dk_at dksX0_reach_4 4 rfl rfl)
theorem dX0_reach_99 : decode cX0_reach 99 = .ok (.if_icmp .ge 21, 3) := dk_162 0 21 (dk_at dksX0_reach_4 6 rfl rfl)
theorem dX0_reach_102 : decode cX0_reach 102 = .ok (.aload 4, 2) := dk_25 4 (dk_at dksX0_reach_4 9 rfl rfl)
theorem dX0_reach_104 : decode cX0_reach 104 = .ok (.iload 6, 2) := dk_21 6 (dk_at dksX0_reach_4 11 rfl rfl)
theorem dX0_reach_106 : decode cX0_reach 106 = .ok (.iaload, 1) := dk_46 (dk_at dksX0_reach_4 13 rfl rfl)
theorem dX0_reach_107 : decode cX0_reach 107 = .ok (.istore 7, 2) := dk_54 7 (dk_at dksX0_reach_4 14 rfl rfl)
theorem dX0_reach_109 : decode cX0_reach 109 = .ok (.iload_n 3, 1) := dk_29 (dk_at dksX0_reach_4 16 rfl rfl)
theorem dX0_reach_110 : decode cX0_reach 110 = .ok (.iload 7, 2) := dk_21 7 (dk_at dksX0_reach_4 17 rfl rfl)
theorem dX0_reach_112 : decode cX0_reach 112 = .ok (.iadd, 1) := dk_96 (dk_at dksX0_reach_4 19 rfl rfl)
theorem dX0_reach_113 : decode cX0_reach 113 = .ok (.istore_n 3, 1) := dk_62 (dk_at dksX0_reach_4 20 rfl rfl)
theorem dX0_reach_114 : decode cX0_reach 114 = .ok (.iinc 6 1, 3) := dk_132 6 1 (dk_at dksX0_reach_4 21 rfl rfl)
theorem dX0_reach_117 : decode cX0_reach 117 = .ok (.goto (-22), 3) := dk_167 255 234 (dk_at dksX0_reach_5 0 rfl rfl)
theorem dX0_reach_120 : decode cX0_reach 120 = .ok (.iload_n 3, 1) := dk_29 (dk_at dksX0_reach_5 3 rfl rfl)
theorem dX0_reach_121 : decode cX0_reach 121 = .ok (.ireturn, 1) := dk_172 (dk_at dksX0_reach_5 4 rfl rfl)
abbrev cX0_marks : ByteArray := prog_1_method_55_code
def yX0_marks : MethodName := ⟨RX0, "marks", "(LLeftIsAgreedOn$Voter;II)V"⟩
def dkwX0_marks_3 : List UInt8 := [180, 0, 163, 3, 46, 182, 0, 166, 42, 43, 28, 4, 96, 29, 182, 1, 38, 132, 4, 1, 167, 255, 197, 177]
abbrev dktX0_marks_3 : List UInt8 := dkwX0_marks_3 ++ []
def dkwX0_marks_2 : List UInt8 := [4, 96, 50, 42, 180, 0, 46, 28, 50, 182, 1, 32, 42, 180, 0, 30, 43, 21, 4, 42, 180, 0, 30]
abbrev dktX0_marks_2 : List UInt8 := dkwX0_marks_2 ++ dktX0_marks_3
def dkwX0_marks_1 : List UInt8 := [180, 1, 17, 4, 79, 3, 54, 4, 21, 4, 5, 163, 0, 59, 28, 29, 162, 0, 54, 42, 180, 0, 46, 28]
abbrev dktX0_marks_1 : List UInt8 := dkwX0_marks_1 ++ dktX0_marks_2
def dkwX0_marks_0 : List UInt8 := [42, 180, 0, 46, 28, 50, 180, 1, 19, 2, 159, 0, 4, 177, 42, 180, 0, 57, 42, 180, 0, 46, 28, 50]
abbrev dktX0_marks_0 : List UInt8 := dkwX0_marks_0 ++ dktX0_marks_1
theorem dksX0_marks_0 : cX0_marks.data.toList.drop 0 = dktX0_marks_0 := by decide +kernel
theorem dksX0_marks_1 : cX0_marks.data.toList.drop 24 = dktX0_marks_1 := dk_seg dksX0_marks_0 24 rfl rfl
theorem dksX0_marks_2 : cX0_marks.data.toList.drop 48 = dktX0_marks_2 := dk_seg dksX0_marks_1 24 rfl rfl
theorem dksX0_marks_3 : cX0_marks.data.toList.drop 71 = dktX0_marks_3 := dk_seg dksX0_marks_2 23 rfl rfl
theorem dX0_marks_0 : decode cX0_marks 0 = .ok (.aload_n 0, 1) := dk_42 (dk_at dksX0_marks_0 0 rfl rfl)
theorem dX0_marks_1 : decode cX0_marks 1 = .ok (.getfield 46, 3) := dk_180 0 46 (dk_at dksX0_marks_0 1 rfl rfl)
theorem dX0_marks_4 : decode cX0_marks 4 = .ok (.iload_n 2, 1) := dk_28 (dk_at dksX0_marks_0 4 rfl rfl)
theorem dX0_marks_5 : decode cX0_marks 5 = .ok (.aaload, 1) := dk_50 (dk_at dksX0_marks_0 5 rfl rfl)
theorem dX0_marks_6 : decode cX0_marks 6 = .ok (.getfield 275, 3) := dk_180 1 19 (dk_at dksX0_marks_0 6 rfl rfl)
theorem dX0_marks_9 : decode cX0_marks 9 = .ok (.iconst (-1), 1) := dk_2 (dk_at dksX0_marks_0 9 rfl rfl)
theorem dX0_marks_10 : decode cX0_marks 10 = .ok (.if_icmp .eq 4, 3) := dk_159 0 4 (dk_at dksX0_marks_0 10 rfl rfl)
theorem dX0_marks_13 : decode cX0_marks 13 = .ok (.return_, 1) := dk_177 (dk_at dksX0_marks_0 13 rfl rfl)
theorem dX0_marks_14 : decode cX0_marks 14 = .ok (.aload_n 0, 1) := dk_42 (dk_at dksX0_marks_0 14 rfl rfl)
theorem dX0_marks_15 : decode cX0_marks 15 = .ok (.getfield 57, 3) := dk_180 0 57 (dk_at dksX0_marks_0 15 rfl rfl)
theorem dX0_marks_18 : decode cX0_marks 18 = .ok (.aload_n 0, 1) := dk_42 (dk_at dksX0_marks_0 18 rfl rfl)
theorem dX0_marks_19 : decode cX0_marks 19 = .ok (.getfield 46, 3) := dk_180 0 46 (dk_at dksX0_marks_0 19 rfl rfl)
theorem dX0_marks_22 : decode cX0_marks 22 = .ok (.iload_n 2, 1) := dk_28 (dk_at dksX0_marks_0 22 rfl rfl)
theorem dX0_marks_23 : decode cX0_marks 23 = .ok (.aaload, 1) := dk_50 (dk_at dksX0_marks_0 23 rfl rfl)
theorem dX0_marks_24 : decode cX0_marks 24 = .ok (.getfield 273, 3) := dk_180 1 17 (dk_at dksX0_marks_1 0 rfl rfl)
theorem dX0_marks_27 : decode cX0_marks 27 = .ok (.iconst 1, 1) := dk_4 (dk_at dksX0_marks_1 3 rfl rfl)
theorem dX0_marks_28 : decode cX0_marks 28 = .ok (.iastore, 1) := dk_79 (dk_at dksX0_marks_1 4 rfl rfl)
theorem dX0_marks_29 : decode cX0_marks 29 = .ok (.iconst 0, 1) := dk_3 (dk_at dksX0_marks_1 5 rfl rfl)
theorem dX0_marks_30 : decode cX0_marks 30 = .ok (.istore 4, 2) := dk_54 4 (dk_at dksX0_marks_1 6 rfl rfl)
theorem dX0_marks_32 : decode cX0_marks 32 = .ok (.iload 4, 2) := dk_21 4 (dk_at dksX0_marks_1 8 rfl rfl)
theorem dX0_marks_34 : decode cX0_marks 34 = .ok (.iconst 2, 1) := dk_5 (dk_at dksX0_marks_1 10 rfl rfl)
theorem dX0_marks_35 : decode cX0_marks 35 = .ok (.if_icmp .gt 59, 3) := dk_163 0 59 (dk_at dksX0_marks_1 11 rfl rfl)
theorem dX0_marks_38 : decode cX0_marks 38 = .ok (.iload_n 2, 1) := dk_28 (dk_at dksX0_marks_1 14 rfl rfl)
theorem dX0_marks_39 : decode cX0_marks 39 = .ok (.iload_n 3, 1) := dk_29 (dk_at dksX0_marks_1 15 rfl rfl)
theorem dX0_marks_40 : decode cX0_marks 40 = .ok (.if_icmp .ge 54, 3) := dk_162 0 54 (dk_at dksX0_marks_1 16 rfl rfl)
theorem dX0_marks_43 : decode cX0_marks 43 = .ok (.aload_n 0, 1) := dk_42 (dk_at dksX0_marks_1 19 rfl rfl)
theorem dX0_marks_44 : decode cX0_marks 44 = .ok (.getfield 46, 3) := dk_180 0 46 (dk_at dksX0_marks_1 20 rfl rfl)
theorem dX0_marks_47 : decode cX0_marks 47 = .ok (.iload_n 2, 1) := dk_28 (dk_at dksX0_marks_1 23 rfl rfl)
theorem dX0_marks_48 : decode cX0_marks 48 = .ok (.iconst 1, 1) := dk_4 (dk_at dksX0_marks_2 0 rfl rfl)
theorem dX0_marks_49 : decode cX0_marks 49 = .ok (.iadd, 1) := dk_96 (dk_at dksX0_marks_2 1 rfl rfl)
theorem dX0_marks_50 : decode cX0_marks 50 = .ok (.aaload, 1) := dk_50 (dk_at dksX0_marks_2 2 rfl rfl)
theorem dX0_marks_51 : decode cX0_marks 51 = .ok (.aload_n 0, 1) := dk_42 (dk_at dksX0_marks_2 3 rfl rfl)
theorem dX0_marks_52 : decode cX0_marks 52 = .ok (.getfield 46, 3) := dk_180 0 46 (dk_at dksX0_marks_2 4 rfl rfl)
theorem dX0_marks_55 : decode cX0_marks 55 = .ok (.iload_n 2, 1) := dk_28 (dk_at dksX0_marks_2 7 rfl rfl)
theorem dX0_marks_56 : decode cX0_marks 56 = .ok (.aaload, 1) := dk_50 (dk_at dksX0_marks_2 8 rfl rfl)
theorem dX0_marks_57 : decode cX0_marks 57 = .ok (.invokevirtual 288, 3) := dk_182 1 32 (dk_at dksX0_marks_2 9 rfl rfl)
theorem dX0_marks_60 : decode cX0_marks 60 = .ok (.aload_n 0, 1) := dk_42 (dk_at dksX0_marks_2 12 rfl rfl)
theorem dX0_marks_61 : decode cX0_marks 61 = .ok (.getfield 30, 3) := dk_180 0 30 (dk_at dksX0_marks_2 13 rfl rfl)
theorem dX0_marks_64 : decode cX0_marks 64 = .ok (.aload_n 1, 1) := dk_43 (dk_at dksX0_marks_2 16 rfl rfl)
theorem dX0_marks_65 : decode cX0_marks 65 = .ok (.iload 4, 2) := dk_21 4 (dk_at dksX0_marks_2 17 rfl rfl)
theorem dX0_marks_67 : decode cX0_marks 67 = .ok (.aload_n 0, 1) := dk_42 (dk_at dksX0_marks_2 19 rfl rfl)
theorem dX0_marks_68 : decode cX0_marks 68 = .ok (.getfield 30, 3) := dk_180 0 30 (dk_at dksX0_marks_2 20 rfl rfl)
theorem dX0_marks_71 : decode cX0_marks 71 = .ok (.getfield 163, 3) := dk_180 0 163 (dk_at dksX0_marks_3 0 rfl rfl)
theorem dX0_marks_74 : decode cX0_marks 74 = .ok (.iconst 0, 1) := dk_3 (dk_at dksX0_marks_3 3 rfl rfl)
theorem dX0_marks_75 : decode cX0_marks 75 = .ok (.iaload, 1) := dk_46 (dk_at dksX0_marks_3 4 rfl rfl)
theorem dX0_marks_76 : decode cX0_marks 76 = .ok (.invokevirtual 166, 3) := dk_182 0 166 (dk_at dksX0_marks_3 5 rfl rfl)
theorem dX0_marks_79 : decode cX0_marks 79 = .ok (.aload_n 0, 1) := dk_42 (dk_at dksX0_marks_3 8 rfl rfl)
theorem dX0_marks_80 : decode cX0_marks 80 = .ok (.aload_n 1, 1) := dk_43 (dk_at dksX0_marks_3 9 rfl rfl)
theorem dX0_marks_81 : decode cX0_marks 81 = .ok (.iload_n 2, 1) := dk_28 (dk_at dksX0_marks_3 10 rfl rfl)
theorem dX0_marks_82 : decode cX0_marks 82 = .ok (.iconst 1, 1) := dk_4 (dk_at dksX0_marks_3 11 rfl rfl)
theorem dX0_marks_83 : decode cX0_marks 83 = .ok (.iadd, 1) := dk_96 (dk_at dksX0_marks_3 12 rfl rfl)
theorem dX0_marks_84 : decode cX0_marks 84 = .ok (.iload_n 3, 1) := dk_29 (dk_at dksX0_marks_3 13 rfl rfl)
theorem dX0_marks_85 : decode cX0_marks 85 = .ok (.invokevirtual 294, 3) := dk_182 1 38 (dk_at dksX0_marks_3 14 rfl rfl)
theorem dX0_marks_88 : decode cX0_marks 88 = .ok (.iinc 4 1, 3) := dk_132 4 1 (dk_at dksX0_marks_3 17 rfl rfl)
theorem dX0_marks_91 : decode cX0_marks 91 = .ok (.goto (-59), 3) := dk_167 255 197 (dk_at dksX0_marks_3 20 rfl rfl)
theorem dX0_marks_94 : decode cX0_marks 94 = .ok (.return_, 1) := dk_177 (dk_at dksX0_marks_3 23 rfl rfl)
abbrev cX0_open : ByteArray := prog_1_method_57_code
def yX0_open : MethodName := ⟨RX0, "open", "(II)I"⟩
def dkwX0_open_3 : List UInt8 := [167, 255, 223, 29, 172]
abbrev dktX0_open_3 : List UInt8 := dkwX0_open_3 ++ []
def dkwX0_open_2 : List UInt8 := [21, 4, 182, 0, 190, 154, 0, 21, 132, 3, 1, 42, 180, 0, 30, 21, 4, 28, 182, 1, 42, 54, 4]
abbrev dktX0_open_2 : List UInt8 := dkwX0_open_2 ++ dktX0_open_3
def dkwX0_open_1 : List UInt8 := [172, 3, 62, 42, 180, 0, 30, 27, 28, 182, 1, 42, 54, 4, 21, 4, 2, 159, 0, 33, 42, 180, 0, 30]
abbrev dktX0_open_1 : List UInt8 := dkwX0_open_1 ++ dktX0_open_2
def dkwX0_open_0 : List UInt8 := [42, 180, 0, 30, 27, 182, 0, 184, 153, 0, 10, 28, 184, 0, 197, 154, 0, 10, 42, 16, 254, 182, 0, 94]
abbrev dktX0_open_0 : List UInt8 := dkwX0_open_0 ++ dktX0_open_1
theorem dksX0_open_0 : cX0_open.data.toList.drop 0 = dktX0_open_0 := by decide +kernel
theorem dksX0_open_1 : cX0_open.data.toList.drop 24 = dktX0_open_1 := dk_seg dksX0_open_0 24 rfl rfl
theorem dksX0_open_2 : cX0_open.data.toList.drop 48 = dktX0_open_2 := dk_seg dksX0_open_1 24 rfl rfl
theorem dksX0_open_3 : cX0_open.data.toList.drop 71 = dktX0_open_3 := dk_seg dksX0_open_2 23 rfl rfl
theorem dX0_open_0 : decode cX0_open 0 = .ok (.aload_n 0, 1) := dk_42 (dk_at dksX0_open_0 0 rfl rfl)
theorem dX0_open_1 : decode cX0_open 1 = .ok (.getfield 30, 3) := dk_180 0 30 (dk_at dksX0_open_0 1 rfl rfl)
theorem dX0_open_4 : decode cX0_open 4 = .ok (.iload_n 1, 1) := dk_27 (dk_at dksX0_open_0 4 rfl rfl)
theorem dX0_open_5 : decode cX0_open 5 = .ok (.invokevirtual 184, 3) := dk_182 0 184 (dk_at dksX0_open_0 5 rfl rfl)
theorem dX0_open_8 : decode cX0_open 8 = .ok (.ifCond .eq 10, 3) := dk_153 0 10 (dk_at dksX0_open_0 8 rfl rfl)
theorem dX0_open_11 : decode cX0_open 11 = .ok (.iload_n 2, 1) := dk_28 (dk_at dksX0_open_0 11 rfl rfl)
theorem dX0_open_12 : decode cX0_open 12 = .ok (.invokestatic 197, 3) := dk_184 0 197 (dk_at dksX0_open_0 12 rfl rfl)
theorem dX0_open_15 : decode cX0_open 15 = .ok (.ifCond .ne 10, 3) := dk_154 0 10 (dk_at dksX0_open_0 15 rfl rfl)
theorem dX0_open_18 : decode cX0_open 18 = .ok (.aload_n 0, 1) := dk_42 (dk_at dksX0_open_0 18 rfl rfl)
theorem dX0_open_19 : decode cX0_open 19 = .ok (.bipush (-2), 2) := dk_16 254 (dk_at dksX0_open_0 19 rfl rfl)
theorem dX0_open_21 : decode cX0_open 21 = .ok (.invokevirtual 94, 3) := dk_182 0 94 (dk_at dksX0_open_0 21 rfl rfl)
theorem dX0_open_24 : decode cX0_open 24 = .ok (.ireturn, 1) := dk_172 (dk_at dksX0_open_1 0 rfl rfl)
theorem dX0_open_25 : decode cX0_open 25 = .ok (.iconst 0, 1) := dk_3 (dk_at dksX0_open_1 1 rfl rfl)
theorem dX0_open_26 : decode cX0_open 26 = .ok (.istore_n 3, 1) := dk_62 (dk_at dksX0_open_1 2 rfl rfl)
theorem dX0_open_27 : decode cX0_open 27 = .ok (.aload_n 0, 1) := dk_42 (dk_at dksX0_open_1 3 rfl rfl)
theorem dX0_open_28 : decode cX0_open 28 = .ok (.getfield 30, 3) := dk_180 0 30 (dk_at dksX0_open_1 4 rfl rfl)
theorem dX0_open_31 : decode cX0_open 31 = .ok (.iload_n 1, 1) := dk_27 (dk_at dksX0_open_1 7 rfl rfl)
theorem dX0_open_32 : decode cX0_open 32 = .ok (.iload_n 2, 1) := dk_28 (dk_at dksX0_open_1 8 rfl rfl)
theorem dX0_open_33 : decode cX0_open 33 = .ok (.invokevirtual 298, 3) := dk_182 1 42 (dk_at dksX0_open_1 9 rfl rfl)
theorem dX0_open_36 : decode cX0_open 36 = .ok (.istore 4, 2) := dk_54 4 (dk_at dksX0_open_1 12 rfl rfl)
theorem dX0_open_38 : decode cX0_open 38 = .ok (.iload 4, 2) := dk_21 4 (dk_at dksX0_open_1 14 rfl rfl)
theorem dX0_open_40 : decode cX0_open 40 = .ok (.iconst (-1), 1) := dk_2 (dk_at dksX0_open_1 16 rfl rfl)
theorem dX0_open_41 : decode cX0_open 41 = .ok (.if_icmp .eq 33, 3) := dk_159 0 33 (dk_at dksX0_open_1 17 rfl rfl)
theorem dX0_open_44 : decode cX0_open 44 = .ok (.aload_n 0, 1) := dk_42 (dk_at dksX0_open_1 20 rfl rfl)
theorem dX0_open_45 : decode cX0_open 45 = .ok (.getfield 30, 3) := dk_180 0 30 (dk_at dksX0_open_1 21 rfl rfl)
theorem dX0_open_48 : decode cX0_open 48 = .ok (.iload 4, 2) := dk_21 4 (dk_at dksX0_open_2 0 rfl rfl)
theorem dX0_open_50 : decode cX0_open 50 = .ok (.invokevirtual 190, 3) := dk_182 0 190 (dk_at dksX0_open_2 2 rfl rfl)
theorem dX0_open_53 : decode cX0_open 53 = .ok (.ifCond .ne 21, 3) := dk_154 0 21 (dk_at dksX0_open_2 5 rfl rfl)
theorem dX0_open_56 : decode cX0_open 56 = .ok (.iinc 3 1, 3) := dk_132 3 1 (dk_at dksX0_open_2 8 rfl rfl)
theorem dX0_open_59 : decode cX0_open 59 = .ok (.aload_n 0, 1) := dk_42 (dk_at dksX0_open_2 11 rfl rfl)
theorem dX0_open_60 : decode cX0_open 60 = .ok (.getfield 30, 3) := dk_180 0 30 (dk_at dksX0_open_2 12 rfl rfl)
theorem dX0_open_63 : decode cX0_open 63 = .ok (.iload 4, 2) := dk_21 4 (dk_at dksX0_open_2 15 rfl rfl)
theorem dX0_open_65 : decode cX0_open 65 = .ok (.iload_n 2, 1) := dk_28 (dk_at dksX0_open_2 17 rfl rfl)
theorem dX0_open_66 : decode cX0_open 66 = .ok (.invokevirtual 298, 3) := dk_182 1 42 (dk_at dksX0_open_2 18 rfl rfl)
theorem dX0_open_69 : decode cX0_open 69 = .ok (.istore 4, 2) := dk_54 4 (dk_at dksX0_open_2 21 rfl rfl)
theorem dX0_open_71 : decode cX0_open 71 = .ok (.goto (-33), 3) := dk_167 255 223 (dk_at dksX0_open_3 0 rfl rfl)
theorem dX0_open_74 : decode cX0_open 74 = .ok (.iload_n 3, 1) := dk_29 (dk_at dksX0_open_3 3 rfl rfl)
theorem dX0_open_75 : decode cX0_open 75 = .ok (.ireturn, 1) := dk_172 (dk_at dksX0_open_3 4 rfl rfl)
abbrev cX0_shore : ByteArray := prog_1_method_58_code
def yX0_shore : MethodName := ⟨RX0, "shore", "()I"⟩
def dkwX0_shore_2 : List UInt8 := [167, 0, 4, 3, 96, 60, 132, 2, 1, 167, 255, 206, 27, 172]
abbrev dktX0_shore_2 : List UInt8 := dkwX0_shore_2 ++ []
def dkwX0_shore_1 : List UInt8 := [180, 0, 30, 28, 182, 0, 190, 154, 0, 18, 42, 180, 0, 30, 28, 182, 1, 46, 153, 0, 7, 4]
abbrev dktX0_shore_1 : List UInt8 := dkwX0_shore_1 ++ dktX0_shore_2
def dkwX0_shore_0 : List UInt8 := [3, 60, 3, 61, 28, 16, 70, 162, 0, 50, 27, 42, 180, 0, 30, 28, 182, 0, 184, 153, 0, 29, 42]
abbrev dktX0_shore_0 : List UInt8 := dkwX0_shore_0 ++ dktX0_shore_1
theorem dksX0_shore_0 : cX0_shore.data.toList.drop 0 = dktX0_shore_0 := by decide +kernel
theorem dksX0_shore_1 : cX0_shore.data.toList.drop 23 = dktX0_shore_1 := dk_seg dksX0_shore_0 23 rfl rfl
theorem dksX0_shore_2 : cX0_shore.data.toList.drop 45 = dktX0_shore_2 := dk_seg dksX0_shore_1 22 rfl rfl
theorem dX0_shore_0 : decode cX0_shore 0 = .ok (.iconst 0, 1) := dk_3 (dk_at dksX0_shore_0 0 rfl rfl)
theorem dX0_shore_1 : decode cX0_shore 1 = .ok (.istore_n 1, 1) := dk_60 (dk_at dksX0_shore_0 1 rfl rfl)
theorem dX0_shore_2 : decode cX0_shore 2 = .ok (.iconst 0, 1) := dk_3 (dk_at dksX0_shore_0 2 rfl rfl)
theorem dX0_shore_3 : decode cX0_shore 3 = .ok (.istore_n 2, 1) := dk_61 (dk_at dksX0_shore_0 3 rfl rfl)
theorem dX0_shore_4 : decode cX0_shore 4 = .ok (.iload_n 2, 1) := dk_28 (dk_at dksX0_shore_0 4 rfl rfl)
theorem dX0_shore_5 : decode cX0_shore 5 = .ok (.bipush 70, 2) := dk_16 70 (dk_at dksX0_shore_0 5 rfl rfl)
theorem dX0_shore_7 : decode cX0_shore 7 = .ok (.if_icmp .ge 50, 3) := dk_162 0 50 (dk_at dksX0_shore_0 7 rfl rfl)
theorem dX0_shore_10 : decode cX0_shore 10 = .ok (.iload_n 1, 1) := dk_27 (dk_at dksX0_shore_0 10 rfl rfl)
theorem dX0_shore_11 : decode cX0_shore 11 = .ok (.aload_n 0, 1) := dk_42 (dk_at dksX0_shore_0 11 rfl rfl)
theorem dX0_shore_12 : decode cX0_shore 12 = .ok (.getfield 30, 3) := dk_180 0 30 (dk_at dksX0_shore_0 12 rfl rfl)
theorem dX0_shore_15 : decode cX0_shore 15 = .ok (.iload_n 2, 1) := dk_28 (dk_at dksX0_shore_0 15 rfl rfl)
theorem dX0_shore_16 : decode cX0_shore 16 = .ok (.invokevirtual 184, 3) := dk_182 0 184 (dk_at dksX0_shore_0 16 rfl rfl)
theorem dX0_shore_19 : decode cX0_shore 19 = .ok (.ifCond .eq 29, 3) := dk_153 0 29 (dk_at dksX0_shore_0 19 rfl rfl)
theorem dX0_shore_22 : decode cX0_shore 22 = .ok (.aload_n 0, 1) := dk_42 (dk_at dksX0_shore_0 22 rfl rfl)
theorem dX0_shore_23 : decode cX0_shore 23 = .ok (.getfield 30, 3) := dk_180 0 30 (dk_at dksX0_shore_1 0 rfl rfl)
theorem dX0_shore_26 : decode cX0_shore 26 = .ok (.iload_n 2, 1) := dk_28 (dk_at dksX0_shore_1 3 rfl rfl)
theorem dX0_shore_27 : decode cX0_shore 27 = .ok (.invokevirtual 190, 3) := dk_182 0 190 (dk_at dksX0_shore_1 4 rfl rfl)
theorem dX0_shore_30 : decode cX0_shore 30 = .ok (.ifCond .ne 18, 3) := dk_154 0 18 (dk_at dksX0_shore_1 7 rfl rfl)
theorem dX0_shore_33 : decode cX0_shore 33 = .ok (.aload_n 0, 1) := dk_42 (dk_at dksX0_shore_1 10 rfl rfl)
theorem dX0_shore_34 : decode cX0_shore 34 = .ok (.getfield 30, 3) := dk_180 0 30 (dk_at dksX0_shore_1 11 rfl rfl)
theorem dX0_shore_37 : decode cX0_shore 37 = .ok (.iload_n 2, 1) := dk_28 (dk_at dksX0_shore_1 14 rfl rfl)
theorem dX0_shore_38 : decode cX0_shore 38 = .ok (.invokevirtual 302, 3) := dk_182 1 46 (dk_at dksX0_shore_1 15 rfl rfl)
theorem dX0_shore_41 : decode cX0_shore 41 = .ok (.ifCond .eq 7, 3) := dk_153 0 7 (dk_at dksX0_shore_1 18 rfl rfl)
theorem dX0_shore_44 : decode cX0_shore 44 = .ok (.iconst 1, 1) := dk_4 (dk_at dksX0_shore_1 21 rfl rfl)
theorem dX0_shore_45 : decode cX0_shore 45 = .ok (.goto 4, 3) := dk_167 0 4 (dk_at dksX0_shore_2 0 rfl rfl)
theorem dX0_shore_48 : decode cX0_shore 48 = .ok (.iconst 0, 1) := dk_3 (dk_at dksX0_shore_2 3 rfl rfl)
theorem dX0_shore_49 : decode cX0_shore 49 = .ok (.iadd, 1) := dk_96 (dk_at dksX0_shore_2 4 rfl rfl)
theorem dX0_shore_50 : decode cX0_shore 50 = .ok (.istore_n 1, 1) := dk_60 (dk_at dksX0_shore_2 5 rfl rfl)
theorem dX0_shore_51 : decode cX0_shore 51 = .ok (.iinc 2 1, 3) := dk_132 2 1 (dk_at dksX0_shore_2 6 rfl rfl)
theorem dX0_shore_54 : decode cX0_shore 54 = .ok (.goto (-50), 3) := dk_167 255 206 (dk_at dksX0_shore_2 9 rfl rfl)
theorem dX0_shore_57 : decode cX0_shore 57 = .ok (.iload_n 1, 1) := dk_27 (dk_at dksX0_shore_2 12 rfl rfl)
theorem dX0_shore_58 : decode cX0_shore 58 = .ok (.ireturn, 1) := dk_172 (dk_at dksX0_shore_2 13 rfl rfl)
abbrev cX0_safe : ByteArray := prog_1_method_61_code
def yX0_safe : MethodName := ⟨RX0, "safe", "(IIII)I"⟩
def dkwX0_safe_3 : List UInt8 := [21, 4, 21, 5, 162, 0, 13, 42, 180, 0, 53, 21, 4, 46, 167, 0, 9, 42, 16, 251, 182, 0, 94, 172]
abbrev dktX0_safe_3 : List UInt8 := dkwX0_safe_3 ++ []
def dkwX0_safe_2 : List UInt8 := [154, 0, 7, 4, 167, 0, 4, 3, 182, 1, 53, 54, 5, 21, 4, 2, 160, 0, 8, 21, 5, 167, 0, 26]
abbrev dktX0_safe_2 : List UInt8 := dkwX0_safe_2 ++ dktX0_safe_3
def dkwX0_safe_1 : List UInt8 := [4, 184, 0, 73, 153, 0, 9, 21, 4, 2, 162, 0, 10, 42, 16, 254, 182, 0, 94, 172, 42, 27, 28, 29]
abbrev dktX0_safe_1 : List UInt8 := dkwX0_safe_1 ++ dktX0_safe_2
def dkwX0_safe_0 : List UInt8 := [42, 180, 0, 30, 27, 182, 0, 146, 153, 0, 29, 42, 180, 0, 30, 28, 182, 0, 184, 153, 0, 18, 29, 3]
abbrev dktX0_safe_0 : List UInt8 := dkwX0_safe_0 ++ dktX0_safe_1
theorem dksX0_safe_0 : cX0_safe.data.toList.drop 0 = dktX0_safe_0 := by decide +kernel
theorem dksX0_safe_1 : cX0_safe.data.toList.drop 24 = dktX0_safe_1 := dk_seg dksX0_safe_0 24 rfl rfl
theorem dksX0_safe_2 : cX0_safe.data.toList.drop 48 = dktX0_safe_2 := dk_seg dksX0_safe_1 24 rfl rfl
theorem dksX0_safe_3 : cX0_safe.data.toList.drop 72 = dktX0_safe_3 := dk_seg dksX0_safe_2 24 rfl rfl
theorem dX0_safe_0 : decode cX0_safe 0 = .ok (.aload_n 0, 1) := dk_42 (dk_at dksX0_safe_0 0 rfl rfl)
theorem dX0_safe_1 : decode cX0_safe 1 = .ok (.getfield 30, 3) := dk_180 0 30 (dk_at dksX0_safe_0 1 rfl rfl)
theorem dX0_safe_4 : decode cX0_safe 4 = .ok (.iload_n 1, 1) := dk_27 (dk_at dksX0_safe_0 4 rfl rfl)
theorem dX0_safe_5 : decode cX0_safe 5 = .ok (.invokevirtual 146, 3) := dk_182 0 146 (dk_at dksX0_safe_0 5 rfl rfl)
theorem dX0_safe_8 : decode cX0_safe 8 = .ok (.ifCond .eq 29, 3) := dk_153 0 29 (dk_at dksX0_safe_0 8 rfl rfl)
theorem dX0_safe_11 : decode cX0_safe 11 = .ok (.aload_n 0, 1) := dk_42 (dk_at dksX0_safe_0 11 rfl rfl)
theorem dX0_safe_12 : decode cX0_safe 12 = .ok (.getfield 30, 3) := dk_180 0 30 (dk_at dksX0_safe_0 12 rfl rfl)
theorem dX0_safe_15 : decode cX0_safe 15 = .ok (.iload_n 2, 1) := dk_28 (dk_at dksX0_safe_0 15 rfl rfl)
theorem dX0_safe_16 : decode cX0_safe 16 = .ok (.invokevirtual 184, 3) := dk_182 0 184 (dk_at dksX0_safe_0 16 rfl rfl)
theorem dX0_safe_19 : decode cX0_safe 19 = .ok (.ifCond .eq 18, 3) := dk_153 0 18 (dk_at dksX0_safe_0 19 rfl rfl)
theorem dX0_safe_22 : decode cX0_safe 22 = .ok (.iload_n 3, 1) := dk_29 (dk_at dksX0_safe_0 22 rfl rfl)
theorem dX0_safe_23 : decode cX0_safe 23 = .ok (.iconst 0, 1) := dk_3 (dk_at dksX0_safe_0 23 rfl rfl)
theorem dX0_safe_24 : decode cX0_safe 24 = .ok (.iconst 1, 1) := dk_4 (dk_at dksX0_safe_1 0 rfl rfl)
theorem dX0_safe_25 : decode cX0_safe 25 = .ok (.invokestatic 73, 3) := dk_184 0 73 (dk_at dksX0_safe_1 1 rfl rfl)
theorem dX0_safe_28 : decode cX0_safe 28 = .ok (.ifCond .eq 9, 3) := dk_153 0 9 (dk_at dksX0_safe_1 4 rfl rfl)
theorem dX0_safe_31 : decode cX0_safe 31 = .ok (.iload 4, 2) := dk_21 4 (dk_at dksX0_safe_1 7 rfl rfl)
theorem dX0_safe_33 : decode cX0_safe 33 = .ok (.iconst (-1), 1) := dk_2 (dk_at dksX0_safe_1 9 rfl rfl)
theorem dX0_safe_34 : decode cX0_safe 34 = .ok (.if_icmp .ge 10, 3) := dk_162 0 10 (dk_at dksX0_safe_1 10 rfl rfl)
theorem dX0_safe_37 : decode cX0_safe 37 = .ok (.aload_n 0, 1) := dk_42 (dk_at dksX0_safe_1 13 rfl rfl)
theorem dX0_safe_38 : decode cX0_safe 38 = .ok (.bipush (-2), 2) := dk_16 254 (dk_at dksX0_safe_1 14 rfl rfl)
theorem dX0_safe_40 : decode cX0_safe 40 = .ok (.invokevirtual 94, 3) := dk_182 0 94 (dk_at dksX0_safe_1 16 rfl rfl)
theorem dX0_safe_43 : decode cX0_safe 43 = .ok (.ireturn, 1) := dk_172 (dk_at dksX0_safe_1 19 rfl rfl)
theorem dX0_safe_44 : decode cX0_safe 44 = .ok (.aload_n 0, 1) := dk_42 (dk_at dksX0_safe_1 20 rfl rfl)
theorem dX0_safe_45 : decode cX0_safe 45 = .ok (.iload_n 1, 1) := dk_27 (dk_at dksX0_safe_1 21 rfl rfl)
theorem dX0_safe_46 : decode cX0_safe 46 = .ok (.iload_n 2, 1) := dk_28 (dk_at dksX0_safe_1 22 rfl rfl)
theorem dX0_safe_47 : decode cX0_safe 47 = .ok (.iload_n 3, 1) := dk_29 (dk_at dksX0_safe_1 23 rfl rfl)
theorem dX0_safe_48 : decode cX0_safe 48 = .ok (.ifCond .ne 7, 3) := dk_154 0 7 (dk_at dksX0_safe_2 0 rfl rfl)
theorem dX0_safe_51 : decode cX0_safe 51 = .ok (.iconst 1, 1) := dk_4 (dk_at dksX0_safe_2 3 rfl rfl)
theorem dX0_safe_52 : decode cX0_safe 52 = .ok (.goto 4, 3) := dk_167 0 4 (dk_at dksX0_safe_2 4 rfl rfl)
theorem dX0_safe_55 : decode cX0_safe 55 = .ok (.iconst 0, 1) := dk_3 (dk_at dksX0_safe_2 7 rfl rfl)
theorem dX0_safe_56 : decode cX0_safe 56 = .ok (.invokevirtual 309, 3) := dk_182 1 53 (dk_at dksX0_safe_2 8 rfl rfl)
theorem dX0_safe_59 : decode cX0_safe 59 = .ok (.istore 5, 2) := dk_54 5 (dk_at dksX0_safe_2 11 rfl rfl)
theorem dX0_safe_61 : decode cX0_safe 61 = .ok (.iload 4, 2) := dk_21 4 (dk_at dksX0_safe_2 13 rfl rfl)
theorem dX0_safe_63 : decode cX0_safe 63 = .ok (.iconst (-1), 1) := dk_2 (dk_at dksX0_safe_2 15 rfl rfl)
theorem dX0_safe_64 : decode cX0_safe 64 = .ok (.if_icmp .ne 8, 3) := dk_160 0 8 (dk_at dksX0_safe_2 16 rfl rfl)
theorem dX0_safe_67 : decode cX0_safe 67 = .ok (.iload 5, 2) := dk_21 5 (dk_at dksX0_safe_2 19 rfl rfl)
theorem dX0_safe_69 : decode cX0_safe 69 = .ok (.goto 26, 3) := dk_167 0 26 (dk_at dksX0_safe_2 21 rfl rfl)
theorem dX0_safe_72 : decode cX0_safe 72 = .ok (.iload 4, 2) := dk_21 4 (dk_at dksX0_safe_3 0 rfl rfl)
theorem dX0_safe_74 : decode cX0_safe 74 = .ok (.iload 5, 2) := dk_21 5 (dk_at dksX0_safe_3 2 rfl rfl)
theorem dX0_safe_76 : decode cX0_safe 76 = .ok (.if_icmp .ge 13, 3) := dk_162 0 13 (dk_at dksX0_safe_3 4 rfl rfl)
theorem dX0_safe_79 : decode cX0_safe 79 = .ok (.aload_n 0, 1) := dk_42 (dk_at dksX0_safe_3 7 rfl rfl)
theorem dX0_safe_80 : decode cX0_safe 80 = .ok (.getfield 53, 3) := dk_180 0 53 (dk_at dksX0_safe_3 8 rfl rfl)
theorem dX0_safe_83 : decode cX0_safe 83 = .ok (.iload 4, 2) := dk_21 4 (dk_at dksX0_safe_3 11 rfl rfl)
theorem dX0_safe_85 : decode cX0_safe 85 = .ok (.iaload, 1) := dk_46 (dk_at dksX0_safe_3 13 rfl rfl)
theorem dX0_safe_86 : decode cX0_safe 86 = .ok (.goto 9, 3) := dk_167 0 9 (dk_at dksX0_safe_3 14 rfl rfl)
theorem dX0_safe_89 : decode cX0_safe 89 = .ok (.aload_n 0, 1) := dk_42 (dk_at dksX0_safe_3 17 rfl rfl)
theorem dX0_safe_90 : decode cX0_safe 90 = .ok (.bipush (-5), 2) := dk_16 251 (dk_at dksX0_safe_3 18 rfl rfl)
theorem dX0_safe_92 : decode cX0_safe 92 = .ok (.invokevirtual 94, 3) := dk_182 0 94 (dk_at dksX0_safe_3 20 rfl rfl)
theorem dX0_safe_95 : decode cX0_safe 95 = .ok (.ireturn, 1) := dk_172 (dk_at dksX0_safe_3 23 rfl rfl)
abbrev cX0_shortest : ByteArray := prog_1_method_60_code
def yX0_shortest : MethodName := ⟨RX0, "shortest", "(IIZ)I"⟩
def dkwX0_shortest_3 : List UInt8 := [182, 1, 49, 153, 0, 6, 21, 4, 172, 132, 4, 1, 167, 255, 222, 2, 172]
abbrev dktX0_shortest_3 : List UInt8 := dkwX0_shortest_3 ++ []
def dkwX0_shortest_2 : List UInt8 := [21, 4, 16, 6, 163, 0, 33, 42, 42, 180, 0, 30, 180, 0, 149, 27, 50, 28, 29, 3, 21, 4]
abbrev dktX0_shortest_2 : List UInt8 := dkwX0_shortest_2 ++ dktX0_shortest_3
def dkwX0_shortest_1 : List UInt8 := [182, 0, 159, 87, 42, 180, 0, 50, 3, 50, 42, 180, 0, 46, 3, 50, 182, 1, 32, 87, 3, 54, 4]
abbrev dktX0_shortest_1 : List UInt8 := dkwX0_shortest_1 ++ dktX0_shortest_2
def dkwX0_shortest_0 : List UInt8 := [42, 180, 0, 46, 3, 50, 42, 180, 0, 30, 180, 0, 153, 27, 46, 42, 180, 0, 30, 180, 0, 156, 27, 46]
abbrev dktX0_shortest_0 : List UInt8 := dkwX0_shortest_0 ++ dktX0_shortest_1
theorem dksX0_shortest_0 : cX0_shortest.data.toList.drop 0 = dktX0_shortest_0 := by decide +kernel
theorem dksX0_shortest_1 : cX0_shortest.data.toList.drop 24 = dktX0_shortest_1 := dk_seg dksX0_shortest_0 24 rfl rfl
theorem dksX0_shortest_2 : cX0_shortest.data.toList.drop 47 = dktX0_shortest_2 := dk_seg dksX0_shortest_1 23 rfl rfl
theorem dksX0_shortest_3 : cX0_shortest.data.toList.drop 69 = dktX0_shortest_3 := dk_seg dksX0_shortest_2 22 rfl rfl
theorem dX0_shortest_0 : decode cX0_shortest 0 = .ok (.aload_n 0, 1) := dk_42 (dk_at dksX0_shortest_0 0 rfl rfl)
theorem dX0_shortest_1 : decode cX0_shortest 1 = .ok (.getfield 46, 3) := dk_180 0 46 (dk_at dksX0_shortest_0 1 rfl rfl)
theorem dX0_shortest_4 : decode cX0_shortest 4 = .ok (.iconst 0, 1) := dk_3 (dk_at dksX0_shortest_0 4 rfl rfl)
theorem dX0_shortest_5 : decode cX0_shortest 5 = .ok (.aaload, 1) := dk_50 (dk_at dksX0_shortest_0 5 rfl rfl)
theorem dX0_shortest_6 : decode cX0_shortest 6 = .ok (.aload_n 0, 1) := dk_42 (dk_at dksX0_shortest_0 6 rfl rfl)
theorem dX0_shortest_7 : decode cX0_shortest 7 = .ok (.getfield 30, 3) := dk_180 0 30 (dk_at dksX0_shortest_0 7 rfl rfl)
theorem dX0_shortest_10 : decode cX0_shortest 10 = .ok (.getfield 153, 3) := dk_180 0 153 (dk_at dksX0_shortest_0 10 rfl rfl)
theorem dX0_shortest_13 : decode cX0_shortest 13 = .ok (.iload_n 1, 1) := dk_27 (dk_at dksX0_shortest_0 13 rfl rfl)
theorem dX0_shortest_14 : decode cX0_shortest 14 = .ok (.iaload, 1) := dk_46 (dk_at dksX0_shortest_0 14 rfl rfl)
theorem dX0_shortest_15 : decode cX0_shortest 15 = .ok (.aload_n 0, 1) := dk_42 (dk_at dksX0_shortest_0 15 rfl rfl)
theorem dX0_shortest_16 : decode cX0_shortest 16 = .ok (.getfield 30, 3) := dk_180 0 30 (dk_at dksX0_shortest_0 16 rfl rfl)
theorem dX0_shortest_19 : decode cX0_shortest 19 = .ok (.getfield 156, 3) := dk_180 0 156 (dk_at dksX0_shortest_0 19 rfl rfl)
theorem dX0_shortest_22 : decode cX0_shortest 22 = .ok (.iload_n 1, 1) := dk_27 (dk_at dksX0_shortest_0 22 rfl rfl)
theorem dX0_shortest_23 : decode cX0_shortest 23 = .ok (.iaload, 1) := dk_46 (dk_at dksX0_shortest_0 23 rfl rfl)
theorem dX0_shortest_24 : decode cX0_shortest 24 = .ok (.invokevirtual 159, 3) := dk_182 0 159 (dk_at dksX0_shortest_1 0 rfl rfl)
theorem dX0_shortest_27 : decode cX0_shortest 27 = .ok (.pop, 1) := dk_87 (dk_at dksX0_shortest_1 3 rfl rfl)
theorem dX0_shortest_28 : decode cX0_shortest 28 = .ok (.aload_n 0, 1) := dk_42 (dk_at dksX0_shortest_1 4 rfl rfl)
theorem dX0_shortest_29 : decode cX0_shortest 29 = .ok (.getfield 50, 3) := dk_180 0 50 (dk_at dksX0_shortest_1 5 rfl rfl)
theorem dX0_shortest_32 : decode cX0_shortest 32 = .ok (.iconst 0, 1) := dk_3 (dk_at dksX0_shortest_1 8 rfl rfl)
theorem dX0_shortest_33 : decode cX0_shortest 33 = .ok (.aaload, 1) := dk_50 (dk_at dksX0_shortest_1 9 rfl rfl)
theorem dX0_shortest_34 : decode cX0_shortest 34 = .ok (.aload_n 0, 1) := dk_42 (dk_at dksX0_shortest_1 10 rfl rfl)
theorem dX0_shortest_35 : decode cX0_shortest 35 = .ok (.getfield 46, 3) := dk_180 0 46 (dk_at dksX0_shortest_1 11 rfl rfl)
theorem dX0_shortest_38 : decode cX0_shortest 38 = .ok (.iconst 0, 1) := dk_3 (dk_at dksX0_shortest_1 14 rfl rfl)
theorem dX0_shortest_39 : decode cX0_shortest 39 = .ok (.aaload, 1) := dk_50 (dk_at dksX0_shortest_1 15 rfl rfl)
theorem dX0_shortest_40 : decode cX0_shortest 40 = .ok (.invokevirtual 288, 3) := dk_182 1 32 (dk_at dksX0_shortest_1 16 rfl rfl)
theorem dX0_shortest_43 : decode cX0_shortest 43 = .ok (.pop, 1) := dk_87 (dk_at dksX0_shortest_1 19 rfl rfl)
theorem dX0_shortest_44 : decode cX0_shortest 44 = .ok (.iconst 0, 1) := dk_3 (dk_at dksX0_shortest_1 20 rfl rfl)
theorem dX0_shortest_45 : decode cX0_shortest 45 = .ok (.istore 4, 2) := dk_54 4 (dk_at dksX0_shortest_1 21 rfl rfl)
theorem dX0_shortest_47 : decode cX0_shortest 47 = .ok (.iload 4, 2) := dk_21 4 (dk_at dksX0_shortest_2 0 rfl rfl)
theorem dX0_shortest_49 : decode cX0_shortest 49 = .ok (.bipush 6, 2) := dk_16 6 (dk_at dksX0_shortest_2 2 rfl rfl)
theorem dX0_shortest_51 : decode cX0_shortest 51 = .ok (.if_icmp .gt 33, 3) := dk_163 0 33 (dk_at dksX0_shortest_2 4 rfl rfl)
theorem dX0_shortest_54 : decode cX0_shortest 54 = .ok (.aload_n 0, 1) := dk_42 (dk_at dksX0_shortest_2 7 rfl rfl)
theorem dX0_shortest_55 : decode cX0_shortest 55 = .ok (.aload_n 0, 1) := dk_42 (dk_at dksX0_shortest_2 8 rfl rfl)
theorem dX0_shortest_56 : decode cX0_shortest 56 = .ok (.getfield 30, 3) := dk_180 0 30 (dk_at dksX0_shortest_2 9 rfl rfl)
theorem dX0_shortest_59 : decode cX0_shortest 59 = .ok (.getfield 149, 3) := dk_180 0 149 (dk_at dksX0_shortest_2 12 rfl rfl)
theorem dX0_shortest_62 : decode cX0_shortest 62 = .ok (.iload_n 1, 1) := dk_27 (dk_at dksX0_shortest_2 15 rfl rfl)
theorem dX0_shortest_63 : decode cX0_shortest 63 = .ok (.aaload, 1) := dk_50 (dk_at dksX0_shortest_2 16 rfl rfl)
theorem dX0_shortest_64 : decode cX0_shortest 64 = .ok (.iload_n 2, 1) := dk_28 (dk_at dksX0_shortest_2 17 rfl rfl)
theorem dX0_shortest_65 : decode cX0_shortest 65 = .ok (.iload_n 3, 1) := dk_29 (dk_at dksX0_shortest_2 18 rfl rfl)
theorem dX0_shortest_66 : decode cX0_shortest 66 = .ok (.iconst 0, 1) := dk_3 (dk_at dksX0_shortest_2 19 rfl rfl)
theorem dX0_shortest_67 : decode cX0_shortest 67 = .ok (.iload 4, 2) := dk_21 4 (dk_at dksX0_shortest_2 20 rfl rfl)
theorem dX0_shortest_69 : decode cX0_shortest 69 = .ok (.invokevirtual 305, 3) := dk_182 1 49 (dk_at dksX0_shortest_3 0 rfl rfl)
theorem dX0_shortest_72 : decode cX0_shortest 72 = .ok (.ifCond .eq 6, 3) := dk_153 0 6 (dk_at dksX0_shortest_3 3 rfl rfl)
theorem dX0_shortest_75 : decode cX0_shortest 75 = .ok (.iload 4, 2) := dk_21 4 (dk_at dksX0_shortest_3 6 rfl rfl)
theorem dX0_shortest_77 : decode cX0_shortest 77 = .ok (.ireturn, 1) := dk_172 (dk_at dksX0_shortest_3 8 rfl rfl)
theorem dX0_shortest_78 : decode cX0_shortest 78 = .ok (.iinc 4 1, 3) := dk_132 4 1 (dk_at dksX0_shortest_3 9 rfl rfl)
theorem dX0_shortest_81 : decode cX0_shortest 81 = .ok (.goto (-34), 3) := dk_167 255 222 (dk_at dksX0_shortest_3 12 rfl rfl)
theorem dX0_shortest_84 : decode cX0_shortest 84 = .ok (.iconst (-1), 1) := dk_2 (dk_at dksX0_shortest_3 15 rfl rfl)
theorem dX0_shortest_85 : decode cX0_shortest 85 = .ok (.ireturn, 1) := dk_172 (dk_at dksX0_shortest_3 16 rfl rfl)
abbrev cX0_brings : ByteArray := prog_1_method_59_code
def yX0_brings : MethodName := ⟨RX0, "brings", "(LLeftIsAgreedOn$Voter;IZII)Z"⟩
def dkwX0_brings_8 : List UInt8 := [21, 5, 182, 1, 49, 153, 0, 5, 4, 172, 132, 6, 1, 167, 255, 128, 3, 172]
abbrev dktX0_brings_8 : List UInt8 := dkwX0_brings_8 ++ []
def dkwX0_brings_7 : List UInt8 := [167, 0, 12, 42, 180, 0, 30, 180, 0, 163, 3, 46, 182, 0, 166, 42, 43, 28, 29, 21, 4, 4, 96]
abbrev dktX0_brings_7 : List UInt8 := dkwX0_brings_7 ++ dktX0_brings_8
def dkwX0_brings_6 : List UInt8 := [42, 180, 0, 50, 21, 4, 50, 182, 1, 32, 42, 180, 0, 30, 43, 21, 6, 29, 153, 0, 7, 4]
abbrev dktX0_brings_6 : List UInt8 := dkwX0_brings_6 ++ dktX0_brings_7
def dkwX0_brings_5 : List UInt8 := [167, 0, 12, 42, 180, 0, 30, 180, 0, 163, 3, 46, 182, 0, 166, 42, 180, 0, 50, 21, 4, 4, 96, 50]
abbrev dktX0_brings_5 : List UInt8 := dkwX0_brings_5 ++ dktX0_brings_6
def dkwX0_brings_4 : List UInt8 := [96, 50, 42, 180, 0, 46, 21, 4, 50, 182, 1, 32, 42, 180, 0, 30, 43, 21, 6, 29, 153, 0, 7, 3]
abbrev dktX0_brings_4 : List UInt8 := dkwX0_brings_4 ++ dktX0_brings_5
def dkwX0_brings_3 : List UInt8 := [54, 6, 21, 6, 5, 163, 0, 128, 42, 180, 0, 53, 21, 4, 21, 6, 79, 42, 180, 0, 46, 21, 4, 4]
abbrev dktX0_brings_3 : List UInt8 := dkwX0_brings_3 ++ dktX0_brings_4
def dkwX0_brings_2 : List UInt8 := [160, 0, 21, 42, 180, 0, 50, 21, 4, 50, 180, 1, 17, 28, 160, 0, 7, 4, 167, 0, 4, 3, 172, 3]
abbrev dktX0_brings_2 : List UInt8 := dkwX0_brings_2 ++ dktX0_brings_3
def dkwX0_brings_1 : List UInt8 := [2, 159, 0, 5, 3, 172, 21, 4, 21, 5, 160, 0, 37, 42, 180, 0, 46, 21, 4, 50, 180, 1, 17, 28]
abbrev dktX0_brings_1 : List UInt8 := dkwX0_brings_1 ++ dktX0_brings_2
def dkwX0_brings_0 : List UInt8 := [42, 180, 0, 46, 21, 4, 50, 180, 1, 19, 2, 160, 0, 17, 42, 180, 0, 50, 21, 4, 50, 180, 1, 19]
abbrev dktX0_brings_0 : List UInt8 := dkwX0_brings_0 ++ dktX0_brings_1
theorem dksX0_brings_0 : cX0_brings.data.toList.drop 0 = dktX0_brings_0 := by decide +kernel
theorem dksX0_brings_1 : cX0_brings.data.toList.drop 24 = dktX0_brings_1 := dk_seg dksX0_brings_0 24 rfl rfl
theorem dksX0_brings_2 : cX0_brings.data.toList.drop 48 = dktX0_brings_2 := dk_seg dksX0_brings_1 24 rfl rfl
theorem dksX0_brings_3 : cX0_brings.data.toList.drop 72 = dktX0_brings_3 := dk_seg dksX0_brings_2 24 rfl rfl
theorem dksX0_brings_4 : cX0_brings.data.toList.drop 96 = dktX0_brings_4 := dk_seg dksX0_brings_3 24 rfl rfl
theorem dksX0_brings_5 : cX0_brings.data.toList.drop 120 = dktX0_brings_5 := dk_seg dksX0_brings_4 24 rfl rfl
theorem dksX0_brings_6 : cX0_brings.data.toList.drop 144 = dktX0_brings_6 := dk_seg dksX0_brings_5 24 rfl rfl
theorem dksX0_brings_7 : cX0_brings.data.toList.drop 166 = dktX0_brings_7 := dk_seg dksX0_brings_6 22 rfl rfl
theorem dksX0_brings_8 : cX0_brings.data.toList.drop 189 = dktX0_brings_8 := dk_seg dksX0_brings_7 23 rfl rfl
theorem dX0_brings_0 : decode cX0_brings 0 = .ok (.aload_n 0, 1) := dk_42 (dk_at dksX0_brings_0 0 rfl rfl)
theorem dX0_brings_1 : decode cX0_brings 1 = .ok (.getfield 46, 3) := dk_180 0 46 (dk_at dksX0_brings_0 1 rfl rfl)
theorem dX0_brings_4 : decode cX0_brings 4 = .ok (.iload 4, 2) := dk_21 4 (dk_at dksX0_brings_0 4 rfl rfl)
theorem dX0_brings_6 : decode cX0_brings 6 = .ok (.aaload, 1) := dk_50 (dk_at dksX0_brings_0 6 rfl rfl)
theorem dX0_brings_7 : decode cX0_brings 7 = .ok (.getfield 275, 3) := dk_180 1 19 (dk_at dksX0_brings_0 7 rfl rfl)
theorem dX0_brings_10 : decode cX0_brings 10 = .ok (.iconst (-1), 1) := dk_2 (dk_at dksX0_brings_0 10 rfl rfl)
theorem dX0_brings_11 : decode cX0_brings 11 = .ok (.if_icmp .ne 17, 3) := dk_160 0 17 (dk_at dksX0_brings_0 11 rfl rfl)
theorem dX0_brings_14 : decode cX0_brings 14 = .ok (.aload_n 0, 1) := dk_42 (dk_at dksX0_brings_0 14 rfl rfl)
theorem dX0_brings_15 : decode cX0_brings 15 = .ok (.getfield 50, 3) := dk_180 0 50 (dk_at dksX0_brings_0 15 rfl rfl)
theorem dX0_brings_18 : decode cX0_brings 18 = .ok (.iload 4, 2) := dk_21 4 (dk_at dksX0_brings_0 18 rfl rfl)
theorem dX0_brings_20 : decode cX0_brings 20 = .ok (.aaload, 1) := dk_50 (dk_at dksX0_brings_0 20 rfl rfl)
theorem dX0_brings_21 : decode cX0_brings 21 = .ok (.getfield 275, 3) := dk_180 1 19 (dk_at dksX0_brings_0 21 rfl rfl)
theorem dX0_brings_24 : decode cX0_brings 24 = .ok (.iconst (-1), 1) := dk_2 (dk_at dksX0_brings_1 0 rfl rfl)
theorem dX0_brings_25 : decode cX0_brings 25 = .ok (.if_icmp .eq 5, 3) := dk_159 0 5 (dk_at dksX0_brings_1 1 rfl rfl)
theorem dX0_brings_28 : decode cX0_brings 28 = .ok (.iconst 0, 1) := dk_3 (dk_at dksX0_brings_1 4 rfl rfl)
theorem dX0_brings_29 : decode cX0_brings 29 = .ok (.ireturn, 1) := dk_172 (dk_at dksX0_brings_1 5 rfl rfl)
theorem dX0_brings_30 : decode cX0_brings 30 = .ok (.iload 4, 2) := dk_21 4 (dk_at dksX0_brings_1 6 rfl rfl)
theorem dX0_brings_32 : decode cX0_brings 32 = .ok (.iload 5, 2) := dk_21 5 (dk_at dksX0_brings_1 8 rfl rfl)
theorem dX0_brings_34 : decode cX0_brings 34 = .ok (.if_icmp .ne 37, 3) := dk_160 0 37 (dk_at dksX0_brings_1 10 rfl rfl)
theorem dX0_brings_37 : decode cX0_brings 37 = .ok (.aload_n 0, 1) := dk_42 (dk_at dksX0_brings_1 13 rfl rfl)
theorem dX0_brings_38 : decode cX0_brings 38 = .ok (.getfield 46, 3) := dk_180 0 46 (dk_at dksX0_brings_1 14 rfl rfl)
theorem dX0_brings_41 : decode cX0_brings 41 = .ok (.iload 4, 2) := dk_21 4 (dk_at dksX0_brings_1 17 rfl rfl)
theorem dX0_brings_43 : decode cX0_brings 43 = .ok (.aaload, 1) := dk_50 (dk_at dksX0_brings_1 19 rfl rfl)
theorem dX0_brings_44 : decode cX0_brings 44 = .ok (.getfield 273, 3) := dk_180 1 17 (dk_at dksX0_brings_1 20 rfl rfl)
theorem dX0_brings_47 : decode cX0_brings 47 = .ok (.iload_n 2, 1) := dk_28 (dk_at dksX0_brings_1 23 rfl rfl)
theorem dX0_brings_48 : decode cX0_brings 48 = .ok (.if_icmp .ne 21, 3) := dk_160 0 21 (dk_at dksX0_brings_2 0 rfl rfl)
theorem dX0_brings_51 : decode cX0_brings 51 = .ok (.aload_n 0, 1) := dk_42 (dk_at dksX0_brings_2 3 rfl rfl)
theorem dX0_brings_52 : decode cX0_brings 52 = .ok (.getfield 50, 3) := dk_180 0 50 (dk_at dksX0_brings_2 4 rfl rfl)
theorem dX0_brings_55 : decode cX0_brings 55 = .ok (.iload 4, 2) := dk_21 4 (dk_at dksX0_brings_2 7 rfl rfl)
theorem dX0_brings_57 : decode cX0_brings 57 = .ok (.aaload, 1) := dk_50 (dk_at dksX0_brings_2 9 rfl rfl)
theorem dX0_brings_58 : decode cX0_brings 58 = .ok (.getfield 273, 3) := dk_180 1 17 (dk_at dksX0_brings_2 10 rfl rfl)
theorem dX0_brings_61 : decode cX0_brings 61 = .ok (.iload_n 2, 1) := dk_28 (dk_at dksX0_brings_2 13 rfl rfl)
theorem dX0_brings_62 : decode cX0_brings 62 = .ok (.if_icmp .ne 7, 3) := dk_160 0 7 (dk_at dksX0_brings_2 14 rfl rfl)
theorem dX0_brings_65 : decode cX0_brings 65 = .ok (.iconst 1, 1) := dk_4 (dk_at dksX0_brings_2 17 rfl rfl)
theorem dX0_brings_66 : decode cX0_brings 66 = .ok (.goto 4, 3) := dk_167 0 4 (dk_at dksX0_brings_2 18 rfl rfl)
theorem dX0_brings_69 : decode cX0_brings 69 = .ok (.iconst 0, 1) := dk_3 (dk_at dksX0_brings_2 21 rfl rfl)
theorem dX0_brings_70 : decode cX0_brings 70 = .ok (.ireturn, 1) := dk_172 (dk_at dksX0_brings_2 22 rfl rfl)
theorem dX0_brings_71 : decode cX0_brings 71 = .ok (.iconst 0, 1) := dk_3 (dk_at dksX0_brings_2 23 rfl rfl)
theorem dX0_brings_72 : decode cX0_brings 72 = .ok (.istore 6, 2) := dk_54 6 (dk_at dksX0_brings_3 0 rfl rfl)
theorem dX0_brings_74 : decode cX0_brings 74 = .ok (.iload 6, 2) := dk_21 6 (dk_at dksX0_brings_3 2 rfl rfl)
theorem dX0_brings_76 : decode cX0_brings 76 = .ok (.iconst 2, 1) := dk_5 (dk_at dksX0_brings_3 4 rfl rfl)
theorem dX0_brings_77 : decode cX0_brings 77 = .ok (.if_icmp .gt 128, 3) := dk_163 0 128 (dk_at dksX0_brings_3 5 rfl rfl)
theorem dX0_brings_80 : decode cX0_brings 80 = .ok (.aload_n 0, 1) := dk_42 (dk_at dksX0_brings_3 8 rfl rfl)
theorem dX0_brings_81 : decode cX0_brings 81 = .ok (.getfield 53, 3) := dk_180 0 53 (dk_at dksX0_brings_3 9 rfl rfl)
theorem dX0_brings_84 : decode cX0_brings 84 = .ok (.iload 4, 2) := dk_21 4 (dk_at dksX0_brings_3 12 rfl rfl)
theorem dX0_brings_86 : decode cX0_brings 86 = .ok (.iload 6, 2) := dk_21 6 (dk_at dksX0_brings_3 14 rfl rfl)
theorem dX0_brings_88 : decode cX0_brings 88 = .ok (.iastore, 1) := dk_79 (dk_at dksX0_brings_3 16 rfl rfl)
theorem dX0_brings_89 : decode cX0_brings 89 = .ok (.aload_n 0, 1) := dk_42 (dk_at dksX0_brings_3 17 rfl rfl)
theorem dX0_brings_90 : decode cX0_brings 90 = .ok (.getfield 46, 3) := dk_180 0 46 (dk_at dksX0_brings_3 18 rfl rfl)
theorem dX0_brings_93 : decode cX0_brings 93 = .ok (.iload 4, 2) := dk_21 4 (dk_at dksX0_brings_3 21 rfl rfl)
theorem dX0_brings_95 : decode cX0_brings 95 = .ok (.iconst 1, 1) := dk_4 (dk_at dksX0_brings_3 23 rfl rfl)
theorem dX0_brings_96 : decode cX0_brings 96 = .ok (.iadd, 1) := dk_96 (dk_at dksX0_brings_4 0 rfl rfl)
theorem dX0_brings_97 : decode cX0_brings 97 = .ok (.aaload, 1) := dk_50 (dk_at dksX0_brings_4 1 rfl rfl)
theorem dX0_brings_98 : decode cX0_brings 98 = .ok (.aload_n 0, 1) := dk_42 (dk_at dksX0_brings_4 2 rfl rfl)
theorem dX0_brings_99 : decode cX0_brings 99 = .ok (.getfield 46, 3) := dk_180 0 46 (dk_at dksX0_brings_4 3 rfl rfl)
theorem dX0_brings_102 : decode cX0_brings 102 = .ok (.iload 4, 2) := dk_21 4 (dk_at dksX0_brings_4 6 rfl rfl)
theorem dX0_brings_104 : decode cX0_brings 104 = .ok (.aaload, 1) := dk_50 (dk_at dksX0_brings_4 8 rfl rfl)
theorem dX0_brings_105 : decode cX0_brings 105 = .ok (.invokevirtual 288, 3) := dk_182 1 32 (dk_at dksX0_brings_4 9 rfl rfl)
theorem dX0_brings_108 : decode cX0_brings 108 = .ok (.aload_n 0, 1) := dk_42 (dk_at dksX0_brings_4 12 rfl rfl)
theorem dX0_brings_109 : decode cX0_brings 109 = .ok (.getfield 30, 3) := dk_180 0 30 (dk_at dksX0_brings_4 13 rfl rfl)
theorem dX0_brings_112 : decode cX0_brings 112 = .ok (.aload_n 1, 1) := dk_43 (dk_at dksX0_brings_4 16 rfl rfl)
theorem dX0_brings_113 : decode cX0_brings 113 = .ok (.iload 6, 2) := dk_21 6 (dk_at dksX0_brings_4 17 rfl rfl)
theorem dX0_brings_115 : decode cX0_brings 115 = .ok (.iload_n 3, 1) := dk_29 (dk_at dksX0_brings_4 19 rfl rfl)
theorem dX0_brings_116 : decode cX0_brings 116 = .ok (.ifCond .eq 7, 3) := dk_153 0 7 (dk_at dksX0_brings_4 20 rfl rfl)
theorem dX0_brings_119 : decode cX0_brings 119 = .ok (.iconst 0, 1) := dk_3 (dk_at dksX0_brings_4 23 rfl rfl)
theorem dX0_brings_120 : decode cX0_brings 120 = .ok (.goto 12, 3) := dk_167 0 12 (dk_at dksX0_brings_5 0 rfl rfl)
theorem dX0_brings_123 : decode cX0_brings 123 = .ok (.aload_n 0, 1) := dk_42 (dk_at dksX0_brings_5 3 rfl rfl)
theorem dX0_brings_124 : decode cX0_brings 124 = .ok (.getfield 30, 3) := dk_180 0 30 (dk_at dksX0_brings_5 4 rfl rfl)
theorem dX0_brings_127 : decode cX0_brings 127 = .ok (.getfield 163, 3) := dk_180 0 163 (dk_at dksX0_brings_5 7 rfl rfl)
theorem dX0_brings_130 : decode cX0_brings 130 = .ok (.iconst 0, 1) := dk_3 (dk_at dksX0_brings_5 10 rfl rfl)
theorem dX0_brings_131 : decode cX0_brings 131 = .ok (.iaload, 1) := dk_46 (dk_at dksX0_brings_5 11 rfl rfl)
theorem dX0_brings_132 : decode cX0_brings 132 = .ok (.invokevirtual 166, 3) := dk_182 0 166 (dk_at dksX0_brings_5 12 rfl rfl)
theorem dX0_brings_135 : decode cX0_brings 135 = .ok (.aload_n 0, 1) := dk_42 (dk_at dksX0_brings_5 15 rfl rfl)
theorem dX0_brings_136 : decode cX0_brings 136 = .ok (.getfield 50, 3) := dk_180 0 50 (dk_at dksX0_brings_5 16 rfl rfl)
theorem dX0_brings_139 : decode cX0_brings 139 = .ok (.iload 4, 2) := dk_21 4 (dk_at dksX0_brings_5 19 rfl rfl)
theorem dX0_brings_141 : decode cX0_brings 141 = .ok (.iconst 1, 1) := dk_4 (dk_at dksX0_brings_5 21 rfl rfl)
theorem dX0_brings_142 : decode cX0_brings 142 = .ok (.iadd, 1) := dk_96 (dk_at dksX0_brings_5 22 rfl rfl)
theorem dX0_brings_143 : decode cX0_brings 143 = .ok (.aaload, 1) := dk_50 (dk_at dksX0_brings_5 23 rfl rfl)
theorem dX0_brings_144 : decode cX0_brings 144 = .ok (.aload_n 0, 1) := dk_42 (dk_at dksX0_brings_6 0 rfl rfl)
theorem dX0_brings_145 : decode cX0_brings 145 = .ok (.getfield 50, 3) := dk_180 0 50 (dk_at dksX0_brings_6 1 rfl rfl)
theorem dX0_brings_148 : decode cX0_brings 148 = .ok (.iload 4, 2) := dk_21 4 (dk_at dksX0_brings_6 4 rfl rfl)
theorem dX0_brings_150 : decode cX0_brings 150 = .ok (.aaload, 1) := dk_50 (dk_at dksX0_brings_6 6 rfl rfl)
theorem dX0_brings_151 : decode cX0_brings 151 = .ok (.invokevirtual 288, 3) := dk_182 1 32 (dk_at dksX0_brings_6 7 rfl rfl)
theorem dX0_brings_154 : decode cX0_brings 154 = .ok (.aload_n 0, 1) := dk_42 (dk_at dksX0_brings_6 10 rfl rfl)
theorem dX0_brings_155 : decode cX0_brings 155 = .ok (.getfield 30, 3) := dk_180 0 30 (dk_at dksX0_brings_6 11 rfl rfl)
theorem dX0_brings_158 : decode cX0_brings 158 = .ok (.aload_n 1, 1) := dk_43 (dk_at dksX0_brings_6 14 rfl rfl)
theorem dX0_brings_159 : decode cX0_brings 159 = .ok (.iload 6, 2) := dk_21 6 (dk_at dksX0_brings_6 15 rfl rfl)
theorem dX0_brings_161 : decode cX0_brings 161 = .ok (.iload_n 3, 1) := dk_29 (dk_at dksX0_brings_6 17 rfl rfl)
theorem dX0_brings_162 : decode cX0_brings 162 = .ok (.ifCond .eq 7, 3) := dk_153 0 7 (dk_at dksX0_brings_6 18 rfl rfl)
theorem dX0_brings_165 : decode cX0_brings 165 = .ok (.iconst 1, 1) := dk_4 (dk_at dksX0_brings_6 21 rfl rfl)
theorem dX0_brings_166 : decode cX0_brings 166 = .ok (.goto 12, 3) := dk_167 0 12 (dk_at dksX0_brings_7 0 rfl rfl)
theorem dX0_brings_169 : decode cX0_brings 169 = .ok (.aload_n 0, 1) := dk_42 (dk_at dksX0_brings_7 3 rfl rfl)
theorem dX0_brings_170 : decode cX0_brings 170 = .ok (.getfield 30, 3) := dk_180 0 30 (dk_at dksX0_brings_7 4 rfl rfl)
theorem dX0_brings_173 : decode cX0_brings 173 = .ok (.getfield 163, 3) := dk_180 0 163 (dk_at dksX0_brings_7 7 rfl rfl)
theorem dX0_brings_176 : decode cX0_brings 176 = .ok (.iconst 0, 1) := dk_3 (dk_at dksX0_brings_7 10 rfl rfl)
theorem dX0_brings_177 : decode cX0_brings 177 = .ok (.iaload, 1) := dk_46 (dk_at dksX0_brings_7 11 rfl rfl)
theorem dX0_brings_178 : decode cX0_brings 178 = .ok (.invokevirtual 166, 3) := dk_182 0 166 (dk_at dksX0_brings_7 12 rfl rfl)
theorem dX0_brings_181 : decode cX0_brings 181 = .ok (.aload_n 0, 1) := dk_42 (dk_at dksX0_brings_7 15 rfl rfl)
theorem dX0_brings_182 : decode cX0_brings 182 = .ok (.aload_n 1, 1) := dk_43 (dk_at dksX0_brings_7 16 rfl rfl)
theorem dX0_brings_183 : decode cX0_brings 183 = .ok (.iload_n 2, 1) := dk_28 (dk_at dksX0_brings_7 17 rfl rfl)
theorem dX0_brings_184 : decode cX0_brings 184 = .ok (.iload_n 3, 1) := dk_29 (dk_at dksX0_brings_7 18 rfl rfl)
theorem dX0_brings_185 : decode cX0_brings 185 = .ok (.iload 4, 2) := dk_21 4 (dk_at dksX0_brings_7 19 rfl rfl)
theorem dX0_brings_187 : decode cX0_brings 187 = .ok (.iconst 1, 1) := dk_4 (dk_at dksX0_brings_7 21 rfl rfl)
theorem dX0_brings_188 : decode cX0_brings 188 = .ok (.iadd, 1) := dk_96 (dk_at dksX0_brings_7 22 rfl rfl)
theorem dX0_brings_189 : decode cX0_brings 189 = .ok (.iload 5, 2) := dk_21 5 (dk_at dksX0_brings_8 0 rfl rfl)
theorem dX0_brings_191 : decode cX0_brings 191 = .ok (.invokevirtual 305, 3) := dk_182 1 49 (dk_at dksX0_brings_8 2 rfl rfl)
theorem dX0_brings_194 : decode cX0_brings 194 = .ok (.ifCond .eq 5, 3) := dk_153 0 5 (dk_at dksX0_brings_8 5 rfl rfl)
theorem dX0_brings_197 : decode cX0_brings 197 = .ok (.iconst 1, 1) := dk_4 (dk_at dksX0_brings_8 8 rfl rfl)
theorem dX0_brings_198 : decode cX0_brings 198 = .ok (.ireturn, 1) := dk_172 (dk_at dksX0_brings_8 9 rfl rfl)
theorem dX0_brings_199 : decode cX0_brings 199 = .ok (.iinc 6 1, 3) := dk_132 6 1 (dk_at dksX0_brings_8 10 rfl rfl)
theorem dX0_brings_202 : decode cX0_brings 202 = .ok (.goto (-128), 3) := dk_167 255 128 (dk_at dksX0_brings_8 13 rfl rfl)
theorem dX0_brings_205 : decode cX0_brings 205 = .ok (.iconst 0, 1) := dk_3 (dk_at dksX0_brings_8 16 rfl rfl)
theorem dX0_brings_206 : decode cX0_brings 206 = .ok (.ireturn, 1) := dk_172 (dk_at dksX0_brings_8 17 rfl rfl)
abbrev cX0_carries : ByteArray := prog_1_method_62_code
def yX0_carries : MethodName := ⟨RX0, "carries", "()I"⟩
def dkwX0_carries_0 : List UInt8 := [42, 180, 0, 30, 3, 182, 1, 57, 172]
abbrev dktX0_carries_0 : List UInt8 := dkwX0_carries_0 ++ []
theorem dksX0_carries_0 : cX0_carries.data.toList.drop 0 = dktX0_carries_0 := by decide +kernel
theorem dX0_carries_0 : decode cX0_carries 0 = .ok (.aload_n 0, 1) := dk_42 (dk_at dksX0_carries_0 0 rfl rfl)
theorem dX0_carries_1 : decode cX0_carries 1 = .ok (.getfield 30, 3) := dk_180 0 30 (dk_at dksX0_carries_0 1 rfl rfl)
theorem dX0_carries_4 : decode cX0_carries 4 = .ok (.iconst 0, 1) := dk_3 (dk_at dksX0_carries_0 4 rfl rfl)
theorem dX0_carries_5 : decode cX0_carries 5 = .ok (.invokevirtual 313, 3) := dk_182 1 57 (dk_at dksX0_carries_0 5 rfl rfl)
theorem dX0_carries_8 : decode cX0_carries 8 = .ok (.ireturn, 1) := dk_172 (dk_at dksX0_carries_0 8 rfl rfl)
abbrev cX0_bloc : ByteArray := prog_1_method_64_code
def yX0_bloc : MethodName := ⟨RX0, "bloc", "(I)I"⟩
def dkwX0_bloc_2 : List UInt8 := [180, 0, 30, 182, 1, 60, 182, 1, 63, 28, 100, 172]
abbrev dktX0_bloc_2 : List UInt8 := dkwX0_bloc_2 ++ []
def dkwX0_bloc_1 : List UInt8 := [3, 182, 1, 70, 182, 1, 63, 61, 27, 4, 160, 0, 7, 28, 167, 0, 19, 42, 180, 0, 30, 42]
abbrev dktX0_bloc_1 : List UInt8 := dkwX0_bloc_1 ++ dktX0_bloc_2
def dkwX0_bloc_0 : List UInt8 := [27, 3, 4, 184, 0, 73, 154, 0, 10, 42, 16, 254, 182, 0, 94, 172, 42, 180, 0, 30, 42, 180, 0, 30]
abbrev dktX0_bloc_0 : List UInt8 := dkwX0_bloc_0 ++ dktX0_bloc_1
theorem dksX0_bloc_0 : cX0_bloc.data.toList.drop 0 = dktX0_bloc_0 := by decide +kernel
theorem dksX0_bloc_1 : cX0_bloc.data.toList.drop 24 = dktX0_bloc_1 := dk_seg dksX0_bloc_0 24 rfl rfl
theorem dksX0_bloc_2 : cX0_bloc.data.toList.drop 46 = dktX0_bloc_2 := dk_seg dksX0_bloc_1 22 rfl rfl
theorem dX0_bloc_0 : decode cX0_bloc 0 = .ok (.iload_n 1, 1) := dk_27 (dk_at dksX0_bloc_0 0 rfl rfl)
theorem dX0_bloc_1 : decode cX0_bloc 1 = .ok (.iconst 0, 1) := dk_3 (dk_at dksX0_bloc_0 1 rfl rfl)
theorem dX0_bloc_2 : decode cX0_bloc 2 = .ok (.iconst 1, 1) := dk_4 (dk_at dksX0_bloc_0 2 rfl rfl)
theorem dX0_bloc_3 : decode cX0_bloc 3 = .ok (.invokestatic 73, 3) := dk_184 0 73 (dk_at dksX0_bloc_0 3 rfl rfl)
theorem dX0_bloc_6 : decode cX0_bloc 6 = .ok (.ifCond .ne 10, 3) := dk_154 0 10 (dk_at dksX0_bloc_0 6 rfl rfl)
theorem dX0_bloc_9 : decode cX0_bloc 9 = .ok (.aload_n 0, 1) := dk_42 (dk_at dksX0_bloc_0 9 rfl rfl)
theorem dX0_bloc_10 : decode cX0_bloc 10 = .ok (.bipush (-2), 2) := dk_16 254 (dk_at dksX0_bloc_0 10 rfl rfl)
theorem dX0_bloc_12 : decode cX0_bloc 12 = .ok (.invokevirtual 94, 3) := dk_182 0 94 (dk_at dksX0_bloc_0 12 rfl rfl)
theorem dX0_bloc_15 : decode cX0_bloc 15 = .ok (.ireturn, 1) := dk_172 (dk_at dksX0_bloc_0 15 rfl rfl)
theorem dX0_bloc_16 : decode cX0_bloc 16 = .ok (.aload_n 0, 1) := dk_42 (dk_at dksX0_bloc_0 16 rfl rfl)
theorem dX0_bloc_17 : decode cX0_bloc 17 = .ok (.getfield 30, 3) := dk_180 0 30 (dk_at dksX0_bloc_0 17 rfl rfl)
theorem dX0_bloc_20 : decode cX0_bloc 20 = .ok (.aload_n 0, 1) := dk_42 (dk_at dksX0_bloc_0 20 rfl rfl)
theorem dX0_bloc_21 : decode cX0_bloc 21 = .ok (.getfield 30, 3) := dk_180 0 30 (dk_at dksX0_bloc_0 21 rfl rfl)
theorem dX0_bloc_24 : decode cX0_bloc 24 = .ok (.iconst 0, 1) := dk_3 (dk_at dksX0_bloc_1 0 rfl rfl)
theorem dX0_bloc_25 : decode cX0_bloc 25 = .ok (.invokevirtual 326, 3) := dk_182 1 70 (dk_at dksX0_bloc_1 1 rfl rfl)
theorem dX0_bloc_28 : decode cX0_bloc 28 = .ok (.invokevirtual 319, 3) := dk_182 1 63 (dk_at dksX0_bloc_1 4 rfl rfl)
theorem dX0_bloc_31 : decode cX0_bloc 31 = .ok (.istore_n 2, 1) := dk_61 (dk_at dksX0_bloc_1 7 rfl rfl)
theorem dX0_bloc_32 : decode cX0_bloc 32 = .ok (.iload_n 1, 1) := dk_27 (dk_at dksX0_bloc_1 8 rfl rfl)
theorem dX0_bloc_33 : decode cX0_bloc 33 = .ok (.iconst 1, 1) := dk_4 (dk_at dksX0_bloc_1 9 rfl rfl)
theorem dX0_bloc_34 : decode cX0_bloc 34 = .ok (.if_icmp .ne 7, 3) := dk_160 0 7 (dk_at dksX0_bloc_1 10 rfl rfl)
theorem dX0_bloc_37 : decode cX0_bloc 37 = .ok (.iload_n 2, 1) := dk_28 (dk_at dksX0_bloc_1 13 rfl rfl)
theorem dX0_bloc_38 : decode cX0_bloc 38 = .ok (.goto 19, 3) := dk_167 0 19 (dk_at dksX0_bloc_1 14 rfl rfl)
theorem dX0_bloc_41 : decode cX0_bloc 41 = .ok (.aload_n 0, 1) := dk_42 (dk_at dksX0_bloc_1 17 rfl rfl)
theorem dX0_bloc_42 : decode cX0_bloc 42 = .ok (.getfield 30, 3) := dk_180 0 30 (dk_at dksX0_bloc_1 18 rfl rfl)
theorem dX0_bloc_45 : decode cX0_bloc 45 = .ok (.aload_n 0, 1) := dk_42 (dk_at dksX0_bloc_1 21 rfl rfl)
theorem dX0_bloc_46 : decode cX0_bloc 46 = .ok (.getfield 30, 3) := dk_180 0 30 (dk_at dksX0_bloc_2 0 rfl rfl)
theorem dX0_bloc_49 : decode cX0_bloc 49 = .ok (.invokevirtual 316, 3) := dk_182 1 60 (dk_at dksX0_bloc_2 3 rfl rfl)
theorem dX0_bloc_52 : decode cX0_bloc 52 = .ok (.invokevirtual 319, 3) := dk_182 1 63 (dk_at dksX0_bloc_2 6 rfl rfl)
theorem dX0_bloc_55 : decode cX0_bloc 55 = .ok (.iload_n 2, 1) := dk_28 (dk_at dksX0_bloc_2 9 rfl rfl)
theorem dX0_bloc_56 : decode cX0_bloc 56 = .ok (.isub, 1) := dk_100 (dk_at dksX0_bloc_2 10 rfl rfl)
theorem dX0_bloc_57 : decode cX0_bloc 57 = .ok (.ireturn, 1) := dk_172 (dk_at dksX0_bloc_2 11 rfl rfl)
abbrev cX0_swing : ByteArray := prog_1_method_65_code
def yX0_swing : MethodName := ⟨RX0, "swing", "(I)I"⟩
def dkwX0_swing_1 : List UInt8 := [4, 27, 120, 182, 1, 57, 42, 180, 0, 30, 3, 182, 1, 57, 159, 0, 7, 4, 167, 0, 4, 3, 172]
abbrev dktX0_swing_1 : List UInt8 := dkwX0_swing_1 ++ []
def dkwX0_swing_0 : List UInt8 := [42, 180, 0, 30, 27, 182, 0, 146, 154, 0, 12, 42, 16, 254, 182, 0, 94, 167, 0, 29, 42, 180, 0, 30]
abbrev dktX0_swing_0 : List UInt8 := dkwX0_swing_0 ++ dktX0_swing_1
theorem dksX0_swing_0 : cX0_swing.data.toList.drop 0 = dktX0_swing_0 := by decide +kernel
theorem dksX0_swing_1 : cX0_swing.data.toList.drop 24 = dktX0_swing_1 := dk_seg dksX0_swing_0 24 rfl rfl
theorem dX0_swing_0 : decode cX0_swing 0 = .ok (.aload_n 0, 1) := dk_42 (dk_at dksX0_swing_0 0 rfl rfl)
theorem dX0_swing_1 : decode cX0_swing 1 = .ok (.getfield 30, 3) := dk_180 0 30 (dk_at dksX0_swing_0 1 rfl rfl)
theorem dX0_swing_4 : decode cX0_swing 4 = .ok (.iload_n 1, 1) := dk_27 (dk_at dksX0_swing_0 4 rfl rfl)
theorem dX0_swing_5 : decode cX0_swing 5 = .ok (.invokevirtual 146, 3) := dk_182 0 146 (dk_at dksX0_swing_0 5 rfl rfl)
theorem dX0_swing_8 : decode cX0_swing 8 = .ok (.ifCond .ne 12, 3) := dk_154 0 12 (dk_at dksX0_swing_0 8 rfl rfl)
theorem dX0_swing_11 : decode cX0_swing 11 = .ok (.aload_n 0, 1) := dk_42 (dk_at dksX0_swing_0 11 rfl rfl)
theorem dX0_swing_12 : decode cX0_swing 12 = .ok (.bipush (-2), 2) := dk_16 254 (dk_at dksX0_swing_0 12 rfl rfl)
theorem dX0_swing_14 : decode cX0_swing 14 = .ok (.invokevirtual 94, 3) := dk_182 0 94 (dk_at dksX0_swing_0 14 rfl rfl)
theorem dX0_swing_17 : decode cX0_swing 17 = .ok (.goto 29, 3) := dk_167 0 29 (dk_at dksX0_swing_0 17 rfl rfl)
theorem dX0_swing_20 : decode cX0_swing 20 = .ok (.aload_n 0, 1) := dk_42 (dk_at dksX0_swing_0 20 rfl rfl)
theorem dX0_swing_21 : decode cX0_swing 21 = .ok (.getfield 30, 3) := dk_180 0 30 (dk_at dksX0_swing_0 21 rfl rfl)
theorem dX0_swing_24 : decode cX0_swing 24 = .ok (.iconst 1, 1) := dk_4 (dk_at dksX0_swing_1 0 rfl rfl)
theorem dX0_swing_25 : decode cX0_swing 25 = .ok (.iload_n 1, 1) := dk_27 (dk_at dksX0_swing_1 1 rfl rfl)
theorem dX0_swing_26 : decode cX0_swing 26 = .ok (.ishl, 1) := dk_120 (dk_at dksX0_swing_1 2 rfl rfl)
theorem dX0_swing_27 : decode cX0_swing 27 = .ok (.invokevirtual 313, 3) := dk_182 1 57 (dk_at dksX0_swing_1 3 rfl rfl)
theorem dX0_swing_30 : decode cX0_swing 30 = .ok (.aload_n 0, 1) := dk_42 (dk_at dksX0_swing_1 6 rfl rfl)
theorem dX0_swing_31 : decode cX0_swing 31 = .ok (.getfield 30, 3) := dk_180 0 30 (dk_at dksX0_swing_1 7 rfl rfl)
theorem dX0_swing_34 : decode cX0_swing 34 = .ok (.iconst 0, 1) := dk_3 (dk_at dksX0_swing_1 10 rfl rfl)
theorem dX0_swing_35 : decode cX0_swing 35 = .ok (.invokevirtual 313, 3) := dk_182 1 57 (dk_at dksX0_swing_1 11 rfl rfl)
theorem dX0_swing_38 : decode cX0_swing 38 = .ok (.if_icmp .eq 7, 3) := dk_159 0 7 (dk_at dksX0_swing_1 14 rfl rfl)
theorem dX0_swing_41 : decode cX0_swing 41 = .ok (.iconst 1, 1) := dk_4 (dk_at dksX0_swing_1 17 rfl rfl)
theorem dX0_swing_42 : decode cX0_swing 42 = .ok (.goto 4, 3) := dk_167 0 4 (dk_at dksX0_swing_1 18 rfl rfl)
theorem dX0_swing_45 : decode cX0_swing 45 = .ok (.iconst 0, 1) := dk_3 (dk_at dksX0_swing_1 21 rfl rfl)
theorem dX0_swing_46 : decode cX0_swing 46 = .ok (.ireturn, 1) := dk_172 (dk_at dksX0_swing_1 22 rfl rfl)
abbrev cX0_mightiest : ByteArray := prog_1_method_66_code
def yX0_mightiest : MethodName := ⟨RX0, "mightiest", "()I"⟩
def dkwX0_mightiest_2 : List UInt8 := [2, 160, 0, 12, 42, 16, 251, 182, 0, 94, 167, 0, 4, 27, 172]
abbrev dktX0_mightiest_2 : List UInt8 := dkwX0_mightiest_2 ++ []
def dkwX0_mightiest_1 : List UInt8 := [182, 0, 241, 42, 27, 182, 0, 241, 164, 0, 7, 28, 167, 0, 4, 27, 60, 132, 2, 1, 167, 255, 218, 27]
abbrev dktX0_mightiest_1 : List UInt8 := dkwX0_mightiest_1 ++ dktX0_mightiest_2
def dkwX0_mightiest_0 : List UInt8 := [2, 60, 3, 61, 28, 42, 180, 0, 30, 180, 0, 200, 162, 0, 33, 27, 2, 159, 0, 16, 42, 28]
abbrev dktX0_mightiest_0 : List UInt8 := dkwX0_mightiest_0 ++ dktX0_mightiest_1
theorem dksX0_mightiest_0 : cX0_mightiest.data.toList.drop 0 = dktX0_mightiest_0 := by decide +kernel
theorem dksX0_mightiest_1 : cX0_mightiest.data.toList.drop 22 = dktX0_mightiest_1 := dk_seg dksX0_mightiest_0 22 rfl rfl
theorem dksX0_mightiest_2 : cX0_mightiest.data.toList.drop 46 = dktX0_mightiest_2 := dk_seg dksX0_mightiest_1 24 rfl rfl
theorem dX0_mightiest_0 : decode cX0_mightiest 0 = .ok (.iconst (-1), 1) := dk_2 (dk_at dksX0_mightiest_0 0 rfl rfl)
theorem dX0_mightiest_1 : decode cX0_mightiest 1 = .ok (.istore_n 1, 1) := dk_60 (dk_at dksX0_mightiest_0 1 rfl rfl)
theorem dX0_mightiest_2 : decode cX0_mightiest 2 = .ok (.iconst 0, 1) := dk_3 (dk_at dksX0_mightiest_0 2 rfl rfl)
theorem dX0_mightiest_3 : decode cX0_mightiest 3 = .ok (.istore_n 2, 1) := dk_61 (dk_at dksX0_mightiest_0 3 rfl rfl)
theorem dX0_mightiest_4 : decode cX0_mightiest 4 = .ok (.iload_n 2, 1) := dk_28 (dk_at dksX0_mightiest_0 4 rfl rfl)
theorem dX0_mightiest_5 : decode cX0_mightiest 5 = .ok (.aload_n 0, 1) := dk_42 (dk_at dksX0_mightiest_0 5 rfl rfl)
theorem dX0_mightiest_6 : decode cX0_mightiest 6 = .ok (.getfield 30, 3) := dk_180 0 30 (dk_at dksX0_mightiest_0 6 rfl rfl)
theorem dX0_mightiest_9 : decode cX0_mightiest 9 = .ok (.getfield 200, 3) := dk_180 0 200 (dk_at dksX0_mightiest_0 9 rfl rfl)
theorem dX0_mightiest_12 : decode cX0_mightiest 12 = .ok (.if_icmp .ge 33, 3) := dk_162 0 33 (dk_at dksX0_mightiest_0 12 rfl rfl)
theorem dX0_mightiest_15 : decode cX0_mightiest 15 = .ok (.iload_n 1, 1) := dk_27 (dk_at dksX0_mightiest_0 15 rfl rfl)
theorem dX0_mightiest_16 : decode cX0_mightiest 16 = .ok (.iconst (-1), 1) := dk_2 (dk_at dksX0_mightiest_0 16 rfl rfl)
theorem dX0_mightiest_17 : decode cX0_mightiest 17 = .ok (.if_icmp .eq 16, 3) := dk_159 0 16 (dk_at dksX0_mightiest_0 17 rfl rfl)
theorem dX0_mightiest_20 : decode cX0_mightiest 20 = .ok (.aload_n 0, 1) := dk_42 (dk_at dksX0_mightiest_0 20 rfl rfl)
theorem dX0_mightiest_21 : decode cX0_mightiest 21 = .ok (.iload_n 2, 1) := dk_28 (dk_at dksX0_mightiest_0 21 rfl rfl)
theorem dX0_mightiest_22 : decode cX0_mightiest 22 = .ok (.invokevirtual 241, 3) := dk_182 0 241 (dk_at dksX0_mightiest_1 0 rfl rfl)
theorem dX0_mightiest_25 : decode cX0_mightiest 25 = .ok (.aload_n 0, 1) := dk_42 (dk_at dksX0_mightiest_1 3 rfl rfl)
theorem dX0_mightiest_26 : decode cX0_mightiest 26 = .ok (.iload_n 1, 1) := dk_27 (dk_at dksX0_mightiest_1 4 rfl rfl)
theorem dX0_mightiest_27 : decode cX0_mightiest 27 = .ok (.invokevirtual 241, 3) := dk_182 0 241 (dk_at dksX0_mightiest_1 5 rfl rfl)
theorem dX0_mightiest_30 : decode cX0_mightiest 30 = .ok (.if_icmp .le 7, 3) := dk_164 0 7 (dk_at dksX0_mightiest_1 8 rfl rfl)
theorem dX0_mightiest_33 : decode cX0_mightiest 33 = .ok (.iload_n 2, 1) := dk_28 (dk_at dksX0_mightiest_1 11 rfl rfl)
theorem dX0_mightiest_34 : decode cX0_mightiest 34 = .ok (.goto 4, 3) := dk_167 0 4 (dk_at dksX0_mightiest_1 12 rfl rfl)
theorem dX0_mightiest_37 : decode cX0_mightiest 37 = .ok (.iload_n 1, 1) := dk_27 (dk_at dksX0_mightiest_1 15 rfl rfl)
theorem dX0_mightiest_38 : decode cX0_mightiest 38 = .ok (.istore_n 1, 1) := dk_60 (dk_at dksX0_mightiest_1 16 rfl rfl)
theorem dX0_mightiest_39 : decode cX0_mightiest 39 = .ok (.iinc 2 1, 3) := dk_132 2 1 (dk_at dksX0_mightiest_1 17 rfl rfl)
theorem dX0_mightiest_42 : decode cX0_mightiest 42 = .ok (.goto (-38), 3) := dk_167 255 218 (dk_at dksX0_mightiest_1 20 rfl rfl)
theorem dX0_mightiest_45 : decode cX0_mightiest 45 = .ok (.iload_n 1, 1) := dk_27 (dk_at dksX0_mightiest_1 23 rfl rfl)
theorem dX0_mightiest_46 : decode cX0_mightiest 46 = .ok (.iconst (-1), 1) := dk_2 (dk_at dksX0_mightiest_2 0 rfl rfl)
theorem dX0_mightiest_47 : decode cX0_mightiest 47 = .ok (.if_icmp .ne 12, 3) := dk_160 0 12 (dk_at dksX0_mightiest_2 1 rfl rfl)
theorem dX0_mightiest_50 : decode cX0_mightiest 50 = .ok (.aload_n 0, 1) := dk_42 (dk_at dksX0_mightiest_2 4 rfl rfl)
theorem dX0_mightiest_51 : decode cX0_mightiest 51 = .ok (.bipush (-5), 2) := dk_16 251 (dk_at dksX0_mightiest_2 5 rfl rfl)
theorem dX0_mightiest_53 : decode cX0_mightiest 53 = .ok (.invokevirtual 94, 3) := dk_182 0 94 (dk_at dksX0_mightiest_2 7 rfl rfl)
theorem dX0_mightiest_56 : decode cX0_mightiest 56 = .ok (.goto 4, 3) := dk_167 0 4 (dk_at dksX0_mightiest_2 10 rfl rfl)
theorem dX0_mightiest_59 : decode cX0_mightiest 59 = .ok (.iload_n 1, 1) := dk_27 (dk_at dksX0_mightiest_2 13 rfl rfl)
theorem dX0_mightiest_60 : decode cX0_mightiest 60 = .ok (.ireturn, 1) := dk_172 (dk_at dksX0_mightiest_2 14 rfl rfl)
abbrev cX0_agreed : ByteArray := prog_1_method_67_code
def yX0_agreed : MethodName := ⟨RX0, "agreed", "()I"⟩
def dkwX0_agreed_4 : List UInt8 := [132, 2, 1, 167, 255, 164, 27, 172]
abbrev dktX0_agreed_4 : List UInt8 := dkwX0_agreed_4 ++ []
def dkwX0_agreed_3 : List UInt8 := [182, 1, 73, 42, 180, 0, 30, 180, 0, 163, 3, 46, 160, 0, 9, 4, 28, 120, 167, 0, 4, 3, 128, 60]
abbrev dktX0_agreed_3 : List UInt8 := dkwX0_agreed_3 ++ dktX0_agreed_4
def dkwX0_agreed_2 : List UInt8 := [180, 0, 149, 28, 50, 42, 180, 0, 30, 42, 180, 0, 39, 4, 42, 180, 0, 30, 180, 0, 163, 3, 46]
abbrev dktX0_agreed_2 : List UInt8 := dkwX0_agreed_2 ++ dktX0_agreed_3
def dkwX0_agreed_1 : List UInt8 := [180, 0, 153, 28, 46, 42, 180, 0, 30, 180, 0, 156, 28, 46, 182, 0, 159, 87, 27, 42, 180, 0, 30]
abbrev dktX0_agreed_1 : List UInt8 := dkwX0_agreed_1 ++ dktX0_agreed_2
def dkwX0_agreed_0 : List UInt8 := [3, 60, 3, 61, 28, 42, 180, 0, 30, 180, 0, 200, 162, 0, 87, 42, 180, 0, 39, 42, 180, 0, 30]
abbrev dktX0_agreed_0 : List UInt8 := dkwX0_agreed_0 ++ dktX0_agreed_1
theorem dksX0_agreed_0 : cX0_agreed.data.toList.drop 0 = dktX0_agreed_0 := by decide +kernel
theorem dksX0_agreed_1 : cX0_agreed.data.toList.drop 23 = dktX0_agreed_1 := dk_seg dksX0_agreed_0 23 rfl rfl
theorem dksX0_agreed_2 : cX0_agreed.data.toList.drop 46 = dktX0_agreed_2 := dk_seg dksX0_agreed_1 23 rfl rfl
theorem dksX0_agreed_3 : cX0_agreed.data.toList.drop 69 = dktX0_agreed_3 := dk_seg dksX0_agreed_2 23 rfl rfl
theorem dksX0_agreed_4 : cX0_agreed.data.toList.drop 93 = dktX0_agreed_4 := dk_seg dksX0_agreed_3 24 rfl rfl
theorem dX0_agreed_0 : decode cX0_agreed 0 = .ok (.iconst 0, 1) := dk_3 (dk_at dksX0_agreed_0 0 rfl rfl)
theorem dX0_agreed_1 : decode cX0_agreed 1 = .ok (.istore_n 1, 1) := dk_60 (dk_at dksX0_agreed_0 1 rfl rfl)
theorem dX0_agreed_2 : decode cX0_agreed 2 = .ok (.iconst 0, 1) := dk_3 (dk_at dksX0_agreed_0 2 rfl rfl)
theorem dX0_agreed_3 : decode cX0_agreed 3 = .ok (.istore_n 2, 1) := dk_61 (dk_at dksX0_agreed_0 3 rfl rfl)
theorem dX0_agreed_4 : decode cX0_agreed 4 = .ok (.iload_n 2, 1) := dk_28 (dk_at dksX0_agreed_0 4 rfl rfl)
theorem dX0_agreed_5 : decode cX0_agreed 5 = .ok (.aload_n 0, 1) := dk_42 (dk_at dksX0_agreed_0 5 rfl rfl)
theorem dX0_agreed_6 : decode cX0_agreed 6 = .ok (.getfield 30, 3) := dk_180 0 30 (dk_at dksX0_agreed_0 6 rfl rfl)
theorem dX0_agreed_9 : decode cX0_agreed 9 = .ok (.getfield 200, 3) := dk_180 0 200 (dk_at dksX0_agreed_0 9 rfl rfl)
theorem dX0_agreed_12 : decode cX0_agreed 12 = .ok (.if_icmp .ge 87, 3) := dk_162 0 87 (dk_at dksX0_agreed_0 12 rfl rfl)
theorem dX0_agreed_15 : decode cX0_agreed 15 = .ok (.aload_n 0, 1) := dk_42 (dk_at dksX0_agreed_0 15 rfl rfl)
theorem dX0_agreed_16 : decode cX0_agreed 16 = .ok (.getfield 39, 3) := dk_180 0 39 (dk_at dksX0_agreed_0 16 rfl rfl)
theorem dX0_agreed_19 : decode cX0_agreed 19 = .ok (.aload_n 0, 1) := dk_42 (dk_at dksX0_agreed_0 19 rfl rfl)
theorem dX0_agreed_20 : decode cX0_agreed 20 = .ok (.getfield 30, 3) := dk_180 0 30 (dk_at dksX0_agreed_0 20 rfl rfl)
theorem dX0_agreed_23 : decode cX0_agreed 23 = .ok (.getfield 153, 3) := dk_180 0 153 (dk_at dksX0_agreed_1 0 rfl rfl)
theorem dX0_agreed_26 : decode cX0_agreed 26 = .ok (.iload_n 2, 1) := dk_28 (dk_at dksX0_agreed_1 3 rfl rfl)
theorem dX0_agreed_27 : decode cX0_agreed 27 = .ok (.iaload, 1) := dk_46 (dk_at dksX0_agreed_1 4 rfl rfl)
theorem dX0_agreed_28 : decode cX0_agreed 28 = .ok (.aload_n 0, 1) := dk_42 (dk_at dksX0_agreed_1 5 rfl rfl)
theorem dX0_agreed_29 : decode cX0_agreed 29 = .ok (.getfield 30, 3) := dk_180 0 30 (dk_at dksX0_agreed_1 6 rfl rfl)
theorem dX0_agreed_32 : decode cX0_agreed 32 = .ok (.getfield 156, 3) := dk_180 0 156 (dk_at dksX0_agreed_1 9 rfl rfl)
theorem dX0_agreed_35 : decode cX0_agreed 35 = .ok (.iload_n 2, 1) := dk_28 (dk_at dksX0_agreed_1 12 rfl rfl)
theorem dX0_agreed_36 : decode cX0_agreed 36 = .ok (.iaload, 1) := dk_46 (dk_at dksX0_agreed_1 13 rfl rfl)
theorem dX0_agreed_37 : decode cX0_agreed 37 = .ok (.invokevirtual 159, 3) := dk_182 0 159 (dk_at dksX0_agreed_1 14 rfl rfl)
theorem dX0_agreed_40 : decode cX0_agreed 40 = .ok (.pop, 1) := dk_87 (dk_at dksX0_agreed_1 17 rfl rfl)
theorem dX0_agreed_41 : decode cX0_agreed 41 = .ok (.iload_n 1, 1) := dk_27 (dk_at dksX0_agreed_1 18 rfl rfl)
theorem dX0_agreed_42 : decode cX0_agreed 42 = .ok (.aload_n 0, 1) := dk_42 (dk_at dksX0_agreed_1 19 rfl rfl)
theorem dX0_agreed_43 : decode cX0_agreed 43 = .ok (.getfield 30, 3) := dk_180 0 30 (dk_at dksX0_agreed_1 20 rfl rfl)
theorem dX0_agreed_46 : decode cX0_agreed 46 = .ok (.getfield 149, 3) := dk_180 0 149 (dk_at dksX0_agreed_2 0 rfl rfl)
theorem dX0_agreed_49 : decode cX0_agreed 49 = .ok (.iload_n 2, 1) := dk_28 (dk_at dksX0_agreed_2 3 rfl rfl)
theorem dX0_agreed_50 : decode cX0_agreed 50 = .ok (.aaload, 1) := dk_50 (dk_at dksX0_agreed_2 4 rfl rfl)
theorem dX0_agreed_51 : decode cX0_agreed 51 = .ok (.aload_n 0, 1) := dk_42 (dk_at dksX0_agreed_2 5 rfl rfl)
theorem dX0_agreed_52 : decode cX0_agreed 52 = .ok (.getfield 30, 3) := dk_180 0 30 (dk_at dksX0_agreed_2 6 rfl rfl)
theorem dX0_agreed_55 : decode cX0_agreed 55 = .ok (.aload_n 0, 1) := dk_42 (dk_at dksX0_agreed_2 9 rfl rfl)
theorem dX0_agreed_56 : decode cX0_agreed 56 = .ok (.getfield 39, 3) := dk_180 0 39 (dk_at dksX0_agreed_2 10 rfl rfl)
theorem dX0_agreed_59 : decode cX0_agreed 59 = .ok (.iconst 1, 1) := dk_4 (dk_at dksX0_agreed_2 13 rfl rfl)
theorem dX0_agreed_60 : decode cX0_agreed 60 = .ok (.aload_n 0, 1) := dk_42 (dk_at dksX0_agreed_2 14 rfl rfl)
theorem dX0_agreed_61 : decode cX0_agreed 61 = .ok (.getfield 30, 3) := dk_180 0 30 (dk_at dksX0_agreed_2 15 rfl rfl)
theorem dX0_agreed_64 : decode cX0_agreed 64 = .ok (.getfield 163, 3) := dk_180 0 163 (dk_at dksX0_agreed_2 18 rfl rfl)
theorem dX0_agreed_67 : decode cX0_agreed 67 = .ok (.iconst 0, 1) := dk_3 (dk_at dksX0_agreed_2 21 rfl rfl)
theorem dX0_agreed_68 : decode cX0_agreed 68 = .ok (.iaload, 1) := dk_46 (dk_at dksX0_agreed_2 22 rfl rfl)
theorem dX0_agreed_69 : decode cX0_agreed 69 = .ok (.invokevirtual 329, 3) := dk_182 1 73 (dk_at dksX0_agreed_3 0 rfl rfl)
theorem dX0_agreed_72 : decode cX0_agreed 72 = .ok (.aload_n 0, 1) := dk_42 (dk_at dksX0_agreed_3 3 rfl rfl)
theorem dX0_agreed_73 : decode cX0_agreed 73 = .ok (.getfield 30, 3) := dk_180 0 30 (dk_at dksX0_agreed_3 4 rfl rfl)
theorem dX0_agreed_76 : decode cX0_agreed 76 = .ok (.getfield 163, 3) := dk_180 0 163 (dk_at dksX0_agreed_3 7 rfl rfl)
theorem dX0_agreed_79 : decode cX0_agreed 79 = .ok (.iconst 0, 1) := dk_3 (dk_at dksX0_agreed_3 10 rfl rfl)
theorem dX0_agreed_80 : decode cX0_agreed 80 = .ok (.iaload, 1) := dk_46 (dk_at dksX0_agreed_3 11 rfl rfl)
theorem dX0_agreed_81 : decode cX0_agreed 81 = .ok (.if_icmp .ne 9, 3) := dk_160 0 9 (dk_at dksX0_agreed_3 12 rfl rfl)
theorem dX0_agreed_84 : decode cX0_agreed 84 = .ok (.iconst 1, 1) := dk_4 (dk_at dksX0_agreed_3 15 rfl rfl)
theorem dX0_agreed_85 : decode cX0_agreed 85 = .ok (.iload_n 2, 1) := dk_28 (dk_at dksX0_agreed_3 16 rfl rfl)
theorem dX0_agreed_86 : decode cX0_agreed 86 = .ok (.ishl, 1) := dk_120 (dk_at dksX0_agreed_3 17 rfl rfl)
theorem dX0_agreed_87 : decode cX0_agreed 87 = .ok (.goto 4, 3) := dk_167 0 4 (dk_at dksX0_agreed_3 18 rfl rfl)
theorem dX0_agreed_90 : decode cX0_agreed 90 = .ok (.iconst 0, 1) := dk_3 (dk_at dksX0_agreed_3 21 rfl rfl)
theorem dX0_agreed_91 : decode cX0_agreed 91 = .ok (.ior, 1) := dk_128 (dk_at dksX0_agreed_3 22 rfl rfl)
theorem dX0_agreed_92 : decode cX0_agreed 92 = .ok (.istore_n 1, 1) := dk_60 (dk_at dksX0_agreed_3 23 rfl rfl)
theorem dX0_agreed_93 : decode cX0_agreed 93 = .ok (.iinc 2 1, 3) := dk_132 2 1 (dk_at dksX0_agreed_4 0 rfl rfl)
theorem dX0_agreed_96 : decode cX0_agreed 96 = .ok (.goto (-92), 3) := dk_167 255 164 (dk_at dksX0_agreed_4 3 rfl rfl)
theorem dX0_agreed_99 : decode cX0_agreed 99 = .ok (.iload_n 1, 1) := dk_27 (dk_at dksX0_agreed_4 6 rfl rfl)
theorem dX0_agreed_100 : decode cX0_agreed 100 = .ok (.ireturn, 1) := dk_172 (dk_at dksX0_agreed_4 7 rfl rfl)
abbrev cX0_turn : ByteArray := prog_1_method_68_code
def yX0_turn : MethodName := ⟨RX0, "turn", "(I)I"⟩
def dkwX0_turn_4 : List UInt8 := [159, 0, 8, 28, 2, 160, 0, 7, 28, 167, 0, 7, 28, 184, 1, 76, 172]
abbrev dktX0_turn_4 : List UInt8 := dkwX0_turn_4 ++ []
def dkwX0_turn_3 : List UInt8 := [180, 0, 30, 3, 182, 1, 57, 159, 0, 7, 29, 167, 0, 4, 28, 61, 132, 3, 1, 167, 255, 189, 27, 4]
abbrev dktX0_turn_3 : List UInt8 := dkwX0_turn_3 ++ dktX0_turn_4
def dkwX0_turn_2 : List UInt8 := [162, 0, 7, 4, 167, 0, 4, 3, 54, 4, 21, 4, 153, 0, 26, 42, 180, 0, 30, 29, 182, 1, 57, 42]
abbrev dktX0_turn_2 : List UInt8 := dkwX0_turn_2 ++ dktX0_turn_3
def dkwX0_turn_1 : List UInt8 := [180, 0, 30, 182, 1, 60, 163, 0, 62, 28, 2, 159, 0, 14, 29, 184, 1, 76, 28, 184, 1, 76]
abbrev dktX0_turn_1 : List UInt8 := dkwX0_turn_1 ++ dktX0_turn_2
def dkwX0_turn_0 : List UInt8 := [27, 3, 4, 184, 0, 73, 154, 0, 10, 42, 16, 254, 182, 0, 94, 172, 2, 61, 3, 62, 29, 42]
abbrev dktX0_turn_0 : List UInt8 := dkwX0_turn_0 ++ dktX0_turn_1
theorem dksX0_turn_0 : cX0_turn.data.toList.drop 0 = dktX0_turn_0 := by decide +kernel
theorem dksX0_turn_1 : cX0_turn.data.toList.drop 22 = dktX0_turn_1 := dk_seg dksX0_turn_0 22 rfl rfl
theorem dksX0_turn_2 : cX0_turn.data.toList.drop 44 = dktX0_turn_2 := dk_seg dksX0_turn_1 22 rfl rfl
theorem dksX0_turn_3 : cX0_turn.data.toList.drop 68 = dktX0_turn_3 := dk_seg dksX0_turn_2 24 rfl rfl
theorem dksX0_turn_4 : cX0_turn.data.toList.drop 92 = dktX0_turn_4 := dk_seg dksX0_turn_3 24 rfl rfl
theorem dX0_turn_0 : decode cX0_turn 0 = .ok (.iload_n 1, 1) := dk_27 (dk_at dksX0_turn_0 0 rfl rfl)
theorem dX0_turn_1 : decode cX0_turn 1 = .ok (.iconst 0, 1) := dk_3 (dk_at dksX0_turn_0 1 rfl rfl)
theorem dX0_turn_2 : decode cX0_turn 2 = .ok (.iconst 1, 1) := dk_4 (dk_at dksX0_turn_0 2 rfl rfl)
theorem dX0_turn_3 : decode cX0_turn 3 = .ok (.invokestatic 73, 3) := dk_184 0 73 (dk_at dksX0_turn_0 3 rfl rfl)
theorem dX0_turn_6 : decode cX0_turn 6 = .ok (.ifCond .ne 10, 3) := dk_154 0 10 (dk_at dksX0_turn_0 6 rfl rfl)
theorem dX0_turn_9 : decode cX0_turn 9 = .ok (.aload_n 0, 1) := dk_42 (dk_at dksX0_turn_0 9 rfl rfl)
theorem dX0_turn_10 : decode cX0_turn 10 = .ok (.bipush (-2), 2) := dk_16 254 (dk_at dksX0_turn_0 10 rfl rfl)
theorem dX0_turn_12 : decode cX0_turn 12 = .ok (.invokevirtual 94, 3) := dk_182 0 94 (dk_at dksX0_turn_0 12 rfl rfl)
theorem dX0_turn_15 : decode cX0_turn 15 = .ok (.ireturn, 1) := dk_172 (dk_at dksX0_turn_0 15 rfl rfl)
theorem dX0_turn_16 : decode cX0_turn 16 = .ok (.iconst (-1), 1) := dk_2 (dk_at dksX0_turn_0 16 rfl rfl)
theorem dX0_turn_17 : decode cX0_turn 17 = .ok (.istore_n 2, 1) := dk_61 (dk_at dksX0_turn_0 17 rfl rfl)
theorem dX0_turn_18 : decode cX0_turn 18 = .ok (.iconst 0, 1) := dk_3 (dk_at dksX0_turn_0 18 rfl rfl)
theorem dX0_turn_19 : decode cX0_turn 19 = .ok (.istore_n 3, 1) := dk_62 (dk_at dksX0_turn_0 19 rfl rfl)
theorem dX0_turn_20 : decode cX0_turn 20 = .ok (.iload_n 3, 1) := dk_29 (dk_at dksX0_turn_0 20 rfl rfl)
theorem dX0_turn_21 : decode cX0_turn 21 = .ok (.aload_n 0, 1) := dk_42 (dk_at dksX0_turn_0 21 rfl rfl)
theorem dX0_turn_22 : decode cX0_turn 22 = .ok (.getfield 30, 3) := dk_180 0 30 (dk_at dksX0_turn_1 0 rfl rfl)
theorem dX0_turn_25 : decode cX0_turn 25 = .ok (.invokevirtual 316, 3) := dk_182 1 60 (dk_at dksX0_turn_1 3 rfl rfl)
theorem dX0_turn_28 : decode cX0_turn 28 = .ok (.if_icmp .gt 62, 3) := dk_163 0 62 (dk_at dksX0_turn_1 6 rfl rfl)
theorem dX0_turn_31 : decode cX0_turn 31 = .ok (.iload_n 2, 1) := dk_28 (dk_at dksX0_turn_1 9 rfl rfl)
theorem dX0_turn_32 : decode cX0_turn 32 = .ok (.iconst (-1), 1) := dk_2 (dk_at dksX0_turn_1 10 rfl rfl)
theorem dX0_turn_33 : decode cX0_turn 33 = .ok (.if_icmp .eq 14, 3) := dk_159 0 14 (dk_at dksX0_turn_1 11 rfl rfl)
theorem dX0_turn_36 : decode cX0_turn 36 = .ok (.iload_n 3, 1) := dk_29 (dk_at dksX0_turn_1 14 rfl rfl)
theorem dX0_turn_37 : decode cX0_turn 37 = .ok (.invokestatic 332, 3) := dk_184 1 76 (dk_at dksX0_turn_1 15 rfl rfl)
theorem dX0_turn_40 : decode cX0_turn 40 = .ok (.iload_n 2, 1) := dk_28 (dk_at dksX0_turn_1 18 rfl rfl)
theorem dX0_turn_41 : decode cX0_turn 41 = .ok (.invokestatic 332, 3) := dk_184 1 76 (dk_at dksX0_turn_1 19 rfl rfl)
theorem dX0_turn_44 : decode cX0_turn 44 = .ok (.if_icmp .ge 7, 3) := dk_162 0 7 (dk_at dksX0_turn_2 0 rfl rfl)
theorem dX0_turn_47 : decode cX0_turn 47 = .ok (.iconst 1, 1) := dk_4 (dk_at dksX0_turn_2 3 rfl rfl)
theorem dX0_turn_48 : decode cX0_turn 48 = .ok (.goto 4, 3) := dk_167 0 4 (dk_at dksX0_turn_2 4 rfl rfl)
theorem dX0_turn_51 : decode cX0_turn 51 = .ok (.iconst 0, 1) := dk_3 (dk_at dksX0_turn_2 7 rfl rfl)
theorem dX0_turn_52 : decode cX0_turn 52 = .ok (.istore 4, 2) := dk_54 4 (dk_at dksX0_turn_2 8 rfl rfl)
theorem dX0_turn_54 : decode cX0_turn 54 = .ok (.iload 4, 2) := dk_21 4 (dk_at dksX0_turn_2 10 rfl rfl)
theorem dX0_turn_56 : decode cX0_turn 56 = .ok (.ifCond .eq 26, 3) := dk_153 0 26 (dk_at dksX0_turn_2 12 rfl rfl)
theorem dX0_turn_59 : decode cX0_turn 59 = .ok (.aload_n 0, 1) := dk_42 (dk_at dksX0_turn_2 15 rfl rfl)
theorem dX0_turn_60 : decode cX0_turn 60 = .ok (.getfield 30, 3) := dk_180 0 30 (dk_at dksX0_turn_2 16 rfl rfl)
theorem dX0_turn_63 : decode cX0_turn 63 = .ok (.iload_n 3, 1) := dk_29 (dk_at dksX0_turn_2 19 rfl rfl)
theorem dX0_turn_64 : decode cX0_turn 64 = .ok (.invokevirtual 313, 3) := dk_182 1 57 (dk_at dksX0_turn_2 20 rfl rfl)
theorem dX0_turn_67 : decode cX0_turn 67 = .ok (.aload_n 0, 1) := dk_42 (dk_at dksX0_turn_2 23 rfl rfl)
theorem dX0_turn_68 : decode cX0_turn 68 = .ok (.getfield 30, 3) := dk_180 0 30 (dk_at dksX0_turn_3 0 rfl rfl)
theorem dX0_turn_71 : decode cX0_turn 71 = .ok (.iconst 0, 1) := dk_3 (dk_at dksX0_turn_3 3 rfl rfl)
theorem dX0_turn_72 : decode cX0_turn 72 = .ok (.invokevirtual 313, 3) := dk_182 1 57 (dk_at dksX0_turn_3 4 rfl rfl)
theorem dX0_turn_75 : decode cX0_turn 75 = .ok (.if_icmp .eq 7, 3) := dk_159 0 7 (dk_at dksX0_turn_3 7 rfl rfl)
theorem dX0_turn_78 : decode cX0_turn 78 = .ok (.iload_n 3, 1) := dk_29 (dk_at dksX0_turn_3 10 rfl rfl)
theorem dX0_turn_79 : decode cX0_turn 79 = .ok (.goto 4, 3) := dk_167 0 4 (dk_at dksX0_turn_3 11 rfl rfl)
theorem dX0_turn_82 : decode cX0_turn 82 = .ok (.iload_n 2, 1) := dk_28 (dk_at dksX0_turn_3 14 rfl rfl)
theorem dX0_turn_83 : decode cX0_turn 83 = .ok (.istore_n 2, 1) := dk_61 (dk_at dksX0_turn_3 15 rfl rfl)
theorem dX0_turn_84 : decode cX0_turn 84 = .ok (.iinc 3 1, 3) := dk_132 3 1 (dk_at dksX0_turn_3 16 rfl rfl)
theorem dX0_turn_87 : decode cX0_turn 87 = .ok (.goto (-67), 3) := dk_167 255 189 (dk_at dksX0_turn_3 19 rfl rfl)
theorem dX0_turn_90 : decode cX0_turn 90 = .ok (.iload_n 1, 1) := dk_27 (dk_at dksX0_turn_3 22 rfl rfl)
theorem dX0_turn_91 : decode cX0_turn 91 = .ok (.iconst 1, 1) := dk_4 (dk_at dksX0_turn_3 23 rfl rfl)
theorem dX0_turn_92 : decode cX0_turn 92 = .ok (.if_icmp .eq 8, 3) := dk_159 0 8 (dk_at dksX0_turn_4 0 rfl rfl)
theorem dX0_turn_95 : decode cX0_turn 95 = .ok (.iload_n 2, 1) := dk_28 (dk_at dksX0_turn_4 3 rfl rfl)
theorem dX0_turn_96 : decode cX0_turn 96 = .ok (.iconst (-1), 1) := dk_2 (dk_at dksX0_turn_4 4 rfl rfl)
theorem dX0_turn_97 : decode cX0_turn 97 = .ok (.if_icmp .ne 7, 3) := dk_160 0 7 (dk_at dksX0_turn_4 5 rfl rfl)
theorem dX0_turn_100 : decode cX0_turn 100 = .ok (.iload_n 2, 1) := dk_28 (dk_at dksX0_turn_4 8 rfl rfl)
theorem dX0_turn_101 : decode cX0_turn 101 = .ok (.goto 7, 3) := dk_167 0 7 (dk_at dksX0_turn_4 9 rfl rfl)
theorem dX0_turn_104 : decode cX0_turn 104 = .ok (.iload_n 2, 1) := dk_28 (dk_at dksX0_turn_4 12 rfl rfl)
theorem dX0_turn_105 : decode cX0_turn 105 = .ok (.invokestatic 332, 3) := dk_184 1 76 (dk_at dksX0_turn_4 13 rfl rfl)
theorem dX0_turn_108 : decode cX0_turn 108 = .ok (.ireturn, 1) := dk_172 (dk_at dksX0_turn_4 16 rfl rfl)
abbrev cX0_meet : ByteArray := prog_1_method_73_code
def yX0_meet : MethodName := ⟨RX0, "meet", "(IIIIII)I"⟩
def dkwX0_meet_0 : List UInt8 := [42, 27, 28, 29, 21, 4, 21, 5, 21, 6, 4, 182, 1, 97, 172]
abbrev dktX0_meet_0 : List UInt8 := dkwX0_meet_0 ++ []
theorem dksX0_meet_0 : cX0_meet.data.toList.drop 0 = dktX0_meet_0 := by decide +kernel
theorem dX0_meet_0 : decode cX0_meet 0 = .ok (.aload_n 0, 1) := dk_42 (dk_at dksX0_meet_0 0 rfl rfl)
theorem dX0_meet_1 : decode cX0_meet 1 = .ok (.iload_n 1, 1) := dk_27 (dk_at dksX0_meet_0 1 rfl rfl)
theorem dX0_meet_2 : decode cX0_meet 2 = .ok (.iload_n 2, 1) := dk_28 (dk_at dksX0_meet_0 2 rfl rfl)
theorem dX0_meet_3 : decode cX0_meet 3 = .ok (.iload_n 3, 1) := dk_29 (dk_at dksX0_meet_0 3 rfl rfl)
theorem dX0_meet_4 : decode cX0_meet 4 = .ok (.iload 4, 2) := dk_21 4 (dk_at dksX0_meet_0 4 rfl rfl)
theorem dX0_meet_6 : decode cX0_meet 6 = .ok (.iload 5, 2) := dk_21 5 (dk_at dksX0_meet_0 6 rfl rfl)
theorem dX0_meet_8 : decode cX0_meet 8 = .ok (.iload 6, 2) := dk_21 6 (dk_at dksX0_meet_0 8 rfl rfl)
theorem dX0_meet_10 : decode cX0_meet 10 = .ok (.iconst 1, 1) := dk_4 (dk_at dksX0_meet_0 10 rfl rfl)
theorem dX0_meet_11 : decode cX0_meet 11 = .ok (.invokevirtual 353, 3) := dk_182 1 97 (dk_at dksX0_meet_0 11 rfl rfl)
theorem dX0_meet_14 : decode cX0_meet 14 = .ok (.ireturn, 1) := dk_172 (dk_at dksX0_meet_0 14 rfl rfl)
abbrev cX0_both : ByteArray := prog_1_method_72_code
def yX0_both : MethodName := ⟨RX0, "both", "(IIIIIIZ)I"⟩
def dkwX0_both_8 : List UInt8 := [167, 255, 226, 2, 172, 58, 8, 42, 25, 8, 180, 0, 121, 182, 0, 94, 172]
abbrev dktX0_both_8 : List UInt8 := dkwX0_both_8 ++ []
def dkwX0_both_7 : List UInt8 := [29, 25, 11, 21, 6, 25, 12, 21, 13, 182, 1, 93, 2, 160, 0, 6, 21, 13, 172, 132, 13, 1]
abbrev dktX0_both_7 : List UInt8 := dkwX0_both_7 ++ dktX0_both_8
def dkwX0_both_6 : List UInt8 := [42, 29, 25, 11, 21, 6, 25, 12, 3, 182, 1, 93, 172, 3, 54, 13, 21, 13, 16, 9, 163, 0, 29, 42]
abbrev dktX0_both_6 : List UInt8 := dkwX0_both_6 ++ dktX0_both_7
def dkwX0_both_5 : List UInt8 := [21, 5, 184, 0, 244, 58, 12, 25, 11, 184, 1, 2, 87, 25, 12, 184, 1, 2, 87, 21, 7, 153, 0, 16]
abbrev dktX0_both_5 : List UInt8 := dkwX0_both_5 ++ dktX0_both_6
def dkwX0_both_4 : List UInt8 := [182, 1, 90, 58, 9, 42, 21, 4, 182, 0, 113, 58, 10, 25, 9, 28, 184, 0, 244, 58, 11, 25, 10]
abbrev dktX0_both_4 : List UInt8 := dkwX0_both_4 ++ dktX0_both_5
def dkwX0_both_3 : List UInt8 := [153, 0, 9, 29, 21, 6, 160, 0, 13, 187, 0, 108, 89, 16, 254, 183, 0, 110, 191, 42, 27, 21, 4]
abbrev dktX0_both_3 : List UInt8 := dkwX0_both_3 ++ dktX0_both_4
def dkwX0_both_2 : List UInt8 := [153, 0, 32, 42, 180, 0, 30, 29, 182, 0, 146, 153, 0, 21, 42, 180, 0, 30, 21, 6, 182, 0, 146]
abbrev dktX0_both_2 : List UInt8 := dkwX0_both_2 ++ dktX0_both_3
def dkwX0_both_1 : List UInt8 := [153, 0, 18, 21, 5, 3, 16, 40, 184, 0, 73, 153, 0, 7, 4, 167, 0, 4, 3, 54, 8, 21, 8]
abbrev dktX0_both_1 : List UInt8 := dkwX0_both_1 ++ dktX0_both_2
def dkwX0_both_0 : List UInt8 := [27, 184, 0, 90, 153, 0, 36, 21, 4, 184, 0, 90, 153, 0, 28, 28, 3, 16, 40, 184, 0, 73]
abbrev dktX0_both_0 : List UInt8 := dkwX0_both_0 ++ dktX0_both_1
theorem dksX0_both_0 : cX0_both.data.toList.drop 0 = dktX0_both_0 := by decide +kernel
theorem dksX0_both_1 : cX0_both.data.toList.drop 22 = dktX0_both_1 := dk_seg dksX0_both_0 22 rfl rfl
theorem dksX0_both_2 : cX0_both.data.toList.drop 45 = dktX0_both_2 := dk_seg dksX0_both_1 23 rfl rfl
theorem dksX0_both_3 : cX0_both.data.toList.drop 68 = dktX0_both_3 := dk_seg dksX0_both_2 23 rfl rfl
theorem dksX0_both_4 : cX0_both.data.toList.drop 91 = dktX0_both_4 := dk_seg dksX0_both_3 23 rfl rfl
theorem dksX0_both_5 : cX0_both.data.toList.drop 114 = dktX0_both_5 := dk_seg dksX0_both_4 23 rfl rfl
theorem dksX0_both_6 : cX0_both.data.toList.drop 138 = dktX0_both_6 := dk_seg dksX0_both_5 24 rfl rfl
theorem dksX0_both_7 : cX0_both.data.toList.drop 162 = dktX0_both_7 := dk_seg dksX0_both_6 24 rfl rfl
theorem dksX0_both_8 : cX0_both.data.toList.drop 184 = dktX0_both_8 := dk_seg dksX0_both_7 22 rfl rfl
theorem dX0_both_0 : decode cX0_both 0 = .ok (.iload_n 1, 1) := dk_27 (dk_at dksX0_both_0 0 rfl rfl)
theorem dX0_both_1 : decode cX0_both 1 = .ok (.invokestatic 90, 3) := dk_184 0 90 (dk_at dksX0_both_0 1 rfl rfl)
theorem dX0_both_4 : decode cX0_both 4 = .ok (.ifCond .eq 36, 3) := dk_153 0 36 (dk_at dksX0_both_0 4 rfl rfl)
theorem dX0_both_7 : decode cX0_both 7 = .ok (.iload 4, 2) := dk_21 4 (dk_at dksX0_both_0 7 rfl rfl)
theorem dX0_both_9 : decode cX0_both 9 = .ok (.invokestatic 90, 3) := dk_184 0 90 (dk_at dksX0_both_0 9 rfl rfl)
theorem dX0_both_12 : decode cX0_both 12 = .ok (.ifCond .eq 28, 3) := dk_153 0 28 (dk_at dksX0_both_0 12 rfl rfl)
theorem dX0_both_15 : decode cX0_both 15 = .ok (.iload_n 2, 1) := dk_28 (dk_at dksX0_both_0 15 rfl rfl)
theorem dX0_both_16 : decode cX0_both 16 = .ok (.iconst 0, 1) := dk_3 (dk_at dksX0_both_0 16 rfl rfl)
theorem dX0_both_17 : decode cX0_both 17 = .ok (.bipush 40, 2) := dk_16 40 (dk_at dksX0_both_0 17 rfl rfl)
theorem dX0_both_19 : decode cX0_both 19 = .ok (.invokestatic 73, 3) := dk_184 0 73 (dk_at dksX0_both_0 19 rfl rfl)
theorem dX0_both_22 : decode cX0_both 22 = .ok (.ifCond .eq 18, 3) := dk_153 0 18 (dk_at dksX0_both_1 0 rfl rfl)
theorem dX0_both_25 : decode cX0_both 25 = .ok (.iload 5, 2) := dk_21 5 (dk_at dksX0_both_1 3 rfl rfl)
theorem dX0_both_27 : decode cX0_both 27 = .ok (.iconst 0, 1) := dk_3 (dk_at dksX0_both_1 5 rfl rfl)
theorem dX0_both_28 : decode cX0_both 28 = .ok (.bipush 40, 2) := dk_16 40 (dk_at dksX0_both_1 6 rfl rfl)
theorem dX0_both_30 : decode cX0_both 30 = .ok (.invokestatic 73, 3) := dk_184 0 73 (dk_at dksX0_both_1 8 rfl rfl)
theorem dX0_both_33 : decode cX0_both 33 = .ok (.ifCond .eq 7, 3) := dk_153 0 7 (dk_at dksX0_both_1 11 rfl rfl)
theorem dX0_both_36 : decode cX0_both 36 = .ok (.iconst 1, 1) := dk_4 (dk_at dksX0_both_1 14 rfl rfl)
theorem dX0_both_37 : decode cX0_both 37 = .ok (.goto 4, 3) := dk_167 0 4 (dk_at dksX0_both_1 15 rfl rfl)
theorem dX0_both_40 : decode cX0_both 40 = .ok (.iconst 0, 1) := dk_3 (dk_at dksX0_both_1 18 rfl rfl)
theorem dX0_both_41 : decode cX0_both 41 = .ok (.istore 8, 2) := dk_54 8 (dk_at dksX0_both_1 19 rfl rfl)
theorem dX0_both_43 : decode cX0_both 43 = .ok (.iload 8, 2) := dk_21 8 (dk_at dksX0_both_1 21 rfl rfl)
theorem dX0_both_45 : decode cX0_both 45 = .ok (.ifCond .eq 32, 3) := dk_153 0 32 (dk_at dksX0_both_2 0 rfl rfl)
theorem dX0_both_48 : decode cX0_both 48 = .ok (.aload_n 0, 1) := dk_42 (dk_at dksX0_both_2 3 rfl rfl)
theorem dX0_both_49 : decode cX0_both 49 = .ok (.getfield 30, 3) := dk_180 0 30 (dk_at dksX0_both_2 4 rfl rfl)
theorem dX0_both_52 : decode cX0_both 52 = .ok (.iload_n 3, 1) := dk_29 (dk_at dksX0_both_2 7 rfl rfl)
theorem dX0_both_53 : decode cX0_both 53 = .ok (.invokevirtual 146, 3) := dk_182 0 146 (dk_at dksX0_both_2 8 rfl rfl)
theorem dX0_both_56 : decode cX0_both 56 = .ok (.ifCond .eq 21, 3) := dk_153 0 21 (dk_at dksX0_both_2 11 rfl rfl)
theorem dX0_both_59 : decode cX0_both 59 = .ok (.aload_n 0, 1) := dk_42 (dk_at dksX0_both_2 14 rfl rfl)
theorem dX0_both_60 : decode cX0_both 60 = .ok (.getfield 30, 3) := dk_180 0 30 (dk_at dksX0_both_2 15 rfl rfl)
theorem dX0_both_63 : decode cX0_both 63 = .ok (.iload 6, 2) := dk_21 6 (dk_at dksX0_both_2 18 rfl rfl)
theorem dX0_both_65 : decode cX0_both 65 = .ok (.invokevirtual 146, 3) := dk_182 0 146 (dk_at dksX0_both_2 20 rfl rfl)
theorem dX0_both_68 : decode cX0_both 68 = .ok (.ifCond .eq 9, 3) := dk_153 0 9 (dk_at dksX0_both_3 0 rfl rfl)
theorem dX0_both_71 : decode cX0_both 71 = .ok (.iload_n 3, 1) := dk_29 (dk_at dksX0_both_3 3 rfl rfl)
theorem dX0_both_72 : decode cX0_both 72 = .ok (.iload 6, 2) := dk_21 6 (dk_at dksX0_both_3 4 rfl rfl)
theorem dX0_both_74 : decode cX0_both 74 = .ok (.if_icmp .ne 13, 3) := dk_160 0 13 (dk_at dksX0_both_3 6 rfl rfl)
theorem dX0_both_77 : decode cX0_both 77 = .ok (.new 108, 3) := dk_187 0 108 (dk_at dksX0_both_3 9 rfl rfl)
theorem dX0_both_80 : decode cX0_both 80 = .ok (.dup, 1) := dk_89 (dk_at dksX0_both_3 12 rfl rfl)
theorem dX0_both_81 : decode cX0_both 81 = .ok (.bipush (-2), 2) := dk_16 254 (dk_at dksX0_both_3 13 rfl rfl)
theorem dX0_both_83 : decode cX0_both 83 = .ok (.invokespecial 110, 3) := dk_183 0 110 (dk_at dksX0_both_3 15 rfl rfl)
theorem dX0_both_86 : decode cX0_both 86 = .ok (.athrow, 1) := dk_191 (dk_at dksX0_both_3 18 rfl rfl)
theorem dX0_both_87 : decode cX0_both 87 = .ok (.aload_n 0, 1) := dk_42 (dk_at dksX0_both_3 19 rfl rfl)
theorem dX0_both_88 : decode cX0_both 88 = .ok (.iload_n 1, 1) := dk_27 (dk_at dksX0_both_3 20 rfl rfl)
theorem dX0_both_89 : decode cX0_both 89 = .ok (.iload 4, 2) := dk_21 4 (dk_at dksX0_both_3 21 rfl rfl)
theorem dX0_both_91 : decode cX0_both 91 = .ok (.invokevirtual 346, 3) := dk_182 1 90 (dk_at dksX0_both_4 0 rfl rfl)
theorem dX0_both_94 : decode cX0_both 94 = .ok (.astore 9, 2) := dk_58 9 (dk_at dksX0_both_4 3 rfl rfl)
theorem dX0_both_96 : decode cX0_both 96 = .ok (.aload_n 0, 1) := dk_42 (dk_at dksX0_both_4 5 rfl rfl)
theorem dX0_both_97 : decode cX0_both 97 = .ok (.iload 4, 2) := dk_21 4 (dk_at dksX0_both_4 6 rfl rfl)
theorem dX0_both_99 : decode cX0_both 99 = .ok (.invokevirtual 113, 3) := dk_182 0 113 (dk_at dksX0_both_4 8 rfl rfl)
theorem dX0_both_102 : decode cX0_both 102 = .ok (.astore 10, 2) := dk_58 10 (dk_at dksX0_both_4 11 rfl rfl)
theorem dX0_both_104 : decode cX0_both 104 = .ok (.aload 9, 2) := dk_25 9 (dk_at dksX0_both_4 13 rfl rfl)
theorem dX0_both_106 : decode cX0_both 106 = .ok (.iload_n 2, 1) := dk_28 (dk_at dksX0_both_4 15 rfl rfl)
theorem dX0_both_107 : decode cX0_both 107 = .ok (.invokestatic 244, 3) := dk_184 0 244 (dk_at dksX0_both_4 16 rfl rfl)
theorem dX0_both_110 : decode cX0_both 110 = .ok (.astore 11, 2) := dk_58 11 (dk_at dksX0_both_4 19 rfl rfl)
theorem dX0_both_112 : decode cX0_both 112 = .ok (.aload 10, 2) := dk_25 10 (dk_at dksX0_both_4 21 rfl rfl)
theorem dX0_both_114 : decode cX0_both 114 = .ok (.iload 5, 2) := dk_21 5 (dk_at dksX0_both_5 0 rfl rfl)
theorem dX0_both_116 : decode cX0_both 116 = .ok (.invokestatic 244, 3) := dk_184 0 244 (dk_at dksX0_both_5 2 rfl rfl)
theorem dX0_both_119 : decode cX0_both 119 = .ok (.astore 12, 2) := dk_58 12 (dk_at dksX0_both_5 5 rfl rfl)
theorem dX0_both_121 : decode cX0_both 121 = .ok (.aload 11, 2) := dk_25 11 (dk_at dksX0_both_5 7 rfl rfl)
theorem dX0_both_123 : decode cX0_both 123 = .ok (.invokestatic 258, 3) := dk_184 1 2 (dk_at dksX0_both_5 9 rfl rfl)
theorem dX0_both_126 : decode cX0_both 126 = .ok (.pop, 1) := dk_87 (dk_at dksX0_both_5 12 rfl rfl)
theorem dX0_both_127 : decode cX0_both 127 = .ok (.aload 12, 2) := dk_25 12 (dk_at dksX0_both_5 13 rfl rfl)
theorem dX0_both_129 : decode cX0_both 129 = .ok (.invokestatic 258, 3) := dk_184 1 2 (dk_at dksX0_both_5 15 rfl rfl)
theorem dX0_both_132 : decode cX0_both 132 = .ok (.pop, 1) := dk_87 (dk_at dksX0_both_5 18 rfl rfl)
theorem dX0_both_133 : decode cX0_both 133 = .ok (.iload 7, 2) := dk_21 7 (dk_at dksX0_both_5 19 rfl rfl)
theorem dX0_both_135 : decode cX0_both 135 = .ok (.ifCond .eq 16, 3) := dk_153 0 16 (dk_at dksX0_both_5 21 rfl rfl)
theorem dX0_both_138 : decode cX0_both 138 = .ok (.aload_n 0, 1) := dk_42 (dk_at dksX0_both_6 0 rfl rfl)
theorem dX0_both_139 : decode cX0_both 139 = .ok (.iload_n 3, 1) := dk_29 (dk_at dksX0_both_6 1 rfl rfl)
theorem dX0_both_140 : decode cX0_both 140 = .ok (.aload 11, 2) := dk_25 11 (dk_at dksX0_both_6 2 rfl rfl)
theorem dX0_both_142 : decode cX0_both 142 = .ok (.iload 6, 2) := dk_21 6 (dk_at dksX0_both_6 4 rfl rfl)
theorem dX0_both_144 : decode cX0_both 144 = .ok (.aload 12, 2) := dk_25 12 (dk_at dksX0_both_6 6 rfl rfl)
theorem dX0_both_146 : decode cX0_both 146 = .ok (.iconst 0, 1) := dk_3 (dk_at dksX0_both_6 8 rfl rfl)
theorem dX0_both_147 : decode cX0_both 147 = .ok (.invokevirtual 349, 3) := dk_182 1 93 (dk_at dksX0_both_6 9 rfl rfl)
theorem dX0_both_150 : decode cX0_both 150 = .ok (.ireturn, 1) := dk_172 (dk_at dksX0_both_6 12 rfl rfl)
theorem dX0_both_151 : decode cX0_both 151 = .ok (.iconst 0, 1) := dk_3 (dk_at dksX0_both_6 13 rfl rfl)
theorem dX0_both_152 : decode cX0_both 152 = .ok (.istore 13, 2) := dk_54 13 (dk_at dksX0_both_6 14 rfl rfl)
theorem dX0_both_154 : decode cX0_both 154 = .ok (.iload 13, 2) := dk_21 13 (dk_at dksX0_both_6 16 rfl rfl)
theorem dX0_both_156 : decode cX0_both 156 = .ok (.bipush 9, 2) := dk_16 9 (dk_at dksX0_both_6 18 rfl rfl)
theorem dX0_both_158 : decode cX0_both 158 = .ok (.if_icmp .gt 29, 3) := dk_163 0 29 (dk_at dksX0_both_6 20 rfl rfl)
theorem dX0_both_161 : decode cX0_both 161 = .ok (.aload_n 0, 1) := dk_42 (dk_at dksX0_both_6 23 rfl rfl)
theorem dX0_both_162 : decode cX0_both 162 = .ok (.iload_n 3, 1) := dk_29 (dk_at dksX0_both_7 0 rfl rfl)
theorem dX0_both_163 : decode cX0_both 163 = .ok (.aload 11, 2) := dk_25 11 (dk_at dksX0_both_7 1 rfl rfl)
theorem dX0_both_165 : decode cX0_both 165 = .ok (.iload 6, 2) := dk_21 6 (dk_at dksX0_both_7 3 rfl rfl)
theorem dX0_both_167 : decode cX0_both 167 = .ok (.aload 12, 2) := dk_25 12 (dk_at dksX0_both_7 5 rfl rfl)
theorem dX0_both_169 : decode cX0_both 169 = .ok (.iload 13, 2) := dk_21 13 (dk_at dksX0_both_7 7 rfl rfl)
theorem dX0_both_171 : decode cX0_both 171 = .ok (.invokevirtual 349, 3) := dk_182 1 93 (dk_at dksX0_both_7 9 rfl rfl)
theorem dX0_both_174 : decode cX0_both 174 = .ok (.iconst (-1), 1) := dk_2 (dk_at dksX0_both_7 12 rfl rfl)
theorem dX0_both_175 : decode cX0_both 175 = .ok (.if_icmp .ne 6, 3) := dk_160 0 6 (dk_at dksX0_both_7 13 rfl rfl)
theorem dX0_both_178 : decode cX0_both 178 = .ok (.iload 13, 2) := dk_21 13 (dk_at dksX0_both_7 16 rfl rfl)
theorem dX0_both_180 : decode cX0_both 180 = .ok (.ireturn, 1) := dk_172 (dk_at dksX0_both_7 18 rfl rfl)
theorem dX0_both_181 : decode cX0_both 181 = .ok (.iinc 13 1, 3) := dk_132 13 1 (dk_at dksX0_both_7 19 rfl rfl)
theorem dX0_both_184 : decode cX0_both 184 = .ok (.goto (-30), 3) := dk_167 255 226 (dk_at dksX0_both_8 0 rfl rfl)
theorem dX0_both_187 : decode cX0_both 187 = .ok (.iconst (-1), 1) := dk_2 (dk_at dksX0_both_8 3 rfl rfl)
theorem dX0_both_188 : decode cX0_both 188 = .ok (.ireturn, 1) := dk_172 (dk_at dksX0_both_8 4 rfl rfl)
theorem dX0_both_189 : decode cX0_both 189 = .ok (.astore 8, 2) := dk_58 8 (dk_at dksX0_both_8 5 rfl rfl)
theorem dX0_both_191 : decode cX0_both 191 = .ok (.aload_n 0, 1) := dk_42 (dk_at dksX0_both_8 7 rfl rfl)
theorem dX0_both_192 : decode cX0_both 192 = .ok (.aload 8, 2) := dk_25 8 (dk_at dksX0_both_8 8 rfl rfl)
theorem dX0_both_194 : decode cX0_both 194 = .ok (.getfield 121, 3) := dk_180 0 121 (dk_at dksX0_both_8 10 rfl rfl)
theorem dX0_both_197 : decode cX0_both 197 = .ok (.invokevirtual 94, 3) := dk_182 0 94 (dk_at dksX0_both_8 13 rfl rfl)
theorem dX0_both_200 : decode cX0_both 200 = .ok (.ireturn, 1) := dk_172 (dk_at dksX0_both_8 16 rfl rfl)
abbrev cX0_rowFor : ByteArray := prog_1_method_71_code
def yX0_rowFor : MethodName := ⟨RX0, "rowFor", "(II)Ljava/lang/Object;"⟩
def dkwX0_rowFor_1 : List UInt8 := [193, 0, 1, 153, 0, 13, 187, 0, 108, 89, 16, 253, 183, 0, 110, 191, 42, 27, 182, 0, 113, 176]
abbrev dktX0_rowFor_1 : List UInt8 := dkwX0_rowFor_1 ++ []
def dkwX0_rowFor_0 : List UInt8 := [42, 180, 0, 62, 27, 50, 180, 0, 102, 193, 0, 1, 154, 0, 18, 42, 180, 0, 62, 28, 50, 180, 0, 102]
abbrev dktX0_rowFor_0 : List UInt8 := dkwX0_rowFor_0 ++ dktX0_rowFor_1
theorem dksX0_rowFor_0 : cX0_rowFor.data.toList.drop 0 = dktX0_rowFor_0 := by decide +kernel
theorem dksX0_rowFor_1 : cX0_rowFor.data.toList.drop 24 = dktX0_rowFor_1 := dk_seg dksX0_rowFor_0 24 rfl rfl
theorem dX0_rowFor_0 : decode cX0_rowFor 0 = .ok (.aload_n 0, 1) := dk_42 (dk_at dksX0_rowFor_0 0 rfl rfl)
theorem dX0_rowFor_1 : decode cX0_rowFor 1 = .ok (.getfield 62, 3) := dk_180 0 62 (dk_at dksX0_rowFor_0 1 rfl rfl)
theorem dX0_rowFor_4 : decode cX0_rowFor 4 = .ok (.iload_n 1, 1) := dk_27 (dk_at dksX0_rowFor_0 4 rfl rfl)
theorem dX0_rowFor_5 : decode cX0_rowFor 5 = .ok (.aaload, 1) := dk_50 (dk_at dksX0_rowFor_0 5 rfl rfl)
theorem dX0_rowFor_6 : decode cX0_rowFor 6 = .ok (.getfield 102, 3) := dk_180 0 102 (dk_at dksX0_rowFor_0 6 rfl rfl)
theorem dX0_rowFor_9 : decode cX0_rowFor 9 = .ok (.instanceof 1, 3) := dk_193 0 1 (dk_at dksX0_rowFor_0 9 rfl rfl)
theorem dX0_rowFor_12 : decode cX0_rowFor 12 = .ok (.ifCond .ne 18, 3) := dk_154 0 18 (dk_at dksX0_rowFor_0 12 rfl rfl)
theorem dX0_rowFor_15 : decode cX0_rowFor 15 = .ok (.aload_n 0, 1) := dk_42 (dk_at dksX0_rowFor_0 15 rfl rfl)
theorem dX0_rowFor_16 : decode cX0_rowFor 16 = .ok (.getfield 62, 3) := dk_180 0 62 (dk_at dksX0_rowFor_0 16 rfl rfl)
theorem dX0_rowFor_19 : decode cX0_rowFor 19 = .ok (.iload_n 2, 1) := dk_28 (dk_at dksX0_rowFor_0 19 rfl rfl)
theorem dX0_rowFor_20 : decode cX0_rowFor 20 = .ok (.aaload, 1) := dk_50 (dk_at dksX0_rowFor_0 20 rfl rfl)
theorem dX0_rowFor_21 : decode cX0_rowFor 21 = .ok (.getfield 102, 3) := dk_180 0 102 (dk_at dksX0_rowFor_0 21 rfl rfl)
theorem dX0_rowFor_24 : decode cX0_rowFor 24 = .ok (.instanceof 1, 3) := dk_193 0 1 (dk_at dksX0_rowFor_1 0 rfl rfl)
theorem dX0_rowFor_27 : decode cX0_rowFor 27 = .ok (.ifCond .eq 13, 3) := dk_153 0 13 (dk_at dksX0_rowFor_1 3 rfl rfl)
theorem dX0_rowFor_30 : decode cX0_rowFor 30 = .ok (.new 108, 3) := dk_187 0 108 (dk_at dksX0_rowFor_1 6 rfl rfl)
theorem dX0_rowFor_33 : decode cX0_rowFor 33 = .ok (.dup, 1) := dk_89 (dk_at dksX0_rowFor_1 9 rfl rfl)
theorem dX0_rowFor_34 : decode cX0_rowFor 34 = .ok (.bipush (-3), 2) := dk_16 253 (dk_at dksX0_rowFor_1 10 rfl rfl)
theorem dX0_rowFor_36 : decode cX0_rowFor 36 = .ok (.invokespecial 110, 3) := dk_183 0 110 (dk_at dksX0_rowFor_1 12 rfl rfl)
theorem dX0_rowFor_39 : decode cX0_rowFor 39 = .ok (.athrow, 1) := dk_191 (dk_at dksX0_rowFor_1 15 rfl rfl)
theorem dX0_rowFor_40 : decode cX0_rowFor 40 = .ok (.aload_n 0, 1) := dk_42 (dk_at dksX0_rowFor_1 16 rfl rfl)
theorem dX0_rowFor_41 : decode cX0_rowFor 41 = .ok (.iload_n 1, 1) := dk_27 (dk_at dksX0_rowFor_1 17 rfl rfl)
theorem dX0_rowFor_42 : decode cX0_rowFor 42 = .ok (.invokevirtual 113, 3) := dk_182 0 113 (dk_at dksX0_rowFor_1 18 rfl rfl)
theorem dX0_rowFor_45 : decode cX0_rowFor 45 = .ok (.areturn, 1) := dk_176 (dk_at dksX0_rowFor_1 21 rfl rfl)
abbrev cX0_met : ByteArray := prog_1_method_70_code
def yX0_met : MethodName := ⟨RX0, "met", "(I[JI[JI)I"⟩
def dkwX0_met_10 : List UInt8 := [167, 255, 95, 2, 172]
abbrev dktX0_met_10 : List UInt8 := dkwX0_met_10 ++ []
def dkwX0_met_9 : List UInt8 := [180, 0, 43, 180, 1, 17, 159, 0, 8, 21, 7, 153, 0, 8, 21, 6, 4, 96, 172, 132, 6, 1]
abbrev dktX0_met_9 : List UInt8 := dkwX0_met_9 ++ dktX0_met_10
def dkwX0_met_8 : List UInt8 := [180, 0, 39, 180, 1, 35, 160, 0, 7, 4, 167, 0, 4, 3, 54, 7, 42, 180, 0, 39, 180, 1, 17, 42]
abbrev dktX0_met_8 : List UInt8 := dkwX0_met_8 ++ dktX0_met_9
def dkwX0_met_7 : List UInt8 := [180, 0, 39, 180, 1, 17, 42, 180, 0, 43, 180, 1, 35, 160, 0, 24, 42, 180, 0, 43, 180, 1, 17, 42]
abbrev dktX0_met_7 : List UInt8 := dkwX0_met_7 ++ dktX0_met_8
def dkwX0_met_6 : List UInt8 := [50, 25, 4, 21, 6, 21, 5, 100, 184, 1, 86, 42, 180, 0, 30, 180, 0, 163, 3, 46, 182, 0, 166, 42]
abbrev dktX0_met_6 : List UInt8 := dkwX0_met_6 ++ dktX0_met_7
def dkwX0_met_5 : List UInt8 := [180, 0, 163, 3, 46, 182, 0, 166, 42, 180, 0, 43, 42, 180, 0, 30, 42, 180, 0, 30, 180, 0, 149, 29]
abbrev dktX0_met_5 : List UInt8 := dkwX0_met_5 ++ dktX0_met_6
def dkwX0_met_4 : List UInt8 := [42, 180, 0, 30, 42, 180, 0, 30, 180, 0, 149, 27, 50, 44, 21, 6, 184, 1, 86, 42, 180, 0, 30]
abbrev dktX0_met_4 : List UInt8 := dkwX0_met_4 ++ dktX0_met_5
def dkwX0_met_3 : List UInt8 := [172, 3, 54, 6, 21, 6, 44, 190, 21, 5, 25, 4, 190, 96, 184, 1, 81, 162, 0, 151, 42, 180, 0, 39]
abbrev dktX0_met_3 : List UInt8 := dkwX0_met_3 ++ dktX0_met_4
def dkwX0_met_2 : List UInt8 := [29, 46, 182, 0, 159, 87, 42, 180, 0, 39, 180, 1, 17, 42, 180, 0, 43, 180, 1, 17, 160, 0, 5, 3]
abbrev dktX0_met_2 : List UInt8 := dkwX0_met_2 ++ dktX0_met_3
def dkwX0_met_1 : List UInt8 := [182, 0, 159, 87, 42, 180, 0, 43, 42, 180, 0, 30, 180, 0, 153, 29, 46, 42, 180, 0, 30, 180, 0, 156]
abbrev dktX0_met_1 : List UInt8 := dkwX0_met_1 ++ dktX0_met_2
def dkwX0_met_0 : List UInt8 := [42, 180, 0, 39, 42, 180, 0, 30, 180, 0, 153, 27, 46, 42, 180, 0, 30, 180, 0, 156, 27, 46]
abbrev dktX0_met_0 : List UInt8 := dkwX0_met_0 ++ dktX0_met_1
theorem dksX0_met_0 : cX0_met.data.toList.drop 0 = dktX0_met_0 := by decide +kernel
theorem dksX0_met_1 : cX0_met.data.toList.drop 22 = dktX0_met_1 := dk_seg dksX0_met_0 22 rfl rfl
theorem dksX0_met_2 : cX0_met.data.toList.drop 46 = dktX0_met_2 := dk_seg dksX0_met_1 24 rfl rfl
theorem dksX0_met_3 : cX0_met.data.toList.drop 70 = dktX0_met_3 := dk_seg dksX0_met_2 24 rfl rfl
theorem dksX0_met_4 : cX0_met.data.toList.drop 94 = dktX0_met_4 := dk_seg dksX0_met_3 24 rfl rfl
theorem dksX0_met_5 : cX0_met.data.toList.drop 117 = dktX0_met_5 := dk_seg dksX0_met_4 23 rfl rfl
theorem dksX0_met_6 : cX0_met.data.toList.drop 141 = dktX0_met_6 := dk_seg dksX0_met_5 24 rfl rfl
theorem dksX0_met_7 : cX0_met.data.toList.drop 165 = dktX0_met_7 := dk_seg dksX0_met_6 24 rfl rfl
theorem dksX0_met_8 : cX0_met.data.toList.drop 189 = dktX0_met_8 := dk_seg dksX0_met_7 24 rfl rfl
theorem dksX0_met_9 : cX0_met.data.toList.drop 213 = dktX0_met_9 := dk_seg dksX0_met_8 24 rfl rfl
theorem dksX0_met_10 : cX0_met.data.toList.drop 235 = dktX0_met_10 := dk_seg dksX0_met_9 22 rfl rfl
theorem dX0_met_0 : decode cX0_met 0 = .ok (.aload_n 0, 1) := dk_42 (dk_at dksX0_met_0 0 rfl rfl)
theorem dX0_met_1 : decode cX0_met 1 = .ok (.getfield 39, 3) := dk_180 0 39 (dk_at dksX0_met_0 1 rfl rfl)
theorem dX0_met_4 : decode cX0_met 4 = .ok (.aload_n 0, 1) := dk_42 (dk_at dksX0_met_0 4 rfl rfl)
theorem dX0_met_5 : decode cX0_met 5 = .ok (.getfield 30, 3) := dk_180 0 30 (dk_at dksX0_met_0 5 rfl rfl)
theorem dX0_met_8 : decode cX0_met 8 = .ok (.getfield 153, 3) := dk_180 0 153 (dk_at dksX0_met_0 8 rfl rfl)
theorem dX0_met_11 : decode cX0_met 11 = .ok (.iload_n 1, 1) := dk_27 (dk_at dksX0_met_0 11 rfl rfl)
theorem dX0_met_12 : decode cX0_met 12 = .ok (.iaload, 1) := dk_46 (dk_at dksX0_met_0 12 rfl rfl)
theorem dX0_met_13 : decode cX0_met 13 = .ok (.aload_n 0, 1) := dk_42 (dk_at dksX0_met_0 13 rfl rfl)
theorem dX0_met_14 : decode cX0_met 14 = .ok (.getfield 30, 3) := dk_180 0 30 (dk_at dksX0_met_0 14 rfl rfl)
theorem dX0_met_17 : decode cX0_met 17 = .ok (.getfield 156, 3) := dk_180 0 156 (dk_at dksX0_met_0 17 rfl rfl)
theorem dX0_met_20 : decode cX0_met 20 = .ok (.iload_n 1, 1) := dk_27 (dk_at dksX0_met_0 20 rfl rfl)
theorem dX0_met_21 : decode cX0_met 21 = .ok (.iaload, 1) := dk_46 (dk_at dksX0_met_0 21 rfl rfl)
theorem dX0_met_22 : decode cX0_met 22 = .ok (.invokevirtual 159, 3) := dk_182 0 159 (dk_at dksX0_met_1 0 rfl rfl)
theorem dX0_met_25 : decode cX0_met 25 = .ok (.pop, 1) := dk_87 (dk_at dksX0_met_1 3 rfl rfl)
theorem dX0_met_26 : decode cX0_met 26 = .ok (.aload_n 0, 1) := dk_42 (dk_at dksX0_met_1 4 rfl rfl)
theorem dX0_met_27 : decode cX0_met 27 = .ok (.getfield 43, 3) := dk_180 0 43 (dk_at dksX0_met_1 5 rfl rfl)
theorem dX0_met_30 : decode cX0_met 30 = .ok (.aload_n 0, 1) := dk_42 (dk_at dksX0_met_1 8 rfl rfl)
theorem dX0_met_31 : decode cX0_met 31 = .ok (.getfield 30, 3) := dk_180 0 30 (dk_at dksX0_met_1 9 rfl rfl)
theorem dX0_met_34 : decode cX0_met 34 = .ok (.getfield 153, 3) := dk_180 0 153 (dk_at dksX0_met_1 12 rfl rfl)
theorem dX0_met_37 : decode cX0_met 37 = .ok (.iload_n 3, 1) := dk_29 (dk_at dksX0_met_1 15 rfl rfl)
theorem dX0_met_38 : decode cX0_met 38 = .ok (.iaload, 1) := dk_46 (dk_at dksX0_met_1 16 rfl rfl)
theorem dX0_met_39 : decode cX0_met 39 = .ok (.aload_n 0, 1) := dk_42 (dk_at dksX0_met_1 17 rfl rfl)
theorem dX0_met_40 : decode cX0_met 40 = .ok (.getfield 30, 3) := dk_180 0 30 (dk_at dksX0_met_1 18 rfl rfl)
theorem dX0_met_43 : decode cX0_met 43 = .ok (.getfield 156, 3) := dk_180 0 156 (dk_at dksX0_met_1 21 rfl rfl)
theorem dX0_met_46 : decode cX0_met 46 = .ok (.iload_n 3, 1) := dk_29 (dk_at dksX0_met_2 0 rfl rfl)
theorem dX0_met_47 : decode cX0_met 47 = .ok (.iaload, 1) := dk_46 (dk_at dksX0_met_2 1 rfl rfl)
theorem dX0_met_48 : decode cX0_met 48 = .ok (.invokevirtual 159, 3) := dk_182 0 159 (dk_at dksX0_met_2 2 rfl rfl)
theorem dX0_met_51 : decode cX0_met 51 = .ok (.pop, 1) := dk_87 (dk_at dksX0_met_2 5 rfl rfl)
theorem dX0_met_52 : decode cX0_met 52 = .ok (.aload_n 0, 1) := dk_42 (dk_at dksX0_met_2 6 rfl rfl)
theorem dX0_met_53 : decode cX0_met 53 = .ok (.getfield 39, 3) := dk_180 0 39 (dk_at dksX0_met_2 7 rfl rfl)
theorem dX0_met_56 : decode cX0_met 56 = .ok (.getfield 273, 3) := dk_180 1 17 (dk_at dksX0_met_2 10 rfl rfl)
theorem dX0_met_59 : decode cX0_met 59 = .ok (.aload_n 0, 1) := dk_42 (dk_at dksX0_met_2 13 rfl rfl)
theorem dX0_met_60 : decode cX0_met 60 = .ok (.getfield 43, 3) := dk_180 0 43 (dk_at dksX0_met_2 14 rfl rfl)
theorem dX0_met_63 : decode cX0_met 63 = .ok (.getfield 273, 3) := dk_180 1 17 (dk_at dksX0_met_2 17 rfl rfl)
theorem dX0_met_66 : decode cX0_met 66 = .ok (.if_icmp .ne 5, 3) := dk_160 0 5 (dk_at dksX0_met_2 20 rfl rfl)
theorem dX0_met_69 : decode cX0_met 69 = .ok (.iconst 0, 1) := dk_3 (dk_at dksX0_met_2 23 rfl rfl)
theorem dX0_met_70 : decode cX0_met 70 = .ok (.ireturn, 1) := dk_172 (dk_at dksX0_met_3 0 rfl rfl)
theorem dX0_met_71 : decode cX0_met 71 = .ok (.iconst 0, 1) := dk_3 (dk_at dksX0_met_3 1 rfl rfl)
theorem dX0_met_72 : decode cX0_met 72 = .ok (.istore 6, 2) := dk_54 6 (dk_at dksX0_met_3 2 rfl rfl)
theorem dX0_met_74 : decode cX0_met 74 = .ok (.iload 6, 2) := dk_21 6 (dk_at dksX0_met_3 4 rfl rfl)
theorem dX0_met_76 : decode cX0_met 76 = .ok (.aload_n 2, 1) := dk_44 (dk_at dksX0_met_3 6 rfl rfl)
theorem dX0_met_77 : decode cX0_met 77 = .ok (.arraylength, 1) := dk_190 (dk_at dksX0_met_3 7 rfl rfl)
theorem dX0_met_78 : decode cX0_met 78 = .ok (.iload 5, 2) := dk_21 5 (dk_at dksX0_met_3 8 rfl rfl)
theorem dX0_met_80 : decode cX0_met 80 = .ok (.aload 4, 2) := dk_25 4 (dk_at dksX0_met_3 10 rfl rfl)
theorem dX0_met_82 : decode cX0_met 82 = .ok (.arraylength, 1) := dk_190 (dk_at dksX0_met_3 12 rfl rfl)
theorem dX0_met_83 : decode cX0_met 83 = .ok (.iadd, 1) := dk_96 (dk_at dksX0_met_3 13 rfl rfl)
theorem dX0_met_84 : decode cX0_met 84 = .ok (.invokestatic 337, 3) := dk_184 1 81 (dk_at dksX0_met_3 14 rfl rfl)
theorem dX0_met_87 : decode cX0_met 87 = .ok (.if_icmp .ge 151, 3) := dk_162 0 151 (dk_at dksX0_met_3 17 rfl rfl)
theorem dX0_met_90 : decode cX0_met 90 = .ok (.aload_n 0, 1) := dk_42 (dk_at dksX0_met_3 20 rfl rfl)
theorem dX0_met_91 : decode cX0_met 91 = .ok (.getfield 39, 3) := dk_180 0 39 (dk_at dksX0_met_3 21 rfl rfl)
theorem dX0_met_94 : decode cX0_met 94 = .ok (.aload_n 0, 1) := dk_42 (dk_at dksX0_met_4 0 rfl rfl)
theorem dX0_met_95 : decode cX0_met 95 = .ok (.getfield 30, 3) := dk_180 0 30 (dk_at dksX0_met_4 1 rfl rfl)
theorem dX0_met_98 : decode cX0_met 98 = .ok (.aload_n 0, 1) := dk_42 (dk_at dksX0_met_4 4 rfl rfl)
theorem dX0_met_99 : decode cX0_met 99 = .ok (.getfield 30, 3) := dk_180 0 30 (dk_at dksX0_met_4 5 rfl rfl)
theorem dX0_met_102 : decode cX0_met 102 = .ok (.getfield 149, 3) := dk_180 0 149 (dk_at dksX0_met_4 8 rfl rfl)
theorem dX0_met_105 : decode cX0_met 105 = .ok (.iload_n 1, 1) := dk_27 (dk_at dksX0_met_4 11 rfl rfl)
theorem dX0_met_106 : decode cX0_met 106 = .ok (.aaload, 1) := dk_50 (dk_at dksX0_met_4 12 rfl rfl)
theorem dX0_met_107 : decode cX0_met 107 = .ok (.aload_n 2, 1) := dk_44 (dk_at dksX0_met_4 13 rfl rfl)
theorem dX0_met_108 : decode cX0_met 108 = .ok (.iload 6, 2) := dk_21 6 (dk_at dksX0_met_4 14 rfl rfl)
theorem dX0_met_110 : decode cX0_met 110 = .ok (.invokestatic 342, 3) := dk_184 1 86 (dk_at dksX0_met_4 16 rfl rfl)
theorem dX0_met_113 : decode cX0_met 113 = .ok (.aload_n 0, 1) := dk_42 (dk_at dksX0_met_4 19 rfl rfl)
theorem dX0_met_114 : decode cX0_met 114 = .ok (.getfield 30, 3) := dk_180 0 30 (dk_at dksX0_met_4 20 rfl rfl)
theorem dX0_met_117 : decode cX0_met 117 = .ok (.getfield 163, 3) := dk_180 0 163 (dk_at dksX0_met_5 0 rfl rfl)
theorem dX0_met_120 : decode cX0_met 120 = .ok (.iconst 0, 1) := dk_3 (dk_at dksX0_met_5 3 rfl rfl)
theorem dX0_met_121 : decode cX0_met 121 = .ok (.iaload, 1) := dk_46 (dk_at dksX0_met_5 4 rfl rfl)
theorem dX0_met_122 : decode cX0_met 122 = .ok (.invokevirtual 166, 3) := dk_182 0 166 (dk_at dksX0_met_5 5 rfl rfl)
theorem dX0_met_125 : decode cX0_met 125 = .ok (.aload_n 0, 1) := dk_42 (dk_at dksX0_met_5 8 rfl rfl)
theorem dX0_met_126 : decode cX0_met 126 = .ok (.getfield 43, 3) := dk_180 0 43 (dk_at dksX0_met_5 9 rfl rfl)
theorem dX0_met_129 : decode cX0_met 129 = .ok (.aload_n 0, 1) := dk_42 (dk_at dksX0_met_5 12 rfl rfl)
theorem dX0_met_130 : decode cX0_met 130 = .ok (.getfield 30, 3) := dk_180 0 30 (dk_at dksX0_met_5 13 rfl rfl)
theorem dX0_met_133 : decode cX0_met 133 = .ok (.aload_n 0, 1) := dk_42 (dk_at dksX0_met_5 16 rfl rfl)
theorem dX0_met_134 : decode cX0_met 134 = .ok (.getfield 30, 3) := dk_180 0 30 (dk_at dksX0_met_5 17 rfl rfl)
theorem dX0_met_137 : decode cX0_met 137 = .ok (.getfield 149, 3) := dk_180 0 149 (dk_at dksX0_met_5 20 rfl rfl)
theorem dX0_met_140 : decode cX0_met 140 = .ok (.iload_n 3, 1) := dk_29 (dk_at dksX0_met_5 23 rfl rfl)
theorem dX0_met_141 : decode cX0_met 141 = .ok (.aaload, 1) := dk_50 (dk_at dksX0_met_6 0 rfl rfl)
theorem dX0_met_142 : decode cX0_met 142 = .ok (.aload 4, 2) := dk_25 4 (dk_at dksX0_met_6 1 rfl rfl)
theorem dX0_met_144 : decode cX0_met 144 = .ok (.iload 6, 2) := dk_21 6 (dk_at dksX0_met_6 3 rfl rfl)
theorem dX0_met_146 : decode cX0_met 146 = .ok (.iload 5, 2) := dk_21 5 (dk_at dksX0_met_6 5 rfl rfl)
theorem dX0_met_148 : decode cX0_met 148 = .ok (.isub, 1) := dk_100 (dk_at dksX0_met_6 7 rfl rfl)
theorem dX0_met_149 : decode cX0_met 149 = .ok (.invokestatic 342, 3) := dk_184 1 86 (dk_at dksX0_met_6 8 rfl rfl)
theorem dX0_met_152 : decode cX0_met 152 = .ok (.aload_n 0, 1) := dk_42 (dk_at dksX0_met_6 11 rfl rfl)
theorem dX0_met_153 : decode cX0_met 153 = .ok (.getfield 30, 3) := dk_180 0 30 (dk_at dksX0_met_6 12 rfl rfl)
theorem dX0_met_156 : decode cX0_met 156 = .ok (.getfield 163, 3) := dk_180 0 163 (dk_at dksX0_met_6 15 rfl rfl)
theorem dX0_met_159 : decode cX0_met 159 = .ok (.iconst 0, 1) := dk_3 (dk_at dksX0_met_6 18 rfl rfl)
theorem dX0_met_160 : decode cX0_met 160 = .ok (.iaload, 1) := dk_46 (dk_at dksX0_met_6 19 rfl rfl)
theorem dX0_met_161 : decode cX0_met 161 = .ok (.invokevirtual 166, 3) := dk_182 0 166 (dk_at dksX0_met_6 20 rfl rfl)
theorem dX0_met_164 : decode cX0_met 164 = .ok (.aload_n 0, 1) := dk_42 (dk_at dksX0_met_6 23 rfl rfl)
theorem dX0_met_165 : decode cX0_met 165 = .ok (.getfield 39, 3) := dk_180 0 39 (dk_at dksX0_met_7 0 rfl rfl)
theorem dX0_met_168 : decode cX0_met 168 = .ok (.getfield 273, 3) := dk_180 1 17 (dk_at dksX0_met_7 3 rfl rfl)
theorem dX0_met_171 : decode cX0_met 171 = .ok (.aload_n 0, 1) := dk_42 (dk_at dksX0_met_7 6 rfl rfl)
theorem dX0_met_172 : decode cX0_met 172 = .ok (.getfield 43, 3) := dk_180 0 43 (dk_at dksX0_met_7 7 rfl rfl)
theorem dX0_met_175 : decode cX0_met 175 = .ok (.getfield 291, 3) := dk_180 1 35 (dk_at dksX0_met_7 10 rfl rfl)
theorem dX0_met_178 : decode cX0_met 178 = .ok (.if_icmp .ne 24, 3) := dk_160 0 24 (dk_at dksX0_met_7 13 rfl rfl)
theorem dX0_met_181 : decode cX0_met 181 = .ok (.aload_n 0, 1) := dk_42 (dk_at dksX0_met_7 16 rfl rfl)
theorem dX0_met_182 : decode cX0_met 182 = .ok (.getfield 43, 3) := dk_180 0 43 (dk_at dksX0_met_7 17 rfl rfl)
theorem dX0_met_185 : decode cX0_met 185 = .ok (.getfield 273, 3) := dk_180 1 17 (dk_at dksX0_met_7 20 rfl rfl)
theorem dX0_met_188 : decode cX0_met 188 = .ok (.aload_n 0, 1) := dk_42 (dk_at dksX0_met_7 23 rfl rfl)
theorem dX0_met_189 : decode cX0_met 189 = .ok (.getfield 39, 3) := dk_180 0 39 (dk_at dksX0_met_8 0 rfl rfl)
theorem dX0_met_192 : decode cX0_met 192 = .ok (.getfield 291, 3) := dk_180 1 35 (dk_at dksX0_met_8 3 rfl rfl)
theorem dX0_met_195 : decode cX0_met 195 = .ok (.if_icmp .ne 7, 3) := dk_160 0 7 (dk_at dksX0_met_8 6 rfl rfl)
theorem dX0_met_198 : decode cX0_met 198 = .ok (.iconst 1, 1) := dk_4 (dk_at dksX0_met_8 9 rfl rfl)
theorem dX0_met_199 : decode cX0_met 199 = .ok (.goto 4, 3) := dk_167 0 4 (dk_at dksX0_met_8 10 rfl rfl)
theorem dX0_met_202 : decode cX0_met 202 = .ok (.iconst 0, 1) := dk_3 (dk_at dksX0_met_8 13 rfl rfl)
theorem dX0_met_203 : decode cX0_met 203 = .ok (.istore 7, 2) := dk_54 7 (dk_at dksX0_met_8 14 rfl rfl)
theorem dX0_met_205 : decode cX0_met 205 = .ok (.aload_n 0, 1) := dk_42 (dk_at dksX0_met_8 16 rfl rfl)
theorem dX0_met_206 : decode cX0_met 206 = .ok (.getfield 39, 3) := dk_180 0 39 (dk_at dksX0_met_8 17 rfl rfl)
theorem dX0_met_209 : decode cX0_met 209 = .ok (.getfield 273, 3) := dk_180 1 17 (dk_at dksX0_met_8 20 rfl rfl)
theorem dX0_met_212 : decode cX0_met 212 = .ok (.aload_n 0, 1) := dk_42 (dk_at dksX0_met_8 23 rfl rfl)
theorem dX0_met_213 : decode cX0_met 213 = .ok (.getfield 43, 3) := dk_180 0 43 (dk_at dksX0_met_9 0 rfl rfl)
theorem dX0_met_216 : decode cX0_met 216 = .ok (.getfield 273, 3) := dk_180 1 17 (dk_at dksX0_met_9 3 rfl rfl)
theorem dX0_met_219 : decode cX0_met 219 = .ok (.if_icmp .eq 8, 3) := dk_159 0 8 (dk_at dksX0_met_9 6 rfl rfl)
theorem dX0_met_222 : decode cX0_met 222 = .ok (.iload 7, 2) := dk_21 7 (dk_at dksX0_met_9 9 rfl rfl)
theorem dX0_met_224 : decode cX0_met 224 = .ok (.ifCond .eq 8, 3) := dk_153 0 8 (dk_at dksX0_met_9 11 rfl rfl)
theorem dX0_met_227 : decode cX0_met 227 = .ok (.iload 6, 2) := dk_21 6 (dk_at dksX0_met_9 14 rfl rfl)
theorem dX0_met_229 : decode cX0_met 229 = .ok (.iconst 1, 1) := dk_4 (dk_at dksX0_met_9 16 rfl rfl)
theorem dX0_met_230 : decode cX0_met 230 = .ok (.iadd, 1) := dk_96 (dk_at dksX0_met_9 17 rfl rfl)
theorem dX0_met_231 : decode cX0_met 231 = .ok (.ireturn, 1) := dk_172 (dk_at dksX0_met_9 18 rfl rfl)
theorem dX0_met_232 : decode cX0_met 232 = .ok (.iinc 6 1, 3) := dk_132 6 1 (dk_at dksX0_met_9 19 rfl rfl)
theorem dX0_met_235 : decode cX0_met 235 = .ok (.goto (-161), 3) := dk_167 255 95 (dk_at dksX0_met_10 0 rfl rfl)
theorem dX0_met_238 : decode cX0_met 238 = .ok (.iconst (-1), 1) := dk_2 (dk_at dksX0_met_10 3 rfl rfl)
theorem dX0_met_239 : decode cX0_met 239 = .ok (.ireturn, 1) := dk_172 (dk_at dksX0_met_10 4 rfl rfl)
abbrev cX0_signAt : ByteArray := prog_1_method_69_code
def yX0_signAt : MethodName := ⟨RX0, "signAt", "([JI)I"⟩
def dkwX0_signAt_0 : List UInt8 := [27, 155, 0, 16, 27, 42, 190, 162, 0, 10, 42, 27, 47, 136, 167, 0, 4, 6, 172]
abbrev dktX0_signAt_0 : List UInt8 := dkwX0_signAt_0 ++ []
theorem dksX0_signAt_0 : cX0_signAt.data.toList.drop 0 = dktX0_signAt_0 := by decide +kernel
theorem dX0_signAt_0 : decode cX0_signAt 0 = .ok (.iload_n 1, 1) := dk_27 (dk_at dksX0_signAt_0 0 rfl rfl)
theorem dX0_signAt_1 : decode cX0_signAt 1 = .ok (.ifCond .lt 16, 3) := dk_155 0 16 (dk_at dksX0_signAt_0 1 rfl rfl)
theorem dX0_signAt_4 : decode cX0_signAt 4 = .ok (.iload_n 1, 1) := dk_27 (dk_at dksX0_signAt_0 4 rfl rfl)
theorem dX0_signAt_5 : decode cX0_signAt 5 = .ok (.aload_n 0, 1) := dk_42 (dk_at dksX0_signAt_0 5 rfl rfl)
theorem dX0_signAt_6 : decode cX0_signAt 6 = .ok (.arraylength, 1) := dk_190 (dk_at dksX0_signAt_0 6 rfl rfl)
theorem dX0_signAt_7 : decode cX0_signAt 7 = .ok (.if_icmp .ge 10, 3) := dk_162 0 10 (dk_at dksX0_signAt_0 7 rfl rfl)
theorem dX0_signAt_10 : decode cX0_signAt 10 = .ok (.aload_n 0, 1) := dk_42 (dk_at dksX0_signAt_0 10 rfl rfl)
theorem dX0_signAt_11 : decode cX0_signAt 11 = .ok (.iload_n 1, 1) := dk_27 (dk_at dksX0_signAt_0 11 rfl rfl)
theorem dX0_signAt_12 : decode cX0_signAt 12 = .ok (.laload, 1) := dk_47 (dk_at dksX0_signAt_0 12 rfl rfl)
theorem dX0_signAt_13 : decode cX0_signAt 13 = .ok (.l2i, 1) := dk_136 (dk_at dksX0_signAt_0 13 rfl rfl)
theorem dX0_signAt_14 : decode cX0_signAt 14 = .ok (.goto 4, 3) := dk_167 0 4 (dk_at dksX0_signAt_0 14 rfl rfl)
theorem dX0_signAt_17 : decode cX0_signAt 17 = .ok (.iconst 3, 1) := dk_6 (dk_at dksX0_signAt_0 17 rfl rfl)
theorem dX0_signAt_18 : decode cX0_signAt 18 = .ok (.ireturn, 1) := dk_172 (dk_at dksX0_signAt_0 18 rfl rfl)
abbrev cX0_waits : ByteArray := prog_1_method_74_code
def yX0_waits : MethodName := ⟨RX0, "waits", "(IIIIII)I"⟩
def dkwX0_waits_0 : List UInt8 := [42, 27, 28, 29, 21, 4, 21, 5, 21, 6, 3, 182, 1, 97, 172]
abbrev dktX0_waits_0 : List UInt8 := dkwX0_waits_0 ++ []
theorem dksX0_waits_0 : cX0_waits.data.toList.drop 0 = dktX0_waits_0 := by decide +kernel
theorem dX0_waits_0 : decode cX0_waits 0 = .ok (.aload_n 0, 1) := dk_42 (dk_at dksX0_waits_0 0 rfl rfl)
theorem dX0_waits_1 : decode cX0_waits 1 = .ok (.iload_n 1, 1) := dk_27 (dk_at dksX0_waits_0 1 rfl rfl)
theorem dX0_waits_2 : decode cX0_waits 2 = .ok (.iload_n 2, 1) := dk_28 (dk_at dksX0_waits_0 2 rfl rfl)
theorem dX0_waits_3 : decode cX0_waits 3 = .ok (.iload_n 3, 1) := dk_29 (dk_at dksX0_waits_0 3 rfl rfl)
theorem dX0_waits_4 : decode cX0_waits 4 = .ok (.iload 4, 2) := dk_21 4 (dk_at dksX0_waits_0 4 rfl rfl)
theorem dX0_waits_6 : decode cX0_waits 6 = .ok (.iload 5, 2) := dk_21 5 (dk_at dksX0_waits_0 6 rfl rfl)
theorem dX0_waits_8 : decode cX0_waits 8 = .ok (.iload 6, 2) := dk_21 6 (dk_at dksX0_waits_0 8 rfl rfl)
theorem dX0_waits_10 : decode cX0_waits 10 = .ok (.iconst 0, 1) := dk_3 (dk_at dksX0_waits_0 10 rfl rfl)
theorem dX0_waits_11 : decode cX0_waits 11 = .ok (.invokevirtual 353, 3) := dk_182 1 97 (dk_at dksX0_waits_0 11 rfl rfl)
theorem dX0_waits_14 : decode cX0_waits 14 = .ok (.ireturn, 1) := dk_172 (dk_at dksX0_waits_0 14 rfl rfl)
abbrev cX0_walk : ByteArray := prog_1_method_75_code
def yX0_walk : MethodName := ⟨RX0, "walk", "(III)I"⟩
def dkwX0_walk_8 : List UInt8 := [180, 0, 153, 29, 46, 172, 58, 4, 42, 25, 4, 180, 0, 121, 182, 0, 94, 172]
abbrev dktX0_walk_8 : List UInt8 := dkwX0_walk_8 ++ []
def dkwX0_walk_7 : List UInt8 := [180, 1, 17, 79, 42, 180, 0, 30, 180, 0, 156, 29, 42, 180, 0, 39, 180, 0, 170, 79, 42, 180, 0, 30]
abbrev dktX0_walk_7 : List UInt8 := dkwX0_walk_7 ++ dktX0_walk_8
def dkwX0_walk_6 : List UInt8 := [180, 0, 39, 180, 1, 19, 2, 159, 0, 13, 42, 180, 0, 39, 180, 1, 35, 167, 0, 10, 42, 180, 0, 39]
abbrev dktX0_walk_6 : List UInt8 := dkwX0_walk_6 ++ dktX0_walk_7
def dkwX0_walk_5 : List UInt8 := [2, 159, 0, 7, 4, 167, 0, 4, 3, 96, 181, 1, 101, 42, 180, 0, 30, 180, 0, 153, 29, 42]
abbrev dktX0_walk_5 : List UInt8 := dkwX0_walk_5 ++ dktX0_walk_6
def dkwX0_walk_4 : List UInt8 := [182, 0, 166, 132, 5, 1, 167, 255, 201, 42, 180, 0, 30, 89, 180, 1, 101, 42, 180, 0, 39, 180, 1, 19]
abbrev dktX0_walk_4 : List UInt8 := dkwX0_walk_4 ++ dktX0_walk_5
def dkwX0_walk_3 : List UInt8 := [180, 0, 30, 180, 0, 149, 29, 50, 25, 4, 21, 5, 47, 136, 42, 180, 0, 30, 180, 0, 163, 3, 46]
abbrev dktX0_walk_3 : List UInt8 := dkwX0_walk_3 ++ dktX0_walk_4
def dkwX0_walk_2 : List UInt8 := [162, 0, 55, 42, 180, 0, 39, 180, 1, 19, 2, 160, 0, 44, 42, 180, 0, 39, 42, 180, 0, 30, 42]
abbrev dktX0_walk_2 : List UInt8 := dkwX0_walk_2 ++ dktX0_walk_3
def dkwX0_walk_1 : List UInt8 := [180, 0, 153, 29, 46, 42, 180, 0, 30, 180, 0, 156, 29, 46, 182, 0, 159, 87, 3, 54, 5, 21, 5, 28]
abbrev dktX0_walk_1 : List UInt8 := dkwX0_walk_1 ++ dktX0_walk_2
def dkwX0_walk_0 : List UInt8 := [42, 42, 180, 0, 30, 29, 182, 0, 146, 27, 28, 182, 1, 10, 58, 4, 42, 180, 0, 39, 42, 180, 0, 30]
abbrev dktX0_walk_0 : List UInt8 := dkwX0_walk_0 ++ dktX0_walk_1
theorem dksX0_walk_0 : cX0_walk.data.toList.drop 0 = dktX0_walk_0 := by decide +kernel
theorem dksX0_walk_1 : cX0_walk.data.toList.drop 24 = dktX0_walk_1 := dk_seg dksX0_walk_0 24 rfl rfl
theorem dksX0_walk_2 : cX0_walk.data.toList.drop 48 = dktX0_walk_2 := dk_seg dksX0_walk_1 24 rfl rfl
theorem dksX0_walk_3 : cX0_walk.data.toList.drop 71 = dktX0_walk_3 := dk_seg dksX0_walk_2 23 rfl rfl
theorem dksX0_walk_4 : cX0_walk.data.toList.drop 94 = dktX0_walk_4 := dk_seg dksX0_walk_3 23 rfl rfl
theorem dksX0_walk_5 : cX0_walk.data.toList.drop 118 = dktX0_walk_5 := dk_seg dksX0_walk_4 24 rfl rfl
theorem dksX0_walk_6 : cX0_walk.data.toList.drop 140 = dktX0_walk_6 := dk_seg dksX0_walk_5 22 rfl rfl
theorem dksX0_walk_7 : cX0_walk.data.toList.drop 164 = dktX0_walk_7 := dk_seg dksX0_walk_6 24 rfl rfl
theorem dksX0_walk_8 : cX0_walk.data.toList.drop 188 = dktX0_walk_8 := dk_seg dksX0_walk_7 24 rfl rfl
theorem dX0_walk_0 : decode cX0_walk 0 = .ok (.aload_n 0, 1) := dk_42 (dk_at dksX0_walk_0 0 rfl rfl)
theorem dX0_walk_1 : decode cX0_walk 1 = .ok (.aload_n 0, 1) := dk_42 (dk_at dksX0_walk_0 1 rfl rfl)
theorem dX0_walk_2 : decode cX0_walk 2 = .ok (.getfield 30, 3) := dk_180 0 30 (dk_at dksX0_walk_0 2 rfl rfl)
theorem dX0_walk_5 : decode cX0_walk 5 = .ok (.iload_n 3, 1) := dk_29 (dk_at dksX0_walk_0 5 rfl rfl)
theorem dX0_walk_6 : decode cX0_walk 6 = .ok (.invokevirtual 146, 3) := dk_182 0 146 (dk_at dksX0_walk_0 6 rfl rfl)
theorem dX0_walk_9 : decode cX0_walk 9 = .ok (.iload_n 1, 1) := dk_27 (dk_at dksX0_walk_0 9 rfl rfl)
theorem dX0_walk_10 : decode cX0_walk 10 = .ok (.iload_n 2, 1) := dk_28 (dk_at dksX0_walk_0 10 rfl rfl)
theorem dX0_walk_11 : decode cX0_walk 11 = .ok (.invokevirtual 266, 3) := dk_182 1 10 (dk_at dksX0_walk_0 11 rfl rfl)
theorem dX0_walk_14 : decode cX0_walk 14 = .ok (.astore 4, 2) := dk_58 4 (dk_at dksX0_walk_0 14 rfl rfl)
theorem dX0_walk_16 : decode cX0_walk 16 = .ok (.aload_n 0, 1) := dk_42 (dk_at dksX0_walk_0 16 rfl rfl)
theorem dX0_walk_17 : decode cX0_walk 17 = .ok (.getfield 39, 3) := dk_180 0 39 (dk_at dksX0_walk_0 17 rfl rfl)
theorem dX0_walk_20 : decode cX0_walk 20 = .ok (.aload_n 0, 1) := dk_42 (dk_at dksX0_walk_0 20 rfl rfl)
theorem dX0_walk_21 : decode cX0_walk 21 = .ok (.getfield 30, 3) := dk_180 0 30 (dk_at dksX0_walk_0 21 rfl rfl)
theorem dX0_walk_24 : decode cX0_walk 24 = .ok (.getfield 153, 3) := dk_180 0 153 (dk_at dksX0_walk_1 0 rfl rfl)
theorem dX0_walk_27 : decode cX0_walk 27 = .ok (.iload_n 3, 1) := dk_29 (dk_at dksX0_walk_1 3 rfl rfl)
theorem dX0_walk_28 : decode cX0_walk 28 = .ok (.iaload, 1) := dk_46 (dk_at dksX0_walk_1 4 rfl rfl)
theorem dX0_walk_29 : decode cX0_walk 29 = .ok (.aload_n 0, 1) := dk_42 (dk_at dksX0_walk_1 5 rfl rfl)
theorem dX0_walk_30 : decode cX0_walk 30 = .ok (.getfield 30, 3) := dk_180 0 30 (dk_at dksX0_walk_1 6 rfl rfl)
theorem dX0_walk_33 : decode cX0_walk 33 = .ok (.getfield 156, 3) := dk_180 0 156 (dk_at dksX0_walk_1 9 rfl rfl)
theorem dX0_walk_36 : decode cX0_walk 36 = .ok (.iload_n 3, 1) := dk_29 (dk_at dksX0_walk_1 12 rfl rfl)
theorem dX0_walk_37 : decode cX0_walk 37 = .ok (.iaload, 1) := dk_46 (dk_at dksX0_walk_1 13 rfl rfl)
theorem dX0_walk_38 : decode cX0_walk 38 = .ok (.invokevirtual 159, 3) := dk_182 0 159 (dk_at dksX0_walk_1 14 rfl rfl)
theorem dX0_walk_41 : decode cX0_walk 41 = .ok (.pop, 1) := dk_87 (dk_at dksX0_walk_1 17 rfl rfl)
theorem dX0_walk_42 : decode cX0_walk 42 = .ok (.iconst 0, 1) := dk_3 (dk_at dksX0_walk_1 18 rfl rfl)
theorem dX0_walk_43 : decode cX0_walk 43 = .ok (.istore 5, 2) := dk_54 5 (dk_at dksX0_walk_1 19 rfl rfl)
theorem dX0_walk_45 : decode cX0_walk 45 = .ok (.iload 5, 2) := dk_21 5 (dk_at dksX0_walk_1 21 rfl rfl)
theorem dX0_walk_47 : decode cX0_walk 47 = .ok (.iload_n 2, 1) := dk_28 (dk_at dksX0_walk_1 23 rfl rfl)
theorem dX0_walk_48 : decode cX0_walk 48 = .ok (.if_icmp .ge 55, 3) := dk_162 0 55 (dk_at dksX0_walk_2 0 rfl rfl)
theorem dX0_walk_51 : decode cX0_walk 51 = .ok (.aload_n 0, 1) := dk_42 (dk_at dksX0_walk_2 3 rfl rfl)
theorem dX0_walk_52 : decode cX0_walk 52 = .ok (.getfield 39, 3) := dk_180 0 39 (dk_at dksX0_walk_2 4 rfl rfl)
theorem dX0_walk_55 : decode cX0_walk 55 = .ok (.getfield 275, 3) := dk_180 1 19 (dk_at dksX0_walk_2 7 rfl rfl)
theorem dX0_walk_58 : decode cX0_walk 58 = .ok (.iconst (-1), 1) := dk_2 (dk_at dksX0_walk_2 10 rfl rfl)
theorem dX0_walk_59 : decode cX0_walk 59 = .ok (.if_icmp .ne 44, 3) := dk_160 0 44 (dk_at dksX0_walk_2 11 rfl rfl)
theorem dX0_walk_62 : decode cX0_walk 62 = .ok (.aload_n 0, 1) := dk_42 (dk_at dksX0_walk_2 14 rfl rfl)
theorem dX0_walk_63 : decode cX0_walk 63 = .ok (.getfield 39, 3) := dk_180 0 39 (dk_at dksX0_walk_2 15 rfl rfl)
theorem dX0_walk_66 : decode cX0_walk 66 = .ok (.aload_n 0, 1) := dk_42 (dk_at dksX0_walk_2 18 rfl rfl)
theorem dX0_walk_67 : decode cX0_walk 67 = .ok (.getfield 30, 3) := dk_180 0 30 (dk_at dksX0_walk_2 19 rfl rfl)
theorem dX0_walk_70 : decode cX0_walk 70 = .ok (.aload_n 0, 1) := dk_42 (dk_at dksX0_walk_2 22 rfl rfl)
theorem dX0_walk_71 : decode cX0_walk 71 = .ok (.getfield 30, 3) := dk_180 0 30 (dk_at dksX0_walk_3 0 rfl rfl)
theorem dX0_walk_74 : decode cX0_walk 74 = .ok (.getfield 149, 3) := dk_180 0 149 (dk_at dksX0_walk_3 3 rfl rfl)
theorem dX0_walk_77 : decode cX0_walk 77 = .ok (.iload_n 3, 1) := dk_29 (dk_at dksX0_walk_3 6 rfl rfl)
theorem dX0_walk_78 : decode cX0_walk 78 = .ok (.aaload, 1) := dk_50 (dk_at dksX0_walk_3 7 rfl rfl)
theorem dX0_walk_79 : decode cX0_walk 79 = .ok (.aload 4, 2) := dk_25 4 (dk_at dksX0_walk_3 8 rfl rfl)
theorem dX0_walk_81 : decode cX0_walk 81 = .ok (.iload 5, 2) := dk_21 5 (dk_at dksX0_walk_3 10 rfl rfl)
theorem dX0_walk_83 : decode cX0_walk 83 = .ok (.laload, 1) := dk_47 (dk_at dksX0_walk_3 12 rfl rfl)
theorem dX0_walk_84 : decode cX0_walk 84 = .ok (.l2i, 1) := dk_136 (dk_at dksX0_walk_3 13 rfl rfl)
theorem dX0_walk_85 : decode cX0_walk 85 = .ok (.aload_n 0, 1) := dk_42 (dk_at dksX0_walk_3 14 rfl rfl)
theorem dX0_walk_86 : decode cX0_walk 86 = .ok (.getfield 30, 3) := dk_180 0 30 (dk_at dksX0_walk_3 15 rfl rfl)
theorem dX0_walk_89 : decode cX0_walk 89 = .ok (.getfield 163, 3) := dk_180 0 163 (dk_at dksX0_walk_3 18 rfl rfl)
theorem dX0_walk_92 : decode cX0_walk 92 = .ok (.iconst 0, 1) := dk_3 (dk_at dksX0_walk_3 21 rfl rfl)
theorem dX0_walk_93 : decode cX0_walk 93 = .ok (.iaload, 1) := dk_46 (dk_at dksX0_walk_3 22 rfl rfl)
theorem dX0_walk_94 : decode cX0_walk 94 = .ok (.invokevirtual 166, 3) := dk_182 0 166 (dk_at dksX0_walk_4 0 rfl rfl)
theorem dX0_walk_97 : decode cX0_walk 97 = .ok (.iinc 5 1, 3) := dk_132 5 1 (dk_at dksX0_walk_4 3 rfl rfl)
theorem dX0_walk_100 : decode cX0_walk 100 = .ok (.goto (-55), 3) := dk_167 255 201 (dk_at dksX0_walk_4 6 rfl rfl)
theorem dX0_walk_103 : decode cX0_walk 103 = .ok (.aload_n 0, 1) := dk_42 (dk_at dksX0_walk_4 9 rfl rfl)
theorem dX0_walk_104 : decode cX0_walk 104 = .ok (.getfield 30, 3) := dk_180 0 30 (dk_at dksX0_walk_4 10 rfl rfl)
theorem dX0_walk_107 : decode cX0_walk 107 = .ok (.dup, 1) := dk_89 (dk_at dksX0_walk_4 13 rfl rfl)
theorem dX0_walk_108 : decode cX0_walk 108 = .ok (.getfield 357, 3) := dk_180 1 101 (dk_at dksX0_walk_4 14 rfl rfl)
theorem dX0_walk_111 : decode cX0_walk 111 = .ok (.aload_n 0, 1) := dk_42 (dk_at dksX0_walk_4 17 rfl rfl)
theorem dX0_walk_112 : decode cX0_walk 112 = .ok (.getfield 39, 3) := dk_180 0 39 (dk_at dksX0_walk_4 18 rfl rfl)
theorem dX0_walk_115 : decode cX0_walk 115 = .ok (.getfield 275, 3) := dk_180 1 19 (dk_at dksX0_walk_4 21 rfl rfl)
theorem dX0_walk_118 : decode cX0_walk 118 = .ok (.iconst (-1), 1) := dk_2 (dk_at dksX0_walk_5 0 rfl rfl)
theorem dX0_walk_119 : decode cX0_walk 119 = .ok (.if_icmp .eq 7, 3) := dk_159 0 7 (dk_at dksX0_walk_5 1 rfl rfl)
theorem dX0_walk_122 : decode cX0_walk 122 = .ok (.iconst 1, 1) := dk_4 (dk_at dksX0_walk_5 4 rfl rfl)
theorem dX0_walk_123 : decode cX0_walk 123 = .ok (.goto 4, 3) := dk_167 0 4 (dk_at dksX0_walk_5 5 rfl rfl)
theorem dX0_walk_126 : decode cX0_walk 126 = .ok (.iconst 0, 1) := dk_3 (dk_at dksX0_walk_5 8 rfl rfl)
theorem dX0_walk_127 : decode cX0_walk 127 = .ok (.iadd, 1) := dk_96 (dk_at dksX0_walk_5 9 rfl rfl)
theorem dX0_walk_128 : decode cX0_walk 128 = .ok (.putfield 357, 3) := dk_181 1 101 (dk_at dksX0_walk_5 10 rfl rfl)
theorem dX0_walk_131 : decode cX0_walk 131 = .ok (.aload_n 0, 1) := dk_42 (dk_at dksX0_walk_5 13 rfl rfl)
theorem dX0_walk_132 : decode cX0_walk 132 = .ok (.getfield 30, 3) := dk_180 0 30 (dk_at dksX0_walk_5 14 rfl rfl)
theorem dX0_walk_135 : decode cX0_walk 135 = .ok (.getfield 153, 3) := dk_180 0 153 (dk_at dksX0_walk_5 17 rfl rfl)
theorem dX0_walk_138 : decode cX0_walk 138 = .ok (.iload_n 3, 1) := dk_29 (dk_at dksX0_walk_5 20 rfl rfl)
theorem dX0_walk_139 : decode cX0_walk 139 = .ok (.aload_n 0, 1) := dk_42 (dk_at dksX0_walk_5 21 rfl rfl)
theorem dX0_walk_140 : decode cX0_walk 140 = .ok (.getfield 39, 3) := dk_180 0 39 (dk_at dksX0_walk_6 0 rfl rfl)
theorem dX0_walk_143 : decode cX0_walk 143 = .ok (.getfield 275, 3) := dk_180 1 19 (dk_at dksX0_walk_6 3 rfl rfl)
theorem dX0_walk_146 : decode cX0_walk 146 = .ok (.iconst (-1), 1) := dk_2 (dk_at dksX0_walk_6 6 rfl rfl)
theorem dX0_walk_147 : decode cX0_walk 147 = .ok (.if_icmp .eq 13, 3) := dk_159 0 13 (dk_at dksX0_walk_6 7 rfl rfl)
theorem dX0_walk_150 : decode cX0_walk 150 = .ok (.aload_n 0, 1) := dk_42 (dk_at dksX0_walk_6 10 rfl rfl)
theorem dX0_walk_151 : decode cX0_walk 151 = .ok (.getfield 39, 3) := dk_180 0 39 (dk_at dksX0_walk_6 11 rfl rfl)
theorem dX0_walk_154 : decode cX0_walk 154 = .ok (.getfield 291, 3) := dk_180 1 35 (dk_at dksX0_walk_6 14 rfl rfl)
theorem dX0_walk_157 : decode cX0_walk 157 = .ok (.goto 10, 3) := dk_167 0 10 (dk_at dksX0_walk_6 17 rfl rfl)
theorem dX0_walk_160 : decode cX0_walk 160 = .ok (.aload_n 0, 1) := dk_42 (dk_at dksX0_walk_6 20 rfl rfl)
theorem dX0_walk_161 : decode cX0_walk 161 = .ok (.getfield 39, 3) := dk_180 0 39 (dk_at dksX0_walk_6 21 rfl rfl)
theorem dX0_walk_164 : decode cX0_walk 164 = .ok (.getfield 273, 3) := dk_180 1 17 (dk_at dksX0_walk_7 0 rfl rfl)
theorem dX0_walk_167 : decode cX0_walk 167 = .ok (.iastore, 1) := dk_79 (dk_at dksX0_walk_7 3 rfl rfl)
theorem dX0_walk_168 : decode cX0_walk 168 = .ok (.aload_n 0, 1) := dk_42 (dk_at dksX0_walk_7 4 rfl rfl)
theorem dX0_walk_169 : decode cX0_walk 169 = .ok (.getfield 30, 3) := dk_180 0 30 (dk_at dksX0_walk_7 5 rfl rfl)
theorem dX0_walk_172 : decode cX0_walk 172 = .ok (.getfield 156, 3) := dk_180 0 156 (dk_at dksX0_walk_7 8 rfl rfl)
theorem dX0_walk_175 : decode cX0_walk 175 = .ok (.iload_n 3, 1) := dk_29 (dk_at dksX0_walk_7 11 rfl rfl)
theorem dX0_walk_176 : decode cX0_walk 176 = .ok (.aload_n 0, 1) := dk_42 (dk_at dksX0_walk_7 12 rfl rfl)
theorem dX0_walk_177 : decode cX0_walk 177 = .ok (.getfield 39, 3) := dk_180 0 39 (dk_at dksX0_walk_7 13 rfl rfl)
theorem dX0_walk_180 : decode cX0_walk 180 = .ok (.getfield 170, 3) := dk_180 0 170 (dk_at dksX0_walk_7 16 rfl rfl)
theorem dX0_walk_183 : decode cX0_walk 183 = .ok (.iastore, 1) := dk_79 (dk_at dksX0_walk_7 19 rfl rfl)
theorem dX0_walk_184 : decode cX0_walk 184 = .ok (.aload_n 0, 1) := dk_42 (dk_at dksX0_walk_7 20 rfl rfl)
theorem dX0_walk_185 : decode cX0_walk 185 = .ok (.getfield 30, 3) := dk_180 0 30 (dk_at dksX0_walk_7 21 rfl rfl)
theorem dX0_walk_188 : decode cX0_walk 188 = .ok (.getfield 153, 3) := dk_180 0 153 (dk_at dksX0_walk_8 0 rfl rfl)
theorem dX0_walk_191 : decode cX0_walk 191 = .ok (.iload_n 3, 1) := dk_29 (dk_at dksX0_walk_8 3 rfl rfl)
theorem dX0_walk_192 : decode cX0_walk 192 = .ok (.iaload, 1) := dk_46 (dk_at dksX0_walk_8 4 rfl rfl)
theorem dX0_walk_193 : decode cX0_walk 193 = .ok (.ireturn, 1) := dk_172 (dk_at dksX0_walk_8 5 rfl rfl)
theorem dX0_walk_194 : decode cX0_walk 194 = .ok (.astore 4, 2) := dk_58 4 (dk_at dksX0_walk_8 6 rfl rfl)
theorem dX0_walk_196 : decode cX0_walk 196 = .ok (.aload_n 0, 1) := dk_42 (dk_at dksX0_walk_8 8 rfl rfl)
theorem dX0_walk_197 : decode cX0_walk 197 = .ok (.aload 4, 2) := dk_25 4 (dk_at dksX0_walk_8 9 rfl rfl)
theorem dX0_walk_199 : decode cX0_walk 199 = .ok (.getfield 121, 3) := dk_180 0 121 (dk_at dksX0_walk_8 11 rfl rfl)
theorem dX0_walk_202 : decode cX0_walk 202 = .ok (.invokevirtual 94, 3) := dk_182 0 94 (dk_at dksX0_walk_8 14 rfl rfl)
theorem dX0_walk_205 : decode cX0_walk 205 = .ok (.ireturn, 1) := dk_172 (dk_at dksX0_walk_8 17 rfl rfl)
abbrev cX0_years : ByteArray := prog_1_method_76_code
def yX0_years : MethodName := ⟨RX0, "years", "(I)I"⟩
def dkwX0_years_1 : List UInt8 := [42, 180, 0, 30, 182, 1, 104, 132, 2, 1, 167, 255, 241, 42, 180, 0, 30, 180, 0, 163, 3, 46, 172]
abbrev dktX0_years_1 : List UInt8 := dkwX0_years_1 ++ []
def dkwX0_years_0 : List UInt8 := [27, 4, 16, 60, 184, 0, 73, 154, 0, 10, 42, 16, 254, 182, 0, 94, 172, 3, 61, 28, 27, 162, 0, 16]
abbrev dktX0_years_0 : List UInt8 := dkwX0_years_0 ++ dktX0_years_1
theorem dksX0_years_0 : cX0_years.data.toList.drop 0 = dktX0_years_0 := by decide +kernel
theorem dksX0_years_1 : cX0_years.data.toList.drop 24 = dktX0_years_1 := dk_seg dksX0_years_0 24 rfl rfl
theorem dX0_years_0 : decode cX0_years 0 = .ok (.iload_n 1, 1) := dk_27 (dk_at dksX0_years_0 0 rfl rfl)
theorem dX0_years_1 : decode cX0_years 1 = .ok (.iconst 1, 1) := dk_4 (dk_at dksX0_years_0 1 rfl rfl)
theorem dX0_years_2 : decode cX0_years 2 = .ok (.bipush 60, 2) := dk_16 60 (dk_at dksX0_years_0 2 rfl rfl)
theorem dX0_years_4 : decode cX0_years 4 = .ok (.invokestatic 73, 3) := dk_184 0 73 (dk_at dksX0_years_0 4 rfl rfl)
theorem dX0_years_7 : decode cX0_years 7 = .ok (.ifCond .ne 10, 3) := dk_154 0 10 (dk_at dksX0_years_0 7 rfl rfl)
theorem dX0_years_10 : decode cX0_years 10 = .ok (.aload_n 0, 1) := dk_42 (dk_at dksX0_years_0 10 rfl rfl)
theorem dX0_years_11 : decode cX0_years 11 = .ok (.bipush (-2), 2) := dk_16 254 (dk_at dksX0_years_0 11 rfl rfl)
theorem dX0_years_13 : decode cX0_years 13 = .ok (.invokevirtual 94, 3) := dk_182 0 94 (dk_at dksX0_years_0 13 rfl rfl)
theorem dX0_years_16 : decode cX0_years 16 = .ok (.ireturn, 1) := dk_172 (dk_at dksX0_years_0 16 rfl rfl)
theorem dX0_years_17 : decode cX0_years 17 = .ok (.iconst 0, 1) := dk_3 (dk_at dksX0_years_0 17 rfl rfl)
theorem dX0_years_18 : decode cX0_years 18 = .ok (.istore_n 2, 1) := dk_61 (dk_at dksX0_years_0 18 rfl rfl)
theorem dX0_years_19 : decode cX0_years 19 = .ok (.iload_n 2, 1) := dk_28 (dk_at dksX0_years_0 19 rfl rfl)
theorem dX0_years_20 : decode cX0_years 20 = .ok (.iload_n 1, 1) := dk_27 (dk_at dksX0_years_0 20 rfl rfl)
theorem dX0_years_21 : decode cX0_years 21 = .ok (.if_icmp .ge 16, 3) := dk_162 0 16 (dk_at dksX0_years_0 21 rfl rfl)
theorem dX0_years_24 : decode cX0_years 24 = .ok (.aload_n 0, 1) := dk_42 (dk_at dksX0_years_1 0 rfl rfl)
theorem dX0_years_25 : decode cX0_years 25 = .ok (.getfield 30, 3) := dk_180 0 30 (dk_at dksX0_years_1 1 rfl rfl)
theorem dX0_years_28 : decode cX0_years 28 = .ok (.invokevirtual 360, 3) := dk_182 1 104 (dk_at dksX0_years_1 4 rfl rfl)
theorem dX0_years_31 : decode cX0_years 31 = .ok (.iinc 2 1, 3) := dk_132 2 1 (dk_at dksX0_years_1 7 rfl rfl)
theorem dX0_years_34 : decode cX0_years 34 = .ok (.goto (-15), 3) := dk_167 255 241 (dk_at dksX0_years_1 10 rfl rfl)
theorem dX0_years_37 : decode cX0_years 37 = .ok (.aload_n 0, 1) := dk_42 (dk_at dksX0_years_1 13 rfl rfl)
theorem dX0_years_38 : decode cX0_years 38 = .ok (.getfield 30, 3) := dk_180 0 30 (dk_at dksX0_years_1 14 rfl rfl)
theorem dX0_years_41 : decode cX0_years 41 = .ok (.getfield 163, 3) := dk_180 0 163 (dk_at dksX0_years_1 17 rfl rfl)
theorem dX0_years_44 : decode cX0_years 44 = .ok (.iconst 0, 1) := dk_3 (dk_at dksX0_years_1 20 rfl rfl)
theorem dX0_years_45 : decode cX0_years 45 = .ok (.iaload, 1) := dk_46 (dk_at dksX0_years_1 21 rfl rfl)
theorem dX0_years_46 : decode cX0_years 46 = .ok (.ireturn, 1) := dk_172 (dk_at dksX0_years_1 22 rfl rfl)
abbrev cX0_seed : ByteArray := prog_1_method_77_code
def yX0_seed : MethodName := ⟨RX0, "seed", "(I)I"⟩
def dkwX0_seed_0 : List UInt8 := [42, 180, 0, 30, 180, 1, 107, 61, 42, 180, 0, 30, 27, 181, 1, 107, 28, 172]
abbrev dktX0_seed_0 : List UInt8 := dkwX0_seed_0 ++ []
theorem dksX0_seed_0 : cX0_seed.data.toList.drop 0 = dktX0_seed_0 := by decide +kernel
theorem dX0_seed_0 : decode cX0_seed 0 = .ok (.aload_n 0, 1) := dk_42 (dk_at dksX0_seed_0 0 rfl rfl)
theorem dX0_seed_1 : decode cX0_seed 1 = .ok (.getfield 30, 3) := dk_180 0 30 (dk_at dksX0_seed_0 1 rfl rfl)
theorem dX0_seed_4 : decode cX0_seed 4 = .ok (.getfield 363, 3) := dk_180 1 107 (dk_at dksX0_seed_0 4 rfl rfl)
theorem dX0_seed_7 : decode cX0_seed 7 = .ok (.istore_n 2, 1) := dk_61 (dk_at dksX0_seed_0 7 rfl rfl)
theorem dX0_seed_8 : decode cX0_seed 8 = .ok (.aload_n 0, 1) := dk_42 (dk_at dksX0_seed_0 8 rfl rfl)
theorem dX0_seed_9 : decode cX0_seed 9 = .ok (.getfield 30, 3) := dk_180 0 30 (dk_at dksX0_seed_0 9 rfl rfl)
theorem dX0_seed_12 : decode cX0_seed 12 = .ok (.iload_n 1, 1) := dk_27 (dk_at dksX0_seed_0 12 rfl rfl)
theorem dX0_seed_13 : decode cX0_seed 13 = .ok (.putfield 363, 3) := dk_181 1 107 (dk_at dksX0_seed_0 13 rfl rfl)
theorem dX0_seed_16 : decode cX0_seed 16 = .ok (.iload_n 2, 1) := dk_28 (dk_at dksX0_seed_0 16 rfl rfl)
theorem dX0_seed_17 : decode cX0_seed 17 = .ok (.ireturn, 1) := dk_172 (dk_at dksX0_seed_0 17 rfl rfl)
abbrev cX0_image : ByteArray := prog_1_method_78_code
def yX0_image : MethodName := ⟨RX0, "image", "()I"⟩
def dkwX0_image_0 : List UInt8 := [42, 42, 180, 0, 30, 182, 0, 215, 181, 1, 110, 4, 172]
abbrev dktX0_image_0 : List UInt8 := dkwX0_image_0 ++ []
theorem dksX0_image_0 : cX0_image.data.toList.drop 0 = dktX0_image_0 := by decide +kernel
theorem dX0_image_0 : decode cX0_image 0 = .ok (.aload_n 0, 1) := dk_42 (dk_at dksX0_image_0 0 rfl rfl)
theorem dX0_image_1 : decode cX0_image 1 = .ok (.aload_n 0, 1) := dk_42 (dk_at dksX0_image_0 1 rfl rfl)
theorem dX0_image_2 : decode cX0_image 2 = .ok (.getfield 30, 3) := dk_180 0 30 (dk_at dksX0_image_0 2 rfl rfl)
theorem dX0_image_5 : decode cX0_image 5 = .ok (.invokevirtual 215, 3) := dk_182 0 215 (dk_at dksX0_image_0 5 rfl rfl)
theorem dX0_image_8 : decode cX0_image 8 = .ok (.putfield 366, 3) := dk_181 1 110 (dk_at dksX0_image_0 8 rfl rfl)
theorem dX0_image_11 : decode cX0_image 11 = .ok (.iconst 1, 1) := dk_4 (dk_at dksX0_image_0 11 rfl rfl)
theorem dX0_image_12 : decode cX0_image 12 = .ok (.ireturn, 1) := dk_172 (dk_at dksX0_image_0 12 rfl rfl)
abbrev cX0_back : ByteArray := prog_1_method_79_code
def yX0_back : MethodName := ⟨RX0, "back", "()I"⟩
def dkwX0_back_1 : List UInt8 := [182, 0, 229, 4, 172]
abbrev dktX0_back_1 : List UInt8 := dkwX0_back_1 ++ []
def dkwX0_back_0 : List UInt8 := [42, 180, 1, 110, 199, 0, 10, 42, 16, 251, 182, 0, 94, 172, 42, 42, 180, 1, 110, 182, 0, 215]
abbrev dktX0_back_0 : List UInt8 := dkwX0_back_0 ++ dktX0_back_1
theorem dksX0_back_0 : cX0_back.data.toList.drop 0 = dktX0_back_0 := by decide +kernel
theorem dksX0_back_1 : cX0_back.data.toList.drop 22 = dktX0_back_1 := dk_seg dksX0_back_0 22 rfl rfl
theorem dX0_back_0 : decode cX0_back 0 = .ok (.aload_n 0, 1) := dk_42 (dk_at dksX0_back_0 0 rfl rfl)
theorem dX0_back_1 : decode cX0_back 1 = .ok (.getfield 366, 3) := dk_180 1 110 (dk_at dksX0_back_0 1 rfl rfl)
theorem dX0_back_4 : decode cX0_back 4 = .ok (.ifnonnull 10, 3) := dk_199 0 10 (dk_at dksX0_back_0 4 rfl rfl)
theorem dX0_back_7 : decode cX0_back 7 = .ok (.aload_n 0, 1) := dk_42 (dk_at dksX0_back_0 7 rfl rfl)
theorem dX0_back_8 : decode cX0_back 8 = .ok (.bipush (-5), 2) := dk_16 251 (dk_at dksX0_back_0 8 rfl rfl)
theorem dX0_back_10 : decode cX0_back 10 = .ok (.invokevirtual 94, 3) := dk_182 0 94 (dk_at dksX0_back_0 10 rfl rfl)
theorem dX0_back_13 : decode cX0_back 13 = .ok (.ireturn, 1) := dk_172 (dk_at dksX0_back_0 13 rfl rfl)
theorem dX0_back_14 : decode cX0_back 14 = .ok (.aload_n 0, 1) := dk_42 (dk_at dksX0_back_0 14 rfl rfl)
theorem dX0_back_15 : decode cX0_back 15 = .ok (.aload_n 0, 1) := dk_42 (dk_at dksX0_back_0 15 rfl rfl)
theorem dX0_back_16 : decode cX0_back 16 = .ok (.getfield 366, 3) := dk_180 1 110 (dk_at dksX0_back_0 16 rfl rfl)
theorem dX0_back_19 : decode cX0_back 19 = .ok (.invokevirtual 215, 3) := dk_182 0 215 (dk_at dksX0_back_0 19 rfl rfl)
theorem dX0_back_22 : decode cX0_back 22 = .ok (.invokevirtual 229, 3) := dk_182 0 229 (dk_at dksX0_back_1 0 rfl rfl)
theorem dX0_back_25 : decode cX0_back 25 = .ok (.iconst 1, 1) := dk_4 (dk_at dksX0_back_1 3 rfl rfl)
theorem dX0_back_26 : decode cX0_back 26 = .ok (.ireturn, 1) := dk_172 (dk_at dksX0_back_1 4 rfl rfl)
abbrev cX0_status : ByteArray := prog_1_method_81_code
def yX0_status : MethodName := ⟨RX0, "status", "(I)I"⟩
def dkwX0_status_4 : List UInt8 := [180, 1, 101, 172, 42, 180, 0, 210, 172, 42, 180, 0, 30, 180, 1, 107, 172, 42, 182, 1, 119, 172, 2, 172]
abbrev dktX0_status_4 : List UInt8 := dkwX0_status_4 ++ []
def dkwX0_status_3 : List UInt8 := [5, 100, 46, 172, 42, 180, 0, 30, 182, 1, 113, 172, 42, 180, 0, 30, 180, 1, 116, 172, 42, 180, 0, 30]
abbrev dktX0_status_3 : List UInt8 := dkwX0_status_3 ++ dktX0_status_4
def dkwX0_status_2 : List UInt8 := [42, 180, 0, 30, 180, 0, 200, 172, 42, 180, 0, 30, 180, 0, 181, 172, 42, 180, 0, 30, 180, 0, 163, 27]
abbrev dktX0_status_2 : List UInt8 := dkwX0_status_2 ++ dktX0_status_3
def dkwX0_status_1 : List UInt8 := [170, 0, 0, 0, 0, 128, 0, 0, 0, 0, 0, 0, 0, 10, 0, 0, 0, 58, 0, 0, 0, 66, 0, 0, 0, 74, 0, 0, 0, 74, 0, 0, 0, 74, 0, 0, 0, 86, 0, 0, 0, 94, 0, 0, 0, 102, 0, 0, 0, 110, 0, 0, 0, 115, 0, 0, 0, 123]
abbrev dktX0_status_1 : List UInt8 := dkwX0_status_1 ++ dktX0_status_2
def dkwX0_status_0 : List UInt8 := [27, 16, 12, 16, 16, 184, 0, 73, 153, 0, 13, 42, 180, 0, 69, 27, 16, 10, 100, 46, 172, 27]
abbrev dktX0_status_0 : List UInt8 := dkwX0_status_0 ++ dktX0_status_1
theorem dksX0_status_0 : cX0_status.data.toList.drop 0 = dktX0_status_0 := by decide +kernel
theorem dksX0_status_1 : cX0_status.data.toList.drop 22 = dktX0_status_1 := dk_seg dksX0_status_0 22 rfl rfl
theorem dksX0_status_2 : cX0_status.data.toList.drop 80 = dktX0_status_2 := dk_seg dksX0_status_1 58 rfl rfl
theorem dksX0_status_3 : cX0_status.data.toList.drop 104 = dktX0_status_3 := dk_seg dksX0_status_2 24 rfl rfl
theorem dksX0_status_4 : cX0_status.data.toList.drop 128 = dktX0_status_4 := dk_seg dksX0_status_3 24 rfl rfl
theorem dX0_status_0 : decode cX0_status 0 = .ok (.iload_n 1, 1) := dk_27 (dk_at dksX0_status_0 0 rfl rfl)
theorem dX0_status_1 : decode cX0_status 1 = .ok (.bipush 12, 2) := dk_16 12 (dk_at dksX0_status_0 1 rfl rfl)
theorem dX0_status_3 : decode cX0_status 3 = .ok (.bipush 16, 2) := dk_16 16 (dk_at dksX0_status_0 3 rfl rfl)
theorem dX0_status_5 : decode cX0_status 5 = .ok (.invokestatic 73, 3) := dk_184 0 73 (dk_at dksX0_status_0 5 rfl rfl)
theorem dX0_status_8 : decode cX0_status 8 = .ok (.ifCond .eq 13, 3) := dk_153 0 13 (dk_at dksX0_status_0 8 rfl rfl)
theorem dX0_status_11 : decode cX0_status 11 = .ok (.aload_n 0, 1) := dk_42 (dk_at dksX0_status_0 11 rfl rfl)
theorem dX0_status_12 : decode cX0_status 12 = .ok (.getfield 69, 3) := dk_180 0 69 (dk_at dksX0_status_0 12 rfl rfl)
theorem dX0_status_15 : decode cX0_status 15 = .ok (.iload_n 1, 1) := dk_27 (dk_at dksX0_status_0 15 rfl rfl)
theorem dX0_status_16 : decode cX0_status 16 = .ok (.bipush 10, 2) := dk_16 10 (dk_at dksX0_status_0 16 rfl rfl)
theorem dX0_status_18 : decode cX0_status 18 = .ok (.isub, 1) := dk_100 (dk_at dksX0_status_0 18 rfl rfl)
theorem dX0_status_19 : decode cX0_status 19 = .ok (.iaload, 1) := dk_46 (dk_at dksX0_status_0 19 rfl rfl)
theorem dX0_status_20 : decode cX0_status 20 = .ok (.ireturn, 1) := dk_172 (dk_at dksX0_status_0 20 rfl rfl)
theorem dX0_status_21 : decode cX0_status 21 = .ok (.iload_n 1, 1) := dk_27 (dk_at dksX0_status_0 21 rfl rfl)
theorem dX0_status_22 : decode cX0_status 22 = .ok (.tableswitch 128 0 10 #[58, 66, 74, 74, 74, 86, 94, 102, 110, 115, 123], 58) := by decide +kernel
theorem dX0_status_80 : decode cX0_status 80 = .ok (.aload_n 0, 1) := dk_42 (dk_at dksX0_status_2 0 rfl rfl)
theorem dX0_status_81 : decode cX0_status 81 = .ok (.getfield 30, 3) := dk_180 0 30 (dk_at dksX0_status_2 1 rfl rfl)
theorem dX0_status_84 : decode cX0_status 84 = .ok (.getfield 200, 3) := dk_180 0 200 (dk_at dksX0_status_2 4 rfl rfl)
theorem dX0_status_87 : decode cX0_status 87 = .ok (.ireturn, 1) := dk_172 (dk_at dksX0_status_2 7 rfl rfl)
theorem dX0_status_88 : decode cX0_status 88 = .ok (.aload_n 0, 1) := dk_42 (dk_at dksX0_status_2 8 rfl rfl)
theorem dX0_status_89 : decode cX0_status 89 = .ok (.getfield 30, 3) := dk_180 0 30 (dk_at dksX0_status_2 9 rfl rfl)
theorem dX0_status_92 : decode cX0_status 92 = .ok (.getfield 181, 3) := dk_180 0 181 (dk_at dksX0_status_2 12 rfl rfl)
theorem dX0_status_95 : decode cX0_status 95 = .ok (.ireturn, 1) := dk_172 (dk_at dksX0_status_2 15 rfl rfl)
theorem dX0_status_96 : decode cX0_status 96 = .ok (.aload_n 0, 1) := dk_42 (dk_at dksX0_status_2 16 rfl rfl)
theorem dX0_status_97 : decode cX0_status 97 = .ok (.getfield 30, 3) := dk_180 0 30 (dk_at dksX0_status_2 17 rfl rfl)
theorem dX0_status_100 : decode cX0_status 100 = .ok (.getfield 163, 3) := dk_180 0 163 (dk_at dksX0_status_2 20 rfl rfl)
theorem dX0_status_103 : decode cX0_status 103 = .ok (.iload_n 1, 1) := dk_27 (dk_at dksX0_status_2 23 rfl rfl)
theorem dX0_status_104 : decode cX0_status 104 = .ok (.iconst 2, 1) := dk_5 (dk_at dksX0_status_3 0 rfl rfl)
theorem dX0_status_105 : decode cX0_status 105 = .ok (.isub, 1) := dk_100 (dk_at dksX0_status_3 1 rfl rfl)
theorem dX0_status_106 : decode cX0_status 106 = .ok (.iaload, 1) := dk_46 (dk_at dksX0_status_3 2 rfl rfl)
theorem dX0_status_107 : decode cX0_status 107 = .ok (.ireturn, 1) := dk_172 (dk_at dksX0_status_3 3 rfl rfl)
theorem dX0_status_108 : decode cX0_status 108 = .ok (.aload_n 0, 1) := dk_42 (dk_at dksX0_status_3 4 rfl rfl)
theorem dX0_status_109 : decode cX0_status 109 = .ok (.getfield 30, 3) := dk_180 0 30 (dk_at dksX0_status_3 5 rfl rfl)
theorem dX0_status_112 : decode cX0_status 112 = .ok (.invokevirtual 369, 3) := dk_182 1 113 (dk_at dksX0_status_3 8 rfl rfl)
theorem dX0_status_115 : decode cX0_status 115 = .ok (.ireturn, 1) := dk_172 (dk_at dksX0_status_3 11 rfl rfl)
theorem dX0_status_116 : decode cX0_status 116 = .ok (.aload_n 0, 1) := dk_42 (dk_at dksX0_status_3 12 rfl rfl)
theorem dX0_status_117 : decode cX0_status 117 = .ok (.getfield 30, 3) := dk_180 0 30 (dk_at dksX0_status_3 13 rfl rfl)
theorem dX0_status_120 : decode cX0_status 120 = .ok (.getfield 372, 3) := dk_180 1 116 (dk_at dksX0_status_3 16 rfl rfl)
theorem dX0_status_123 : decode cX0_status 123 = .ok (.ireturn, 1) := dk_172 (dk_at dksX0_status_3 19 rfl rfl)
theorem dX0_status_124 : decode cX0_status 124 = .ok (.aload_n 0, 1) := dk_42 (dk_at dksX0_status_3 20 rfl rfl)
theorem dX0_status_125 : decode cX0_status 125 = .ok (.getfield 30, 3) := dk_180 0 30 (dk_at dksX0_status_3 21 rfl rfl)
theorem dX0_status_128 : decode cX0_status 128 = .ok (.getfield 357, 3) := dk_180 1 101 (dk_at dksX0_status_4 0 rfl rfl)
theorem dX0_status_131 : decode cX0_status 131 = .ok (.ireturn, 1) := dk_172 (dk_at dksX0_status_4 3 rfl rfl)
theorem dX0_status_132 : decode cX0_status 132 = .ok (.aload_n 0, 1) := dk_42 (dk_at dksX0_status_4 4 rfl rfl)
theorem dX0_status_133 : decode cX0_status 133 = .ok (.getfield 210, 3) := dk_180 0 210 (dk_at dksX0_status_4 5 rfl rfl)
theorem dX0_status_136 : decode cX0_status 136 = .ok (.ireturn, 1) := dk_172 (dk_at dksX0_status_4 8 rfl rfl)
theorem dX0_status_137 : decode cX0_status 137 = .ok (.aload_n 0, 1) := dk_42 (dk_at dksX0_status_4 9 rfl rfl)
theorem dX0_status_138 : decode cX0_status 138 = .ok (.getfield 30, 3) := dk_180 0 30 (dk_at dksX0_status_4 10 rfl rfl)
theorem dX0_status_141 : decode cX0_status 141 = .ok (.getfield 363, 3) := dk_180 1 107 (dk_at dksX0_status_4 13 rfl rfl)
theorem dX0_status_144 : decode cX0_status 144 = .ok (.ireturn, 1) := dk_172 (dk_at dksX0_status_4 16 rfl rfl)
theorem dX0_status_145 : decode cX0_status 145 = .ok (.aload_n 0, 1) := dk_42 (dk_at dksX0_status_4 17 rfl rfl)
theorem dX0_status_146 : decode cX0_status 146 = .ok (.invokevirtual 375, 3) := dk_182 1 119 (dk_at dksX0_status_4 18 rfl rfl)
theorem dX0_status_149 : decode cX0_status 149 = .ok (.ireturn, 1) := dk_172 (dk_at dksX0_status_4 21 rfl rfl)
theorem dX0_status_150 : decode cX0_status 150 = .ok (.iconst (-1), 1) := dk_2 (dk_at dksX0_status_4 22 rfl rfl)
theorem dX0_status_151 : decode cX0_status 151 = .ok (.ireturn, 1) := dk_172 (dk_at dksX0_status_4 23 rfl rfl)
abbrev cX0_shelved : ByteArray := prog_1_method_80_code
def yX0_shelved : MethodName := ⟨RX0, "shelved", "()I"⟩
def dkwX0_shelved_1 : List UInt8 := [167, 0, 4, 3, 96, 60, 132, 2, 1, 167, 255, 227, 27, 172]
abbrev dktX0_shelved_1 : List UInt8 := dkwX0_shelved_1 ++ []
def dkwX0_shelved_0 : List UInt8 := [3, 60, 3, 61, 28, 16, 8, 162, 0, 29, 27, 42, 180, 0, 62, 28, 50, 180, 0, 102, 198, 0, 7, 4]
abbrev dktX0_shelved_0 : List UInt8 := dkwX0_shelved_0 ++ dktX0_shelved_1
theorem dksX0_shelved_0 : cX0_shelved.data.toList.drop 0 = dktX0_shelved_0 := by decide +kernel
theorem dksX0_shelved_1 : cX0_shelved.data.toList.drop 24 = dktX0_shelved_1 := dk_seg dksX0_shelved_0 24 rfl rfl
theorem dX0_shelved_0 : decode cX0_shelved 0 = .ok (.iconst 0, 1) := dk_3 (dk_at dksX0_shelved_0 0 rfl rfl)
theorem dX0_shelved_1 : decode cX0_shelved 1 = .ok (.istore_n 1, 1) := dk_60 (dk_at dksX0_shelved_0 1 rfl rfl)
theorem dX0_shelved_2 : decode cX0_shelved 2 = .ok (.iconst 0, 1) := dk_3 (dk_at dksX0_shelved_0 2 rfl rfl)
theorem dX0_shelved_3 : decode cX0_shelved 3 = .ok (.istore_n 2, 1) := dk_61 (dk_at dksX0_shelved_0 3 rfl rfl)
theorem dX0_shelved_4 : decode cX0_shelved 4 = .ok (.iload_n 2, 1) := dk_28 (dk_at dksX0_shelved_0 4 rfl rfl)
theorem dX0_shelved_5 : decode cX0_shelved 5 = .ok (.bipush 8, 2) := dk_16 8 (dk_at dksX0_shelved_0 5 rfl rfl)
theorem dX0_shelved_7 : decode cX0_shelved 7 = .ok (.if_icmp .ge 29, 3) := dk_162 0 29 (dk_at dksX0_shelved_0 7 rfl rfl)
theorem dX0_shelved_10 : decode cX0_shelved 10 = .ok (.iload_n 1, 1) := dk_27 (dk_at dksX0_shelved_0 10 rfl rfl)
theorem dX0_shelved_11 : decode cX0_shelved 11 = .ok (.aload_n 0, 1) := dk_42 (dk_at dksX0_shelved_0 11 rfl rfl)
theorem dX0_shelved_12 : decode cX0_shelved 12 = .ok (.getfield 62, 3) := dk_180 0 62 (dk_at dksX0_shelved_0 12 rfl rfl)
theorem dX0_shelved_15 : decode cX0_shelved 15 = .ok (.iload_n 2, 1) := dk_28 (dk_at dksX0_shelved_0 15 rfl rfl)
theorem dX0_shelved_16 : decode cX0_shelved 16 = .ok (.aaload, 1) := dk_50 (dk_at dksX0_shelved_0 16 rfl rfl)
theorem dX0_shelved_17 : decode cX0_shelved 17 = .ok (.getfield 102, 3) := dk_180 0 102 (dk_at dksX0_shelved_0 17 rfl rfl)
theorem dX0_shelved_20 : decode cX0_shelved 20 = .ok (.ifnull 7, 3) := dk_198 0 7 (dk_at dksX0_shelved_0 20 rfl rfl)
theorem dX0_shelved_23 : decode cX0_shelved 23 = .ok (.iconst 1, 1) := dk_4 (dk_at dksX0_shelved_0 23 rfl rfl)
theorem dX0_shelved_24 : decode cX0_shelved 24 = .ok (.goto 4, 3) := dk_167 0 4 (dk_at dksX0_shelved_1 0 rfl rfl)
theorem dX0_shelved_27 : decode cX0_shelved 27 = .ok (.iconst 0, 1) := dk_3 (dk_at dksX0_shelved_1 3 rfl rfl)
theorem dX0_shelved_28 : decode cX0_shelved 28 = .ok (.iadd, 1) := dk_96 (dk_at dksX0_shelved_1 4 rfl rfl)
theorem dX0_shelved_29 : decode cX0_shelved 29 = .ok (.istore_n 1, 1) := dk_60 (dk_at dksX0_shelved_1 5 rfl rfl)
theorem dX0_shelved_30 : decode cX0_shelved 30 = .ok (.iinc 2 1, 3) := dk_132 2 1 (dk_at dksX0_shelved_1 6 rfl rfl)
theorem dX0_shelved_33 : decode cX0_shelved 33 = .ok (.goto (-29), 3) := dk_167 255 227 (dk_at dksX0_shelved_1 9 rfl rfl)
theorem dX0_shelved_36 : decode cX0_shelved 36 = .ok (.iload_n 1, 1) := dk_27 (dk_at dksX0_shelved_1 12 rfl rfl)
theorem dX0_shelved_37 : decode cX0_shelved 37 = .ok (.ireturn, 1) := dk_172 (dk_at dksX0_shelved_1 13 rfl rfl)
theorem q67 : (Jvm.Cond.initialized "LeftIsAgreedOn") ∈ lw_all := lw_g (lw_at lw_m1 1 rfl) rfl
theorem q102 : (Jvm.Cond.instantiable "LeftIsAgreedOn" (12 : Nat)) ∈ lw_all := lw_g (lw_at lw_m1 36 rfl) rfl
theorem q104 : (Jvm.Cond.instanceMethod ({ cls := "LeftIsAgreedOn", name := "<init>", desc := "()V" } : Jvm.MethodName)) ∈ lw_all := lw_g (lw_at lw_m1 38 rfl) rfl
theorem q105 : (Jvm.Cond.code ({ cls := "LeftIsAgreedOn", name := "<init>", desc := "()V" } : Jvm.MethodName) prog_1_method_4_code (2 : Nat) (Option.none : Option Jvm.ClassFile.FieldType)) ∈ lw_all := lw_g (lw_at lw_m1 39 rfl) rfl
theorem q106 : (Jvm.Cond.methodLink "LeftIsAgreedOn" (22 : Nat) ({ cls := "java/lang/Object", name := "<init>", desc := "()V" } : Jvm.MethodName)) ∈ lw_all := lw_g (lw_at lw_m1 40 rfl) rfl
theorem q109 : (Jvm.Cond.classLink "LeftIsAgreedOn" (27 : Nat) "LeftIsAgreedOn$Island") ∈ lw_all := lw_g (lw_at lw_m1 43 rfl) rfl
theorem q111 : (Jvm.Cond.methodLinkNest "LeftIsAgreedOn" (29 : Nat) ({ cls := "LeftIsAgreedOn$Island", name := "<init>", desc := "()V" } : Jvm.MethodName) "LeftIsAgreedOn") ∈ lw_tbl := lw_at lw_m1 45 rfl
theorem q119 : (Jvm.Cond.fieldLink "LeftIsAgreedOn" (149 : Nat) "LeftIsAgreedOn$Island" "voter" "[LLeftIsAgreedOn$Voter;") ∈ lw_all := lw_g (lw_at lw_m1 53 rfl) rfl
theorem q121 : (Jvm.Cond.fieldLink "LeftIsAgreedOn" (153 : Nat) "LeftIsAgreedOn$Island" "cell" "[I") ∈ lw_all := lw_g (lw_at lw_m1 55 rfl) rfl
theorem q123 : (Jvm.Cond.fieldLink "LeftIsAgreedOn" (156 : Nat) "LeftIsAgreedOn$Island" "faces" "[I") ∈ lw_all := lw_g (lw_at lw_m1 57 rfl) rfl
theorem q127 : (Jvm.Cond.fieldLink "LeftIsAgreedOn" (207 : Nat) "LeftIsAgreedOn$Island" "wants" "[I") ∈ lw_all := lw_g (lw_at lw_m1 61 rfl) rfl
theorem q131 : (Jvm.Cond.fieldLink "LeftIsAgreedOn" (163 : Nat) "LeftIsAgreedOn$Island" "told" "[I") ∈ lw_all := lw_g (lw_at lw_m1 65 rfl) rfl
theorem q134 : (Jvm.Cond.fieldLink "LeftIsAgreedOn" (181 : Nat) "LeftIsAgreedOn$Island" "side" "I") ∈ lw_all := lw_g (lw_at lw_m1 68 rfl) rfl
theorem q137 : (Jvm.Cond.fieldLink "LeftIsAgreedOn" (200 : Nat) "LeftIsAgreedOn$Island" "people" "I") ∈ lw_all := lw_g (lw_at lw_m1 71 rfl) rfl
theorem q139 : (Jvm.Cond.fieldLink "LeftIsAgreedOn" (372 : Nat) "LeftIsAgreedOn$Island" "years" "I") ∈ lw_all := lw_g (lw_at lw_m1 73 rfl) rfl
theorem q141 : (Jvm.Cond.fieldLink "LeftIsAgreedOn" (357 : Nat) "LeftIsAgreedOn$Island" "fallen" "I") ∈ lw_all := lw_g (lw_at lw_m1 75 rfl) rfl
theorem q143 : (Jvm.Cond.fieldLink "LeftIsAgreedOn" (363 : Nat) "LeftIsAgreedOn$Island" "seed" "I") ∈ lw_all := lw_g (lw_at lw_m1 77 rfl) rfl
theorem q168 : (Jvm.Cond.classLink "LeftIsAgreedOn" (36 : Nat) "LeftIsAgreedOn$Walk") ∈ lw_all := lw_g (lw_at lw_m1 102 rfl) rfl
theorem q170 : (Jvm.Cond.methodLinkNest "LeftIsAgreedOn" (38 : Nat) ({ cls := "LeftIsAgreedOn$Walk", name := "<init>", desc := "()V" } : Jvm.MethodName) "LeftIsAgreedOn") ∈ lw_tbl := lw_at lw_m1 104 rfl
theorem q176 : (Jvm.Cond.fieldLink "LeftIsAgreedOn" (273 : Nat) "LeftIsAgreedOn$Walk" "cell" "I") ∈ lw_all := lw_g (lw_at lw_m1 110 rfl) rfl
theorem q178 : (Jvm.Cond.fieldLink "LeftIsAgreedOn" (170 : Nat) "LeftIsAgreedOn$Walk" "faces" "I") ∈ lw_all := lw_g (lw_at lw_m1 112 rfl) rfl
theorem q186 : (Jvm.Cond.fieldLink "LeftIsAgreedOn" (275 : Nat) "LeftIsAgreedOn$Walk" "fell" "I") ∈ lw_all := lw_g (lw_at lw_m1 120 rfl) rfl
theorem q188 : (Jvm.Cond.fieldLink "LeftIsAgreedOn" (291 : Nat) "LeftIsAgreedOn$Walk" "was" "I") ∈ lw_all := lw_g (lw_at lw_m1 122 rfl) rfl
theorem q207 : (Jvm.Cond.classLink "LeftIsAgreedOn" (60 : Nat) "LeftIsAgreedOn$Sheet") ∈ lw_all := lw_g (lw_at lw_m1 141 rfl) rfl
theorem q210 : (Jvm.Cond.methodLinkNest "LeftIsAgreedOn" (72 : Nat) ({ cls := "LeftIsAgreedOn$Sheet", name := "<init>", desc := "()V" } : Jvm.MethodName) "LeftIsAgreedOn") ∈ lw_tbl := lw_at lw_m1 144 rfl
theorem q214 : (Jvm.Cond.fieldLink "LeftIsAgreedOn" (102 : Nat) "LeftIsAgreedOn$Sheet" "held" "Ljava/lang/Object;") ∈ lw_all := lw_g (lw_at lw_m1 148 rfl) rfl
theorem q218 : (Jvm.Cond.fieldLink "LeftIsAgreedOn" (30 : Nat) "LeftIsAgreedOn" "now" "LLeftIsAgreedOn$Island;") ∈ lw_all := lw_g (lw_at lw_m1 152 rfl) rfl
theorem q219 : (Jvm.Cond.fieldLink "LeftIsAgreedOn" (366 : Nat) "LeftIsAgreedOn" "image" "LLeftIsAgreedOn$Island;") ∈ lw_all := lw_g (lw_at lw_m1 153 rfl) rfl
theorem q220 : (Jvm.Cond.fieldLink "LeftIsAgreedOn" (39 : Nat) "LeftIsAgreedOn" "walk" "LLeftIsAgreedOn$Walk;") ∈ lw_all := lw_g (lw_at lw_m1 154 rfl) rfl
theorem q221 : (Jvm.Cond.fieldLink "LeftIsAgreedOn" (43 : Nat) "LeftIsAgreedOn" "also" "LLeftIsAgreedOn$Walk;") ∈ lw_all := lw_g (lw_at lw_m1 155 rfl) rfl
theorem q222 : (Jvm.Cond.fieldLink "LeftIsAgreedOn" (46 : Nat) "LeftIsAgreedOn" "one" "[LLeftIsAgreedOn$Walk;") ∈ lw_all := lw_g (lw_at lw_m1 156 rfl) rfl
theorem q223 : (Jvm.Cond.fieldLink "LeftIsAgreedOn" (50 : Nat) "LeftIsAgreedOn" "two" "[LLeftIsAgreedOn$Walk;") ∈ lw_all := lw_g (lw_at lw_m1 157 rfl) rfl
theorem q224 : (Jvm.Cond.fieldLink "LeftIsAgreedOn" (53 : Nat) "LeftIsAgreedOn" "row" "[I") ∈ lw_all := lw_g (lw_at lw_m1 158 rfl) rfl
theorem q225 : (Jvm.Cond.fieldLink "LeftIsAgreedOn" (57 : Nat) "LeftIsAgreedOn" "many" "[I") ∈ lw_all := lw_g (lw_at lw_m1 159 rfl) rfl
theorem q226 : (Jvm.Cond.fieldLink "LeftIsAgreedOn" (62 : Nat) "LeftIsAgreedOn" "shelves" "[LLeftIsAgreedOn$Sheet;") ∈ lw_all := lw_g (lw_at lw_m1 160 rfl) rfl
theorem q227 : (Jvm.Cond.fieldLink "LeftIsAgreedOn" (66 : Nat) "LeftIsAgreedOn" "tape" "[I") ∈ lw_all := lw_g (lw_at lw_m1 161 rfl) rfl
theorem q228 : (Jvm.Cond.fieldLink "LeftIsAgreedOn" (210 : Nat) "LeftIsAgreedOn" "size" "I") ∈ lw_all := lw_g (lw_at lw_m1 162 rfl) rfl
theorem q229 : (Jvm.Cond.fieldLink "LeftIsAgreedOn" (69 : Nat) "LeftIsAgreedOn" "refused" "[I") ∈ lw_all := lw_g (lw_at lw_m1 163 rfl) rfl
theorem q230 : (Jvm.Cond.lays "LeftIsAgreedOn" "LeftIsAgreedOn" "now" "LLeftIsAgreedOn$Island;") ∈ lw_all := lw_g (lw_at lw_m1 164 rfl) rfl
theorem q231 : (Jvm.Cond.soleField "LeftIsAgreedOn" "now") ∈ lw_all := lw_g (lw_at lw_m1 165 rfl) rfl
theorem q232 : (Jvm.Cond.lays "LeftIsAgreedOn" "LeftIsAgreedOn" "image" "LLeftIsAgreedOn$Island;") ∈ lw_all := lw_g (lw_at lw_m1 166 rfl) rfl
theorem q233 : (Jvm.Cond.soleField "LeftIsAgreedOn" "image") ∈ lw_all := lw_g (lw_at lw_m1 167 rfl) rfl
theorem q234 : (Jvm.Cond.laysFinal "LeftIsAgreedOn" "LeftIsAgreedOn" "walk" "LLeftIsAgreedOn$Walk;") ∈ lw_all := lw_g (lw_at lw_m1 168 rfl) rfl
theorem q235 : (Jvm.Cond.soleField "LeftIsAgreedOn" "walk") ∈ lw_all := lw_g (lw_at lw_m1 169 rfl) rfl
theorem q236 : (Jvm.Cond.laysFinal "LeftIsAgreedOn" "LeftIsAgreedOn" "also" "LLeftIsAgreedOn$Walk;") ∈ lw_all := lw_g (lw_at lw_m1 170 rfl) rfl
theorem q237 : (Jvm.Cond.soleField "LeftIsAgreedOn" "also") ∈ lw_all := lw_g (lw_at lw_m1 171 rfl) rfl
theorem q238 : (Jvm.Cond.laysFinal "LeftIsAgreedOn" "LeftIsAgreedOn" "one" "[LLeftIsAgreedOn$Walk;") ∈ lw_all := lw_g (lw_at lw_m1 172 rfl) rfl
theorem q239 : (Jvm.Cond.soleField "LeftIsAgreedOn" "one") ∈ lw_all := lw_g (lw_at lw_m1 173 rfl) rfl
theorem q240 : (Jvm.Cond.laysFinal "LeftIsAgreedOn" "LeftIsAgreedOn" "two" "[LLeftIsAgreedOn$Walk;") ∈ lw_all := lw_g (lw_at lw_m1 174 rfl) rfl
theorem q241 : (Jvm.Cond.soleField "LeftIsAgreedOn" "two") ∈ lw_all := lw_g (lw_at lw_m1 175 rfl) rfl
theorem q242 : (Jvm.Cond.laysFinal "LeftIsAgreedOn" "LeftIsAgreedOn" "row" "[I") ∈ lw_all := lw_g (lw_at lw_m1 176 rfl) rfl
theorem q243 : (Jvm.Cond.soleField "LeftIsAgreedOn" "row") ∈ lw_all := lw_g (lw_at lw_m1 177 rfl) rfl
theorem q244 : (Jvm.Cond.laysFinal "LeftIsAgreedOn" "LeftIsAgreedOn" "many" "[I") ∈ lw_all := lw_g (lw_at lw_m1 178 rfl) rfl
theorem q245 : (Jvm.Cond.soleField "LeftIsAgreedOn" "many") ∈ lw_all := lw_g (lw_at lw_m1 179 rfl) rfl
theorem q246 : (Jvm.Cond.laysFinal "LeftIsAgreedOn" "LeftIsAgreedOn" "shelves" "[LLeftIsAgreedOn$Sheet;") ∈ lw_all := lw_g (lw_at lw_m1 180 rfl) rfl
theorem q247 : (Jvm.Cond.soleField "LeftIsAgreedOn" "shelves") ∈ lw_all := lw_g (lw_at lw_m1 181 rfl) rfl
theorem q248 : (Jvm.Cond.laysFinal "LeftIsAgreedOn" "LeftIsAgreedOn" "tape" "[I") ∈ lw_all := lw_g (lw_at lw_m1 182 rfl) rfl
theorem q249 : (Jvm.Cond.soleField "LeftIsAgreedOn" "tape") ∈ lw_all := lw_g (lw_at lw_m1 183 rfl) rfl
theorem q250 : (Jvm.Cond.lays "LeftIsAgreedOn" "LeftIsAgreedOn" "size" "I") ∈ lw_all := lw_g (lw_at lw_m1 184 rfl) rfl
theorem q251 : (Jvm.Cond.soleField "LeftIsAgreedOn" "size") ∈ lw_all := lw_g (lw_at lw_m1 185 rfl) rfl
theorem q252 : (Jvm.Cond.laysFinal "LeftIsAgreedOn" "LeftIsAgreedOn" "refused" "[I") ∈ lw_all := lw_g (lw_at lw_m1 186 rfl) rfl
theorem q253 : (Jvm.Cond.soleField "LeftIsAgreedOn" "refused") ∈ lw_all := lw_g (lw_at lw_m1 187 rfl) rfl
theorem q254 : (Jvm.Cond.superclass "LeftIsAgreedOn" "java/lang/Object") ∈ lw_all := lw_g (lw_at lw_m1 188 rfl) rfl
theorem q256 : (Jvm.Cond.instanceMethod ({ cls := "LeftIsAgreedOn", name := "row", desc := "(III)I" } : Jvm.MethodName)) ∈ lw_all := lw_g (lw_at lw_m1 190 rfl) rfl
theorem q257 : (Jvm.Cond.selects "LeftIsAgreedOn" ({ cls := "LeftIsAgreedOn", name := "row", desc := "(III)I" } : Jvm.MethodName) ({ cls := "LeftIsAgreedOn", name := "row", desc := "(III)I" } : Jvm.MethodName)) ∈ lw_all := lw_g (lw_at lw_m1 191 rfl) rfl
theorem q258 : (Jvm.Cond.codeWith ({ cls := "LeftIsAgreedOn", name := "row", desc := "(III)I" } : Jvm.MethodName) prog_1_method_11_code (5 : Nat) (Option.some Jvm.ClassFile.FieldType.int) [((29 : Nat), (43 : Nat), (46 : Nat), (106 : Nat))]) ∈ lw_all := lw_g (lw_at lw_m1 192 rfl) rfl
theorem q259 : (Jvm.Cond.classLink "LeftIsAgreedOn" (106 : Nat) "java/lang/NegativeArraySizeException") ∈ lw_all := lw_g (lw_at lw_m1 193 rfl) rfl
theorem q347 : (Jvm.Cond.methodLink "LeftIsAgreedOn" (90 : Nat) ({ cls := "LeftIsAgreedOn", name := "isShelf", desc := "(I)Z" } : Jvm.MethodName)) ∈ lw_all := lw_g (lw_at lw_m2 41 rfl) rfl
theorem q348 : (Jvm.Cond.static ({ cls := "LeftIsAgreedOn", name := "isShelf", desc := "(I)Z" } : Jvm.MethodName)) ∈ lw_all := lw_g (lw_at lw_m2 42 rfl) rfl
theorem q349 : (Jvm.Cond.code ({ cls := "LeftIsAgreedOn", name := "isShelf", desc := "(I)Z" } : Jvm.MethodName) prog_1_method_6_code (1 : Nat) (Option.some Jvm.ClassFile.FieldType.boolean)) ∈ lw_all := lw_g (lw_at lw_m2 43 rfl) rfl
theorem q350 : (Jvm.Cond.methodLink "LeftIsAgreedOn" (73 : Nat) ({ cls := "LeftIsAgreedOn", name := "isIn", desc := "(III)Z" } : Jvm.MethodName)) ∈ lw_all := lw_g (lw_at lw_m2 44 rfl) rfl
theorem q351 : (Jvm.Cond.static ({ cls := "LeftIsAgreedOn", name := "isIn", desc := "(III)Z" } : Jvm.MethodName)) ∈ lw_all := lw_g (lw_at lw_m2 45 rfl) rfl
theorem q352 : (Jvm.Cond.code ({ cls := "LeftIsAgreedOn", name := "isIn", desc := "(III)Z" } : Jvm.MethodName) prog_1_method_1_code (3 : Nat) (Option.some Jvm.ClassFile.FieldType.boolean)) ∈ lw_all := lw_g (lw_at lw_m2 46 rfl) rfl
theorem q353 : (Jvm.Cond.methodLink "LeftIsAgreedOn" (94 : Nat) ({ cls := "LeftIsAgreedOn", name := "no", desc := "(I)I" } : Jvm.MethodName)) ∈ lw_all := lw_g (lw_at lw_m2 47 rfl) rfl
theorem q354 : (Jvm.Cond.privateMethod ({ cls := "LeftIsAgreedOn", name := "no", desc := "(I)I" } : Jvm.MethodName)) ∈ lw_tbl := lw_at lw_m2 48 rfl
theorem q355 : (Jvm.Cond.instanceMethod ({ cls := "LeftIsAgreedOn", name := "no", desc := "(I)I" } : Jvm.MethodName)) ∈ lw_all := lw_g (lw_at lw_m2 49 rfl) rfl
theorem q356 : (Jvm.Cond.code ({ cls := "LeftIsAgreedOn", name := "no", desc := "(I)I" } : Jvm.MethodName) prog_1_method_5_code (2 : Nat) (Option.some Jvm.ClassFile.FieldType.int)) ∈ lw_all := lw_g (lw_at lw_m2 50 rfl) rfl
theorem q357 : (Jvm.Cond.methodLink "LeftIsAgreedOn" (98 : Nat) ({ cls := "LeftIsAgreedOn", name := "rowOf", desc := "(II)Ljava/lang/Object;" } : Jvm.MethodName)) ∈ lw_all := lw_g (lw_at lw_m2 51 rfl) rfl
theorem q358 : (Jvm.Cond.static ({ cls := "LeftIsAgreedOn", name := "rowOf", desc := "(II)Ljava/lang/Object;" } : Jvm.MethodName)) ∈ lw_all := lw_g (lw_at lw_m2 52 rfl) rfl
theorem q359 : (Jvm.Cond.code ({ cls := "LeftIsAgreedOn", name := "rowOf", desc := "(II)Ljava/lang/Object;" } : Jvm.MethodName) prog_1_method_7_code (2 : Nat) (Option.some (Jvm.ClassFile.FieldType.object "java/lang/Object"))) ∈ lw_all := lw_g (lw_at lw_m2 53 rfl) rfl
theorem q364 : (Jvm.Cond.instanceMethod ({ cls := "LeftIsAgreedOn", name := "set", desc := "(IIJ)I" } : Jvm.MethodName)) ∈ lw_all := lw_g (lw_at lw_m2 58 rfl) rfl
theorem q365 : (Jvm.Cond.selects "LeftIsAgreedOn" ({ cls := "LeftIsAgreedOn", name := "set", desc := "(IIJ)I" } : Jvm.MethodName) ({ cls := "LeftIsAgreedOn", name := "set", desc := "(IIJ)I" } : Jvm.MethodName)) ∈ lw_all := lw_g (lw_at lw_m2 59 rfl) rfl
theorem q366 : (Jvm.Cond.codeWith ({ cls := "LeftIsAgreedOn", name := "set", desc := "(IIJ)I" } : Jvm.MethodName) prog_1_method_13_code (6 : Nat) (Option.some Jvm.ClassFile.FieldType.int) [((14 : Nat), (25 : Nat), (26 : Nat), (108 : Nat)), ((14 : Nat), (25 : Nat), (38 : Nat), (125 : Nat))]) ∈ lw_all := lw_g (lw_at lw_m2 60 rfl) rfl
theorem q367 : (Jvm.Cond.classLink "LeftIsAgreedOn" (108 : Nat) "LeftIsAgreedOn$Refused") ∈ lw_all := lw_g (lw_at lw_m2 61 rfl) rfl
theorem q368 : (Jvm.Cond.classLink "LeftIsAgreedOn" (125 : Nat) "java/lang/ArrayIndexOutOfBoundsException") ∈ lw_all := lw_g (lw_at lw_m2 62 rfl) rfl
theorem q387 : (Jvm.Cond.methodLink "LeftIsAgreedOn" (113 : Nat) ({ cls := "LeftIsAgreedOn", name := "rowIn", desc := "(I)Ljava/lang/Object;" } : Jvm.MethodName)) ∈ lw_all := lw_g (lw_at lw_m2 81 rfl) rfl
theorem q388 : (Jvm.Cond.privateMethod ({ cls := "LeftIsAgreedOn", name := "rowIn", desc := "(I)Ljava/lang/Object;" } : Jvm.MethodName)) ∈ lw_tbl := lw_at lw_m2 82 rfl
theorem q389 : (Jvm.Cond.instanceMethod ({ cls := "LeftIsAgreedOn", name := "rowIn", desc := "(I)Ljava/lang/Object;" } : Jvm.MethodName)) ∈ lw_all := lw_g (lw_at lw_m2 83 rfl) rfl
theorem q390 : (Jvm.Cond.code ({ cls := "LeftIsAgreedOn", name := "rowIn", desc := "(I)Ljava/lang/Object;" } : Jvm.MethodName) prog_1_method_12_code (3 : Nat) (Option.some (Jvm.ClassFile.FieldType.object "java/lang/Object"))) ∈ lw_all := lw_g (lw_at lw_m2 84 rfl) rfl
theorem q391 : (Jvm.Cond.classLink "LeftIsAgreedOn" (1 : Nat) "LeftIsAgreedOn$Voter") ∈ lw_all := lw_g (lw_at lw_m2 85 rfl) rfl
theorem q400 : (Jvm.Cond.methodLink "LeftIsAgreedOn" (110 : Nat) ({ cls := "LeftIsAgreedOn$Refused", name := "<init>", desc := "(I)V" } : Jvm.MethodName)) ∈ lw_all := lw_g (lw_at lw_m2 94 rfl) rfl
theorem q413 : (Jvm.Cond.fieldLink "LeftIsAgreedOn" (121 : Nat) "LeftIsAgreedOn$Refused" "by" "I") ∈ lw_all := lw_g (lw_at lw_m2 107 rfl) rfl
theorem q418 : (Jvm.Cond.methodLink "LeftIsAgreedOn" (117 : Nat) ({ cls := "LeftIsAgreedOn", name := "puts", desc := "(Ljava/lang/Object;IJ)V" } : Jvm.MethodName)) ∈ lw_all := lw_g (lw_at lw_m2 112 rfl) rfl
theorem q419 : (Jvm.Cond.static ({ cls := "LeftIsAgreedOn", name := "puts", desc := "(Ljava/lang/Object;IJ)V" } : Jvm.MethodName)) ∈ lw_all := lw_g (lw_at lw_m2 113 rfl) rfl
theorem q420 : (Jvm.Cond.code ({ cls := "LeftIsAgreedOn", name := "puts", desc := "(Ljava/lang/Object;IJ)V" } : Jvm.MethodName) prog_1_method_10_code (4 : Nat) (Option.none : Option Jvm.ClassFile.FieldType)) ∈ lw_all := lw_g (lw_at lw_m2 114 rfl) rfl
theorem q421 : (Jvm.Cond.methodLink "LeftIsAgreedOn" (84 : Nat) ({ cls := "LeftIsAgreedOn", name := "sortOf", desc := "(Ljava/lang/Object;)I" } : Jvm.MethodName)) ∈ lw_all := lw_g (lw_at lw_m2 115 rfl) rfl
theorem q422 : (Jvm.Cond.static ({ cls := "LeftIsAgreedOn", name := "sortOf", desc := "(Ljava/lang/Object;)I" } : Jvm.MethodName)) ∈ lw_all := lw_g (lw_at lw_m2 116 rfl) rfl
theorem q423 : (Jvm.Cond.code ({ cls := "LeftIsAgreedOn", name := "sortOf", desc := "(Ljava/lang/Object;)I" } : Jvm.MethodName) prog_1_method_8_code (1 : Nat) (Option.some Jvm.ClassFile.FieldType.int)) ∈ lw_all := lw_g (lw_at lw_m2 117 rfl) rfl
theorem q424 : (Jvm.Cond.classLink "LeftIsAgreedOn" (77 : Nat) "[B") ∈ lw_all := lw_g (lw_at lw_m2 118 rfl) rfl
theorem q425 : (Jvm.Cond.classLink "LeftIsAgreedOn" (79 : Nat) "[S") ∈ lw_all := lw_g (lw_at lw_m2 119 rfl) rfl
theorem q426 : (Jvm.Cond.classLink "LeftIsAgreedOn" (81 : Nat) "[I") ∈ lw_all := lw_g (lw_at lw_m2 120 rfl) rfl
theorem q427 : (Jvm.Cond.classLink "LeftIsAgreedOn" (82 : Nat) "[J") ∈ lw_all := lw_g (lw_at lw_m2 121 rfl) rfl
theorem q428 : (Jvm.Cond.classLink "LeftIsAgreedOn" (88 : Nat) "[Z") ∈ lw_all := lw_g (lw_at lw_m2 122 rfl) rfl
theorem q430 : (Jvm.Cond.instanceMethod ({ cls := "LeftIsAgreedOn", name := "copy", desc := "(IIIII)I" } : Jvm.MethodName)) ∈ lw_all := lw_g (lw_at lw_m2 124 rfl) rfl
theorem q431 : (Jvm.Cond.selects "LeftIsAgreedOn" ({ cls := "LeftIsAgreedOn", name := "copy", desc := "(IIIII)I" } : Jvm.MethodName) ({ cls := "LeftIsAgreedOn", name := "copy", desc := "(IIIII)I" } : Jvm.MethodName)) ∈ lw_all := lw_g (lw_at lw_m2 125 rfl) rfl
theorem q432 : (Jvm.Cond.codeWith ({ cls := "LeftIsAgreedOn", name := "copy", desc := "(IIIII)I" } : Jvm.MethodName) prog_1_method_14_code (9 : Nat) (Option.some Jvm.ClassFile.FieldType.int) [((66 : Nat), (80 : Nat), (81 : Nat), (133 : Nat)), ((66 : Nat), (80 : Nat), (90 : Nat), (135 : Nat)), ((66 : Nat), (80 : Nat), (99 : Nat), (137 : Nat))]) ∈ lw_all := lw_g (lw_at lw_m2 126 rfl) rfl
theorem q433 : (Jvm.Cond.classLink "LeftIsAgreedOn" (133 : Nat) "java/lang/NullPointerException") ∈ lw_all := lw_g (lw_at lw_m2 127 rfl) rfl
theorem q458 : (Jvm.Cond.classLink "LeftIsAgreedOn" (135 : Nat) "java/lang/ArrayStoreException") ∈ lw_all := lw_g (lw_at lw_m2 152 rfl) rfl
theorem q472 : (Jvm.Cond.classLink "LeftIsAgreedOn" (137 : Nat) "java/lang/IndexOutOfBoundsException") ∈ lw_all := lw_g (lw_at lw_m2 166 rfl) rfl
theorem q473 : (Jvm.Cond.methodLink "LeftIsAgreedOn" (127 : Nat) ({ cls := "java/lang/System", name := "arraycopy", desc := "(Ljava/lang/Object;ILjava/lang/Object;II)V" } : Jvm.MethodName)) ∈ lw_all := lw_g (lw_at lw_m2 167 rfl) rfl
theorem q477 : (Jvm.Cond.instanceMethod ({ cls := "LeftIsAgreedOn", name := "element", desc := "(II)J" } : Jvm.MethodName)) ∈ lw_all := lw_g (lw_at lw_m2 171 rfl) rfl
theorem q478 : (Jvm.Cond.selects "LeftIsAgreedOn" ({ cls := "LeftIsAgreedOn", name := "element", desc := "(II)J" } : Jvm.MethodName) ({ cls := "LeftIsAgreedOn", name := "element", desc := "(II)J" } : Jvm.MethodName)) ∈ lw_all := lw_g (lw_at lw_m2 172 rfl) rfl
theorem q479 : (Jvm.Cond.codeWith ({ cls := "LeftIsAgreedOn", name := "element", desc := "(II)J" } : Jvm.MethodName) prog_1_method_15_code (4 : Nat) (Option.some Jvm.ClassFile.FieldType.long) [((9 : Nat), (18 : Nat), (19 : Nat), (108 : Nat)), ((9 : Nat), (18 : Nat), (22 : Nat), (125 : Nat))]) ∈ lw_all := lw_g (lw_at lw_m2 173 rfl) rfl
theorem q480 : (Jvm.Cond.methodLink "LeftIsAgreedOn" (139 : Nat) ({ cls := "LeftIsAgreedOn", name := "elementOf", desc := "(Ljava/lang/Object;I)J" } : Jvm.MethodName)) ∈ lw_all := lw_g (lw_at lw_m2 174 rfl) rfl
theorem q481 : (Jvm.Cond.static ({ cls := "LeftIsAgreedOn", name := "elementOf", desc := "(Ljava/lang/Object;I)J" } : Jvm.MethodName)) ∈ lw_all := lw_g (lw_at lw_m2 175 rfl) rfl
theorem q482 : (Jvm.Cond.code ({ cls := "LeftIsAgreedOn", name := "elementOf", desc := "(Ljava/lang/Object;I)J" } : Jvm.MethodName) prog_1_method_9_code (2 : Nat) (Option.some Jvm.ClassFile.FieldType.long)) ∈ lw_all := lw_g (lw_at lw_m2 176 rfl) rfl
theorem q484 : (Jvm.Cond.instanceMethod ({ cls := "LeftIsAgreedOn", name := "holds", desc := "(I)I" } : Jvm.MethodName)) ∈ lw_all := lw_g (lw_at lw_m2 178 rfl) rfl
theorem q485 : (Jvm.Cond.selects "LeftIsAgreedOn" ({ cls := "LeftIsAgreedOn", name := "holds", desc := "(I)I" } : Jvm.MethodName) ({ cls := "LeftIsAgreedOn", name := "holds", desc := "(I)I" } : Jvm.MethodName)) ∈ lw_all := lw_g (lw_at lw_m2 179 rfl) rfl
theorem q486 : (Jvm.Cond.code ({ cls := "LeftIsAgreedOn", name := "holds", desc := "(I)I" } : Jvm.MethodName) prog_1_method_16_code (3 : Nat) (Option.some Jvm.ClassFile.FieldType.int)) ∈ lw_all := lw_g (lw_at lw_m2 180 rfl) rfl
theorem q488 : (Jvm.Cond.instanceMethod ({ cls := "LeftIsAgreedOn", name := "show", desc := "(II)I" } : Jvm.MethodName)) ∈ lw_all := lw_g (lw_at lw_m2 182 rfl) rfl
theorem q489 : (Jvm.Cond.selects "LeftIsAgreedOn" ({ cls := "LeftIsAgreedOn", name := "show", desc := "(II)I" } : Jvm.MethodName) ({ cls := "LeftIsAgreedOn", name := "show", desc := "(II)I" } : Jvm.MethodName)) ∈ lw_all := lw_g (lw_at lw_m2 183 rfl) rfl
theorem q490 : (Jvm.Cond.code ({ cls := "LeftIsAgreedOn", name := "show", desc := "(II)I" } : Jvm.MethodName) prog_1_method_17_code (3 : Nat) (Option.some Jvm.ClassFile.FieldType.int)) ∈ lw_all := lw_g (lw_at lw_m2 184 rfl) rfl
theorem q491 : (Jvm.Cond.methodLink "LeftIsAgreedOn" (146 : Nat) ({ cls := "LeftIsAgreedOn$Island", name := "isPerson", desc := "(I)Z" } : Jvm.MethodName)) ∈ lw_all := lw_g (lw_at lw_m2 185 rfl) rfl
theorem q497 : (Jvm.Cond.instanceMethod ({ cls := "LeftIsAgreedOn", name := "says", desc := "(II)I" } : Jvm.MethodName)) ∈ lw_all := lw_g (lw_at lw_m2 191 rfl) rfl
theorem q498 : (Jvm.Cond.selects "LeftIsAgreedOn" ({ cls := "LeftIsAgreedOn", name := "says", desc := "(II)I" } : Jvm.MethodName) ({ cls := "LeftIsAgreedOn", name := "says", desc := "(II)I" } : Jvm.MethodName)) ∈ lw_all := lw_g (lw_at lw_m2 192 rfl) rfl
theorem q499 : (Jvm.Cond.codeWith ({ cls := "LeftIsAgreedOn", name := "says", desc := "(II)I" } : Jvm.MethodName) prog_1_method_19_code (5 : Nat) (Option.some Jvm.ClassFile.FieldType.int) [((44 : Nat), (87 : Nat), (133 : Nat), (179 : Nat)), ((88 : Nat), (96 : Nat), (133 : Nat), (179 : Nat)), ((97 : Nat), (105 : Nat), (133 : Nat), (179 : Nat)), ((106 : Nat), (114 : Nat), (133 : Nat), (179 : Nat)), ((115 : Nat), (123 : Nat), (133 : Nat), (179 : Nat)), ((124 : Nat), (132 : Nat), (133 : Nat), (179 : Nat))]) ∈ lw_all := lw_g (lw_at lw_m2 193 rfl) rfl
theorem q500 : (Jvm.Cond.classLink "LeftIsAgreedOn" (179 : Nat) "java/lang/ClassCastException") ∈ lw_all := lw_g (lw_at lw_m2 194 rfl) rfl
theorem q514 : (Jvm.Cond.classLink "LeftIsAgreedOn" (7 : Nat) "LeftIsAgreedOn$Olden") ∈ lw_all := lw_g (lw_at lw_m2 208 rfl) rfl
theorem q515 : (Jvm.Cond.methodLink "LeftIsAgreedOn" (175 : Nat) ({ cls := "LeftIsAgreedOn", name := "leftOf", desc := "(LLeftIsAgreedOn$Voter;)I" } : Jvm.MethodName)) ∈ lw_all := lw_g (lw_at lw_m2 209 rfl) rfl
theorem q516 : (Jvm.Cond.privateMethod ({ cls := "LeftIsAgreedOn", name := "leftOf", desc := "(LLeftIsAgreedOn$Voter;)I" } : Jvm.MethodName)) ∈ lw_tbl := lw_at lw_m2 210 rfl
theorem q517 : (Jvm.Cond.instanceMethod ({ cls := "LeftIsAgreedOn", name := "leftOf", desc := "(LLeftIsAgreedOn$Voter;)I" } : Jvm.MethodName)) ∈ lw_all := lw_g (lw_at lw_m2 211 rfl) rfl
theorem q518 : (Jvm.Cond.code ({ cls := "LeftIsAgreedOn", name := "leftOf", desc := "(LLeftIsAgreedOn$Voter;)I" } : Jvm.MethodName) prog_1_method_18_code (2 : Nat) (Option.some Jvm.ClassFile.FieldType.int)) ∈ lw_all := lw_g (lw_at lw_m2 212 rfl) rfl
theorem q519 : (Jvm.Cond.methodLink "LeftIsAgreedOn" (159 : Nat) ({ cls := "LeftIsAgreedOn$Walk", name := "begins", desc := "(II)LLeftIsAgreedOn$Walk;" } : Jvm.MethodName)) ∈ lw_all := lw_g (lw_at lw_m2 213 rfl) rfl
theorem q523 : (Jvm.Cond.methodLink "LeftIsAgreedOn" (166 : Nat) ({ cls := "LeftIsAgreedOn$Walk", name := "goes", desc := "(LLeftIsAgreedOn$Island;LLeftIsAgreedOn$Voter;II)V" } : Jvm.MethodName)) ∈ lw_all := lw_g (lw_at lw_m2 217 rfl) rfl
theorem q532 : (Jvm.Cond.laysStatic "LeftIsAgreedOn" "DOWN" "[I") ∈ lw_tbl := lw_at lw_m2 226 rfl
theorem q534 : (Jvm.Cond.laysStatic "LeftIsAgreedOn" "ACROSS" "[I") ∈ lw_tbl := lw_at lw_m2 228 rfl
theorem q540 : (Jvm.Cond.static ({ cls := "LeftIsAgreedOn", name := "has", desc := "(II)Z" } : Jvm.MethodName)) ∈ lw_all := lw_g (lw_at lw_m2 234 rfl) rfl
theorem q541 : (Jvm.Cond.code ({ cls := "LeftIsAgreedOn", name := "has", desc := "(II)Z" } : Jvm.MethodName) prog_1_method_2_code (2 : Nat) (Option.some Jvm.ClassFile.FieldType.boolean)) ∈ lw_all := lw_g (lw_at lw_m2 235 rfl) rfl
theorem q586 : (Jvm.Cond.classLink "LeftIsAgreedOn" (10 : Nat) "LeftIsAgreedOn$Doubter") ∈ lw_all := lw_g (lw_at lw_m3 40 rfl) rfl
theorem q587 : (Jvm.Cond.classLink "LeftIsAgreedOn" (13 : Nat) "LeftIsAgreedOn$Stubborn") ∈ lw_all := lw_g (lw_at lw_m3 41 rfl) rfl
theorem q588 : (Jvm.Cond.classLink "LeftIsAgreedOn" (16 : Nat) "LeftIsAgreedOn$Forder") ∈ lw_all := lw_g (lw_at lw_m3 42 rfl) rfl
theorem q589 : (Jvm.Cond.classLink "LeftIsAgreedOn" (19 : Nat) "LeftIsAgreedOn$Dancer") ∈ lw_all := lw_g (lw_at lw_m3 43 rfl) rfl
theorem q591 : (Jvm.Cond.instanceMethod ({ cls := "LeftIsAgreedOn", name := "side", desc := "(I)I" } : Jvm.MethodName)) ∈ lw_all := lw_g (lw_at lw_m3 45 rfl) rfl
theorem q592 : (Jvm.Cond.selects "LeftIsAgreedOn" ({ cls := "LeftIsAgreedOn", name := "side", desc := "(I)I" } : Jvm.MethodName) ({ cls := "LeftIsAgreedOn", name := "side", desc := "(I)I" } : Jvm.MethodName)) ∈ lw_all := lw_g (lw_at lw_m3 46 rfl) rfl
theorem q593 : (Jvm.Cond.code ({ cls := "LeftIsAgreedOn", name := "side", desc := "(I)I" } : Jvm.MethodName) prog_1_method_21_code (3 : Nat) (Option.some Jvm.ClassFile.FieldType.int)) ∈ lw_all := lw_g (lw_at lw_m3 47 rfl) rfl
theorem q595 : (Jvm.Cond.instanceMethod ({ cls := "LeftIsAgreedOn", name := "pond", desc := "(IZ)I" } : Jvm.MethodName)) ∈ lw_all := lw_g (lw_at lw_m3 49 rfl) rfl
theorem q596 : (Jvm.Cond.selects "LeftIsAgreedOn" ({ cls := "LeftIsAgreedOn", name := "pond", desc := "(IZ)I" } : Jvm.MethodName) ({ cls := "LeftIsAgreedOn", name := "pond", desc := "(IZ)I" } : Jvm.MethodName)) ∈ lw_all := lw_g (lw_at lw_m3 50 rfl) rfl
theorem q597 : (Jvm.Cond.code ({ cls := "LeftIsAgreedOn", name := "pond", desc := "(IZ)I" } : Jvm.MethodName) prog_1_method_22_code (4 : Nat) (Option.some Jvm.ClassFile.FieldType.int)) ∈ lw_all := lw_g (lw_at lw_m3 51 rfl) rfl
theorem q598 : (Jvm.Cond.methodLink "LeftIsAgreedOn" (184 : Nat) ({ cls := "LeftIsAgreedOn$Island", name := "isCell", desc := "(I)Z" } : Jvm.MethodName)) ∈ lw_all := lw_g (lw_at lw_m3 52 rfl) rfl
theorem q602 : (Jvm.Cond.methodLink "LeftIsAgreedOn" (187 : Nat) ({ cls := "LeftIsAgreedOn$Island", name := "mayPond", desc := "(I)Z" } : Jvm.MethodName)) ∈ lw_all := lw_g (lw_at lw_m3 56 rfl) rfl
theorem q606 : (Jvm.Cond.methodLink "LeftIsAgreedOn" (190 : Nat) ({ cls := "LeftIsAgreedOn$Island", name := "isPond", desc := "(I)Z" } : Jvm.MethodName)) ∈ lw_all := lw_g (lw_at lw_m3 60 rfl) rfl
theorem q607 : (Jvm.Cond.methodLink "LeftIsAgreedOn" (193 : Nat) ({ cls := "LeftIsAgreedOn$Island", name := "pond", desc := "(IZ)V" } : Jvm.MethodName)) ∈ lw_all := lw_g (lw_at lw_m3 61 rfl) rfl
theorem q612 : (Jvm.Cond.instanceMethod ({ cls := "LeftIsAgreedOn", name := "person", desc := "(IIII)I" } : Jvm.MethodName)) ∈ lw_all := lw_g (lw_at lw_m3 66 rfl) rfl
theorem q613 : (Jvm.Cond.selects "LeftIsAgreedOn" ({ cls := "LeftIsAgreedOn", name := "person", desc := "(IIII)I" } : Jvm.MethodName) ({ cls := "LeftIsAgreedOn", name := "person", desc := "(IIII)I" } : Jvm.MethodName)) ∈ lw_all := lw_g (lw_at lw_m3 67 rfl) rfl
theorem q614 : (Jvm.Cond.code ({ cls := "LeftIsAgreedOn", name := "person", desc := "(IIII)I" } : Jvm.MethodName) prog_1_method_24_code (5 : Nat) (Option.some Jvm.ClassFile.FieldType.int)) ∈ lw_all := lw_g (lw_at lw_m3 68 rfl) rfl
theorem q615 : (Jvm.Cond.methodLink "LeftIsAgreedOn" (197 : Nat) ({ cls := "LeftIsAgreedOn", name := "isFaced", desc := "(I)Z" } : Jvm.MethodName)) ∈ lw_all := lw_g (lw_at lw_m3 69 rfl) rfl
theorem q616 : (Jvm.Cond.static ({ cls := "LeftIsAgreedOn", name := "isFaced", desc := "(I)Z" } : Jvm.MethodName)) ∈ lw_all := lw_g (lw_at lw_m3 70 rfl) rfl
theorem q617 : (Jvm.Cond.code ({ cls := "LeftIsAgreedOn", name := "isFaced", desc := "(I)Z" } : Jvm.MethodName) prog_1_method_23_code (1 : Nat) (Option.some Jvm.ClassFile.FieldType.boolean)) ∈ lw_all := lw_g (lw_at lw_m3 71 rfl) rfl
theorem q618 : (Jvm.Cond.methodLink "LeftIsAgreedOn" (203 : Nat) ({ cls := "LeftIsAgreedOn$Island", name := "adds", desc := "(IIII)I" } : Jvm.MethodName)) ∈ lw_all := lw_g (lw_at lw_m3 72 rfl) rfl
theorem q623 : (Jvm.Cond.static ({ cls := "LeftIsAgreedOn", name := "made", desc := "(III)LLeftIsAgreedOn$Voter;" } : Jvm.MethodName)) ∈ lw_all := lw_g (lw_at lw_m3 77 rfl) rfl
theorem q624 : (Jvm.Cond.code ({ cls := "LeftIsAgreedOn", name := "made", desc := "(III)LLeftIsAgreedOn$Voter;" } : Jvm.MethodName) prog_1_method_3_code (3 : Nat) (Option.some (Jvm.ClassFile.FieldType.object "LeftIsAgreedOn$Voter"))) ∈ lw_all := lw_g (lw_at lw_m3 78 rfl) rfl
theorem q626 : (Jvm.Cond.methodLink "LeftIsAgreedOn" (3 : Nat) ({ cls := "LeftIsAgreedOn$Voter", name := "<init>", desc := "(II)V" } : Jvm.MethodName)) ∈ lw_all := lw_g (lw_at lw_m3 80 rfl) rfl
theorem q633 : (Jvm.Cond.fieldLink "LeftIsAgreedOn" (143 : Nat) "LeftIsAgreedOn$Voter" "number" "I") ∈ lw_all := lw_g (lw_at lw_m3 87 rfl) rfl
theorem q636 : (Jvm.Cond.fieldLink "LeftIsAgreedOn" (172 : Nat) "LeftIsAgreedOn$Voter" "a" "I") ∈ lw_all := lw_g (lw_at lw_m3 90 rfl) rfl
theorem q643 : (Jvm.Cond.methodLink "LeftIsAgreedOn" (9 : Nat) ({ cls := "LeftIsAgreedOn$Olden", name := "<init>", desc := "(II)V" } : Jvm.MethodName)) ∈ lw_all := lw_g (lw_at lw_m3 97 rfl) rfl
theorem q651 : (Jvm.Cond.methodLink "LeftIsAgreedOn" (12 : Nat) ({ cls := "LeftIsAgreedOn$Doubter", name := "<init>", desc := "(II)V" } : Jvm.MethodName)) ∈ lw_all := lw_g (lw_at lw_m3 105 rfl) rfl
theorem q658 : (Jvm.Cond.methodLink "LeftIsAgreedOn" (15 : Nat) ({ cls := "LeftIsAgreedOn$Stubborn", name := "<init>", desc := "(II)V" } : Jvm.MethodName)) ∈ lw_all := lw_g (lw_at lw_m3 112 rfl) rfl
theorem q666 : (Jvm.Cond.methodLink "LeftIsAgreedOn" (18 : Nat) ({ cls := "LeftIsAgreedOn$Forder", name := "<init>", desc := "(II)V" } : Jvm.MethodName)) ∈ lw_all := lw_g (lw_at lw_m3 120 rfl) rfl
theorem q674 : (Jvm.Cond.methodLink "LeftIsAgreedOn" (21 : Nat) ({ cls := "LeftIsAgreedOn$Dancer", name := "<init>", desc := "(II)V" } : Jvm.MethodName)) ∈ lw_all := lw_g (lw_at lw_m3 128 rfl) rfl
theorem q681 : (Jvm.Cond.instanceMethod ({ cls := "LeftIsAgreedOn", name := "tell", desc := "(II)I" } : Jvm.MethodName)) ∈ lw_all := lw_g (lw_at lw_m3 135 rfl) rfl
theorem q682 : (Jvm.Cond.selects "LeftIsAgreedOn" ({ cls := "LeftIsAgreedOn", name := "tell", desc := "(II)I" } : Jvm.MethodName) ({ cls := "LeftIsAgreedOn", name := "tell", desc := "(II)I" } : Jvm.MethodName)) ∈ lw_all := lw_g (lw_at lw_m3 136 rfl) rfl
theorem q683 : (Jvm.Cond.code ({ cls := "LeftIsAgreedOn", name := "tell", desc := "(II)I" } : Jvm.MethodName) prog_1_method_25_code (4 : Nat) (Option.some Jvm.ClassFile.FieldType.int)) ∈ lw_all := lw_g (lw_at lw_m3 137 rfl) rfl
theorem q685 : (Jvm.Cond.instanceMethod ({ cls := "LeftIsAgreedOn", name := "isFor", desc := "(II)I" } : Jvm.MethodName)) ∈ lw_all := lw_g (lw_at lw_m3 139 rfl) rfl
theorem q686 : (Jvm.Cond.selects "LeftIsAgreedOn" ({ cls := "LeftIsAgreedOn", name := "isFor", desc := "(II)I" } : Jvm.MethodName) ({ cls := "LeftIsAgreedOn", name := "isFor", desc := "(II)I" } : Jvm.MethodName)) ∈ lw_all := lw_g (lw_at lw_m3 140 rfl) rfl
theorem q687 : (Jvm.Cond.code ({ cls := "LeftIsAgreedOn", name := "isFor", desc := "(II)I" } : Jvm.MethodName) prog_1_method_26_code (4 : Nat) (Option.some Jvm.ClassFile.FieldType.int)) ∈ lw_all := lw_g (lw_at lw_m3 141 rfl) rfl
theorem q689 : (Jvm.Cond.instanceMethod ({ cls := "LeftIsAgreedOn", name := "put", desc := "(III)I" } : Jvm.MethodName)) ∈ lw_all := lw_g (lw_at lw_m3 143 rfl) rfl
theorem q690 : (Jvm.Cond.selects "LeftIsAgreedOn" ({ cls := "LeftIsAgreedOn", name := "put", desc := "(III)I" } : Jvm.MethodName) ({ cls := "LeftIsAgreedOn", name := "put", desc := "(III)I" } : Jvm.MethodName)) ∈ lw_all := lw_g (lw_at lw_m3 144 rfl) rfl
theorem q691 : (Jvm.Cond.code ({ cls := "LeftIsAgreedOn", name := "put", desc := "(III)I" } : Jvm.MethodName) prog_1_method_27_code (5 : Nat) (Option.some Jvm.ClassFile.FieldType.int)) ∈ lw_all := lw_g (lw_at lw_m3 145 rfl) rfl
theorem q693 : (Jvm.Cond.instanceMethod ({ cls := "LeftIsAgreedOn", name := "feed", desc := "(I)I" } : Jvm.MethodName)) ∈ lw_all := lw_g (lw_at lw_m3 147 rfl) rfl
theorem q694 : (Jvm.Cond.selects "LeftIsAgreedOn" ({ cls := "LeftIsAgreedOn", name := "feed", desc := "(I)I" } : Jvm.MethodName) ({ cls := "LeftIsAgreedOn", name := "feed", desc := "(I)I" } : Jvm.MethodName)) ∈ lw_all := lw_g (lw_at lw_m3 148 rfl) rfl
theorem q695 : (Jvm.Cond.code ({ cls := "LeftIsAgreedOn", name := "feed", desc := "(I)I" } : Jvm.MethodName) prog_1_method_28_code (2 : Nat) (Option.some Jvm.ClassFile.FieldType.int)) ∈ lw_all := lw_g (lw_at lw_m3 149 rfl) rfl
theorem q697 : (Jvm.Cond.instanceMethod ({ cls := "LeftIsAgreedOn", name := "wipe", desc := "()I" } : Jvm.MethodName)) ∈ lw_all := lw_g (lw_at lw_m3 151 rfl) rfl
theorem q698 : (Jvm.Cond.selects "LeftIsAgreedOn" ({ cls := "LeftIsAgreedOn", name := "wipe", desc := "()I" } : Jvm.MethodName) ({ cls := "LeftIsAgreedOn", name := "wipe", desc := "()I" } : Jvm.MethodName)) ∈ lw_all := lw_g (lw_at lw_m3 152 rfl) rfl
theorem q699 : (Jvm.Cond.code ({ cls := "LeftIsAgreedOn", name := "wipe", desc := "()I" } : Jvm.MethodName) prog_1_method_29_code (2 : Nat) (Option.some Jvm.ClassFile.FieldType.int)) ∈ lw_all := lw_g (lw_at lw_m3 153 rfl) rfl
theorem q701 : (Jvm.Cond.instanceMethod ({ cls := "LeftIsAgreedOn", name := "island", desc := "()I" } : Jvm.MethodName)) ∈ lw_all := lw_g (lw_at lw_m3 155 rfl) rfl
theorem q702 : (Jvm.Cond.selects "LeftIsAgreedOn" ({ cls := "LeftIsAgreedOn", name := "island", desc := "()I" } : Jvm.MethodName) ({ cls := "LeftIsAgreedOn", name := "island", desc := "()I" } : Jvm.MethodName)) ∈ lw_all := lw_g (lw_at lw_m3 156 rfl) rfl
theorem q703 : (Jvm.Cond.codeWith ({ cls := "LeftIsAgreedOn", name := "island", desc := "()I" } : Jvm.MethodName) prog_1_method_30_code (5 : Nat) (Option.some Jvm.ClassFile.FieldType.int) [((0 : Nat), (38 : Nat), (45 : Nat), (233 : Nat)), ((0 : Nat), (38 : Nat), (68 : Nat), (0 : Nat)), ((45 : Nat), (61 : Nat), (68 : Nat), (0 : Nat)), ((68 : Nat), (70 : Nat), (68 : Nat), (0 : Nat))]) ∈ lw_all := lw_g (lw_at lw_m3 157 rfl) rfl
theorem q704 : (Jvm.Cond.classLink "LeftIsAgreedOn" (233 : Nat) "LeftIsAgreedOn$Fault") ∈ lw_all := lw_g (lw_at lw_m3 158 rfl) rfl
theorem q705 : (Jvm.Cond.classLink "LeftIsAgreedOn" (213 : Nat) "LeftIsAgreedOn$Reader") ∈ lw_all := lw_g (lw_at lw_m3 159 rfl) rfl
theorem q707 : (Jvm.Cond.methodLink "LeftIsAgreedOn" (215 : Nat) ({ cls := "LeftIsAgreedOn$Island", name := "copied", desc := "()LLeftIsAgreedOn$Island;" } : Jvm.MethodName)) ∈ lw_all := lw_g (lw_at lw_m3 161 rfl) rfl
theorem q714 : (Jvm.Cond.methodLink "LeftIsAgreedOn" (219 : Nat) ({ cls := "LeftIsAgreedOn$Reader", name := "<init>", desc := "([IILLeftIsAgreedOn$Island;)V" } : Jvm.MethodName)) ∈ lw_all := lw_g (lw_at lw_m3 168 rfl) rfl
theorem q721 : (Jvm.Cond.fieldLink "LeftIsAgreedOn" (226 : Nat) "LeftIsAgreedOn$Reader" "island" "LLeftIsAgreedOn$Island;") ∈ lw_all := lw_g (lw_at lw_m3 175 rfl) rfl
theorem q741 : (Jvm.Cond.methodLink "LeftIsAgreedOn" (222 : Nat) ({ cls := "LeftIsAgreedOn$Reader", name := "read", desc := "()I" } : Jvm.MethodName)) ∈ lw_all := lw_g (lw_at lw_m3 195 rfl) rfl
theorem q964 : (Jvm.Cond.fieldLink "LeftIsAgreedOn" (235 : Nat) "LeftIsAgreedOn$Fault" "place" "I") ∈ lw_all := lw_g (lw_at lw_m4 178 rfl) rfl
theorem q1067 : (Jvm.Cond.methodLink "LeftIsAgreedOn" (229 : Nat) ({ cls := "LeftIsAgreedOn", name := "becomes", desc := "(LLeftIsAgreedOn$Island;)V" } : Jvm.MethodName)) ∈ lw_all := lw_g (lw_at lw_m5 41 rfl) rfl
theorem q1068 : (Jvm.Cond.privateMethod ({ cls := "LeftIsAgreedOn", name := "becomes", desc := "(LLeftIsAgreedOn$Island;)V" } : Jvm.MethodName)) ∈ lw_tbl := lw_at lw_m5 42 rfl
theorem q1069 : (Jvm.Cond.instanceMethod ({ cls := "LeftIsAgreedOn", name := "becomes", desc := "(LLeftIsAgreedOn$Island;)V" } : Jvm.MethodName)) ∈ lw_all := lw_g (lw_at lw_m5 43 rfl) rfl
theorem q1070 : (Jvm.Cond.code ({ cls := "LeftIsAgreedOn", name := "becomes", desc := "(LLeftIsAgreedOn$Island;)V" } : Jvm.MethodName) prog_1_method_20_code (4 : Nat) (Option.none : Option Jvm.ClassFile.FieldType)) ∈ lw_all := lw_g (lw_at lw_m5 44 rfl) rfl
theorem q1072 : (Jvm.Cond.instanceMethod ({ cls := "LeftIsAgreedOn", name := "personOf", desc := "(II)I" } : Jvm.MethodName)) ∈ lw_all := lw_g (lw_at lw_m5 46 rfl) rfl
theorem q1073 : (Jvm.Cond.selects "LeftIsAgreedOn" ({ cls := "LeftIsAgreedOn", name := "personOf", desc := "(II)I" } : Jvm.MethodName) ({ cls := "LeftIsAgreedOn", name := "personOf", desc := "(II)I" } : Jvm.MethodName)) ∈ lw_all := lw_g (lw_at lw_m5 47 rfl) rfl
theorem q1074 : (Jvm.Cond.code ({ cls := "LeftIsAgreedOn", name := "personOf", desc := "(II)I" } : Jvm.MethodName) prog_1_method_31_code (3 : Nat) (Option.some Jvm.ClassFile.FieldType.int)) ∈ lw_all := lw_g (lw_at lw_m5 48 rfl) rfl
theorem q1075 : (Jvm.Cond.methodLink "LeftIsAgreedOn" (238 : Nat) ({ cls := "LeftIsAgreedOn$Voter", name := "kind", desc := "()I" } : Jvm.MethodName)) ∈ lw_all := lw_g (lw_at lw_m5 49 rfl) rfl
theorem q1095 : (Jvm.Cond.methodLink "LeftIsAgreedOn" (241 : Nat) ({ cls := "LeftIsAgreedOn", name := "power", desc := "(I)I" } : Jvm.MethodName)) ∈ lw_all := lw_g (lw_at lw_m5 69 rfl) rfl
theorem q1096 : (Jvm.Cond.privateMethod ({ cls := "LeftIsAgreedOn", name := "power", desc := "(I)I" } : Jvm.MethodName)) ∈ lw_tbl := lw_at lw_m5 70 rfl
theorem q1097 : (Jvm.Cond.instanceMethod ({ cls := "LeftIsAgreedOn", name := "power", desc := "(I)I" } : Jvm.MethodName)) ∈ lw_all := lw_g (lw_at lw_m5 71 rfl) rfl
theorem q1098 : (Jvm.Cond.code ({ cls := "LeftIsAgreedOn", name := "power", desc := "(I)I" } : Jvm.MethodName) prog_1_method_63_code (6 : Nat) (Option.some Jvm.ClassFile.FieldType.int)) ∈ lw_all := lw_g (lw_at lw_m5 72 rfl) rfl
theorem q1099 : (Jvm.Cond.methodLink "LeftIsAgreedOn" (316 : Nat) ({ cls := "LeftIsAgreedOn$Island", name := "everybody", desc := "()I" } : Jvm.MethodName)) ∈ lw_all := lw_g (lw_at lw_m5 73 rfl) rfl
theorem q1103 : (Jvm.Cond.methodLink "LeftIsAgreedOn" (319 : Nat) ({ cls := "LeftIsAgreedOn$Island", name := "weight", desc := "(I)I" } : Jvm.MethodName)) ∈ lw_all := lw_g (lw_at lw_m5 77 rfl) rfl
theorem q1107 : (Jvm.Cond.methodLink "LeftIsAgreedOn" (322 : Nat) ({ cls := "LeftIsAgreedOn", name := "has", desc := "(II)Z" } : Jvm.MethodName)) ∈ lw_all := lw_g (lw_at lw_m5 81 rfl) rfl
theorem q1109 : (Jvm.Cond.instanceMethod ({ cls := "LeftIsAgreedOn", name := "isPond", desc := "(I)I" } : Jvm.MethodName)) ∈ lw_all := lw_g (lw_at lw_m5 83 rfl) rfl
theorem q1110 : (Jvm.Cond.selects "LeftIsAgreedOn" ({ cls := "LeftIsAgreedOn", name := "isPond", desc := "(I)I" } : Jvm.MethodName) ({ cls := "LeftIsAgreedOn", name := "isPond", desc := "(I)I" } : Jvm.MethodName)) ∈ lw_all := lw_g (lw_at lw_m5 84 rfl) rfl
theorem q1111 : (Jvm.Cond.code ({ cls := "LeftIsAgreedOn", name := "isPond", desc := "(I)I" } : Jvm.MethodName) prog_1_method_32_code (2 : Nat) (Option.some Jvm.ClassFile.FieldType.int)) ∈ lw_all := lw_g (lw_at lw_m5 85 rfl) rfl
theorem q1113 : (Jvm.Cond.instanceMethod ({ cls := "LeftIsAgreedOn", name := "judge", desc := "(II)I" } : Jvm.MethodName)) ∈ lw_all := lw_g (lw_at lw_m5 87 rfl) rfl
theorem q1114 : (Jvm.Cond.selects "LeftIsAgreedOn" ({ cls := "LeftIsAgreedOn", name := "judge", desc := "(II)I" } : Jvm.MethodName) ({ cls := "LeftIsAgreedOn", name := "judge", desc := "(II)I" } : Jvm.MethodName)) ∈ lw_all := lw_g (lw_at lw_m5 88 rfl) rfl
theorem q1115 : (Jvm.Cond.codeWith ({ cls := "LeftIsAgreedOn", name := "judge", desc := "(II)I" } : Jvm.MethodName) prog_1_method_38_code (4 : Nat) (Option.some Jvm.ClassFile.FieldType.int) [((0 : Nat), (10 : Nat), (11 : Nat), (108 : Nat))]) ∈ lw_all := lw_g (lw_at lw_m5 89 rfl) rfl
theorem q1116 : (Jvm.Cond.methodLink "LeftIsAgreedOn" (254 : Nat) ({ cls := "LeftIsAgreedOn", name := "toldIn", desc := "(ZII)[J" } : Jvm.MethodName)) ∈ lw_all := lw_g (lw_at lw_m5 90 rfl) rfl
theorem q1117 : (Jvm.Cond.privateMethod ({ cls := "LeftIsAgreedOn", name := "toldIn", desc := "(ZII)[J" } : Jvm.MethodName)) ∈ lw_tbl := lw_at lw_m5 91 rfl
theorem q1118 : (Jvm.Cond.instanceMethod ({ cls := "LeftIsAgreedOn", name := "toldIn", desc := "(ZII)[J" } : Jvm.MethodName)) ∈ lw_all := lw_g (lw_at lw_m5 92 rfl) rfl
theorem q1119 : (Jvm.Cond.code ({ cls := "LeftIsAgreedOn", name := "toldIn", desc := "(ZII)[J" } : Jvm.MethodName) prog_1_method_34_code (4 : Nat) (Option.some (Jvm.ClassFile.FieldType.array Jvm.ClassFile.FieldType.long))) ∈ lw_all := lw_g (lw_at lw_m5 93 rfl) rfl
theorem q1120 : (Jvm.Cond.methodLink "LeftIsAgreedOn" (244 : Nat) ({ cls := "LeftIsAgreedOn", name := "elementsIn", desc := "(Ljava/lang/Object;I)[J" } : Jvm.MethodName)) ∈ lw_all := lw_g (lw_at lw_m5 94 rfl) rfl
theorem q1121 : (Jvm.Cond.static ({ cls := "LeftIsAgreedOn", name := "elementsIn", desc := "(Ljava/lang/Object;I)[J" } : Jvm.MethodName)) ∈ lw_all := lw_g (lw_at lw_m5 95 rfl) rfl
theorem q1122 : (Jvm.Cond.codeWith ({ cls := "LeftIsAgreedOn", name := "elementsIn", desc := "(Ljava/lang/Object;I)[J" } : Jvm.MethodName) prog_1_method_33_code (4 : Nat) (Option.some (Jvm.ClassFile.FieldType.array Jvm.ClassFile.FieldType.long)) [((4 : Nat), (25 : Nat), (28 : Nat), (125 : Nat))]) ∈ lw_all := lw_g (lw_at lw_m5 96 rfl) rfl
theorem q1123 : (Jvm.Cond.methodLink "LeftIsAgreedOn" (250 : Nat) ({ cls := "LeftIsAgreedOn", name := "wrongIn", desc := "([J)I" } : Jvm.MethodName)) ∈ lw_all := lw_g (lw_at lw_m5 97 rfl) rfl
theorem q1124 : (Jvm.Cond.static ({ cls := "LeftIsAgreedOn", name := "wrongIn", desc := "([J)I" } : Jvm.MethodName)) ∈ lw_all := lw_g (lw_at lw_m5 98 rfl) rfl
theorem q1125 : (Jvm.Cond.code ({ cls := "LeftIsAgreedOn", name := "wrongIn", desc := "([J)I" } : Jvm.MethodName) prog_1_method_35_code (2 : Nat) (Option.some Jvm.ClassFile.FieldType.int)) ∈ lw_all := lw_g (lw_at lw_m5 99 rfl) rfl
theorem q1126 : (Jvm.Cond.constantLong "LeftIsAgreedOn" (248 : Nat) (4 : Int64)) ∈ lw_all := lw_g (lw_at lw_m5 100 rfl) rfl
theorem q1128 : (Jvm.Cond.instanceMethod ({ cls := "LeftIsAgreedOn", name := "comes", desc := "(IIII)I" } : Jvm.MethodName)) ∈ lw_all := lw_g (lw_at lw_m5 102 rfl) rfl
theorem q1129 : (Jvm.Cond.selects "LeftIsAgreedOn" ({ cls := "LeftIsAgreedOn", name := "comes", desc := "(IIII)I" } : Jvm.MethodName) ({ cls := "LeftIsAgreedOn", name := "comes", desc := "(IIII)I" } : Jvm.MethodName)) ∈ lw_all := lw_g (lw_at lw_m5 103 rfl) rfl
theorem q1130 : (Jvm.Cond.codeWith ({ cls := "LeftIsAgreedOn", name := "comes", desc := "(IIII)I" } : Jvm.MethodName) prog_1_method_41_code (6 : Nat) (Option.some Jvm.ClassFile.FieldType.int) [((0 : Nat), (71 : Nat), (72 : Nat), (108 : Nat))]) ∈ lw_all := lw_g (lw_at lw_m5 104 rfl) rfl
theorem q1131 : (Jvm.Cond.methodLink "LeftIsAgreedOn" (266 : Nat) ({ cls := "LeftIsAgreedOn", name := "signsIn", desc := "(ZII)[J" } : Jvm.MethodName)) ∈ lw_all := lw_g (lw_at lw_m5 105 rfl) rfl
theorem q1132 : (Jvm.Cond.privateMethod ({ cls := "LeftIsAgreedOn", name := "signsIn", desc := "(ZII)[J" } : Jvm.MethodName)) ∈ lw_tbl := lw_at lw_m5 106 rfl
theorem q1133 : (Jvm.Cond.instanceMethod ({ cls := "LeftIsAgreedOn", name := "signsIn", desc := "(ZII)[J" } : Jvm.MethodName)) ∈ lw_all := lw_g (lw_at lw_m5 107 rfl) rfl
theorem q1134 : (Jvm.Cond.code ({ cls := "LeftIsAgreedOn", name := "signsIn", desc := "(ZII)[J" } : Jvm.MethodName) prog_1_method_37_code (4 : Nat) (Option.some (Jvm.ClassFile.FieldType.array Jvm.ClassFile.FieldType.long))) ∈ lw_all := lw_g (lw_at lw_m5 108 rfl) rfl
theorem q1135 : (Jvm.Cond.methodLink "LeftIsAgreedOn" (258 : Nat) ({ cls := "LeftIsAgreedOn", name := "signs", desc := "([J)[J" } : Jvm.MethodName)) ∈ lw_all := lw_g (lw_at lw_m5 109 rfl) rfl
theorem q1136 : (Jvm.Cond.static ({ cls := "LeftIsAgreedOn", name := "signs", desc := "([J)[J" } : Jvm.MethodName)) ∈ lw_all := lw_g (lw_at lw_m5 110 rfl) rfl
theorem q1137 : (Jvm.Cond.code ({ cls := "LeftIsAgreedOn", name := "signs", desc := "([J)[J" } : Jvm.MethodName) prog_1_method_36_code (1 : Nat) (Option.some (Jvm.ClassFile.FieldType.array Jvm.ClassFile.FieldType.long))) ∈ lw_all := lw_g (lw_at lw_m5 111 rfl) rfl
theorem q1138 : (Jvm.Cond.methodLink "LeftIsAgreedOn" (269 : Nat) ({ cls := "LeftIsAgreedOn", name := "walkedBy", desc := "(I[J)LLeftIsAgreedOn$Walk;" } : Jvm.MethodName)) ∈ lw_all := lw_g (lw_at lw_m5 112 rfl) rfl
theorem q1139 : (Jvm.Cond.privateMethod ({ cls := "LeftIsAgreedOn", name := "walkedBy", desc := "(I[J)LLeftIsAgreedOn$Walk;" } : Jvm.MethodName)) ∈ lw_tbl := lw_at lw_m5 113 rfl
theorem q1140 : (Jvm.Cond.instanceMethod ({ cls := "LeftIsAgreedOn", name := "walkedBy", desc := "(I[J)LLeftIsAgreedOn$Walk;" } : Jvm.MethodName)) ∈ lw_all := lw_g (lw_at lw_m5 114 rfl) rfl
theorem q1141 : (Jvm.Cond.code ({ cls := "LeftIsAgreedOn", name := "walkedBy", desc := "(I[J)LLeftIsAgreedOn$Walk;" } : Jvm.MethodName) prog_1_method_40_code (3 : Nat) (Option.some (Jvm.ClassFile.FieldType.object "LeftIsAgreedOn$Walk"))) ∈ lw_all := lw_g (lw_at lw_m5 115 rfl) rfl
theorem q1142 : (Jvm.Cond.methodLink "LeftIsAgreedOn" (262 : Nat) ({ cls := "LeftIsAgreedOn", name := "walked", desc := "(LLeftIsAgreedOn$Voter;I[JI)LLeftIsAgreedOn$Walk;" } : Jvm.MethodName)) ∈ lw_all := lw_g (lw_at lw_m5 116 rfl) rfl
theorem q1143 : (Jvm.Cond.privateMethod ({ cls := "LeftIsAgreedOn", name := "walked", desc := "(LLeftIsAgreedOn$Voter;I[JI)LLeftIsAgreedOn$Walk;" } : Jvm.MethodName)) ∈ lw_tbl := lw_at lw_m5 117 rfl
theorem q1144 : (Jvm.Cond.instanceMethod ({ cls := "LeftIsAgreedOn", name := "walked", desc := "(LLeftIsAgreedOn$Voter;I[JI)LLeftIsAgreedOn$Walk;" } : Jvm.MethodName)) ∈ lw_all := lw_g (lw_at lw_m5 118 rfl) rfl
theorem q1145 : (Jvm.Cond.code ({ cls := "LeftIsAgreedOn", name := "walked", desc := "(LLeftIsAgreedOn$Voter;I[JI)LLeftIsAgreedOn$Walk;" } : Jvm.MethodName) prog_1_method_39_code (10 : Nat) (Option.some (Jvm.ClassFile.FieldType.object "LeftIsAgreedOn$Walk"))) ∈ lw_all := lw_g (lw_at lw_m5 119 rfl) rfl
theorem q1147 : (Jvm.Cond.instanceMethod ({ cls := "LeftIsAgreedOn", name := "fell", desc := "(II)I" } : Jvm.MethodName)) ∈ lw_all := lw_g (lw_at lw_m5 121 rfl) rfl
theorem q1148 : (Jvm.Cond.selects "LeftIsAgreedOn" ({ cls := "LeftIsAgreedOn", name := "fell", desc := "(II)I" } : Jvm.MethodName) ({ cls := "LeftIsAgreedOn", name := "fell", desc := "(II)I" } : Jvm.MethodName)) ∈ lw_all := lw_g (lw_at lw_m5 122 rfl) rfl
theorem q1149 : (Jvm.Cond.codeWith ({ cls := "LeftIsAgreedOn", name := "fell", desc := "(II)I" } : Jvm.MethodName) prog_1_method_42_code (6 : Nat) (Option.some Jvm.ClassFile.FieldType.int) [((0 : Nat), (58 : Nat), (59 : Nat), (108 : Nat))]) ∈ lw_all := lw_g (lw_at lw_m5 123 rfl) rfl
theorem q1151 : (Jvm.Cond.instanceMethod ({ cls := "LeftIsAgreedOn", name := "ponds", desc := "(III)I" } : Jvm.MethodName)) ∈ lw_all := lw_g (lw_at lw_m5 125 rfl) rfl
theorem q1152 : (Jvm.Cond.selects "LeftIsAgreedOn" ({ cls := "LeftIsAgreedOn", name := "ponds", desc := "(III)I" } : Jvm.MethodName) ({ cls := "LeftIsAgreedOn", name := "ponds", desc := "(III)I" } : Jvm.MethodName)) ∈ lw_all := lw_g (lw_at lw_m5 126 rfl) rfl
theorem q1153 : (Jvm.Cond.codeWith ({ cls := "LeftIsAgreedOn", name := "ponds", desc := "(III)I" } : Jvm.MethodName) prog_1_method_43_code (8 : Nat) (Option.some Jvm.ClassFile.FieldType.int) [((0 : Nat), (116 : Nat), (117 : Nat), (108 : Nat))]) ∈ lw_all := lw_g (lw_at lw_m5 127 rfl) rfl
theorem q1155 : (Jvm.Cond.instanceMethod ({ cls := "LeftIsAgreedOn", name := "kinds", desc := "(IIIII)I" } : Jvm.MethodName)) ∈ lw_all := lw_g (lw_at lw_m5 129 rfl) rfl
theorem q1156 : (Jvm.Cond.selects "LeftIsAgreedOn" ({ cls := "LeftIsAgreedOn", name := "kinds", desc := "(IIIII)I" } : Jvm.MethodName) ({ cls := "LeftIsAgreedOn", name := "kinds", desc := "(IIIII)I" } : Jvm.MethodName)) ∈ lw_all := lw_g (lw_at lw_m5 130 rfl) rfl
theorem q1157 : (Jvm.Cond.codeWith ({ cls := "LeftIsAgreedOn", name := "kinds", desc := "(IIIII)I" } : Jvm.MethodName) prog_1_method_44_code (13 : Nat) (Option.some Jvm.ClassFile.FieldType.int) [((0 : Nat), (175 : Nat), (176 : Nat), (108 : Nat))]) ∈ lw_all := lw_g (lw_at lw_m5 131 rfl) rfl
theorem q1158 : (Jvm.Cond.methodLink "LeftIsAgreedOn" (278 : Nat) ({ cls := "LeftIsAgreedOn", name := "made", desc := "(III)LLeftIsAgreedOn$Voter;" } : Jvm.MethodName)) ∈ lw_all := lw_g (lw_at lw_m5 132 rfl) rfl
theorem q1160 : (Jvm.Cond.instanceMethod ({ cls := "LeftIsAgreedOn", name := "who", desc := "(III)I" } : Jvm.MethodName)) ∈ lw_all := lw_g (lw_at lw_m5 134 rfl) rfl
theorem q1161 : (Jvm.Cond.selects "LeftIsAgreedOn" ({ cls := "LeftIsAgreedOn", name := "who", desc := "(III)I" } : Jvm.MethodName) ({ cls := "LeftIsAgreedOn", name := "who", desc := "(III)I" } : Jvm.MethodName)) ∈ lw_all := lw_g (lw_at lw_m5 135 rfl) rfl
theorem q1162 : (Jvm.Cond.codeWith ({ cls := "LeftIsAgreedOn", name := "who", desc := "(III)I" } : Jvm.MethodName) prog_1_method_45_code (7 : Nat) (Option.some Jvm.ClassFile.FieldType.int) [((0 : Nat), (70 : Nat), (71 : Nat), (108 : Nat))]) ∈ lw_all := lw_g (lw_at lw_m5 136 rfl) rfl
theorem q1164 : (Jvm.Cond.instanceMethod ({ cls := "LeftIsAgreedOn", name := "crowd", desc := "(III)I" } : Jvm.MethodName)) ∈ lw_all := lw_g (lw_at lw_m5 138 rfl) rfl
theorem q1165 : (Jvm.Cond.selects "LeftIsAgreedOn" ({ cls := "LeftIsAgreedOn", name := "crowd", desc := "(III)I" } : Jvm.MethodName) ({ cls := "LeftIsAgreedOn", name := "crowd", desc := "(III)I" } : Jvm.MethodName)) ∈ lw_all := lw_g (lw_at lw_m5 139 rfl) rfl
theorem q1166 : (Jvm.Cond.codeWith ({ cls := "LeftIsAgreedOn", name := "crowd", desc := "(III)I" } : Jvm.MethodName) prog_1_method_46_code (7 : Nat) (Option.some Jvm.ClassFile.FieldType.int) [((0 : Nat), (144 : Nat), (145 : Nat), (108 : Nat))]) ∈ lw_all := lw_g (lw_at lw_m5 140 rfl) rfl
theorem q1167 : (Jvm.Cond.methodLink "LeftIsAgreedOn" (282 : Nat) ({ cls := "java/util/Arrays", name := "fill", desc := "([II)V" } : Jvm.MethodName)) ∈ lw_all := lw_g (lw_at lw_m5 141 rfl) rfl
theorem q1171 : (Jvm.Cond.instanceMethod ({ cls := "LeftIsAgreedOn", name := "firstFall", desc := "(II)I" } : Jvm.MethodName)) ∈ lw_all := lw_g (lw_at lw_m5 145 rfl) rfl
theorem q1172 : (Jvm.Cond.selects "LeftIsAgreedOn" ({ cls := "LeftIsAgreedOn", name := "firstFall", desc := "(II)I" } : Jvm.MethodName) ({ cls := "LeftIsAgreedOn", name := "firstFall", desc := "(II)I" } : Jvm.MethodName)) ∈ lw_all := lw_g (lw_at lw_m5 146 rfl) rfl
theorem q1173 : (Jvm.Cond.codeWith ({ cls := "LeftIsAgreedOn", name := "firstFall", desc := "(II)I" } : Jvm.MethodName) prog_1_method_47_code (7 : Nat) (Option.some Jvm.ClassFile.FieldType.int) [((0 : Nat), (74 : Nat), (75 : Nat), (108 : Nat))]) ∈ lw_all := lw_g (lw_at lw_m5 147 rfl) rfl
theorem q1175 : (Jvm.Cond.instanceMethod ({ cls := "LeftIsAgreedOn", name := "alike", desc := "(III)I" } : Jvm.MethodName)) ∈ lw_all := lw_g (lw_at lw_m5 149 rfl) rfl
theorem q1176 : (Jvm.Cond.selects "LeftIsAgreedOn" ({ cls := "LeftIsAgreedOn", name := "alike", desc := "(III)I" } : Jvm.MethodName) ({ cls := "LeftIsAgreedOn", name := "alike", desc := "(III)I" } : Jvm.MethodName)) ∈ lw_all := lw_g (lw_at lw_m5 150 rfl) rfl
theorem q1177 : (Jvm.Cond.codeWith ({ cls := "LeftIsAgreedOn", name := "alike", desc := "(III)I" } : Jvm.MethodName) prog_1_method_48_code (6 : Nat) (Option.some Jvm.ClassFile.FieldType.int) [((0 : Nat), (111 : Nat), (112 : Nat), (108 : Nat))]) ∈ lw_all := lw_g (lw_at lw_m5 151 rfl) rfl
theorem q1178 : (Jvm.Cond.methodLink "LeftIsAgreedOn" (288 : Nat) ({ cls := "LeftIsAgreedOn$Walk", name := "becomes", desc := "(LLeftIsAgreedOn$Walk;)LLeftIsAgreedOn$Walk;" } : Jvm.MethodName)) ∈ lw_all := lw_g (lw_at lw_m5 152 rfl) rfl
theorem q1183 : (Jvm.Cond.instanceMethod ({ cls := "LeftIsAgreedOn", name := "differ", desc := "(IIII)I" } : Jvm.MethodName)) ∈ lw_all := lw_g (lw_at lw_m5 157 rfl) rfl
theorem q1184 : (Jvm.Cond.selects "LeftIsAgreedOn" ({ cls := "LeftIsAgreedOn", name := "differ", desc := "(IIII)I" } : Jvm.MethodName) ({ cls := "LeftIsAgreedOn", name := "differ", desc := "(IIII)I" } : Jvm.MethodName)) ∈ lw_all := lw_g (lw_at lw_m5 158 rfl) rfl
theorem q1185 : (Jvm.Cond.codeWith ({ cls := "LeftIsAgreedOn", name := "differ", desc := "(IIII)I" } : Jvm.MethodName) prog_1_method_49_code (7 : Nat) (Option.some Jvm.ClassFile.FieldType.int) [((0 : Nat), (198 : Nat), (207 : Nat), (108 : Nat)), ((199 : Nat), (206 : Nat), (207 : Nat), (108 : Nat))]) ∈ lw_all := lw_g (lw_at lw_m5 159 rfl) rfl
theorem q1187 : (Jvm.Cond.instanceMethod ({ cls := "LeftIsAgreedOn", name := "again", desc := "(IIII)I" } : Jvm.MethodName)) ∈ lw_all := lw_g (lw_at lw_m5 161 rfl) rfl
theorem q1188 : (Jvm.Cond.selects "LeftIsAgreedOn" ({ cls := "LeftIsAgreedOn", name := "again", desc := "(IIII)I" } : Jvm.MethodName) ({ cls := "LeftIsAgreedOn", name := "again", desc := "(IIII)I" } : Jvm.MethodName)) ∈ lw_all := lw_g (lw_at lw_m5 162 rfl) rfl
theorem q1189 : (Jvm.Cond.codeWith ({ cls := "LeftIsAgreedOn", name := "again", desc := "(IIII)I" } : Jvm.MethodName) prog_1_method_50_code (7 : Nat) (Option.some Jvm.ClassFile.FieldType.int) [((0 : Nat), (123 : Nat), (124 : Nat), (108 : Nat))]) ∈ lw_all := lw_g (lw_at lw_m5 163 rfl) rfl
theorem q1191 : (Jvm.Cond.instanceMethod ({ cls := "LeftIsAgreedOn", name := "ring", desc := "(III)I" } : Jvm.MethodName)) ∈ lw_all := lw_g (lw_at lw_m5 165 rfl) rfl
theorem q1192 : (Jvm.Cond.selects "LeftIsAgreedOn" ({ cls := "LeftIsAgreedOn", name := "ring", desc := "(III)I" } : Jvm.MethodName) ({ cls := "LeftIsAgreedOn", name := "ring", desc := "(III)I" } : Jvm.MethodName)) ∈ lw_all := lw_g (lw_at lw_m5 166 rfl) rfl
theorem q1193 : (Jvm.Cond.codeWith ({ cls := "LeftIsAgreedOn", name := "ring", desc := "(III)I" } : Jvm.MethodName) prog_1_method_51_code (11 : Nat) (Option.some Jvm.ClassFile.FieldType.int) [((0 : Nat), (156 : Nat), (165 : Nat), (108 : Nat)), ((157 : Nat), (164 : Nat), (165 : Nat), (108 : Nat))]) ∈ lw_all := lw_g (lw_at lw_m5 167 rfl) rfl
theorem q1195 : (Jvm.Cond.instanceMethod ({ cls := "LeftIsAgreedOn", name := "lonely", desc := "(II)I" } : Jvm.MethodName)) ∈ lw_all := lw_g (lw_at lw_m5 169 rfl) rfl
theorem q1196 : (Jvm.Cond.selects "LeftIsAgreedOn" ({ cls := "LeftIsAgreedOn", name := "lonely", desc := "(II)I" } : Jvm.MethodName) ({ cls := "LeftIsAgreedOn", name := "lonely", desc := "(II)I" } : Jvm.MethodName)) ∈ lw_all := lw_g (lw_at lw_m5 170 rfl) rfl
theorem q1197 : (Jvm.Cond.codeWith ({ cls := "LeftIsAgreedOn", name := "lonely", desc := "(II)I" } : Jvm.MethodName) prog_1_method_52_code (6 : Nat) (Option.some Jvm.ClassFile.FieldType.int) [((0 : Nat), (114 : Nat), (115 : Nat), (108 : Nat))]) ∈ lw_all := lw_g (lw_at lw_m5 171 rfl) rfl
theorem q1199 : (Jvm.Cond.instanceMethod ({ cls := "LeftIsAgreedOn", name := "idle", desc := "(III)I" } : Jvm.MethodName)) ∈ lw_all := lw_g (lw_at lw_m5 173 rfl) rfl
theorem q1200 : (Jvm.Cond.selects "LeftIsAgreedOn" ({ cls := "LeftIsAgreedOn", name := "idle", desc := "(III)I" } : Jvm.MethodName) ({ cls := "LeftIsAgreedOn", name := "idle", desc := "(III)I" } : Jvm.MethodName)) ∈ lw_all := lw_g (lw_at lw_m5 174 rfl) rfl
theorem q1201 : (Jvm.Cond.codeWith ({ cls := "LeftIsAgreedOn", name := "idle", desc := "(III)I" } : Jvm.MethodName) prog_1_method_53_code (11 : Nat) (Option.some Jvm.ClassFile.FieldType.int) [((0 : Nat), (138 : Nat), (139 : Nat), (108 : Nat))]) ∈ lw_all := lw_g (lw_at lw_m5 175 rfl) rfl
theorem q1203 : (Jvm.Cond.instanceMethod ({ cls := "LeftIsAgreedOn", name := "lefts", desc := "(II)I" } : Jvm.MethodName)) ∈ lw_all := lw_g (lw_at lw_m5 177 rfl) rfl
theorem q1204 : (Jvm.Cond.selects "LeftIsAgreedOn" ({ cls := "LeftIsAgreedOn", name := "lefts", desc := "(II)I" } : Jvm.MethodName) ({ cls := "LeftIsAgreedOn", name := "lefts", desc := "(II)I" } : Jvm.MethodName)) ∈ lw_all := lw_g (lw_at lw_m5 178 rfl) rfl
theorem q1205 : (Jvm.Cond.code ({ cls := "LeftIsAgreedOn", name := "lefts", desc := "(II)I" } : Jvm.MethodName) prog_1_method_54_code (4 : Nat) (Option.some Jvm.ClassFile.FieldType.int)) ∈ lw_all := lw_g (lw_at lw_m5 179 rfl) rfl
theorem q1207 : (Jvm.Cond.instanceMethod ({ cls := "LeftIsAgreedOn", name := "reach", desc := "(II)I" } : Jvm.MethodName)) ∈ lw_all := lw_g (lw_at lw_m5 181 rfl) rfl
theorem q1208 : (Jvm.Cond.selects "LeftIsAgreedOn" ({ cls := "LeftIsAgreedOn", name := "reach", desc := "(II)I" } : Jvm.MethodName) ({ cls := "LeftIsAgreedOn", name := "reach", desc := "(II)I" } : Jvm.MethodName)) ∈ lw_all := lw_g (lw_at lw_m5 182 rfl) rfl
theorem q1209 : (Jvm.Cond.code ({ cls := "LeftIsAgreedOn", name := "reach", desc := "(II)I" } : Jvm.MethodName) prog_1_method_56_code (8 : Nat) (Option.some Jvm.ClassFile.FieldType.int)) ∈ lw_all := lw_g (lw_at lw_m5 183 rfl) rfl
theorem q1210 : (Jvm.Cond.methodLink "LeftIsAgreedOn" (294 : Nat) ({ cls := "LeftIsAgreedOn", name := "marks", desc := "(LLeftIsAgreedOn$Voter;II)V" } : Jvm.MethodName)) ∈ lw_all := lw_g (lw_at lw_m5 184 rfl) rfl
theorem q1211 : (Jvm.Cond.privateMethod ({ cls := "LeftIsAgreedOn", name := "marks", desc := "(LLeftIsAgreedOn$Voter;II)V" } : Jvm.MethodName)) ∈ lw_tbl := lw_at lw_m5 185 rfl
theorem q1212 : (Jvm.Cond.instanceMethod ({ cls := "LeftIsAgreedOn", name := "marks", desc := "(LLeftIsAgreedOn$Voter;II)V" } : Jvm.MethodName)) ∈ lw_all := lw_g (lw_at lw_m5 186 rfl) rfl
theorem q1213 : (Jvm.Cond.code ({ cls := "LeftIsAgreedOn", name := "marks", desc := "(LLeftIsAgreedOn$Voter;II)V" } : Jvm.MethodName) prog_1_method_55_code (5 : Nat) (Option.none : Option Jvm.ClassFile.FieldType)) ∈ lw_all := lw_g (lw_at lw_m5 187 rfl) rfl
theorem q1215 : (Jvm.Cond.instanceMethod ({ cls := "LeftIsAgreedOn", name := "open", desc := "(II)I" } : Jvm.MethodName)) ∈ lw_all := lw_g (lw_at lw_m5 189 rfl) rfl
theorem q1216 : (Jvm.Cond.selects "LeftIsAgreedOn" ({ cls := "LeftIsAgreedOn", name := "open", desc := "(II)I" } : Jvm.MethodName) ({ cls := "LeftIsAgreedOn", name := "open", desc := "(II)I" } : Jvm.MethodName)) ∈ lw_all := lw_g (lw_at lw_m5 190 rfl) rfl
theorem q1217 : (Jvm.Cond.code ({ cls := "LeftIsAgreedOn", name := "open", desc := "(II)I" } : Jvm.MethodName) prog_1_method_57_code (5 : Nat) (Option.some Jvm.ClassFile.FieldType.int)) ∈ lw_all := lw_g (lw_at lw_m5 191 rfl) rfl
theorem q1218 : (Jvm.Cond.methodLink "LeftIsAgreedOn" (298 : Nat) ({ cls := "LeftIsAgreedOn$Island", name := "ahead", desc := "(II)I" } : Jvm.MethodName)) ∈ lw_all := lw_g (lw_at lw_m5 192 rfl) rfl
theorem q1220 : (Jvm.Cond.instanceMethod ({ cls := "LeftIsAgreedOn", name := "shore", desc := "()I" } : Jvm.MethodName)) ∈ lw_all := lw_g (lw_at lw_m5 194 rfl) rfl
theorem q1221 : (Jvm.Cond.selects "LeftIsAgreedOn" ({ cls := "LeftIsAgreedOn", name := "shore", desc := "()I" } : Jvm.MethodName) ({ cls := "LeftIsAgreedOn", name := "shore", desc := "()I" } : Jvm.MethodName)) ∈ lw_all := lw_g (lw_at lw_m5 195 rfl) rfl
theorem q1222 : (Jvm.Cond.code ({ cls := "LeftIsAgreedOn", name := "shore", desc := "()I" } : Jvm.MethodName) prog_1_method_58_code (3 : Nat) (Option.some Jvm.ClassFile.FieldType.int)) ∈ lw_all := lw_g (lw_at lw_m5 196 rfl) rfl
theorem q1223 : (Jvm.Cond.methodLink "LeftIsAgreedOn" (302 : Nat) ({ cls := "LeftIsAgreedOn$Island", name := "isByPond", desc := "(I)Z" } : Jvm.MethodName)) ∈ lw_all := lw_g (lw_at lw_m5 197 rfl) rfl
theorem q1225 : (Jvm.Cond.instanceMethod ({ cls := "LeftIsAgreedOn", name := "safe", desc := "(IIII)I" } : Jvm.MethodName)) ∈ lw_all := lw_g (lw_at lw_m5 199 rfl) rfl
theorem q1226 : (Jvm.Cond.selects "LeftIsAgreedOn" ({ cls := "LeftIsAgreedOn", name := "safe", desc := "(IIII)I" } : Jvm.MethodName) ({ cls := "LeftIsAgreedOn", name := "safe", desc := "(IIII)I" } : Jvm.MethodName)) ∈ lw_all := lw_g (lw_at lw_m5 200 rfl) rfl
theorem q1227 : (Jvm.Cond.code ({ cls := "LeftIsAgreedOn", name := "safe", desc := "(IIII)I" } : Jvm.MethodName) prog_1_method_61_code (6 : Nat) (Option.some Jvm.ClassFile.FieldType.int)) ∈ lw_all := lw_g (lw_at lw_m5 201 rfl) rfl
theorem q1228 : (Jvm.Cond.methodLink "LeftIsAgreedOn" (309 : Nat) ({ cls := "LeftIsAgreedOn", name := "shortest", desc := "(IIZ)I" } : Jvm.MethodName)) ∈ lw_all := lw_g (lw_at lw_m5 202 rfl) rfl
theorem q1229 : (Jvm.Cond.privateMethod ({ cls := "LeftIsAgreedOn", name := "shortest", desc := "(IIZ)I" } : Jvm.MethodName)) ∈ lw_tbl := lw_at lw_m5 203 rfl
theorem q1230 : (Jvm.Cond.instanceMethod ({ cls := "LeftIsAgreedOn", name := "shortest", desc := "(IIZ)I" } : Jvm.MethodName)) ∈ lw_all := lw_g (lw_at lw_m5 204 rfl) rfl
theorem q1231 : (Jvm.Cond.code ({ cls := "LeftIsAgreedOn", name := "shortest", desc := "(IIZ)I" } : Jvm.MethodName) prog_1_method_60_code (5 : Nat) (Option.some Jvm.ClassFile.FieldType.int)) ∈ lw_all := lw_g (lw_at lw_m5 205 rfl) rfl
theorem q1232 : (Jvm.Cond.methodLink "LeftIsAgreedOn" (305 : Nat) ({ cls := "LeftIsAgreedOn", name := "brings", desc := "(LLeftIsAgreedOn$Voter;IZII)Z" } : Jvm.MethodName)) ∈ lw_all := lw_g (lw_at lw_m5 206 rfl) rfl
theorem q1233 : (Jvm.Cond.privateMethod ({ cls := "LeftIsAgreedOn", name := "brings", desc := "(LLeftIsAgreedOn$Voter;IZII)Z" } : Jvm.MethodName)) ∈ lw_tbl := lw_at lw_m5 207 rfl
theorem q1234 : (Jvm.Cond.instanceMethod ({ cls := "LeftIsAgreedOn", name := "brings", desc := "(LLeftIsAgreedOn$Voter;IZII)Z" } : Jvm.MethodName)) ∈ lw_all := lw_g (lw_at lw_m5 208 rfl) rfl
theorem q1235 : (Jvm.Cond.code ({ cls := "LeftIsAgreedOn", name := "brings", desc := "(LLeftIsAgreedOn$Voter;IZII)Z" } : Jvm.MethodName) prog_1_method_59_code (7 : Nat) (Option.some Jvm.ClassFile.FieldType.boolean)) ∈ lw_all := lw_g (lw_at lw_m5 209 rfl) rfl
theorem q1237 : (Jvm.Cond.instanceMethod ({ cls := "LeftIsAgreedOn", name := "carries", desc := "()I" } : Jvm.MethodName)) ∈ lw_all := lw_g (lw_at lw_m5 211 rfl) rfl
theorem q1238 : (Jvm.Cond.selects "LeftIsAgreedOn" ({ cls := "LeftIsAgreedOn", name := "carries", desc := "()I" } : Jvm.MethodName) ({ cls := "LeftIsAgreedOn", name := "carries", desc := "()I" } : Jvm.MethodName)) ∈ lw_all := lw_g (lw_at lw_m5 212 rfl) rfl
theorem q1239 : (Jvm.Cond.code ({ cls := "LeftIsAgreedOn", name := "carries", desc := "()I" } : Jvm.MethodName) prog_1_method_62_code (1 : Nat) (Option.some Jvm.ClassFile.FieldType.int)) ∈ lw_all := lw_g (lw_at lw_m5 213 rfl) rfl
theorem q1240 : (Jvm.Cond.methodLink "LeftIsAgreedOn" (313 : Nat) ({ cls := "LeftIsAgreedOn$Island", name := "carries", desc := "(I)I" } : Jvm.MethodName)) ∈ lw_all := lw_g (lw_at lw_m5 214 rfl) rfl
theorem q1251 : (Jvm.Cond.instanceMethod ({ cls := "LeftIsAgreedOn", name := "bloc", desc := "(I)I" } : Jvm.MethodName)) ∈ lw_all := lw_g (lw_at lw_m5 225 rfl) rfl
theorem q1252 : (Jvm.Cond.selects "LeftIsAgreedOn" ({ cls := "LeftIsAgreedOn", name := "bloc", desc := "(I)I" } : Jvm.MethodName) ({ cls := "LeftIsAgreedOn", name := "bloc", desc := "(I)I" } : Jvm.MethodName)) ∈ lw_all := lw_g (lw_at lw_m5 226 rfl) rfl
theorem q1253 : (Jvm.Cond.code ({ cls := "LeftIsAgreedOn", name := "bloc", desc := "(I)I" } : Jvm.MethodName) prog_1_method_64_code (3 : Nat) (Option.some Jvm.ClassFile.FieldType.int)) ∈ lw_all := lw_g (lw_at lw_m5 227 rfl) rfl
theorem q1254 : (Jvm.Cond.methodLink "LeftIsAgreedOn" (326 : Nat) ({ cls := "LeftIsAgreedOn$Island", name := "forOne", desc := "(I)I" } : Jvm.MethodName)) ∈ lw_all := lw_g (lw_at lw_m5 228 rfl) rfl
theorem q1256 : (Jvm.Cond.instanceMethod ({ cls := "LeftIsAgreedOn", name := "swing", desc := "(I)I" } : Jvm.MethodName)) ∈ lw_all := lw_g (lw_at lw_m5 230 rfl) rfl
theorem q1257 : (Jvm.Cond.selects "LeftIsAgreedOn" ({ cls := "LeftIsAgreedOn", name := "swing", desc := "(I)I" } : Jvm.MethodName) ({ cls := "LeftIsAgreedOn", name := "swing", desc := "(I)I" } : Jvm.MethodName)) ∈ lw_all := lw_g (lw_at lw_m5 231 rfl) rfl
theorem q1258 : (Jvm.Cond.code ({ cls := "LeftIsAgreedOn", name := "swing", desc := "(I)I" } : Jvm.MethodName) prog_1_method_65_code (2 : Nat) (Option.some Jvm.ClassFile.FieldType.int)) ∈ lw_all := lw_g (lw_at lw_m5 232 rfl) rfl
theorem q1260 : (Jvm.Cond.instanceMethod ({ cls := "LeftIsAgreedOn", name := "mightiest", desc := "()I" } : Jvm.MethodName)) ∈ lw_all := lw_g (lw_at lw_m5 234 rfl) rfl
theorem q1261 : (Jvm.Cond.selects "LeftIsAgreedOn" ({ cls := "LeftIsAgreedOn", name := "mightiest", desc := "()I" } : Jvm.MethodName) ({ cls := "LeftIsAgreedOn", name := "mightiest", desc := "()I" } : Jvm.MethodName)) ∈ lw_all := lw_g (lw_at lw_m5 235 rfl) rfl
theorem q1262 : (Jvm.Cond.code ({ cls := "LeftIsAgreedOn", name := "mightiest", desc := "()I" } : Jvm.MethodName) prog_1_method_66_code (3 : Nat) (Option.some Jvm.ClassFile.FieldType.int)) ∈ lw_all := lw_g (lw_at lw_m5 236 rfl) rfl
theorem q1264 : (Jvm.Cond.instanceMethod ({ cls := "LeftIsAgreedOn", name := "agreed", desc := "()I" } : Jvm.MethodName)) ∈ lw_all := lw_g (lw_at lw_m5 238 rfl) rfl
theorem q1265 : (Jvm.Cond.selects "LeftIsAgreedOn" ({ cls := "LeftIsAgreedOn", name := "agreed", desc := "()I" } : Jvm.MethodName) ({ cls := "LeftIsAgreedOn", name := "agreed", desc := "()I" } : Jvm.MethodName)) ∈ lw_all := lw_g (lw_at lw_m5 239 rfl) rfl
theorem q1266 : (Jvm.Cond.code ({ cls := "LeftIsAgreedOn", name := "agreed", desc := "()I" } : Jvm.MethodName) prog_1_method_67_code (3 : Nat) (Option.some Jvm.ClassFile.FieldType.int)) ∈ lw_all := lw_g (lw_at lw_m6 0 rfl) rfl
theorem q1267 : (Jvm.Cond.methodLink "LeftIsAgreedOn" (329 : Nat) ({ cls := "LeftIsAgreedOn$Voter", name := "by", desc := "(LLeftIsAgreedOn$Island;LLeftIsAgreedOn$Walk;II)I" } : Jvm.MethodName)) ∈ lw_all := lw_g (lw_at lw_m6 1 rfl) rfl
theorem q1269 : (Jvm.Cond.instanceMethod ({ cls := "LeftIsAgreedOn", name := "turn", desc := "(I)I" } : Jvm.MethodName)) ∈ lw_all := lw_g (lw_at lw_m6 3 rfl) rfl
theorem q1270 : (Jvm.Cond.selects "LeftIsAgreedOn" ({ cls := "LeftIsAgreedOn", name := "turn", desc := "(I)I" } : Jvm.MethodName) ({ cls := "LeftIsAgreedOn", name := "turn", desc := "(I)I" } : Jvm.MethodName)) ∈ lw_all := lw_g (lw_at lw_m6 4 rfl) rfl
theorem q1271 : (Jvm.Cond.code ({ cls := "LeftIsAgreedOn", name := "turn", desc := "(I)I" } : Jvm.MethodName) prog_1_method_68_code (5 : Nat) (Option.some Jvm.ClassFile.FieldType.int)) ∈ lw_all := lw_g (lw_at lw_m6 5 rfl) rfl
theorem q1272 : (Jvm.Cond.methodLink "LeftIsAgreedOn" (332 : Nat) ({ cls := "java/lang/Integer", name := "bitCount", desc := "(I)I" } : Jvm.MethodName)) ∈ lw_all := lw_g (lw_at lw_m6 6 rfl) rfl
theorem q1279 : (Jvm.Cond.instanceMethod ({ cls := "LeftIsAgreedOn", name := "meet", desc := "(IIIIII)I" } : Jvm.MethodName)) ∈ lw_all := lw_g (lw_at lw_m6 13 rfl) rfl
theorem q1280 : (Jvm.Cond.selects "LeftIsAgreedOn" ({ cls := "LeftIsAgreedOn", name := "meet", desc := "(IIIIII)I" } : Jvm.MethodName) ({ cls := "LeftIsAgreedOn", name := "meet", desc := "(IIIIII)I" } : Jvm.MethodName)) ∈ lw_all := lw_g (lw_at lw_m6 14 rfl) rfl
theorem q1281 : (Jvm.Cond.code ({ cls := "LeftIsAgreedOn", name := "meet", desc := "(IIIIII)I" } : Jvm.MethodName) prog_1_method_73_code (7 : Nat) (Option.some Jvm.ClassFile.FieldType.int)) ∈ lw_all := lw_g (lw_at lw_m6 15 rfl) rfl
theorem q1282 : (Jvm.Cond.methodLink "LeftIsAgreedOn" (353 : Nat) ({ cls := "LeftIsAgreedOn", name := "both", desc := "(IIIIIIZ)I" } : Jvm.MethodName)) ∈ lw_all := lw_g (lw_at lw_m6 16 rfl) rfl
theorem q1283 : (Jvm.Cond.privateMethod ({ cls := "LeftIsAgreedOn", name := "both", desc := "(IIIIIIZ)I" } : Jvm.MethodName)) ∈ lw_tbl := lw_at lw_m6 17 rfl
theorem q1284 : (Jvm.Cond.instanceMethod ({ cls := "LeftIsAgreedOn", name := "both", desc := "(IIIIIIZ)I" } : Jvm.MethodName)) ∈ lw_all := lw_g (lw_at lw_m6 18 rfl) rfl
theorem q1285 : (Jvm.Cond.codeWith ({ cls := "LeftIsAgreedOn", name := "both", desc := "(IIIIIIZ)I" } : Jvm.MethodName) prog_1_method_72_code (14 : Nat) (Option.some Jvm.ClassFile.FieldType.int) [((0 : Nat), (150 : Nat), (189 : Nat), (108 : Nat)), ((151 : Nat), (180 : Nat), (189 : Nat), (108 : Nat)), ((181 : Nat), (188 : Nat), (189 : Nat), (108 : Nat))]) ∈ lw_all := lw_g (lw_at lw_m6 19 rfl) rfl
theorem q1286 : (Jvm.Cond.methodLink "LeftIsAgreedOn" (346 : Nat) ({ cls := "LeftIsAgreedOn", name := "rowFor", desc := "(II)Ljava/lang/Object;" } : Jvm.MethodName)) ∈ lw_all := lw_g (lw_at lw_m6 20 rfl) rfl
theorem q1287 : (Jvm.Cond.privateMethod ({ cls := "LeftIsAgreedOn", name := "rowFor", desc := "(II)Ljava/lang/Object;" } : Jvm.MethodName)) ∈ lw_tbl := lw_at lw_m6 21 rfl
theorem q1288 : (Jvm.Cond.instanceMethod ({ cls := "LeftIsAgreedOn", name := "rowFor", desc := "(II)Ljava/lang/Object;" } : Jvm.MethodName)) ∈ lw_all := lw_g (lw_at lw_m6 22 rfl) rfl
theorem q1289 : (Jvm.Cond.code ({ cls := "LeftIsAgreedOn", name := "rowFor", desc := "(II)Ljava/lang/Object;" } : Jvm.MethodName) prog_1_method_71_code (3 : Nat) (Option.some (Jvm.ClassFile.FieldType.object "java/lang/Object"))) ∈ lw_all := lw_g (lw_at lw_m6 23 rfl) rfl
theorem q1290 : (Jvm.Cond.methodLink "LeftIsAgreedOn" (349 : Nat) ({ cls := "LeftIsAgreedOn", name := "met", desc := "(I[JI[JI)I" } : Jvm.MethodName)) ∈ lw_all := lw_g (lw_at lw_m6 24 rfl) rfl
theorem q1291 : (Jvm.Cond.privateMethod ({ cls := "LeftIsAgreedOn", name := "met", desc := "(I[JI[JI)I" } : Jvm.MethodName)) ∈ lw_tbl := lw_at lw_m6 25 rfl
theorem q1292 : (Jvm.Cond.instanceMethod ({ cls := "LeftIsAgreedOn", name := "met", desc := "(I[JI[JI)I" } : Jvm.MethodName)) ∈ lw_all := lw_g (lw_at lw_m6 26 rfl) rfl
theorem q1293 : (Jvm.Cond.code ({ cls := "LeftIsAgreedOn", name := "met", desc := "(I[JI[JI)I" } : Jvm.MethodName) prog_1_method_70_code (8 : Nat) (Option.some Jvm.ClassFile.FieldType.int)) ∈ lw_all := lw_g (lw_at lw_m6 27 rfl) rfl
theorem q1294 : (Jvm.Cond.methodLink "LeftIsAgreedOn" (337 : Nat) ({ cls := "java/lang/Math", name := "max", desc := "(II)I" } : Jvm.MethodName)) ∈ lw_all := lw_g (lw_at lw_m6 28 rfl) rfl
theorem q1295 : (Jvm.Cond.methodLink "LeftIsAgreedOn" (342 : Nat) ({ cls := "LeftIsAgreedOn", name := "signAt", desc := "([JI)I" } : Jvm.MethodName)) ∈ lw_all := lw_g (lw_at lw_m6 29 rfl) rfl
theorem q1296 : (Jvm.Cond.static ({ cls := "LeftIsAgreedOn", name := "signAt", desc := "([JI)I" } : Jvm.MethodName)) ∈ lw_all := lw_g (lw_at lw_m6 30 rfl) rfl
theorem q1297 : (Jvm.Cond.code ({ cls := "LeftIsAgreedOn", name := "signAt", desc := "([JI)I" } : Jvm.MethodName) prog_1_method_69_code (2 : Nat) (Option.some Jvm.ClassFile.FieldType.int)) ∈ lw_all := lw_g (lw_at lw_m6 31 rfl) rfl
theorem q1299 : (Jvm.Cond.instanceMethod ({ cls := "LeftIsAgreedOn", name := "waits", desc := "(IIIIII)I" } : Jvm.MethodName)) ∈ lw_all := lw_g (lw_at lw_m6 33 rfl) rfl
theorem q1300 : (Jvm.Cond.selects "LeftIsAgreedOn" ({ cls := "LeftIsAgreedOn", name := "waits", desc := "(IIIIII)I" } : Jvm.MethodName) ({ cls := "LeftIsAgreedOn", name := "waits", desc := "(IIIIII)I" } : Jvm.MethodName)) ∈ lw_all := lw_g (lw_at lw_m6 34 rfl) rfl
theorem q1301 : (Jvm.Cond.code ({ cls := "LeftIsAgreedOn", name := "waits", desc := "(IIIIII)I" } : Jvm.MethodName) prog_1_method_74_code (7 : Nat) (Option.some Jvm.ClassFile.FieldType.int)) ∈ lw_all := lw_g (lw_at lw_m6 35 rfl) rfl
theorem q1303 : (Jvm.Cond.instanceMethod ({ cls := "LeftIsAgreedOn", name := "walk", desc := "(III)I" } : Jvm.MethodName)) ∈ lw_all := lw_g (lw_at lw_m6 37 rfl) rfl
theorem q1304 : (Jvm.Cond.selects "LeftIsAgreedOn" ({ cls := "LeftIsAgreedOn", name := "walk", desc := "(III)I" } : Jvm.MethodName) ({ cls := "LeftIsAgreedOn", name := "walk", desc := "(III)I" } : Jvm.MethodName)) ∈ lw_all := lw_g (lw_at lw_m6 38 rfl) rfl
theorem q1305 : (Jvm.Cond.codeWith ({ cls := "LeftIsAgreedOn", name := "walk", desc := "(III)I" } : Jvm.MethodName) prog_1_method_75_code (6 : Nat) (Option.some Jvm.ClassFile.FieldType.int) [((0 : Nat), (193 : Nat), (194 : Nat), (108 : Nat))]) ∈ lw_all := lw_g (lw_at lw_m6 39 rfl) rfl
theorem q1307 : (Jvm.Cond.instanceMethod ({ cls := "LeftIsAgreedOn", name := "years", desc := "(I)I" } : Jvm.MethodName)) ∈ lw_all := lw_g (lw_at lw_m6 41 rfl) rfl
theorem q1308 : (Jvm.Cond.selects "LeftIsAgreedOn" ({ cls := "LeftIsAgreedOn", name := "years", desc := "(I)I" } : Jvm.MethodName) ({ cls := "LeftIsAgreedOn", name := "years", desc := "(I)I" } : Jvm.MethodName)) ∈ lw_all := lw_g (lw_at lw_m6 42 rfl) rfl
theorem q1309 : (Jvm.Cond.code ({ cls := "LeftIsAgreedOn", name := "years", desc := "(I)I" } : Jvm.MethodName) prog_1_method_76_code (3 : Nat) (Option.some Jvm.ClassFile.FieldType.int)) ∈ lw_all := lw_g (lw_at lw_m6 43 rfl) rfl
theorem q1310 : (Jvm.Cond.methodLink "LeftIsAgreedOn" (360 : Nat) ({ cls := "LeftIsAgreedOn$Island", name := "year", desc := "()V" } : Jvm.MethodName)) ∈ lw_all := lw_g (lw_at lw_m6 44 rfl) rfl
theorem q1321 : (Jvm.Cond.instanceMethod ({ cls := "LeftIsAgreedOn", name := "seed", desc := "(I)I" } : Jvm.MethodName)) ∈ lw_all := lw_g (lw_at lw_m6 55 rfl) rfl
theorem q1322 : (Jvm.Cond.selects "LeftIsAgreedOn" ({ cls := "LeftIsAgreedOn", name := "seed", desc := "(I)I" } : Jvm.MethodName) ({ cls := "LeftIsAgreedOn", name := "seed", desc := "(I)I" } : Jvm.MethodName)) ∈ lw_all := lw_g (lw_at lw_m6 56 rfl) rfl
theorem q1323 : (Jvm.Cond.code ({ cls := "LeftIsAgreedOn", name := "seed", desc := "(I)I" } : Jvm.MethodName) prog_1_method_77_code (3 : Nat) (Option.some Jvm.ClassFile.FieldType.int)) ∈ lw_all := lw_g (lw_at lw_m6 57 rfl) rfl
theorem q1325 : (Jvm.Cond.instanceMethod ({ cls := "LeftIsAgreedOn", name := "image", desc := "()I" } : Jvm.MethodName)) ∈ lw_all := lw_g (lw_at lw_m6 59 rfl) rfl
theorem q1326 : (Jvm.Cond.selects "LeftIsAgreedOn" ({ cls := "LeftIsAgreedOn", name := "image", desc := "()I" } : Jvm.MethodName) ({ cls := "LeftIsAgreedOn", name := "image", desc := "()I" } : Jvm.MethodName)) ∈ lw_all := lw_g (lw_at lw_m6 60 rfl) rfl
theorem q1327 : (Jvm.Cond.code ({ cls := "LeftIsAgreedOn", name := "image", desc := "()I" } : Jvm.MethodName) prog_1_method_78_code (1 : Nat) (Option.some Jvm.ClassFile.FieldType.int)) ∈ lw_all := lw_g (lw_at lw_m6 61 rfl) rfl
theorem q1329 : (Jvm.Cond.instanceMethod ({ cls := "LeftIsAgreedOn", name := "back", desc := "()I" } : Jvm.MethodName)) ∈ lw_all := lw_g (lw_at lw_m6 63 rfl) rfl
theorem q1330 : (Jvm.Cond.selects "LeftIsAgreedOn" ({ cls := "LeftIsAgreedOn", name := "back", desc := "()I" } : Jvm.MethodName) ({ cls := "LeftIsAgreedOn", name := "back", desc := "()I" } : Jvm.MethodName)) ∈ lw_all := lw_g (lw_at lw_m6 64 rfl) rfl
theorem q1331 : (Jvm.Cond.code ({ cls := "LeftIsAgreedOn", name := "back", desc := "()I" } : Jvm.MethodName) prog_1_method_79_code (1 : Nat) (Option.some Jvm.ClassFile.FieldType.int)) ∈ lw_all := lw_g (lw_at lw_m6 65 rfl) rfl
theorem q1333 : (Jvm.Cond.instanceMethod ({ cls := "LeftIsAgreedOn", name := "status", desc := "(I)I" } : Jvm.MethodName)) ∈ lw_all := lw_g (lw_at lw_m6 67 rfl) rfl
theorem q1334 : (Jvm.Cond.selects "LeftIsAgreedOn" ({ cls := "LeftIsAgreedOn", name := "status", desc := "(I)I" } : Jvm.MethodName) ({ cls := "LeftIsAgreedOn", name := "status", desc := "(I)I" } : Jvm.MethodName)) ∈ lw_all := lw_g (lw_at lw_m6 68 rfl) rfl
theorem q1335 : (Jvm.Cond.code ({ cls := "LeftIsAgreedOn", name := "status", desc := "(I)I" } : Jvm.MethodName) prog_1_method_81_code (2 : Nat) (Option.some Jvm.ClassFile.FieldType.int)) ∈ lw_all := lw_g (lw_at lw_m6 69 rfl) rfl
theorem q1336 : (Jvm.Cond.methodLink "LeftIsAgreedOn" (369 : Nat) ({ cls := "LeftIsAgreedOn$Island", name := "manyPonds", desc := "()I" } : Jvm.MethodName)) ∈ lw_all := lw_g (lw_at lw_m6 70 rfl) rfl
theorem q1341 : (Jvm.Cond.methodLink "LeftIsAgreedOn" (375 : Nat) ({ cls := "LeftIsAgreedOn", name := "shelved", desc := "()I" } : Jvm.MethodName)) ∈ lw_all := lw_g (lw_at lw_m6 75 rfl) rfl
theorem q1342 : (Jvm.Cond.privateMethod ({ cls := "LeftIsAgreedOn", name := "shelved", desc := "()I" } : Jvm.MethodName)) ∈ lw_tbl := lw_at lw_m6 76 rfl
theorem q1343 : (Jvm.Cond.instanceMethod ({ cls := "LeftIsAgreedOn", name := "shelved", desc := "()I" } : Jvm.MethodName)) ∈ lw_all := lw_g (lw_at lw_m6 77 rfl) rfl
theorem q1344 : (Jvm.Cond.code ({ cls := "LeftIsAgreedOn", name := "shelved", desc := "()I" } : Jvm.MethodName) prog_1_method_80_code (3 : Nat) (Option.some Jvm.ClassFile.FieldType.int)) ∈ lw_all := lw_g (lw_at lw_m6 78 rfl) rfl
theorem in_X0 : ∀ w ∈ wsX00, w ∈ lw_all := lw_in wsX00 [230, 232, 234, 236, 238, 240, 242, 244, 246, 248, 250, 252] (by decide +kernel) (by decide +kernel)
