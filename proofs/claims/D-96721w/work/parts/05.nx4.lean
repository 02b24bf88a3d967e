/-! LeftIsAgreedOnModel -/
set_option maxRecDepth 100000
def RX4 : String := "LeftIsAgreedOnModel"
def TX4 : u_T := fun k => match k with
  | 0 => ("LeftIsAgreedOnModel", "refused", "[I", true)
  | 1 => ("LeftIsAgreedOnModel", "now", "[I", true)
  | 2 => ("LeftIsAgreedOnModel", "kept", "[I", true)
  | 3 => ("LeftIsAgreedOnModel", "mind", "[I", true)
  | 4 => ("LeftIsAgreedOnModel", "isKept", "Z", false)
  | 5 => ("LeftIsAgreedOnModel", "tape", "[I", true)
  | 6 => ("LeftIsAgreedOnModel", "size", "I", false)
  | 7 => ("LeftIsAgreedOnModel", "at", "I", false)
  | 8 => ("LeftIsAgreedOnModel", "from", "I", false)
  | 9 => ("LeftIsAgreedOnModel", "sort", "I", false)
  | 10 => ("LeftIsAgreedOnModel", "words", "[C", true)
  | 11 => ("LeftIsAgreedOnModel", "wCell", "[I", true)
  | 12 => ("LeftIsAgreedOnModel", "wFaces", "[I", true)
  | 13 => ("LeftIsAgreedOnModel", "wTurns", "[I", true)
  | 14 => ("LeftIsAgreedOnModel", "wSign", "[I", true)
  | 15 => ("LeftIsAgreedOnModel", "wBy", "[I", true)
  | 16 => ("LeftIsAgreedOnModel", "wFell", "[I", true)
  | 17 => ("LeftIsAgreedOnModel", "dry", "I", false)
  | 18 => ("LeftIsAgreedOnModel", "telling", "[I", true)
  | 19 => ("LeftIsAgreedOnModel", "holds", "[I", true)
  | 20 => ("LeftIsAgreedOnModel", "sizes", "[I", true)
  | 21 => ("LeftIsAgreedOnModel", "elements", "[J", true)
  | 22 => ("LeftIsAgreedOnModel", "moved", "[J", true)
  | 23 => ("LeftIsAgreedOnModel", "above", "[I", true)
  | 24 => ("LeftIsAgreedOnModel", "out", "[I", true)
  | _ => ("LeftIsAgreedOnModel", "first", "[I", true)
def tyX4 : Nat → FieldType := fun k => match k with
  | 0 => .array .int
  | 1 => .array .int
  | 2 => .array .int
  | 3 => .array .int
  | 4 => .boolean
  | 5 => .array .int
  | 6 => .int
  | 7 => .int
  | 8 => .int
  | 9 => .int
  | 10 => .array .char
  | 11 => .array .int
  | 12 => .array .int
  | 13 => .array .int
  | 14 => .array .int
  | 15 => .array .int
  | 16 => .array .int
  | 17 => .int
  | 18 => .array .int
  | 19 => .array .int
  | 20 => .array .int
  | 21 => .array .long
  | 22 => .array .long
  | 23 => .array .int
  | 24 => .array .int
  | _ => .array .int
abbrev wsX40 : List Cond := u_ws RX4 TX4 26
set_option maxRecDepth 100000 in
theorem nmX4 : ∀ a, a < 26 → ∀ b, b < 26 → a ≠ b → (TX4 a).2.1 ≠ (TX4 b).2.1 := by decide +kernel
set_option maxRecDepth 100000 in
theorem tyX4_ok : ∀ k, k < 26 → parseFieldDescriptor (TX4 k).2.2.1 = some (tyX4 k) := by decide +kernel
abbrev cX4_init : ByteArray := prog_16_method_1_code
def yX4_init : MethodName := ⟨RX4, "<init>", "()V"⟩
def dkwX4_init_20 : List UInt8 := [16, 40, 188, 10, 181, 0, 73, 177]
abbrev dktX4_init_20 : List UInt8 := dkwX4_init_20 ++ []
def dkwX4_init_19 : List UInt8 := [89, 6, 4, 79, 89, 7, 5, 79, 89, 8, 3, 79, 181, 0, 67, 42, 16, 8, 188, 10, 181, 0, 70, 42]
abbrev dktX4_init_19 : List UInt8 := dkwX4_init_19 ++ dktX4_init_20
def dkwX4_init_18 : List UInt8 := [16, 40, 188, 11, 181, 0, 64, 42, 16, 6, 188, 10, 89, 3, 2, 79, 89, 4, 3, 79, 89, 5, 3, 79]
abbrev dktX4_init_18 : List UInt8 := dkwX4_init_18 ++ dktX4_init_19
def dkwX4_init_17 : List UInt8 := [2, 79, 181, 0, 54, 42, 16, 8, 188, 10, 181, 0, 57, 42, 17, 1, 64, 188, 11, 181, 0, 60, 42]
abbrev dktX4_init_17 : List UInt8 := dkwX4_init_17 ++ dktX4_init_18
def dkwX4_init_16 : List UInt8 := [89, 5, 2, 79, 89, 6, 2, 79, 89, 7, 2, 79, 89, 8, 2, 79, 89, 16, 6, 2, 79, 89, 16, 7]
abbrev dktX4_init_16 : List UInt8 := dkwX4_init_16 ++ dktX4_init_17
def dkwX4_init_15 : List UInt8 := [181, 0, 48, 42, 16, 40, 188, 10, 181, 0, 51, 42, 16, 8, 188, 10, 89, 3, 2, 79, 89, 4, 2, 79]
abbrev dktX4_init_15 : List UInt8 := dkwX4_init_15 ++ dktX4_init_16
def dkwX4_init_14 : List UInt8 := [188, 10, 181, 0, 39, 42, 5, 188, 10, 181, 0, 42, 42, 5, 188, 10, 181, 0, 45, 42, 5, 188, 10]
abbrev dktX4_init_14 : List UInt8 := dkwX4_init_14 ++ dktX4_init_15
def dkwX4_init_13 : List UInt8 := [89, 16, 47, 3, 85, 181, 0, 29, 42, 5, 188, 10, 181, 0, 33, 42, 5, 188, 10, 181, 0, 36, 42, 5]
abbrev dktX4_init_13 : List UInt8 := dkwX4_init_13 ++ dktX4_init_14
def dkwX4_init_12 : List UInt8 := [89, 16, 43, 16, 111, 85, 89, 16, 44, 16, 117, 85, 89, 16, 45, 16, 98, 85, 89, 16, 46, 16, 116, 85]
abbrev dktX4_init_12 : List UInt8 := dkwX4_init_12 ++ dktX4_init_13
def dkwX4_init_11 : List UInt8 := [16, 100, 85, 89, 16, 39, 3, 85, 89, 16, 40, 3, 85, 89, 16, 41, 3, 85, 89, 16, 42, 16, 100, 85]
abbrev dktX4_init_11 : List UInt8 := dkwX4_init_11 ++ dktX4_init_12
def dkwX4_init_10 : List UInt8 := [16, 34, 3, 85, 89, 16, 35, 3, 85, 89, 16, 36, 16, 111, 85, 89, 16, 37, 16, 108, 85, 89, 16, 38]
abbrev dktX4_init_10 : List UInt8 := dkwX4_init_10 ++ dktX4_init_11
def dkwX4_init_9 : List UInt8 := [16, 30, 16, 108, 85, 89, 16, 31, 16, 101, 85, 89, 16, 32, 16, 102, 85, 89, 16, 33, 16, 116, 85, 89]
abbrev dktX4_init_9 : List UInt8 := dkwX4_init_9 ++ dktX4_init_10
def dkwX4_init_8 : List UInt8 := [16, 115, 85, 89, 16, 26, 3, 85, 89, 16, 27, 3, 85, 89, 16, 28, 3, 85, 89, 16, 29, 3, 85, 89]
abbrev dktX4_init_8 : List UInt8 := dkwX4_init_8 ++ dktX4_init_9
def dkwX4_init_7 : List UInt8 := [16, 115, 85, 89, 16, 22, 16, 111, 85, 89, 16, 23, 16, 110, 85, 89, 16, 24, 16, 105, 85, 89, 16, 25]
abbrev dktX4_init_7 : List UInt8 := dkwX4_init_7 ++ dktX4_init_8
def dkwX4_init_6 : List UInt8 := [3, 85, 89, 16, 18, 16, 112, 85, 89, 16, 19, 16, 101, 85, 89, 16, 20, 16, 114, 85, 89, 16, 21]
abbrev dktX4_init_6 : List UInt8 := dkwX4_init_6 ++ dktX4_init_7
def dkwX4_init_5 : List UInt8 := [16, 13, 16, 114, 85, 89, 16, 14, 16, 121, 85, 89, 16, 15, 3, 85, 89, 16, 16, 3, 85, 89, 16, 17]
abbrev dktX4_init_5 : List UInt8 := dkwX4_init_5 ++ dktX4_init_6
def dkwX4_init_4 : List UInt8 := [89, 16, 9, 16, 100, 85, 89, 16, 10, 3, 85, 89, 16, 11, 3, 85, 89, 16, 12, 16, 100, 85, 89]
abbrev dktX4_init_4 : List UInt8 := dkwX4_init_4 ++ dktX4_init_5
def dkwX4_init_3 : List UInt8 := [3, 85, 89, 8, 3, 85, 89, 16, 6, 16, 112, 85, 89, 16, 7, 16, 111, 85, 89, 16, 8, 16, 110, 85]
abbrev dktX4_init_3 : List UInt8 := dkwX4_init_3 ++ dktX4_init_4
def dkwX4_init_2 : List UInt8 := [188, 5, 89, 3, 16, 115, 85, 89, 4, 16, 105, 85, 89, 5, 16, 100, 85, 89, 6, 16, 101, 85, 89, 7]
abbrev dktX4_init_2 : List UInt8 := dkwX4_init_2 ++ dktX4_init_3
def dkwX4_init_1 : List UInt8 := [181, 0, 20, 42, 16, 97, 188, 10, 181, 0, 23, 42, 17, 0, 250, 188, 10, 181, 0, 26, 42, 16, 48]
abbrev dktX4_init_1 : List UInt8 := dkwX4_init_1 ++ dktX4_init_2
def dkwX4_init_0 : List UInt8 := [42, 183, 0, 1, 42, 16, 7, 188, 10, 181, 0, 7, 42, 184, 0, 13, 181, 0, 17, 42, 16, 97, 188, 10]
abbrev dktX4_init_0 : List UInt8 := dkwX4_init_0 ++ dktX4_init_1
theorem dksX4_init_0 : cX4_init.data.toList.drop 0 = dktX4_init_0 := by decide +kernel
theorem dksX4_init_1 : cX4_init.data.toList.drop 24 = dktX4_init_1 := dk_seg dksX4_init_0 24 rfl rfl
theorem dksX4_init_2 : cX4_init.data.toList.drop 47 = dktX4_init_2 := dk_seg dksX4_init_1 23 rfl rfl
theorem dksX4_init_3 : cX4_init.data.toList.drop 71 = dktX4_init_3 := dk_seg dksX4_init_2 24 rfl rfl
theorem dksX4_init_4 : cX4_init.data.toList.drop 95 = dktX4_init_4 := dk_seg dksX4_init_3 24 rfl rfl
theorem dksX4_init_5 : cX4_init.data.toList.drop 118 = dktX4_init_5 := dk_seg dksX4_init_4 23 rfl rfl
theorem dksX4_init_6 : cX4_init.data.toList.drop 142 = dktX4_init_6 := dk_seg dksX4_init_5 24 rfl rfl
theorem dksX4_init_7 : cX4_init.data.toList.drop 165 = dktX4_init_7 := dk_seg dksX4_init_6 23 rfl rfl
theorem dksX4_init_8 : cX4_init.data.toList.drop 189 = dktX4_init_8 := dk_seg dksX4_init_7 24 rfl rfl
theorem dksX4_init_9 : cX4_init.data.toList.drop 213 = dktX4_init_9 := dk_seg dksX4_init_8 24 rfl rfl
theorem dksX4_init_10 : cX4_init.data.toList.drop 237 = dktX4_init_10 := dk_seg dksX4_init_9 24 rfl rfl
theorem dksX4_init_11 : cX4_init.data.toList.drop 261 = dktX4_init_11 := dk_seg dksX4_init_10 24 rfl rfl
theorem dksX4_init_12 : cX4_init.data.toList.drop 285 = dktX4_init_12 := dk_seg dksX4_init_11 24 rfl rfl
theorem dksX4_init_13 : cX4_init.data.toList.drop 309 = dktX4_init_13 := dk_seg dksX4_init_12 24 rfl rfl
theorem dksX4_init_14 : cX4_init.data.toList.drop 333 = dktX4_init_14 := dk_seg dksX4_init_13 24 rfl rfl
theorem dksX4_init_15 : cX4_init.data.toList.drop 356 = dktX4_init_15 := dk_seg dksX4_init_14 23 rfl rfl
theorem dksX4_init_16 : cX4_init.data.toList.drop 380 = dktX4_init_16 := dk_seg dksX4_init_15 24 rfl rfl
theorem dksX4_init_17 : cX4_init.data.toList.drop 404 = dktX4_init_17 := dk_seg dksX4_init_16 24 rfl rfl
theorem dksX4_init_18 : cX4_init.data.toList.drop 427 = dktX4_init_18 := dk_seg dksX4_init_17 23 rfl rfl
theorem dksX4_init_19 : cX4_init.data.toList.drop 451 = dktX4_init_19 := dk_seg dksX4_init_18 24 rfl rfl
theorem dksX4_init_20 : cX4_init.data.toList.drop 475 = dktX4_init_20 := dk_seg dksX4_init_19 24 rfl rfl
theorem dX4_init_0 : decode cX4_init 0 = .ok (.aload_n 0, 1) := dk_42 (dk_at dksX4_init_0 0 rfl rfl)
theorem dX4_init_1 : decode cX4_init 1 = .ok (.invokespecial 1, 3) := dk_183 0 1 (dk_at dksX4_init_0 1 rfl rfl)
theorem dX4_init_4 : decode cX4_init 4 = .ok (.aload_n 0, 1) := dk_42 (dk_at dksX4_init_0 4 rfl rfl)
theorem dX4_init_5 : decode cX4_init 5 = .ok (.bipush 7, 2) := dk_16 7 (dk_at dksX4_init_0 5 rfl rfl)
theorem dX4_init_7 : decode cX4_init 7 = .ok (.newarray .int, 2) := dk_188_10 (dk_at dksX4_init_0 7 rfl rfl)
theorem dX4_init_9 : decode cX4_init 9 = .ok (.putfield 7, 3) := dk_181 0 7 (dk_at dksX4_init_0 9 rfl rfl)
theorem dX4_init_12 : decode cX4_init 12 = .ok (.aload_n 0, 1) := dk_42 (dk_at dksX4_init_0 12 rfl rfl)
theorem dX4_init_13 : decode cX4_init 13 = .ok (.invokestatic 13, 3) := dk_184 0 13 (dk_at dksX4_init_0 13 rfl rfl)
theorem dX4_init_16 : decode cX4_init 16 = .ok (.putfield 17, 3) := dk_181 0 17 (dk_at dksX4_init_0 16 rfl rfl)
theorem dX4_init_19 : decode cX4_init 19 = .ok (.aload_n 0, 1) := dk_42 (dk_at dksX4_init_0 19 rfl rfl)
theorem dX4_init_20 : decode cX4_init 20 = .ok (.bipush 97, 2) := dk_16 97 (dk_at dksX4_init_0 20 rfl rfl)
theorem dX4_init_22 : decode cX4_init 22 = .ok (.newarray .int, 2) := dk_188_10 (dk_at dksX4_init_0 22 rfl rfl)
theorem dX4_init_24 : decode cX4_init 24 = .ok (.putfield 20, 3) := dk_181 0 20 (dk_at dksX4_init_1 0 rfl rfl)
theorem dX4_init_27 : decode cX4_init 27 = .ok (.aload_n 0, 1) := dk_42 (dk_at dksX4_init_1 3 rfl rfl)
theorem dX4_init_28 : decode cX4_init 28 = .ok (.bipush 97, 2) := dk_16 97 (dk_at dksX4_init_1 4 rfl rfl)
theorem dX4_init_30 : decode cX4_init 30 = .ok (.newarray .int, 2) := dk_188_10 (dk_at dksX4_init_1 6 rfl rfl)
theorem dX4_init_32 : decode cX4_init 32 = .ok (.putfield 23, 3) := dk_181 0 23 (dk_at dksX4_init_1 8 rfl rfl)
theorem dX4_init_35 : decode cX4_init 35 = .ok (.aload_n 0, 1) := dk_42 (dk_at dksX4_init_1 11 rfl rfl)
theorem dX4_init_36 : decode cX4_init 36 = .ok (.sipush 250, 3) := dk_17 0 250 (dk_at dksX4_init_1 12 rfl rfl)
theorem dX4_init_39 : decode cX4_init 39 = .ok (.newarray .int, 2) := dk_188_10 (dk_at dksX4_init_1 15 rfl rfl)
theorem dX4_init_41 : decode cX4_init 41 = .ok (.putfield 26, 3) := dk_181 0 26 (dk_at dksX4_init_1 17 rfl rfl)
theorem dX4_init_44 : decode cX4_init 44 = .ok (.aload_n 0, 1) := dk_42 (dk_at dksX4_init_1 20 rfl rfl)
theorem dX4_init_45 : decode cX4_init 45 = .ok (.bipush 48, 2) := dk_16 48 (dk_at dksX4_init_1 21 rfl rfl)
theorem dX4_init_47 : decode cX4_init 47 = .ok (.newarray .char, 2) := dk_188_5 (dk_at dksX4_init_2 0 rfl rfl)
theorem dX4_init_49 : decode cX4_init 49 = .ok (.dup, 1) := dk_89 (dk_at dksX4_init_2 2 rfl rfl)
theorem dX4_init_50 : decode cX4_init 50 = .ok (.iconst 0, 1) := dk_3 (dk_at dksX4_init_2 3 rfl rfl)
theorem dX4_init_51 : decode cX4_init 51 = .ok (.bipush 115, 2) := dk_16 115 (dk_at dksX4_init_2 4 rfl rfl)
theorem dX4_init_53 : decode cX4_init 53 = .ok (.castore, 1) := dk_85 (dk_at dksX4_init_2 6 rfl rfl)
theorem dX4_init_54 : decode cX4_init 54 = .ok (.dup, 1) := dk_89 (dk_at dksX4_init_2 7 rfl rfl)
theorem dX4_init_55 : decode cX4_init 55 = .ok (.iconst 1, 1) := dk_4 (dk_at dksX4_init_2 8 rfl rfl)
theorem dX4_init_56 : decode cX4_init 56 = .ok (.bipush 105, 2) := dk_16 105 (dk_at dksX4_init_2 9 rfl rfl)
theorem dX4_init_58 : decode cX4_init 58 = .ok (.castore, 1) := dk_85 (dk_at dksX4_init_2 11 rfl rfl)
theorem dX4_init_59 : decode cX4_init 59 = .ok (.dup, 1) := dk_89 (dk_at dksX4_init_2 12 rfl rfl)
theorem dX4_init_60 : decode cX4_init 60 = .ok (.iconst 2, 1) := dk_5 (dk_at dksX4_init_2 13 rfl rfl)
theorem dX4_init_61 : decode cX4_init 61 = .ok (.bipush 100, 2) := dk_16 100 (dk_at dksX4_init_2 14 rfl rfl)
theorem dX4_init_63 : decode cX4_init 63 = .ok (.castore, 1) := dk_85 (dk_at dksX4_init_2 16 rfl rfl)
theorem dX4_init_64 : decode cX4_init 64 = .ok (.dup, 1) := dk_89 (dk_at dksX4_init_2 17 rfl rfl)
theorem dX4_init_65 : decode cX4_init 65 = .ok (.iconst 3, 1) := dk_6 (dk_at dksX4_init_2 18 rfl rfl)
theorem dX4_init_66 : decode cX4_init 66 = .ok (.bipush 101, 2) := dk_16 101 (dk_at dksX4_init_2 19 rfl rfl)
theorem dX4_init_68 : decode cX4_init 68 = .ok (.castore, 1) := dk_85 (dk_at dksX4_init_2 21 rfl rfl)
theorem dX4_init_69 : decode cX4_init 69 = .ok (.dup, 1) := dk_89 (dk_at dksX4_init_2 22 rfl rfl)
theorem dX4_init_70 : decode cX4_init 70 = .ok (.iconst 4, 1) := dk_7 (dk_at dksX4_init_2 23 rfl rfl)
theorem dX4_init_71 : decode cX4_init 71 = .ok (.iconst 0, 1) := dk_3 (dk_at dksX4_init_3 0 rfl rfl)
theorem dX4_init_72 : decode cX4_init 72 = .ok (.castore, 1) := dk_85 (dk_at dksX4_init_3 1 rfl rfl)
theorem dX4_init_73 : decode cX4_init 73 = .ok (.dup, 1) := dk_89 (dk_at dksX4_init_3 2 rfl rfl)
theorem dX4_init_74 : decode cX4_init 74 = .ok (.iconst 5, 1) := dk_8 (dk_at dksX4_init_3 3 rfl rfl)
theorem dX4_init_75 : decode cX4_init 75 = .ok (.iconst 0, 1) := dk_3 (dk_at dksX4_init_3 4 rfl rfl)
theorem dX4_init_76 : decode cX4_init 76 = .ok (.castore, 1) := dk_85 (dk_at dksX4_init_3 5 rfl rfl)
theorem dX4_init_77 : decode cX4_init 77 = .ok (.dup, 1) := dk_89 (dk_at dksX4_init_3 6 rfl rfl)
theorem dX4_init_78 : decode cX4_init 78 = .ok (.bipush 6, 2) := dk_16 6 (dk_at dksX4_init_3 7 rfl rfl)
theorem dX4_init_80 : decode cX4_init 80 = .ok (.bipush 112, 2) := dk_16 112 (dk_at dksX4_init_3 9 rfl rfl)
theorem dX4_init_82 : decode cX4_init 82 = .ok (.castore, 1) := dk_85 (dk_at dksX4_init_3 11 rfl rfl)
theorem dX4_init_83 : decode cX4_init 83 = .ok (.dup, 1) := dk_89 (dk_at dksX4_init_3 12 rfl rfl)
theorem dX4_init_84 : decode cX4_init 84 = .ok (.bipush 7, 2) := dk_16 7 (dk_at dksX4_init_3 13 rfl rfl)
theorem dX4_init_86 : decode cX4_init 86 = .ok (.bipush 111, 2) := dk_16 111 (dk_at dksX4_init_3 15 rfl rfl)
theorem dX4_init_88 : decode cX4_init 88 = .ok (.castore, 1) := dk_85 (dk_at dksX4_init_3 17 rfl rfl)
theorem dX4_init_89 : decode cX4_init 89 = .ok (.dup, 1) := dk_89 (dk_at dksX4_init_3 18 rfl rfl)
theorem dX4_init_90 : decode cX4_init 90 = .ok (.bipush 8, 2) := dk_16 8 (dk_at dksX4_init_3 19 rfl rfl)
theorem dX4_init_92 : decode cX4_init 92 = .ok (.bipush 110, 2) := dk_16 110 (dk_at dksX4_init_3 21 rfl rfl)
theorem dX4_init_94 : decode cX4_init 94 = .ok (.castore, 1) := dk_85 (dk_at dksX4_init_3 23 rfl rfl)
theorem dX4_init_95 : decode cX4_init 95 = .ok (.dup, 1) := dk_89 (dk_at dksX4_init_4 0 rfl rfl)
theorem dX4_init_96 : decode cX4_init 96 = .ok (.bipush 9, 2) := dk_16 9 (dk_at dksX4_init_4 1 rfl rfl)
theorem dX4_init_98 : decode cX4_init 98 = .ok (.bipush 100, 2) := dk_16 100 (dk_at dksX4_init_4 3 rfl rfl)
theorem dX4_init_100 : decode cX4_init 100 = .ok (.castore, 1) := dk_85 (dk_at dksX4_init_4 5 rfl rfl)
theorem dX4_init_101 : decode cX4_init 101 = .ok (.dup, 1) := dk_89 (dk_at dksX4_init_4 6 rfl rfl)
theorem dX4_init_102 : decode cX4_init 102 = .ok (.bipush 10, 2) := dk_16 10 (dk_at dksX4_init_4 7 rfl rfl)
theorem dX4_init_104 : decode cX4_init 104 = .ok (.iconst 0, 1) := dk_3 (dk_at dksX4_init_4 9 rfl rfl)
theorem dX4_init_105 : decode cX4_init 105 = .ok (.castore, 1) := dk_85 (dk_at dksX4_init_4 10 rfl rfl)
theorem dX4_init_106 : decode cX4_init 106 = .ok (.dup, 1) := dk_89 (dk_at dksX4_init_4 11 rfl rfl)
theorem dX4_init_107 : decode cX4_init 107 = .ok (.bipush 11, 2) := dk_16 11 (dk_at dksX4_init_4 12 rfl rfl)
theorem dX4_init_109 : decode cX4_init 109 = .ok (.iconst 0, 1) := dk_3 (dk_at dksX4_init_4 14 rfl rfl)
theorem dX4_init_110 : decode cX4_init 110 = .ok (.castore, 1) := dk_85 (dk_at dksX4_init_4 15 rfl rfl)
theorem dX4_init_111 : decode cX4_init 111 = .ok (.dup, 1) := dk_89 (dk_at dksX4_init_4 16 rfl rfl)
theorem dX4_init_112 : decode cX4_init 112 = .ok (.bipush 12, 2) := dk_16 12 (dk_at dksX4_init_4 17 rfl rfl)
theorem dX4_init_114 : decode cX4_init 114 = .ok (.bipush 100, 2) := dk_16 100 (dk_at dksX4_init_4 19 rfl rfl)
theorem dX4_init_116 : decode cX4_init 116 = .ok (.castore, 1) := dk_85 (dk_at dksX4_init_4 21 rfl rfl)
theorem dX4_init_117 : decode cX4_init 117 = .ok (.dup, 1) := dk_89 (dk_at dksX4_init_4 22 rfl rfl)
theorem dX4_init_118 : decode cX4_init 118 = .ok (.bipush 13, 2) := dk_16 13 (dk_at dksX4_init_5 0 rfl rfl)
theorem dX4_init_120 : decode cX4_init 120 = .ok (.bipush 114, 2) := dk_16 114 (dk_at dksX4_init_5 2 rfl rfl)
theorem dX4_init_122 : decode cX4_init 122 = .ok (.castore, 1) := dk_85 (dk_at dksX4_init_5 4 rfl rfl)
theorem dX4_init_123 : decode cX4_init 123 = .ok (.dup, 1) := dk_89 (dk_at dksX4_init_5 5 rfl rfl)
theorem dX4_init_124 : decode cX4_init 124 = .ok (.bipush 14, 2) := dk_16 14 (dk_at dksX4_init_5 6 rfl rfl)
theorem dX4_init_126 : decode cX4_init 126 = .ok (.bipush 121, 2) := dk_16 121 (dk_at dksX4_init_5 8 rfl rfl)
theorem dX4_init_128 : decode cX4_init 128 = .ok (.castore, 1) := dk_85 (dk_at dksX4_init_5 10 rfl rfl)
theorem dX4_init_129 : decode cX4_init 129 = .ok (.dup, 1) := dk_89 (dk_at dksX4_init_5 11 rfl rfl)
theorem dX4_init_130 : decode cX4_init 130 = .ok (.bipush 15, 2) := dk_16 15 (dk_at dksX4_init_5 12 rfl rfl)
theorem dX4_init_132 : decode cX4_init 132 = .ok (.iconst 0, 1) := dk_3 (dk_at dksX4_init_5 14 rfl rfl)
theorem dX4_init_133 : decode cX4_init 133 = .ok (.castore, 1) := dk_85 (dk_at dksX4_init_5 15 rfl rfl)
theorem dX4_init_134 : decode cX4_init 134 = .ok (.dup, 1) := dk_89 (dk_at dksX4_init_5 16 rfl rfl)
theorem dX4_init_135 : decode cX4_init 135 = .ok (.bipush 16, 2) := dk_16 16 (dk_at dksX4_init_5 17 rfl rfl)
theorem dX4_init_137 : decode cX4_init 137 = .ok (.iconst 0, 1) := dk_3 (dk_at dksX4_init_5 19 rfl rfl)
theorem dX4_init_138 : decode cX4_init 138 = .ok (.castore, 1) := dk_85 (dk_at dksX4_init_5 20 rfl rfl)
theorem dX4_init_139 : decode cX4_init 139 = .ok (.dup, 1) := dk_89 (dk_at dksX4_init_5 21 rfl rfl)
theorem dX4_init_140 : decode cX4_init 140 = .ok (.bipush 17, 2) := dk_16 17 (dk_at dksX4_init_5 22 rfl rfl)
theorem dX4_init_142 : decode cX4_init 142 = .ok (.iconst 0, 1) := dk_3 (dk_at dksX4_init_6 0 rfl rfl)
theorem dX4_init_143 : decode cX4_init 143 = .ok (.castore, 1) := dk_85 (dk_at dksX4_init_6 1 rfl rfl)
theorem dX4_init_144 : decode cX4_init 144 = .ok (.dup, 1) := dk_89 (dk_at dksX4_init_6 2 rfl rfl)
theorem dX4_init_145 : decode cX4_init 145 = .ok (.bipush 18, 2) := dk_16 18 (dk_at dksX4_init_6 3 rfl rfl)
theorem dX4_init_147 : decode cX4_init 147 = .ok (.bipush 112, 2) := dk_16 112 (dk_at dksX4_init_6 5 rfl rfl)
theorem dX4_init_149 : decode cX4_init 149 = .ok (.castore, 1) := dk_85 (dk_at dksX4_init_6 7 rfl rfl)
theorem dX4_init_150 : decode cX4_init 150 = .ok (.dup, 1) := dk_89 (dk_at dksX4_init_6 8 rfl rfl)
theorem dX4_init_151 : decode cX4_init 151 = .ok (.bipush 19, 2) := dk_16 19 (dk_at dksX4_init_6 9 rfl rfl)
theorem dX4_init_153 : decode cX4_init 153 = .ok (.bipush 101, 2) := dk_16 101 (dk_at dksX4_init_6 11 rfl rfl)
theorem dX4_init_155 : decode cX4_init 155 = .ok (.castore, 1) := dk_85 (dk_at dksX4_init_6 13 rfl rfl)
theorem dX4_init_156 : decode cX4_init 156 = .ok (.dup, 1) := dk_89 (dk_at dksX4_init_6 14 rfl rfl)
theorem dX4_init_157 : decode cX4_init 157 = .ok (.bipush 20, 2) := dk_16 20 (dk_at dksX4_init_6 15 rfl rfl)
theorem dX4_init_159 : decode cX4_init 159 = .ok (.bipush 114, 2) := dk_16 114 (dk_at dksX4_init_6 17 rfl rfl)
theorem dX4_init_161 : decode cX4_init 161 = .ok (.castore, 1) := dk_85 (dk_at dksX4_init_6 19 rfl rfl)
theorem dX4_init_162 : decode cX4_init 162 = .ok (.dup, 1) := dk_89 (dk_at dksX4_init_6 20 rfl rfl)
theorem dX4_init_163 : decode cX4_init 163 = .ok (.bipush 21, 2) := dk_16 21 (dk_at dksX4_init_6 21 rfl rfl)
theorem dX4_init_165 : decode cX4_init 165 = .ok (.bipush 115, 2) := dk_16 115 (dk_at dksX4_init_7 0 rfl rfl)
theorem dX4_init_167 : decode cX4_init 167 = .ok (.castore, 1) := dk_85 (dk_at dksX4_init_7 2 rfl rfl)
theorem dX4_init_168 : decode cX4_init 168 = .ok (.dup, 1) := dk_89 (dk_at dksX4_init_7 3 rfl rfl)
theorem dX4_init_169 : decode cX4_init 169 = .ok (.bipush 22, 2) := dk_16 22 (dk_at dksX4_init_7 4 rfl rfl)
theorem dX4_init_171 : decode cX4_init 171 = .ok (.bipush 111, 2) := dk_16 111 (dk_at dksX4_init_7 6 rfl rfl)
theorem dX4_init_173 : decode cX4_init 173 = .ok (.castore, 1) := dk_85 (dk_at dksX4_init_7 8 rfl rfl)
theorem dX4_init_174 : decode cX4_init 174 = .ok (.dup, 1) := dk_89 (dk_at dksX4_init_7 9 rfl rfl)
theorem dX4_init_175 : decode cX4_init 175 = .ok (.bipush 23, 2) := dk_16 23 (dk_at dksX4_init_7 10 rfl rfl)
theorem dX4_init_177 : decode cX4_init 177 = .ok (.bipush 110, 2) := dk_16 110 (dk_at dksX4_init_7 12 rfl rfl)
theorem dX4_init_179 : decode cX4_init 179 = .ok (.castore, 1) := dk_85 (dk_at dksX4_init_7 14 rfl rfl)
theorem dX4_init_180 : decode cX4_init 180 = .ok (.dup, 1) := dk_89 (dk_at dksX4_init_7 15 rfl rfl)
theorem dX4_init_181 : decode cX4_init 181 = .ok (.bipush 24, 2) := dk_16 24 (dk_at dksX4_init_7 16 rfl rfl)
theorem dX4_init_183 : decode cX4_init 183 = .ok (.bipush 105, 2) := dk_16 105 (dk_at dksX4_init_7 18 rfl rfl)
theorem dX4_init_185 : decode cX4_init 185 = .ok (.castore, 1) := dk_85 (dk_at dksX4_init_7 20 rfl rfl)
theorem dX4_init_186 : decode cX4_init 186 = .ok (.dup, 1) := dk_89 (dk_at dksX4_init_7 21 rfl rfl)
theorem dX4_init_187 : decode cX4_init 187 = .ok (.bipush 25, 2) := dk_16 25 (dk_at dksX4_init_7 22 rfl rfl)
theorem dX4_init_189 : decode cX4_init 189 = .ok (.bipush 115, 2) := dk_16 115 (dk_at dksX4_init_8 0 rfl rfl)
theorem dX4_init_191 : decode cX4_init 191 = .ok (.castore, 1) := dk_85 (dk_at dksX4_init_8 2 rfl rfl)
theorem dX4_init_192 : decode cX4_init 192 = .ok (.dup, 1) := dk_89 (dk_at dksX4_init_8 3 rfl rfl)
theorem dX4_init_193 : decode cX4_init 193 = .ok (.bipush 26, 2) := dk_16 26 (dk_at dksX4_init_8 4 rfl rfl)
theorem dX4_init_195 : decode cX4_init 195 = .ok (.iconst 0, 1) := dk_3 (dk_at dksX4_init_8 6 rfl rfl)
theorem dX4_init_196 : decode cX4_init 196 = .ok (.castore, 1) := dk_85 (dk_at dksX4_init_8 7 rfl rfl)
theorem dX4_init_197 : decode cX4_init 197 = .ok (.dup, 1) := dk_89 (dk_at dksX4_init_8 8 rfl rfl)
theorem dX4_init_198 : decode cX4_init 198 = .ok (.bipush 27, 2) := dk_16 27 (dk_at dksX4_init_8 9 rfl rfl)
theorem dX4_init_200 : decode cX4_init 200 = .ok (.iconst 0, 1) := dk_3 (dk_at dksX4_init_8 11 rfl rfl)
theorem dX4_init_201 : decode cX4_init 201 = .ok (.castore, 1) := dk_85 (dk_at dksX4_init_8 12 rfl rfl)
theorem dX4_init_202 : decode cX4_init 202 = .ok (.dup, 1) := dk_89 (dk_at dksX4_init_8 13 rfl rfl)
theorem dX4_init_203 : decode cX4_init 203 = .ok (.bipush 28, 2) := dk_16 28 (dk_at dksX4_init_8 14 rfl rfl)
theorem dX4_init_205 : decode cX4_init 205 = .ok (.iconst 0, 1) := dk_3 (dk_at dksX4_init_8 16 rfl rfl)
theorem dX4_init_206 : decode cX4_init 206 = .ok (.castore, 1) := dk_85 (dk_at dksX4_init_8 17 rfl rfl)
theorem dX4_init_207 : decode cX4_init 207 = .ok (.dup, 1) := dk_89 (dk_at dksX4_init_8 18 rfl rfl)
theorem dX4_init_208 : decode cX4_init 208 = .ok (.bipush 29, 2) := dk_16 29 (dk_at dksX4_init_8 19 rfl rfl)
theorem dX4_init_210 : decode cX4_init 210 = .ok (.iconst 0, 1) := dk_3 (dk_at dksX4_init_8 21 rfl rfl)
theorem dX4_init_211 : decode cX4_init 211 = .ok (.castore, 1) := dk_85 (dk_at dksX4_init_8 22 rfl rfl)
theorem dX4_init_212 : decode cX4_init 212 = .ok (.dup, 1) := dk_89 (dk_at dksX4_init_8 23 rfl rfl)
theorem dX4_init_213 : decode cX4_init 213 = .ok (.bipush 30, 2) := dk_16 30 (dk_at dksX4_init_9 0 rfl rfl)
theorem dX4_init_215 : decode cX4_init 215 = .ok (.bipush 108, 2) := dk_16 108 (dk_at dksX4_init_9 2 rfl rfl)
theorem dX4_init_217 : decode cX4_init 217 = .ok (.castore, 1) := dk_85 (dk_at dksX4_init_9 4 rfl rfl)
theorem dX4_init_218 : decode cX4_init 218 = .ok (.dup, 1) := dk_89 (dk_at dksX4_init_9 5 rfl rfl)
theorem dX4_init_219 : decode cX4_init 219 = .ok (.bipush 31, 2) := dk_16 31 (dk_at dksX4_init_9 6 rfl rfl)
theorem dX4_init_221 : decode cX4_init 221 = .ok (.bipush 101, 2) := dk_16 101 (dk_at dksX4_init_9 8 rfl rfl)
theorem dX4_init_223 : decode cX4_init 223 = .ok (.castore, 1) := dk_85 (dk_at dksX4_init_9 10 rfl rfl)
theorem dX4_init_224 : decode cX4_init 224 = .ok (.dup, 1) := dk_89 (dk_at dksX4_init_9 11 rfl rfl)
theorem dX4_init_225 : decode cX4_init 225 = .ok (.bipush 32, 2) := dk_16 32 (dk_at dksX4_init_9 12 rfl rfl)
theorem dX4_init_227 : decode cX4_init 227 = .ok (.bipush 102, 2) := dk_16 102 (dk_at dksX4_init_9 14 rfl rfl)
theorem dX4_init_229 : decode cX4_init 229 = .ok (.castore, 1) := dk_85 (dk_at dksX4_init_9 16 rfl rfl)
theorem dX4_init_230 : decode cX4_init 230 = .ok (.dup, 1) := dk_89 (dk_at dksX4_init_9 17 rfl rfl)
theorem dX4_init_231 : decode cX4_init 231 = .ok (.bipush 33, 2) := dk_16 33 (dk_at dksX4_init_9 18 rfl rfl)
theorem dX4_init_233 : decode cX4_init 233 = .ok (.bipush 116, 2) := dk_16 116 (dk_at dksX4_init_9 20 rfl rfl)
theorem dX4_init_235 : decode cX4_init 235 = .ok (.castore, 1) := dk_85 (dk_at dksX4_init_9 22 rfl rfl)
theorem dX4_init_236 : decode cX4_init 236 = .ok (.dup, 1) := dk_89 (dk_at dksX4_init_9 23 rfl rfl)
theorem dX4_init_237 : decode cX4_init 237 = .ok (.bipush 34, 2) := dk_16 34 (dk_at dksX4_init_10 0 rfl rfl)
theorem dX4_init_239 : decode cX4_init 239 = .ok (.iconst 0, 1) := dk_3 (dk_at dksX4_init_10 2 rfl rfl)
theorem dX4_init_240 : decode cX4_init 240 = .ok (.castore, 1) := dk_85 (dk_at dksX4_init_10 3 rfl rfl)
theorem dX4_init_241 : decode cX4_init 241 = .ok (.dup, 1) := dk_89 (dk_at dksX4_init_10 4 rfl rfl)
theorem dX4_init_242 : decode cX4_init 242 = .ok (.bipush 35, 2) := dk_16 35 (dk_at dksX4_init_10 5 rfl rfl)
theorem dX4_init_244 : decode cX4_init 244 = .ok (.iconst 0, 1) := dk_3 (dk_at dksX4_init_10 7 rfl rfl)
theorem dX4_init_245 : decode cX4_init 245 = .ok (.castore, 1) := dk_85 (dk_at dksX4_init_10 8 rfl rfl)
theorem dX4_init_246 : decode cX4_init 246 = .ok (.dup, 1) := dk_89 (dk_at dksX4_init_10 9 rfl rfl)
theorem dX4_init_247 : decode cX4_init 247 = .ok (.bipush 36, 2) := dk_16 36 (dk_at dksX4_init_10 10 rfl rfl)
theorem dX4_init_249 : decode cX4_init 249 = .ok (.bipush 111, 2) := dk_16 111 (dk_at dksX4_init_10 12 rfl rfl)
theorem dX4_init_251 : decode cX4_init 251 = .ok (.castore, 1) := dk_85 (dk_at dksX4_init_10 14 rfl rfl)
theorem dX4_init_252 : decode cX4_init 252 = .ok (.dup, 1) := dk_89 (dk_at dksX4_init_10 15 rfl rfl)
theorem dX4_init_253 : decode cX4_init 253 = .ok (.bipush 37, 2) := dk_16 37 (dk_at dksX4_init_10 16 rfl rfl)
theorem dX4_init_255 : decode cX4_init 255 = .ok (.bipush 108, 2) := dk_16 108 (dk_at dksX4_init_10 18 rfl rfl)
theorem dX4_init_257 : decode cX4_init 257 = .ok (.castore, 1) := dk_85 (dk_at dksX4_init_10 20 rfl rfl)
theorem dX4_init_258 : decode cX4_init 258 = .ok (.dup, 1) := dk_89 (dk_at dksX4_init_10 21 rfl rfl)
theorem dX4_init_259 : decode cX4_init 259 = .ok (.bipush 38, 2) := dk_16 38 (dk_at dksX4_init_10 22 rfl rfl)
theorem dX4_init_261 : decode cX4_init 261 = .ok (.bipush 100, 2) := dk_16 100 (dk_at dksX4_init_11 0 rfl rfl)
theorem dX4_init_263 : decode cX4_init 263 = .ok (.castore, 1) := dk_85 (dk_at dksX4_init_11 2 rfl rfl)
theorem dX4_init_264 : decode cX4_init 264 = .ok (.dup, 1) := dk_89 (dk_at dksX4_init_11 3 rfl rfl)
theorem dX4_init_265 : decode cX4_init 265 = .ok (.bipush 39, 2) := dk_16 39 (dk_at dksX4_init_11 4 rfl rfl)
theorem dX4_init_267 : decode cX4_init 267 = .ok (.iconst 0, 1) := dk_3 (dk_at dksX4_init_11 6 rfl rfl)
theorem dX4_init_268 : decode cX4_init 268 = .ok (.castore, 1) := dk_85 (dk_at dksX4_init_11 7 rfl rfl)
theorem dX4_init_269 : decode cX4_init 269 = .ok (.dup, 1) := dk_89 (dk_at dksX4_init_11 8 rfl rfl)
theorem dX4_init_270 : decode cX4_init 270 = .ok (.bipush 40, 2) := dk_16 40 (dk_at dksX4_init_11 9 rfl rfl)
theorem dX4_init_272 : decode cX4_init 272 = .ok (.iconst 0, 1) := dk_3 (dk_at dksX4_init_11 11 rfl rfl)
theorem dX4_init_273 : decode cX4_init 273 = .ok (.castore, 1) := dk_85 (dk_at dksX4_init_11 12 rfl rfl)
theorem dX4_init_274 : decode cX4_init 274 = .ok (.dup, 1) := dk_89 (dk_at dksX4_init_11 13 rfl rfl)
theorem dX4_init_275 : decode cX4_init 275 = .ok (.bipush 41, 2) := dk_16 41 (dk_at dksX4_init_11 14 rfl rfl)
theorem dX4_init_277 : decode cX4_init 277 = .ok (.iconst 0, 1) := dk_3 (dk_at dksX4_init_11 16 rfl rfl)
theorem dX4_init_278 : decode cX4_init 278 = .ok (.castore, 1) := dk_85 (dk_at dksX4_init_11 17 rfl rfl)
theorem dX4_init_279 : decode cX4_init 279 = .ok (.dup, 1) := dk_89 (dk_at dksX4_init_11 18 rfl rfl)
theorem dX4_init_280 : decode cX4_init 280 = .ok (.bipush 42, 2) := dk_16 42 (dk_at dksX4_init_11 19 rfl rfl)
theorem dX4_init_282 : decode cX4_init 282 = .ok (.bipush 100, 2) := dk_16 100 (dk_at dksX4_init_11 21 rfl rfl)
theorem dX4_init_284 : decode cX4_init 284 = .ok (.castore, 1) := dk_85 (dk_at dksX4_init_11 23 rfl rfl)
theorem dX4_init_285 : decode cX4_init 285 = .ok (.dup, 1) := dk_89 (dk_at dksX4_init_12 0 rfl rfl)
theorem dX4_init_286 : decode cX4_init 286 = .ok (.bipush 43, 2) := dk_16 43 (dk_at dksX4_init_12 1 rfl rfl)
theorem dX4_init_288 : decode cX4_init 288 = .ok (.bipush 111, 2) := dk_16 111 (dk_at dksX4_init_12 3 rfl rfl)
theorem dX4_init_290 : decode cX4_init 290 = .ok (.castore, 1) := dk_85 (dk_at dksX4_init_12 5 rfl rfl)
theorem dX4_init_291 : decode cX4_init 291 = .ok (.dup, 1) := dk_89 (dk_at dksX4_init_12 6 rfl rfl)
theorem dX4_init_292 : decode cX4_init 292 = .ok (.bipush 44, 2) := dk_16 44 (dk_at dksX4_init_12 7 rfl rfl)
theorem dX4_init_294 : decode cX4_init 294 = .ok (.bipush 117, 2) := dk_16 117 (dk_at dksX4_init_12 9 rfl rfl)
theorem dX4_init_296 : decode cX4_init 296 = .ok (.castore, 1) := dk_85 (dk_at dksX4_init_12 11 rfl rfl)
theorem dX4_init_297 : decode cX4_init 297 = .ok (.dup, 1) := dk_89 (dk_at dksX4_init_12 12 rfl rfl)
theorem dX4_init_298 : decode cX4_init 298 = .ok (.bipush 45, 2) := dk_16 45 (dk_at dksX4_init_12 13 rfl rfl)
theorem dX4_init_300 : decode cX4_init 300 = .ok (.bipush 98, 2) := dk_16 98 (dk_at dksX4_init_12 15 rfl rfl)
theorem dX4_init_302 : decode cX4_init 302 = .ok (.castore, 1) := dk_85 (dk_at dksX4_init_12 17 rfl rfl)
theorem dX4_init_303 : decode cX4_init 303 = .ok (.dup, 1) := dk_89 (dk_at dksX4_init_12 18 rfl rfl)
theorem dX4_init_304 : decode cX4_init 304 = .ok (.bipush 46, 2) := dk_16 46 (dk_at dksX4_init_12 19 rfl rfl)
theorem dX4_init_306 : decode cX4_init 306 = .ok (.bipush 116, 2) := dk_16 116 (dk_at dksX4_init_12 21 rfl rfl)
theorem dX4_init_308 : decode cX4_init 308 = .ok (.castore, 1) := dk_85 (dk_at dksX4_init_12 23 rfl rfl)
theorem dX4_init_309 : decode cX4_init 309 = .ok (.dup, 1) := dk_89 (dk_at dksX4_init_13 0 rfl rfl)
theorem dX4_init_310 : decode cX4_init 310 = .ok (.bipush 47, 2) := dk_16 47 (dk_at dksX4_init_13 1 rfl rfl)
theorem dX4_init_312 : decode cX4_init 312 = .ok (.iconst 0, 1) := dk_3 (dk_at dksX4_init_13 3 rfl rfl)
theorem dX4_init_313 : decode cX4_init 313 = .ok (.castore, 1) := dk_85 (dk_at dksX4_init_13 4 rfl rfl)
theorem dX4_init_314 : decode cX4_init 314 = .ok (.putfield 29, 3) := dk_181 0 29 (dk_at dksX4_init_13 5 rfl rfl)
theorem dX4_init_317 : decode cX4_init 317 = .ok (.aload_n 0, 1) := dk_42 (dk_at dksX4_init_13 8 rfl rfl)
theorem dX4_init_318 : decode cX4_init 318 = .ok (.iconst 2, 1) := dk_5 (dk_at dksX4_init_13 9 rfl rfl)
theorem dX4_init_319 : decode cX4_init 319 = .ok (.newarray .int, 2) := dk_188_10 (dk_at dksX4_init_13 10 rfl rfl)
theorem dX4_init_321 : decode cX4_init 321 = .ok (.putfield 33, 3) := dk_181 0 33 (dk_at dksX4_init_13 12 rfl rfl)
theorem dX4_init_324 : decode cX4_init 324 = .ok (.aload_n 0, 1) := dk_42 (dk_at dksX4_init_13 15 rfl rfl)
theorem dX4_init_325 : decode cX4_init 325 = .ok (.iconst 2, 1) := dk_5 (dk_at dksX4_init_13 16 rfl rfl)
theorem dX4_init_326 : decode cX4_init 326 = .ok (.newarray .int, 2) := dk_188_10 (dk_at dksX4_init_13 17 rfl rfl)
theorem dX4_init_328 : decode cX4_init 328 = .ok (.putfield 36, 3) := dk_181 0 36 (dk_at dksX4_init_13 19 rfl rfl)
theorem dX4_init_331 : decode cX4_init 331 = .ok (.aload_n 0, 1) := dk_42 (dk_at dksX4_init_13 22 rfl rfl)
theorem dX4_init_332 : decode cX4_init 332 = .ok (.iconst 2, 1) := dk_5 (dk_at dksX4_init_13 23 rfl rfl)
theorem dX4_init_333 : decode cX4_init 333 = .ok (.newarray .int, 2) := dk_188_10 (dk_at dksX4_init_14 0 rfl rfl)
theorem dX4_init_335 : decode cX4_init 335 = .ok (.putfield 39, 3) := dk_181 0 39 (dk_at dksX4_init_14 2 rfl rfl)
theorem dX4_init_338 : decode cX4_init 338 = .ok (.aload_n 0, 1) := dk_42 (dk_at dksX4_init_14 5 rfl rfl)
theorem dX4_init_339 : decode cX4_init 339 = .ok (.iconst 2, 1) := dk_5 (dk_at dksX4_init_14 6 rfl rfl)
theorem dX4_init_340 : decode cX4_init 340 = .ok (.newarray .int, 2) := dk_188_10 (dk_at dksX4_init_14 7 rfl rfl)
theorem dX4_init_342 : decode cX4_init 342 = .ok (.putfield 42, 3) := dk_181 0 42 (dk_at dksX4_init_14 9 rfl rfl)
theorem dX4_init_345 : decode cX4_init 345 = .ok (.aload_n 0, 1) := dk_42 (dk_at dksX4_init_14 12 rfl rfl)
theorem dX4_init_346 : decode cX4_init 346 = .ok (.iconst 2, 1) := dk_5 (dk_at dksX4_init_14 13 rfl rfl)
theorem dX4_init_347 : decode cX4_init 347 = .ok (.newarray .int, 2) := dk_188_10 (dk_at dksX4_init_14 14 rfl rfl)
theorem dX4_init_349 : decode cX4_init 349 = .ok (.putfield 45, 3) := dk_181 0 45 (dk_at dksX4_init_14 16 rfl rfl)
theorem dX4_init_352 : decode cX4_init 352 = .ok (.aload_n 0, 1) := dk_42 (dk_at dksX4_init_14 19 rfl rfl)
theorem dX4_init_353 : decode cX4_init 353 = .ok (.iconst 2, 1) := dk_5 (dk_at dksX4_init_14 20 rfl rfl)
theorem dX4_init_354 : decode cX4_init 354 = .ok (.newarray .int, 2) := dk_188_10 (dk_at dksX4_init_14 21 rfl rfl)
theorem dX4_init_356 : decode cX4_init 356 = .ok (.putfield 48, 3) := dk_181 0 48 (dk_at dksX4_init_15 0 rfl rfl)
theorem dX4_init_359 : decode cX4_init 359 = .ok (.aload_n 0, 1) := dk_42 (dk_at dksX4_init_15 3 rfl rfl)
theorem dX4_init_360 : decode cX4_init 360 = .ok (.bipush 40, 2) := dk_16 40 (dk_at dksX4_init_15 4 rfl rfl)
theorem dX4_init_362 : decode cX4_init 362 = .ok (.newarray .int, 2) := dk_188_10 (dk_at dksX4_init_15 6 rfl rfl)
theorem dX4_init_364 : decode cX4_init 364 = .ok (.putfield 51, 3) := dk_181 0 51 (dk_at dksX4_init_15 8 rfl rfl)
theorem dX4_init_367 : decode cX4_init 367 = .ok (.aload_n 0, 1) := dk_42 (dk_at dksX4_init_15 11 rfl rfl)
theorem dX4_init_368 : decode cX4_init 368 = .ok (.bipush 8, 2) := dk_16 8 (dk_at dksX4_init_15 12 rfl rfl)
theorem dX4_init_370 : decode cX4_init 370 = .ok (.newarray .int, 2) := dk_188_10 (dk_at dksX4_init_15 14 rfl rfl)
theorem dX4_init_372 : decode cX4_init 372 = .ok (.dup, 1) := dk_89 (dk_at dksX4_init_15 16 rfl rfl)
theorem dX4_init_373 : decode cX4_init 373 = .ok (.iconst 0, 1) := dk_3 (dk_at dksX4_init_15 17 rfl rfl)
theorem dX4_init_374 : decode cX4_init 374 = .ok (.iconst (-1), 1) := dk_2 (dk_at dksX4_init_15 18 rfl rfl)
theorem dX4_init_375 : decode cX4_init 375 = .ok (.iastore, 1) := dk_79 (dk_at dksX4_init_15 19 rfl rfl)
theorem dX4_init_376 : decode cX4_init 376 = .ok (.dup, 1) := dk_89 (dk_at dksX4_init_15 20 rfl rfl)
theorem dX4_init_377 : decode cX4_init 377 = .ok (.iconst 1, 1) := dk_4 (dk_at dksX4_init_15 21 rfl rfl)
theorem dX4_init_378 : decode cX4_init 378 = .ok (.iconst (-1), 1) := dk_2 (dk_at dksX4_init_15 22 rfl rfl)
theorem dX4_init_379 : decode cX4_init 379 = .ok (.iastore, 1) := dk_79 (dk_at dksX4_init_15 23 rfl rfl)
theorem dX4_init_380 : decode cX4_init 380 = .ok (.dup, 1) := dk_89 (dk_at dksX4_init_16 0 rfl rfl)
theorem dX4_init_381 : decode cX4_init 381 = .ok (.iconst 2, 1) := dk_5 (dk_at dksX4_init_16 1 rfl rfl)
theorem dX4_init_382 : decode cX4_init 382 = .ok (.iconst (-1), 1) := dk_2 (dk_at dksX4_init_16 2 rfl rfl)
theorem dX4_init_383 : decode cX4_init 383 = .ok (.iastore, 1) := dk_79 (dk_at dksX4_init_16 3 rfl rfl)
theorem dX4_init_384 : decode cX4_init 384 = .ok (.dup, 1) := dk_89 (dk_at dksX4_init_16 4 rfl rfl)
theorem dX4_init_385 : decode cX4_init 385 = .ok (.iconst 3, 1) := dk_6 (dk_at dksX4_init_16 5 rfl rfl)
theorem dX4_init_386 : decode cX4_init 386 = .ok (.iconst (-1), 1) := dk_2 (dk_at dksX4_init_16 6 rfl rfl)
theorem dX4_init_387 : decode cX4_init 387 = .ok (.iastore, 1) := dk_79 (dk_at dksX4_init_16 7 rfl rfl)
theorem dX4_init_388 : decode cX4_init 388 = .ok (.dup, 1) := dk_89 (dk_at dksX4_init_16 8 rfl rfl)
theorem dX4_init_389 : decode cX4_init 389 = .ok (.iconst 4, 1) := dk_7 (dk_at dksX4_init_16 9 rfl rfl)
theorem dX4_init_390 : decode cX4_init 390 = .ok (.iconst (-1), 1) := dk_2 (dk_at dksX4_init_16 10 rfl rfl)
theorem dX4_init_391 : decode cX4_init 391 = .ok (.iastore, 1) := dk_79 (dk_at dksX4_init_16 11 rfl rfl)
theorem dX4_init_392 : decode cX4_init 392 = .ok (.dup, 1) := dk_89 (dk_at dksX4_init_16 12 rfl rfl)
theorem dX4_init_393 : decode cX4_init 393 = .ok (.iconst 5, 1) := dk_8 (dk_at dksX4_init_16 13 rfl rfl)
theorem dX4_init_394 : decode cX4_init 394 = .ok (.iconst (-1), 1) := dk_2 (dk_at dksX4_init_16 14 rfl rfl)
theorem dX4_init_395 : decode cX4_init 395 = .ok (.iastore, 1) := dk_79 (dk_at dksX4_init_16 15 rfl rfl)
theorem dX4_init_396 : decode cX4_init 396 = .ok (.dup, 1) := dk_89 (dk_at dksX4_init_16 16 rfl rfl)
theorem dX4_init_397 : decode cX4_init 397 = .ok (.bipush 6, 2) := dk_16 6 (dk_at dksX4_init_16 17 rfl rfl)
theorem dX4_init_399 : decode cX4_init 399 = .ok (.iconst (-1), 1) := dk_2 (dk_at dksX4_init_16 19 rfl rfl)
theorem dX4_init_400 : decode cX4_init 400 = .ok (.iastore, 1) := dk_79 (dk_at dksX4_init_16 20 rfl rfl)
theorem dX4_init_401 : decode cX4_init 401 = .ok (.dup, 1) := dk_89 (dk_at dksX4_init_16 21 rfl rfl)
theorem dX4_init_402 : decode cX4_init 402 = .ok (.bipush 7, 2) := dk_16 7 (dk_at dksX4_init_16 22 rfl rfl)
theorem dX4_init_404 : decode cX4_init 404 = .ok (.iconst (-1), 1) := dk_2 (dk_at dksX4_init_17 0 rfl rfl)
theorem dX4_init_405 : decode cX4_init 405 = .ok (.iastore, 1) := dk_79 (dk_at dksX4_init_17 1 rfl rfl)
theorem dX4_init_406 : decode cX4_init 406 = .ok (.putfield 54, 3) := dk_181 0 54 (dk_at dksX4_init_17 2 rfl rfl)
theorem dX4_init_409 : decode cX4_init 409 = .ok (.aload_n 0, 1) := dk_42 (dk_at dksX4_init_17 5 rfl rfl)
theorem dX4_init_410 : decode cX4_init 410 = .ok (.bipush 8, 2) := dk_16 8 (dk_at dksX4_init_17 6 rfl rfl)
theorem dX4_init_412 : decode cX4_init 412 = .ok (.newarray .int, 2) := dk_188_10 (dk_at dksX4_init_17 8 rfl rfl)
theorem dX4_init_414 : decode cX4_init 414 = .ok (.putfield 57, 3) := dk_181 0 57 (dk_at dksX4_init_17 10 rfl rfl)
theorem dX4_init_417 : decode cX4_init 417 = .ok (.aload_n 0, 1) := dk_42 (dk_at dksX4_init_17 13 rfl rfl)
theorem dX4_init_418 : decode cX4_init 418 = .ok (.sipush 320, 3) := dk_17 1 64 (dk_at dksX4_init_17 14 rfl rfl)
theorem dX4_init_421 : decode cX4_init 421 = .ok (.newarray .long, 2) := dk_188_11 (dk_at dksX4_init_17 17 rfl rfl)
theorem dX4_init_423 : decode cX4_init 423 = .ok (.putfield 60, 3) := dk_181 0 60 (dk_at dksX4_init_17 19 rfl rfl)
theorem dX4_init_426 : decode cX4_init 426 = .ok (.aload_n 0, 1) := dk_42 (dk_at dksX4_init_17 22 rfl rfl)
theorem dX4_init_427 : decode cX4_init 427 = .ok (.bipush 40, 2) := dk_16 40 (dk_at dksX4_init_18 0 rfl rfl)
theorem dX4_init_429 : decode cX4_init 429 = .ok (.newarray .long, 2) := dk_188_11 (dk_at dksX4_init_18 2 rfl rfl)
theorem dX4_init_431 : decode cX4_init 431 = .ok (.putfield 64, 3) := dk_181 0 64 (dk_at dksX4_init_18 4 rfl rfl)
theorem dX4_init_434 : decode cX4_init 434 = .ok (.aload_n 0, 1) := dk_42 (dk_at dksX4_init_18 7 rfl rfl)
theorem dX4_init_435 : decode cX4_init 435 = .ok (.bipush 6, 2) := dk_16 6 (dk_at dksX4_init_18 8 rfl rfl)
theorem dX4_init_437 : decode cX4_init 437 = .ok (.newarray .int, 2) := dk_188_10 (dk_at dksX4_init_18 10 rfl rfl)
theorem dX4_init_439 : decode cX4_init 439 = .ok (.dup, 1) := dk_89 (dk_at dksX4_init_18 12 rfl rfl)
theorem dX4_init_440 : decode cX4_init 440 = .ok (.iconst 0, 1) := dk_3 (dk_at dksX4_init_18 13 rfl rfl)
theorem dX4_init_441 : decode cX4_init 441 = .ok (.iconst (-1), 1) := dk_2 (dk_at dksX4_init_18 14 rfl rfl)
theorem dX4_init_442 : decode cX4_init 442 = .ok (.iastore, 1) := dk_79 (dk_at dksX4_init_18 15 rfl rfl)
theorem dX4_init_443 : decode cX4_init 443 = .ok (.dup, 1) := dk_89 (dk_at dksX4_init_18 16 rfl rfl)
theorem dX4_init_444 : decode cX4_init 444 = .ok (.iconst 1, 1) := dk_4 (dk_at dksX4_init_18 17 rfl rfl)
theorem dX4_init_445 : decode cX4_init 445 = .ok (.iconst 0, 1) := dk_3 (dk_at dksX4_init_18 18 rfl rfl)
theorem dX4_init_446 : decode cX4_init 446 = .ok (.iastore, 1) := dk_79 (dk_at dksX4_init_18 19 rfl rfl)
theorem dX4_init_447 : decode cX4_init 447 = .ok (.dup, 1) := dk_89 (dk_at dksX4_init_18 20 rfl rfl)
theorem dX4_init_448 : decode cX4_init 448 = .ok (.iconst 2, 1) := dk_5 (dk_at dksX4_init_18 21 rfl rfl)
theorem dX4_init_449 : decode cX4_init 449 = .ok (.iconst 0, 1) := dk_3 (dk_at dksX4_init_18 22 rfl rfl)
theorem dX4_init_450 : decode cX4_init 450 = .ok (.iastore, 1) := dk_79 (dk_at dksX4_init_18 23 rfl rfl)
theorem dX4_init_451 : decode cX4_init 451 = .ok (.dup, 1) := dk_89 (dk_at dksX4_init_19 0 rfl rfl)
theorem dX4_init_452 : decode cX4_init 452 = .ok (.iconst 3, 1) := dk_6 (dk_at dksX4_init_19 1 rfl rfl)
theorem dX4_init_453 : decode cX4_init 453 = .ok (.iconst 1, 1) := dk_4 (dk_at dksX4_init_19 2 rfl rfl)
theorem dX4_init_454 : decode cX4_init 454 = .ok (.iastore, 1) := dk_79 (dk_at dksX4_init_19 3 rfl rfl)
theorem dX4_init_455 : decode cX4_init 455 = .ok (.dup, 1) := dk_89 (dk_at dksX4_init_19 4 rfl rfl)
theorem dX4_init_456 : decode cX4_init 456 = .ok (.iconst 4, 1) := dk_7 (dk_at dksX4_init_19 5 rfl rfl)
theorem dX4_init_457 : decode cX4_init 457 = .ok (.iconst 2, 1) := dk_5 (dk_at dksX4_init_19 6 rfl rfl)
theorem dX4_init_458 : decode cX4_init 458 = .ok (.iastore, 1) := dk_79 (dk_at dksX4_init_19 7 rfl rfl)
theorem dX4_init_459 : decode cX4_init 459 = .ok (.dup, 1) := dk_89 (dk_at dksX4_init_19 8 rfl rfl)
theorem dX4_init_460 : decode cX4_init 460 = .ok (.iconst 5, 1) := dk_8 (dk_at dksX4_init_19 9 rfl rfl)
theorem dX4_init_461 : decode cX4_init 461 = .ok (.iconst 0, 1) := dk_3 (dk_at dksX4_init_19 10 rfl rfl)
theorem dX4_init_462 : decode cX4_init 462 = .ok (.iastore, 1) := dk_79 (dk_at dksX4_init_19 11 rfl rfl)
theorem dX4_init_463 : decode cX4_init 463 = .ok (.putfield 67, 3) := dk_181 0 67 (dk_at dksX4_init_19 12 rfl rfl)
theorem dX4_init_466 : decode cX4_init 466 = .ok (.aload_n 0, 1) := dk_42 (dk_at dksX4_init_19 15 rfl rfl)
theorem dX4_init_467 : decode cX4_init 467 = .ok (.bipush 8, 2) := dk_16 8 (dk_at dksX4_init_19 16 rfl rfl)
theorem dX4_init_469 : decode cX4_init 469 = .ok (.newarray .int, 2) := dk_188_10 (dk_at dksX4_init_19 18 rfl rfl)
theorem dX4_init_471 : decode cX4_init 471 = .ok (.putfield 70, 3) := dk_181 0 70 (dk_at dksX4_init_19 20 rfl rfl)
theorem dX4_init_474 : decode cX4_init 474 = .ok (.aload_n 0, 1) := dk_42 (dk_at dksX4_init_19 23 rfl rfl)
theorem dX4_init_475 : decode cX4_init 475 = .ok (.bipush 40, 2) := dk_16 40 (dk_at dksX4_init_20 0 rfl rfl)
theorem dX4_init_477 : decode cX4_init 477 = .ok (.newarray .int, 2) := dk_188_10 (dk_at dksX4_init_20 2 rfl rfl)
theorem dX4_init_479 : decode cX4_init 479 = .ok (.putfield 73, 3) := dk_181 0 73 (dk_at dksX4_init_20 4 rfl rfl)
theorem dX4_init_482 : decode cX4_init 482 = .ok (.return_, 1) := dk_177 (dk_at dksX4_init_20 7 rfl rfl)
abbrev cX4_fresh : ByteArray := prog_16_method_4_code
def yX4_fresh : MethodName := ⟨RX4, "fresh", "()[I"⟩
def dkwX4_fresh_0 : List UInt8 := [16, 97, 188, 10, 75, 42, 16, 90, 8, 79, 42, 16, 93, 6, 79, 42, 16, 96, 4, 79, 42, 176]
abbrev dktX4_fresh_0 : List UInt8 := dkwX4_fresh_0 ++ []
theorem dksX4_fresh_0 : cX4_fresh.data.toList.drop 0 = dktX4_fresh_0 := by decide +kernel
theorem dX4_fresh_0 : decode cX4_fresh 0 = .ok (.bipush 97, 2) := dk_16 97 (dk_at dksX4_fresh_0 0 rfl rfl)
theorem dX4_fresh_2 : decode cX4_fresh 2 = .ok (.newarray .int, 2) := dk_188_10 (dk_at dksX4_fresh_0 2 rfl rfl)
theorem dX4_fresh_4 : decode cX4_fresh 4 = .ok (.astore_n 0, 1) := dk_75 (dk_at dksX4_fresh_0 4 rfl rfl)
theorem dX4_fresh_5 : decode cX4_fresh 5 = .ok (.aload_n 0, 1) := dk_42 (dk_at dksX4_fresh_0 5 rfl rfl)
theorem dX4_fresh_6 : decode cX4_fresh 6 = .ok (.bipush 90, 2) := dk_16 90 (dk_at dksX4_fresh_0 6 rfl rfl)
theorem dX4_fresh_8 : decode cX4_fresh 8 = .ok (.iconst 5, 1) := dk_8 (dk_at dksX4_fresh_0 8 rfl rfl)
theorem dX4_fresh_9 : decode cX4_fresh 9 = .ok (.iastore, 1) := dk_79 (dk_at dksX4_fresh_0 9 rfl rfl)
theorem dX4_fresh_10 : decode cX4_fresh 10 = .ok (.aload_n 0, 1) := dk_42 (dk_at dksX4_fresh_0 10 rfl rfl)
theorem dX4_fresh_11 : decode cX4_fresh 11 = .ok (.bipush 93, 2) := dk_16 93 (dk_at dksX4_fresh_0 11 rfl rfl)
theorem dX4_fresh_13 : decode cX4_fresh 13 = .ok (.iconst 3, 1) := dk_6 (dk_at dksX4_fresh_0 13 rfl rfl)
theorem dX4_fresh_14 : decode cX4_fresh 14 = .ok (.iastore, 1) := dk_79 (dk_at dksX4_fresh_0 14 rfl rfl)
theorem dX4_fresh_15 : decode cX4_fresh 15 = .ok (.aload_n 0, 1) := dk_42 (dk_at dksX4_fresh_0 15 rfl rfl)
theorem dX4_fresh_16 : decode cX4_fresh 16 = .ok (.bipush 96, 2) := dk_16 96 (dk_at dksX4_fresh_0 16 rfl rfl)
theorem dX4_fresh_18 : decode cX4_fresh 18 = .ok (.iconst 1, 1) := dk_4 (dk_at dksX4_fresh_0 18 rfl rfl)
theorem dX4_fresh_19 : decode cX4_fresh 19 = .ok (.iastore, 1) := dk_79 (dk_at dksX4_fresh_0 19 rfl rfl)
theorem dX4_fresh_20 : decode cX4_fresh 20 = .ok (.aload_n 0, 1) := dk_42 (dk_at dksX4_fresh_0 20 rfl rfl)
theorem dX4_fresh_21 : decode cX4_fresh 21 = .ok (.areturn, 1) := dk_176 (dk_at dksX4_fresh_0 21 rfl rfl)
abbrev cX4_side : ByteArray := prog_16_method_20_code
def yX4_side : MethodName := ⟨RX4, "side", "(I)I"⟩
def dkwX4_side_1 : List UInt8 := [182, 0, 101, 172, 42, 180, 0, 17, 16, 90, 46, 61, 42, 180, 0, 17, 16, 90, 27, 79, 28, 172]
abbrev dktX4_side_1 : List UInt8 := dkwX4_side_1 ++ []
def dkwX4_side_0 : List UInt8 := [27, 133, 42, 180, 0, 17, 16, 90, 46, 133, 20, 0, 99, 184, 0, 76, 154, 0, 10, 42, 16, 254]
abbrev dktX4_side_0 : List UInt8 := dkwX4_side_0 ++ dktX4_side_1
theorem dksX4_side_0 : cX4_side.data.toList.drop 0 = dktX4_side_0 := by decide +kernel
theorem dksX4_side_1 : cX4_side.data.toList.drop 22 = dktX4_side_1 := dk_seg dksX4_side_0 22 rfl rfl
theorem dX4_side_0 : decode cX4_side 0 = .ok (.iload_n 1, 1) := dk_27 (dk_at dksX4_side_0 0 rfl rfl)
theorem dX4_side_1 : decode cX4_side 1 = .ok (.i2l, 1) := dk_133 (dk_at dksX4_side_0 1 rfl rfl)
theorem dX4_side_2 : decode cX4_side 2 = .ok (.aload_n 0, 1) := dk_42 (dk_at dksX4_side_0 2 rfl rfl)
theorem dX4_side_3 : decode cX4_side 3 = .ok (.getfield 17, 3) := dk_180 0 17 (dk_at dksX4_side_0 3 rfl rfl)
theorem dX4_side_6 : decode cX4_side 6 = .ok (.bipush 90, 2) := dk_16 90 (dk_at dksX4_side_0 6 rfl rfl)
theorem dX4_side_8 : decode cX4_side 8 = .ok (.iaload, 1) := dk_46 (dk_at dksX4_side_0 8 rfl rfl)
theorem dX4_side_9 : decode cX4_side 9 = .ok (.i2l, 1) := dk_133 (dk_at dksX4_side_0 9 rfl rfl)
theorem dX4_side_10 : decode cX4_side 10 = .ok (.ldc2_w 99, 3) := dk_20 0 99 (dk_at dksX4_side_0 10 rfl rfl)
theorem dX4_side_13 : decode cX4_side 13 = .ok (.invokestatic 76, 3) := dk_184 0 76 (dk_at dksX4_side_0 13 rfl rfl)
theorem dX4_side_16 : decode cX4_side 16 = .ok (.ifCond .ne 10, 3) := dk_154 0 10 (dk_at dksX4_side_0 16 rfl rfl)
theorem dX4_side_19 : decode cX4_side 19 = .ok (.aload_n 0, 1) := dk_42 (dk_at dksX4_side_0 19 rfl rfl)
theorem dX4_side_20 : decode cX4_side 20 = .ok (.bipush (-2), 2) := dk_16 254 (dk_at dksX4_side_0 20 rfl rfl)
theorem dX4_side_22 : decode cX4_side 22 = .ok (.invokevirtual 101, 3) := dk_182 0 101 (dk_at dksX4_side_1 0 rfl rfl)
theorem dX4_side_25 : decode cX4_side 25 = .ok (.ireturn, 1) := dk_172 (dk_at dksX4_side_1 3 rfl rfl)
theorem dX4_side_26 : decode cX4_side 26 = .ok (.aload_n 0, 1) := dk_42 (dk_at dksX4_side_1 4 rfl rfl)
theorem dX4_side_27 : decode cX4_side 27 = .ok (.getfield 17, 3) := dk_180 0 17 (dk_at dksX4_side_1 5 rfl rfl)
theorem dX4_side_30 : decode cX4_side 30 = .ok (.bipush 90, 2) := dk_16 90 (dk_at dksX4_side_1 8 rfl rfl)
theorem dX4_side_32 : decode cX4_side 32 = .ok (.iaload, 1) := dk_46 (dk_at dksX4_side_1 10 rfl rfl)
theorem dX4_side_33 : decode cX4_side 33 = .ok (.istore_n 2, 1) := dk_61 (dk_at dksX4_side_1 11 rfl rfl)
theorem dX4_side_34 : decode cX4_side 34 = .ok (.aload_n 0, 1) := dk_42 (dk_at dksX4_side_1 12 rfl rfl)
theorem dX4_side_35 : decode cX4_side 35 = .ok (.getfield 17, 3) := dk_180 0 17 (dk_at dksX4_side_1 13 rfl rfl)
theorem dX4_side_38 : decode cX4_side 38 = .ok (.bipush 90, 2) := dk_16 90 (dk_at dksX4_side_1 16 rfl rfl)
theorem dX4_side_40 : decode cX4_side 40 = .ok (.iload_n 1, 1) := dk_27 (dk_at dksX4_side_1 18 rfl rfl)
theorem dX4_side_41 : decode cX4_side 41 = .ok (.iastore, 1) := dk_79 (dk_at dksX4_side_1 19 rfl rfl)
theorem dX4_side_42 : decode cX4_side 42 = .ok (.iload_n 2, 1) := dk_28 (dk_at dksX4_side_1 20 rfl rfl)
theorem dX4_side_43 : decode cX4_side 43 = .ok (.ireturn, 1) := dk_172 (dk_at dksX4_side_1 21 rfl rfl)
abbrev cX4_isIn : ByteArray := prog_16_method_2_code
def yX4_isIn : MethodName := ⟨RX4, "isIn", "(JJJ)Z"⟩
def dkwX4_isIn_0 : List UInt8 := [30, 32, 148, 155, 0, 14, 30, 22, 4, 148, 157, 0, 7, 4, 167, 0, 4, 3, 172]
abbrev dktX4_isIn_0 : List UInt8 := dkwX4_isIn_0 ++ []
theorem dksX4_isIn_0 : cX4_isIn.data.toList.drop 0 = dktX4_isIn_0 := by decide +kernel
theorem dX4_isIn_0 : decode cX4_isIn 0 = .ok (.lload_n 0, 1) := dk_30 (dk_at dksX4_isIn_0 0 rfl rfl)
theorem dX4_isIn_1 : decode cX4_isIn 1 = .ok (.lload_n 2, 1) := dk_32 (dk_at dksX4_isIn_0 1 rfl rfl)
theorem dX4_isIn_2 : decode cX4_isIn 2 = .ok (.lcmp, 1) := dk_148 (dk_at dksX4_isIn_0 2 rfl rfl)
theorem dX4_isIn_3 : decode cX4_isIn 3 = .ok (.ifCond .lt 14, 3) := dk_155 0 14 (dk_at dksX4_isIn_0 3 rfl rfl)
theorem dX4_isIn_6 : decode cX4_isIn 6 = .ok (.lload_n 0, 1) := dk_30 (dk_at dksX4_isIn_0 6 rfl rfl)
theorem dX4_isIn_7 : decode cX4_isIn 7 = .ok (.lload 4, 2) := dk_22 4 (dk_at dksX4_isIn_0 7 rfl rfl)
theorem dX4_isIn_9 : decode cX4_isIn 9 = .ok (.lcmp, 1) := dk_148 (dk_at dksX4_isIn_0 9 rfl rfl)
theorem dX4_isIn_10 : decode cX4_isIn 10 = .ok (.ifCond .gt 7, 3) := dk_157 0 7 (dk_at dksX4_isIn_0 10 rfl rfl)
theorem dX4_isIn_13 : decode cX4_isIn 13 = .ok (.iconst 1, 1) := dk_4 (dk_at dksX4_isIn_0 13 rfl rfl)
theorem dX4_isIn_14 : decode cX4_isIn 14 = .ok (.goto 4, 3) := dk_167 0 4 (dk_at dksX4_isIn_0 14 rfl rfl)
theorem dX4_isIn_17 : decode cX4_isIn 17 = .ok (.iconst 0, 1) := dk_3 (dk_at dksX4_isIn_0 17 rfl rfl)
theorem dX4_isIn_18 : decode cX4_isIn 18 = .ok (.ireturn, 1) := dk_172 (dk_at dksX4_isIn_0 18 rfl rfl)
abbrev cX4_refuse : ByteArray := prog_16_method_3_code
def yX4_refuse : MethodName := ⟨RX4, "refuse", "(I)I"⟩
def dkwX4_refuse_0 : List UInt8 := [42, 180, 0, 7, 27, 116, 92, 46, 4, 96, 79, 27, 172]
abbrev dktX4_refuse_0 : List UInt8 := dkwX4_refuse_0 ++ []
theorem dksX4_refuse_0 : cX4_refuse.data.toList.drop 0 = dktX4_refuse_0 := by decide +kernel
theorem dX4_refuse_0 : decode cX4_refuse 0 = .ok (.aload_n 0, 1) := dk_42 (dk_at dksX4_refuse_0 0 rfl rfl)
theorem dX4_refuse_1 : decode cX4_refuse 1 = .ok (.getfield 7, 3) := dk_180 0 7 (dk_at dksX4_refuse_0 1 rfl rfl)
theorem dX4_refuse_4 : decode cX4_refuse 4 = .ok (.iload_n 1, 1) := dk_27 (dk_at dksX4_refuse_0 4 rfl rfl)
theorem dX4_refuse_5 : decode cX4_refuse 5 = .ok (.ineg, 1) := dk_116 (dk_at dksX4_refuse_0 5 rfl rfl)
theorem dX4_refuse_6 : decode cX4_refuse 6 = .ok (.dup2, 1) := dk_92 (dk_at dksX4_refuse_0 6 rfl rfl)
theorem dX4_refuse_7 : decode cX4_refuse 7 = .ok (.iaload, 1) := dk_46 (dk_at dksX4_refuse_0 7 rfl rfl)
theorem dX4_refuse_8 : decode cX4_refuse 8 = .ok (.iconst 1, 1) := dk_4 (dk_at dksX4_refuse_0 8 rfl rfl)
theorem dX4_refuse_9 : decode cX4_refuse 9 = .ok (.iadd, 1) := dk_96 (dk_at dksX4_refuse_0 9 rfl rfl)
theorem dX4_refuse_10 : decode cX4_refuse 10 = .ok (.iastore, 1) := dk_79 (dk_at dksX4_refuse_0 10 rfl rfl)
theorem dX4_refuse_11 : decode cX4_refuse 11 = .ok (.iload_n 1, 1) := dk_27 (dk_at dksX4_refuse_0 11 rfl rfl)
theorem dX4_refuse_12 : decode cX4_refuse 12 = .ok (.ireturn, 1) := dk_172 (dk_at dksX4_refuse_0 12 rfl rfl)
abbrev cX4_pond : ByteArray := prog_16_method_21_code
def yX4_pond : MethodName := ⟨RX4, "pond", "(IZ)I"⟩
def dkwX4_pond_2 : List UInt8 := [27, 184, 0, 80, 28, 153, 0, 7, 4, 167, 0, 4, 3, 79, 29, 172]
abbrev dktX4_pond_2 : List UInt8 := dkwX4_pond_2 ++ []
def dkwX4_pond_1 : List UInt8 := [153, 0, 10, 42, 16, 251, 182, 0, 101, 172, 42, 180, 0, 17, 27, 184, 0, 80, 46, 62, 42, 180, 0, 17]
abbrev dktX4_pond_1 : List UInt8 := dkwX4_pond_1 ++ dktX4_pond_2
def dkwX4_pond_0 : List UInt8 := [42, 27, 182, 0, 104, 154, 0, 10, 42, 16, 254, 182, 0, 101, 172, 28, 153, 0, 18, 42, 27, 182, 0, 107]
abbrev dktX4_pond_0 : List UInt8 := dkwX4_pond_0 ++ dktX4_pond_1
theorem dksX4_pond_0 : cX4_pond.data.toList.drop 0 = dktX4_pond_0 := by decide +kernel
theorem dksX4_pond_1 : cX4_pond.data.toList.drop 24 = dktX4_pond_1 := dk_seg dksX4_pond_0 24 rfl rfl
theorem dksX4_pond_2 : cX4_pond.data.toList.drop 48 = dktX4_pond_2 := dk_seg dksX4_pond_1 24 rfl rfl
theorem dX4_pond_0 : decode cX4_pond 0 = .ok (.aload_n 0, 1) := dk_42 (dk_at dksX4_pond_0 0 rfl rfl)
theorem dX4_pond_1 : decode cX4_pond 1 = .ok (.iload_n 1, 1) := dk_27 (dk_at dksX4_pond_0 1 rfl rfl)
theorem dX4_pond_2 : decode cX4_pond 2 = .ok (.invokevirtual 104, 3) := dk_182 0 104 (dk_at dksX4_pond_0 2 rfl rfl)
theorem dX4_pond_5 : decode cX4_pond 5 = .ok (.ifCond .ne 10, 3) := dk_154 0 10 (dk_at dksX4_pond_0 5 rfl rfl)
theorem dX4_pond_8 : decode cX4_pond 8 = .ok (.aload_n 0, 1) := dk_42 (dk_at dksX4_pond_0 8 rfl rfl)
theorem dX4_pond_9 : decode cX4_pond 9 = .ok (.bipush (-2), 2) := dk_16 254 (dk_at dksX4_pond_0 9 rfl rfl)
theorem dX4_pond_11 : decode cX4_pond 11 = .ok (.invokevirtual 101, 3) := dk_182 0 101 (dk_at dksX4_pond_0 11 rfl rfl)
theorem dX4_pond_14 : decode cX4_pond 14 = .ok (.ireturn, 1) := dk_172 (dk_at dksX4_pond_0 14 rfl rfl)
theorem dX4_pond_15 : decode cX4_pond 15 = .ok (.iload_n 2, 1) := dk_28 (dk_at dksX4_pond_0 15 rfl rfl)
theorem dX4_pond_16 : decode cX4_pond 16 = .ok (.ifCond .eq 18, 3) := dk_153 0 18 (dk_at dksX4_pond_0 16 rfl rfl)
theorem dX4_pond_19 : decode cX4_pond 19 = .ok (.aload_n 0, 1) := dk_42 (dk_at dksX4_pond_0 19 rfl rfl)
theorem dX4_pond_20 : decode cX4_pond 20 = .ok (.iload_n 1, 1) := dk_27 (dk_at dksX4_pond_0 20 rfl rfl)
theorem dX4_pond_21 : decode cX4_pond 21 = .ok (.invokevirtual 107, 3) := dk_182 0 107 (dk_at dksX4_pond_0 21 rfl rfl)
theorem dX4_pond_24 : decode cX4_pond 24 = .ok (.ifCond .eq 10, 3) := dk_153 0 10 (dk_at dksX4_pond_1 0 rfl rfl)
theorem dX4_pond_27 : decode cX4_pond 27 = .ok (.aload_n 0, 1) := dk_42 (dk_at dksX4_pond_1 3 rfl rfl)
theorem dX4_pond_28 : decode cX4_pond 28 = .ok (.bipush (-5), 2) := dk_16 251 (dk_at dksX4_pond_1 4 rfl rfl)
theorem dX4_pond_30 : decode cX4_pond 30 = .ok (.invokevirtual 101, 3) := dk_182 0 101 (dk_at dksX4_pond_1 6 rfl rfl)
theorem dX4_pond_33 : decode cX4_pond 33 = .ok (.ireturn, 1) := dk_172 (dk_at dksX4_pond_1 9 rfl rfl)
theorem dX4_pond_34 : decode cX4_pond 34 = .ok (.aload_n 0, 1) := dk_42 (dk_at dksX4_pond_1 10 rfl rfl)
theorem dX4_pond_35 : decode cX4_pond 35 = .ok (.getfield 17, 3) := dk_180 0 17 (dk_at dksX4_pond_1 11 rfl rfl)
theorem dX4_pond_38 : decode cX4_pond 38 = .ok (.iload_n 1, 1) := dk_27 (dk_at dksX4_pond_1 14 rfl rfl)
theorem dX4_pond_39 : decode cX4_pond 39 = .ok (.invokestatic 80, 3) := dk_184 0 80 (dk_at dksX4_pond_1 15 rfl rfl)
theorem dX4_pond_42 : decode cX4_pond 42 = .ok (.iaload, 1) := dk_46 (dk_at dksX4_pond_1 18 rfl rfl)
theorem dX4_pond_43 : decode cX4_pond 43 = .ok (.istore_n 3, 1) := dk_62 (dk_at dksX4_pond_1 19 rfl rfl)
theorem dX4_pond_44 : decode cX4_pond 44 = .ok (.aload_n 0, 1) := dk_42 (dk_at dksX4_pond_1 20 rfl rfl)
theorem dX4_pond_45 : decode cX4_pond 45 = .ok (.getfield 17, 3) := dk_180 0 17 (dk_at dksX4_pond_1 21 rfl rfl)
theorem dX4_pond_48 : decode cX4_pond 48 = .ok (.iload_n 1, 1) := dk_27 (dk_at dksX4_pond_2 0 rfl rfl)
theorem dX4_pond_49 : decode cX4_pond 49 = .ok (.invokestatic 80, 3) := dk_184 0 80 (dk_at dksX4_pond_2 1 rfl rfl)
theorem dX4_pond_52 : decode cX4_pond 52 = .ok (.iload_n 2, 1) := dk_28 (dk_at dksX4_pond_2 4 rfl rfl)
theorem dX4_pond_53 : decode cX4_pond 53 = .ok (.ifCond .eq 7, 3) := dk_153 0 7 (dk_at dksX4_pond_2 5 rfl rfl)
theorem dX4_pond_56 : decode cX4_pond 56 = .ok (.iconst 1, 1) := dk_4 (dk_at dksX4_pond_2 8 rfl rfl)
theorem dX4_pond_57 : decode cX4_pond 57 = .ok (.goto 4, 3) := dk_167 0 4 (dk_at dksX4_pond_2 9 rfl rfl)
theorem dX4_pond_60 : decode cX4_pond 60 = .ok (.iconst 0, 1) := dk_3 (dk_at dksX4_pond_2 12 rfl rfl)
theorem dX4_pond_61 : decode cX4_pond 61 = .ok (.iastore, 1) := dk_79 (dk_at dksX4_pond_2 13 rfl rfl)
theorem dX4_pond_62 : decode cX4_pond 62 = .ok (.iload_n 3, 1) := dk_29 (dk_at dksX4_pond_2 14 rfl rfl)
theorem dX4_pond_63 : decode cX4_pond 63 = .ok (.ireturn, 1) := dk_172 (dk_at dksX4_pond_2 15 rfl rfl)
abbrev cX4_isCell : ByteArray := prog_16_method_13_code
def yX4_isCell : MethodName := ⟨RX4, "isCell", "(I)Z"⟩
def dkwX4_isCell_1 : List UInt8 := [180, 0, 17, 16, 90, 46, 162, 0, 7, 4, 167, 0, 4, 3, 172]
abbrev dktX4_isCell_1 : List UInt8 := dkwX4_isCell_1 ++ []
def dkwX4_isCell_0 : List UInt8 := [27, 155, 0, 35, 27, 16, 10, 108, 42, 180, 0, 17, 16, 90, 46, 162, 0, 21, 27, 16, 10, 112, 42]
abbrev dktX4_isCell_0 : List UInt8 := dkwX4_isCell_0 ++ dktX4_isCell_1
theorem dksX4_isCell_0 : cX4_isCell.data.toList.drop 0 = dktX4_isCell_0 := by decide +kernel
theorem dksX4_isCell_1 : cX4_isCell.data.toList.drop 23 = dktX4_isCell_1 := dk_seg dksX4_isCell_0 23 rfl rfl
theorem dX4_isCell_0 : decode cX4_isCell 0 = .ok (.iload_n 1, 1) := dk_27 (dk_at dksX4_isCell_0 0 rfl rfl)
theorem dX4_isCell_1 : decode cX4_isCell 1 = .ok (.ifCond .lt 35, 3) := dk_155 0 35 (dk_at dksX4_isCell_0 1 rfl rfl)
theorem dX4_isCell_4 : decode cX4_isCell 4 = .ok (.iload_n 1, 1) := dk_27 (dk_at dksX4_isCell_0 4 rfl rfl)
theorem dX4_isCell_5 : decode cX4_isCell 5 = .ok (.bipush 10, 2) := dk_16 10 (dk_at dksX4_isCell_0 5 rfl rfl)
theorem dX4_isCell_7 : decode cX4_isCell 7 = .ok (.idiv, 1) := dk_108 (dk_at dksX4_isCell_0 7 rfl rfl)
theorem dX4_isCell_8 : decode cX4_isCell 8 = .ok (.aload_n 0, 1) := dk_42 (dk_at dksX4_isCell_0 8 rfl rfl)
theorem dX4_isCell_9 : decode cX4_isCell 9 = .ok (.getfield 17, 3) := dk_180 0 17 (dk_at dksX4_isCell_0 9 rfl rfl)
theorem dX4_isCell_12 : decode cX4_isCell 12 = .ok (.bipush 90, 2) := dk_16 90 (dk_at dksX4_isCell_0 12 rfl rfl)
theorem dX4_isCell_14 : decode cX4_isCell 14 = .ok (.iaload, 1) := dk_46 (dk_at dksX4_isCell_0 14 rfl rfl)
theorem dX4_isCell_15 : decode cX4_isCell 15 = .ok (.if_icmp .ge 21, 3) := dk_162 0 21 (dk_at dksX4_isCell_0 15 rfl rfl)
theorem dX4_isCell_18 : decode cX4_isCell 18 = .ok (.iload_n 1, 1) := dk_27 (dk_at dksX4_isCell_0 18 rfl rfl)
theorem dX4_isCell_19 : decode cX4_isCell 19 = .ok (.bipush 10, 2) := dk_16 10 (dk_at dksX4_isCell_0 19 rfl rfl)
theorem dX4_isCell_21 : decode cX4_isCell 21 = .ok (.irem, 1) := dk_112 (dk_at dksX4_isCell_0 21 rfl rfl)
theorem dX4_isCell_22 : decode cX4_isCell 22 = .ok (.aload_n 0, 1) := dk_42 (dk_at dksX4_isCell_0 22 rfl rfl)
theorem dX4_isCell_23 : decode cX4_isCell 23 = .ok (.getfield 17, 3) := dk_180 0 17 (dk_at dksX4_isCell_1 0 rfl rfl)
theorem dX4_isCell_26 : decode cX4_isCell 26 = .ok (.bipush 90, 2) := dk_16 90 (dk_at dksX4_isCell_1 3 rfl rfl)
theorem dX4_isCell_28 : decode cX4_isCell 28 = .ok (.iaload, 1) := dk_46 (dk_at dksX4_isCell_1 5 rfl rfl)
theorem dX4_isCell_29 : decode cX4_isCell 29 = .ok (.if_icmp .ge 7, 3) := dk_162 0 7 (dk_at dksX4_isCell_1 6 rfl rfl)
theorem dX4_isCell_32 : decode cX4_isCell 32 = .ok (.iconst 1, 1) := dk_4 (dk_at dksX4_isCell_1 9 rfl rfl)
theorem dX4_isCell_33 : decode cX4_isCell 33 = .ok (.goto 4, 3) := dk_167 0 4 (dk_at dksX4_isCell_1 10 rfl rfl)
theorem dX4_isCell_36 : decode cX4_isCell 36 = .ok (.iconst 0, 1) := dk_3 (dk_at dksX4_isCell_1 13 rfl rfl)
theorem dX4_isCell_37 : decode cX4_isCell 37 = .ok (.ireturn, 1) := dk_172 (dk_at dksX4_isCell_1 14 rfl rfl)
abbrev cX4_isSomebody : ByteArray := prog_16_method_16_code
def yX4_isSomebody : MethodName := ⟨RX4, "isSomebody", "(I)Z"⟩
def dkwX4_isSomebody_1 : List UInt8 := [160, 0, 7, 4, 167, 0, 4, 3, 61, 132, 3, 1, 167, 255, 226, 28, 172]
abbrev dktX4_isSomebody_1 : List UInt8 := dkwX4_isSomebody_1 ++ []
def dkwX4_isSomebody_0 : List UInt8 := [3, 61, 3, 62, 29, 42, 182, 0, 84, 162, 0, 28, 28, 154, 0, 12, 42, 29, 182, 0, 88, 27]
abbrev dktX4_isSomebody_0 : List UInt8 := dkwX4_isSomebody_0 ++ dktX4_isSomebody_1
theorem dksX4_isSomebody_0 : cX4_isSomebody.data.toList.drop 0 = dktX4_isSomebody_0 := by decide +kernel
theorem dksX4_isSomebody_1 : cX4_isSomebody.data.toList.drop 22 = dktX4_isSomebody_1 := dk_seg dksX4_isSomebody_0 22 rfl rfl
theorem dX4_isSomebody_0 : decode cX4_isSomebody 0 = .ok (.iconst 0, 1) := dk_3 (dk_at dksX4_isSomebody_0 0 rfl rfl)
theorem dX4_isSomebody_1 : decode cX4_isSomebody 1 = .ok (.istore_n 2, 1) := dk_61 (dk_at dksX4_isSomebody_0 1 rfl rfl)
theorem dX4_isSomebody_2 : decode cX4_isSomebody 2 = .ok (.iconst 0, 1) := dk_3 (dk_at dksX4_isSomebody_0 2 rfl rfl)
theorem dX4_isSomebody_3 : decode cX4_isSomebody 3 = .ok (.istore_n 3, 1) := dk_62 (dk_at dksX4_isSomebody_0 3 rfl rfl)
theorem dX4_isSomebody_4 : decode cX4_isSomebody 4 = .ok (.iload_n 3, 1) := dk_29 (dk_at dksX4_isSomebody_0 4 rfl rfl)
theorem dX4_isSomebody_5 : decode cX4_isSomebody 5 = .ok (.aload_n 0, 1) := dk_42 (dk_at dksX4_isSomebody_0 5 rfl rfl)
theorem dX4_isSomebody_6 : decode cX4_isSomebody 6 = .ok (.invokevirtual 84, 3) := dk_182 0 84 (dk_at dksX4_isSomebody_0 6 rfl rfl)
theorem dX4_isSomebody_9 : decode cX4_isSomebody 9 = .ok (.if_icmp .ge 28, 3) := dk_162 0 28 (dk_at dksX4_isSomebody_0 9 rfl rfl)
theorem dX4_isSomebody_12 : decode cX4_isSomebody 12 = .ok (.iload_n 2, 1) := dk_28 (dk_at dksX4_isSomebody_0 12 rfl rfl)
theorem dX4_isSomebody_13 : decode cX4_isSomebody 13 = .ok (.ifCond .ne 12, 3) := dk_154 0 12 (dk_at dksX4_isSomebody_0 13 rfl rfl)
theorem dX4_isSomebody_16 : decode cX4_isSomebody 16 = .ok (.aload_n 0, 1) := dk_42 (dk_at dksX4_isSomebody_0 16 rfl rfl)
theorem dX4_isSomebody_17 : decode cX4_isSomebody 17 = .ok (.iload_n 3, 1) := dk_29 (dk_at dksX4_isSomebody_0 17 rfl rfl)
theorem dX4_isSomebody_18 : decode cX4_isSomebody 18 = .ok (.invokevirtual 88, 3) := dk_182 0 88 (dk_at dksX4_isSomebody_0 18 rfl rfl)
theorem dX4_isSomebody_21 : decode cX4_isSomebody 21 = .ok (.iload_n 1, 1) := dk_27 (dk_at dksX4_isSomebody_0 21 rfl rfl)
theorem dX4_isSomebody_22 : decode cX4_isSomebody 22 = .ok (.if_icmp .ne 7, 3) := dk_160 0 7 (dk_at dksX4_isSomebody_1 0 rfl rfl)
theorem dX4_isSomebody_25 : decode cX4_isSomebody 25 = .ok (.iconst 1, 1) := dk_4 (dk_at dksX4_isSomebody_1 3 rfl rfl)
theorem dX4_isSomebody_26 : decode cX4_isSomebody 26 = .ok (.goto 4, 3) := dk_167 0 4 (dk_at dksX4_isSomebody_1 4 rfl rfl)
theorem dX4_isSomebody_29 : decode cX4_isSomebody 29 = .ok (.iconst 0, 1) := dk_3 (dk_at dksX4_isSomebody_1 7 rfl rfl)
theorem dX4_isSomebody_30 : decode cX4_isSomebody 30 = .ok (.istore_n 2, 1) := dk_61 (dk_at dksX4_isSomebody_1 8 rfl rfl)
theorem dX4_isSomebody_31 : decode cX4_isSomebody 31 = .ok (.iinc 3 1, 3) := dk_132 3 1 (dk_at dksX4_isSomebody_1 9 rfl rfl)
theorem dX4_isSomebody_34 : decode cX4_isSomebody 34 = .ok (.goto (-30), 3) := dk_167 255 226 (dk_at dksX4_isSomebody_1 12 rfl rfl)
theorem dX4_isSomebody_37 : decode cX4_isSomebody 37 = .ok (.iload_n 2, 1) := dk_28 (dk_at dksX4_isSomebody_1 15 rfl rfl)
theorem dX4_isSomebody_38 : decode cX4_isSomebody 38 = .ok (.ireturn, 1) := dk_172 (dk_at dksX4_isSomebody_1 16 rfl rfl)
abbrev cX4_many : ByteArray := prog_16_method_6_code
def yX4_many : MethodName := ⟨RX4, "many", "()I"⟩
def dkwX4_many_0 : List UInt8 := [42, 180, 0, 17, 16, 89, 46, 172]
abbrev dktX4_many_0 : List UInt8 := dkwX4_many_0 ++ []
theorem dksX4_many_0 : cX4_many.data.toList.drop 0 = dktX4_many_0 := by decide +kernel
theorem dX4_many_0 : decode cX4_many 0 = .ok (.aload_n 0, 1) := dk_42 (dk_at dksX4_many_0 0 rfl rfl)
theorem dX4_many_1 : decode cX4_many 1 = .ok (.getfield 17, 3) := dk_180 0 17 (dk_at dksX4_many_0 1 rfl rfl)
theorem dX4_many_4 : decode cX4_many 4 = .ok (.bipush 89, 2) := dk_16 89 (dk_at dksX4_many_0 4 rfl rfl)
theorem dX4_many_6 : decode cX4_many 6 = .ok (.iaload, 1) := dk_46 (dk_at dksX4_many_0 6 rfl rfl)
theorem dX4_many_7 : decode cX4_many 7 = .ok (.ireturn, 1) := dk_172 (dk_at dksX4_many_0 7 rfl rfl)
abbrev cX4_cell : ByteArray := prog_16_method_10_code
def yX4_cell : MethodName := ⟨RX4, "cell", "(I)I"⟩
def dkwX4_cell_0 : List UInt8 := [42, 180, 0, 17, 8, 27, 104, 5, 96, 46, 172]
abbrev dktX4_cell_0 : List UInt8 := dkwX4_cell_0 ++ []
theorem dksX4_cell_0 : cX4_cell.data.toList.drop 0 = dktX4_cell_0 := by decide +kernel
theorem dX4_cell_0 : decode cX4_cell 0 = .ok (.aload_n 0, 1) := dk_42 (dk_at dksX4_cell_0 0 rfl rfl)
theorem dX4_cell_1 : decode cX4_cell 1 = .ok (.getfield 17, 3) := dk_180 0 17 (dk_at dksX4_cell_0 1 rfl rfl)
theorem dX4_cell_4 : decode cX4_cell 4 = .ok (.iconst 5, 1) := dk_8 (dk_at dksX4_cell_0 4 rfl rfl)
theorem dX4_cell_5 : decode cX4_cell 5 = .ok (.iload_n 1, 1) := dk_27 (dk_at dksX4_cell_0 5 rfl rfl)
theorem dX4_cell_6 : decode cX4_cell 6 = .ok (.imul, 1) := dk_104 (dk_at dksX4_cell_0 6 rfl rfl)
theorem dX4_cell_7 : decode cX4_cell 7 = .ok (.iconst 2, 1) := dk_5 (dk_at dksX4_cell_0 7 rfl rfl)
theorem dX4_cell_8 : decode cX4_cell 8 = .ok (.iadd, 1) := dk_96 (dk_at dksX4_cell_0 8 rfl rfl)
theorem dX4_cell_9 : decode cX4_cell 9 = .ok (.iaload, 1) := dk_46 (dk_at dksX4_cell_0 9 rfl rfl)
theorem dX4_cell_10 : decode cX4_cell 10 = .ok (.ireturn, 1) := dk_172 (dk_at dksX4_cell_0 10 rfl rfl)
abbrev cX4_pondAt : ByteArray := prog_16_method_14_code
def yX4_pondAt : MethodName := ⟨RX4, "pondAt", "(I)I"⟩
def dkwX4_pondAt_0 : List UInt8 := [16, 40, 16, 7, 26, 16, 10, 108, 104, 96, 26, 16, 10, 112, 96, 172]
abbrev dktX4_pondAt_0 : List UInt8 := dkwX4_pondAt_0 ++ []
theorem dksX4_pondAt_0 : cX4_pondAt.data.toList.drop 0 = dktX4_pondAt_0 := by decide +kernel
theorem dX4_pondAt_0 : decode cX4_pondAt 0 = .ok (.bipush 40, 2) := dk_16 40 (dk_at dksX4_pondAt_0 0 rfl rfl)
theorem dX4_pondAt_2 : decode cX4_pondAt 2 = .ok (.bipush 7, 2) := dk_16 7 (dk_at dksX4_pondAt_0 2 rfl rfl)
theorem dX4_pondAt_4 : decode cX4_pondAt 4 = .ok (.iload_n 0, 1) := dk_26 (dk_at dksX4_pondAt_0 4 rfl rfl)
theorem dX4_pondAt_5 : decode cX4_pondAt 5 = .ok (.bipush 10, 2) := dk_16 10 (dk_at dksX4_pondAt_0 5 rfl rfl)
theorem dX4_pondAt_7 : decode cX4_pondAt 7 = .ok (.idiv, 1) := dk_108 (dk_at dksX4_pondAt_0 7 rfl rfl)
theorem dX4_pondAt_8 : decode cX4_pondAt 8 = .ok (.imul, 1) := dk_104 (dk_at dksX4_pondAt_0 8 rfl rfl)
theorem dX4_pondAt_9 : decode cX4_pondAt 9 = .ok (.iadd, 1) := dk_96 (dk_at dksX4_pondAt_0 9 rfl rfl)
theorem dX4_pondAt_10 : decode cX4_pondAt 10 = .ok (.iload_n 0, 1) := dk_26 (dk_at dksX4_pondAt_0 10 rfl rfl)
theorem dX4_pondAt_11 : decode cX4_pondAt 11 = .ok (.bipush 10, 2) := dk_16 10 (dk_at dksX4_pondAt_0 11 rfl rfl)
theorem dX4_pondAt_13 : decode cX4_pondAt 13 = .ok (.irem, 1) := dk_112 (dk_at dksX4_pondAt_0 13 rfl rfl)
theorem dX4_pondAt_14 : decode cX4_pondAt 14 = .ok (.iadd, 1) := dk_96 (dk_at dksX4_pondAt_0 14 rfl rfl)
theorem dX4_pondAt_15 : decode cX4_pondAt 15 = .ok (.ireturn, 1) := dk_172 (dk_at dksX4_pondAt_0 15 rfl rfl)
abbrev cX4_person : ByteArray := prog_16_method_22_code
def yX4_person : MethodName := ⟨RX4, "person", "(IIII)I"⟩
def dkwX4_person_3 : List UInt8 := [16, 8, 160, 0, 12, 42, 16, 250, 182, 0, 101, 167, 0, 12, 42, 27, 28, 29, 21, 4, 182, 0, 116, 172]
abbrev dktX4_person_3 : List UInt8 := dkwX4_person_3 ++ []
def dkwX4_person_2 : List UInt8 := [182, 0, 101, 172, 42, 29, 182, 0, 95, 153, 0, 10, 42, 16, 251, 182, 0, 101, 172, 42, 182, 0, 84]
abbrev dktX4_person_2 : List UInt8 := dkwX4_person_2 ++ dktX4_person_3
def dkwX4_person_1 : List UInt8 := [42, 29, 182, 0, 104, 153, 0, 16, 21, 4, 133, 9, 20, 0, 114, 184, 0, 76, 154, 0, 10, 42, 16, 254]
abbrev dktX4_person_1 : List UInt8 := dkwX4_person_1 ++ dktX4_person_2
def dkwX4_person_0 : List UInt8 := [27, 133, 9, 20, 0, 110, 184, 0, 76, 153, 0, 36, 28, 133, 9, 20, 0, 112, 184, 0, 76, 153, 0, 24]
abbrev dktX4_person_0 : List UInt8 := dkwX4_person_0 ++ dktX4_person_1
theorem dksX4_person_0 : cX4_person.data.toList.drop 0 = dktX4_person_0 := by decide +kernel
theorem dksX4_person_1 : cX4_person.data.toList.drop 24 = dktX4_person_1 := dk_seg dksX4_person_0 24 rfl rfl
theorem dksX4_person_2 : cX4_person.data.toList.drop 48 = dktX4_person_2 := dk_seg dksX4_person_1 24 rfl rfl
theorem dksX4_person_3 : cX4_person.data.toList.drop 71 = dktX4_person_3 := dk_seg dksX4_person_2 23 rfl rfl
theorem dX4_person_0 : decode cX4_person 0 = .ok (.iload_n 1, 1) := dk_27 (dk_at dksX4_person_0 0 rfl rfl)
theorem dX4_person_1 : decode cX4_person 1 = .ok (.i2l, 1) := dk_133 (dk_at dksX4_person_0 1 rfl rfl)
theorem dX4_person_2 : decode cX4_person 2 = .ok (.lconst 0, 1) := dk_9 (dk_at dksX4_person_0 2 rfl rfl)
theorem dX4_person_3 : decode cX4_person 3 = .ok (.ldc2_w 110, 3) := dk_20 0 110 (dk_at dksX4_person_0 3 rfl rfl)
theorem dX4_person_6 : decode cX4_person 6 = .ok (.invokestatic 76, 3) := dk_184 0 76 (dk_at dksX4_person_0 6 rfl rfl)
theorem dX4_person_9 : decode cX4_person 9 = .ok (.ifCond .eq 36, 3) := dk_153 0 36 (dk_at dksX4_person_0 9 rfl rfl)
theorem dX4_person_12 : decode cX4_person 12 = .ok (.iload_n 2, 1) := dk_28 (dk_at dksX4_person_0 12 rfl rfl)
theorem dX4_person_13 : decode cX4_person 13 = .ok (.i2l, 1) := dk_133 (dk_at dksX4_person_0 13 rfl rfl)
theorem dX4_person_14 : decode cX4_person 14 = .ok (.lconst 0, 1) := dk_9 (dk_at dksX4_person_0 14 rfl rfl)
theorem dX4_person_15 : decode cX4_person 15 = .ok (.ldc2_w 112, 3) := dk_20 0 112 (dk_at dksX4_person_0 15 rfl rfl)
theorem dX4_person_18 : decode cX4_person 18 = .ok (.invokestatic 76, 3) := dk_184 0 76 (dk_at dksX4_person_0 18 rfl rfl)
theorem dX4_person_21 : decode cX4_person 21 = .ok (.ifCond .eq 24, 3) := dk_153 0 24 (dk_at dksX4_person_0 21 rfl rfl)
theorem dX4_person_24 : decode cX4_person 24 = .ok (.aload_n 0, 1) := dk_42 (dk_at dksX4_person_1 0 rfl rfl)
theorem dX4_person_25 : decode cX4_person 25 = .ok (.iload_n 3, 1) := dk_29 (dk_at dksX4_person_1 1 rfl rfl)
theorem dX4_person_26 : decode cX4_person 26 = .ok (.invokevirtual 104, 3) := dk_182 0 104 (dk_at dksX4_person_1 2 rfl rfl)
theorem dX4_person_29 : decode cX4_person 29 = .ok (.ifCond .eq 16, 3) := dk_153 0 16 (dk_at dksX4_person_1 5 rfl rfl)
theorem dX4_person_32 : decode cX4_person 32 = .ok (.iload 4, 2) := dk_21 4 (dk_at dksX4_person_1 8 rfl rfl)
theorem dX4_person_34 : decode cX4_person 34 = .ok (.i2l, 1) := dk_133 (dk_at dksX4_person_1 10 rfl rfl)
theorem dX4_person_35 : decode cX4_person 35 = .ok (.lconst 0, 1) := dk_9 (dk_at dksX4_person_1 11 rfl rfl)
theorem dX4_person_36 : decode cX4_person 36 = .ok (.ldc2_w 114, 3) := dk_20 0 114 (dk_at dksX4_person_1 12 rfl rfl)
theorem dX4_person_39 : decode cX4_person 39 = .ok (.invokestatic 76, 3) := dk_184 0 76 (dk_at dksX4_person_1 15 rfl rfl)
theorem dX4_person_42 : decode cX4_person 42 = .ok (.ifCond .ne 10, 3) := dk_154 0 10 (dk_at dksX4_person_1 18 rfl rfl)
theorem dX4_person_45 : decode cX4_person 45 = .ok (.aload_n 0, 1) := dk_42 (dk_at dksX4_person_1 21 rfl rfl)
theorem dX4_person_46 : decode cX4_person 46 = .ok (.bipush (-2), 2) := dk_16 254 (dk_at dksX4_person_1 22 rfl rfl)
theorem dX4_person_48 : decode cX4_person 48 = .ok (.invokevirtual 101, 3) := dk_182 0 101 (dk_at dksX4_person_2 0 rfl rfl)
theorem dX4_person_51 : decode cX4_person 51 = .ok (.ireturn, 1) := dk_172 (dk_at dksX4_person_2 3 rfl rfl)
theorem dX4_person_52 : decode cX4_person 52 = .ok (.aload_n 0, 1) := dk_42 (dk_at dksX4_person_2 4 rfl rfl)
theorem dX4_person_53 : decode cX4_person 53 = .ok (.iload_n 3, 1) := dk_29 (dk_at dksX4_person_2 5 rfl rfl)
theorem dX4_person_54 : decode cX4_person 54 = .ok (.invokevirtual 95, 3) := dk_182 0 95 (dk_at dksX4_person_2 6 rfl rfl)
theorem dX4_person_57 : decode cX4_person 57 = .ok (.ifCond .eq 10, 3) := dk_153 0 10 (dk_at dksX4_person_2 9 rfl rfl)
theorem dX4_person_60 : decode cX4_person 60 = .ok (.aload_n 0, 1) := dk_42 (dk_at dksX4_person_2 12 rfl rfl)
theorem dX4_person_61 : decode cX4_person 61 = .ok (.bipush (-5), 2) := dk_16 251 (dk_at dksX4_person_2 13 rfl rfl)
theorem dX4_person_63 : decode cX4_person 63 = .ok (.invokevirtual 101, 3) := dk_182 0 101 (dk_at dksX4_person_2 15 rfl rfl)
theorem dX4_person_66 : decode cX4_person 66 = .ok (.ireturn, 1) := dk_172 (dk_at dksX4_person_2 18 rfl rfl)
theorem dX4_person_67 : decode cX4_person 67 = .ok (.aload_n 0, 1) := dk_42 (dk_at dksX4_person_2 19 rfl rfl)
theorem dX4_person_68 : decode cX4_person 68 = .ok (.invokevirtual 84, 3) := dk_182 0 84 (dk_at dksX4_person_2 20 rfl rfl)
theorem dX4_person_71 : decode cX4_person 71 = .ok (.bipush 8, 2) := dk_16 8 (dk_at dksX4_person_3 0 rfl rfl)
theorem dX4_person_73 : decode cX4_person 73 = .ok (.if_icmp .ne 12, 3) := dk_160 0 12 (dk_at dksX4_person_3 2 rfl rfl)
theorem dX4_person_76 : decode cX4_person 76 = .ok (.aload_n 0, 1) := dk_42 (dk_at dksX4_person_3 5 rfl rfl)
theorem dX4_person_77 : decode cX4_person 77 = .ok (.bipush (-6), 2) := dk_16 250 (dk_at dksX4_person_3 6 rfl rfl)
theorem dX4_person_79 : decode cX4_person 79 = .ok (.invokevirtual 101, 3) := dk_182 0 101 (dk_at dksX4_person_3 8 rfl rfl)
theorem dX4_person_82 : decode cX4_person 82 = .ok (.goto 12, 3) := dk_167 0 12 (dk_at dksX4_person_3 11 rfl rfl)
theorem dX4_person_85 : decode cX4_person 85 = .ok (.aload_n 0, 1) := dk_42 (dk_at dksX4_person_3 14 rfl rfl)
theorem dX4_person_86 : decode cX4_person 86 = .ok (.iload_n 1, 1) := dk_27 (dk_at dksX4_person_3 15 rfl rfl)
theorem dX4_person_87 : decode cX4_person 87 = .ok (.iload_n 2, 1) := dk_28 (dk_at dksX4_person_3 16 rfl rfl)
theorem dX4_person_88 : decode cX4_person 88 = .ok (.iload_n 3, 1) := dk_29 (dk_at dksX4_person_3 17 rfl rfl)
theorem dX4_person_89 : decode cX4_person 89 = .ok (.iload 4, 2) := dk_21 4 (dk_at dksX4_person_3 18 rfl rfl)
theorem dX4_person_91 : decode cX4_person 91 = .ok (.invokevirtual 116, 3) := dk_182 0 116 (dk_at dksX4_person_3 20 rfl rfl)
theorem dX4_person_94 : decode cX4_person 94 = .ok (.ireturn, 1) := dk_172 (dk_at dksX4_person_3 23 rfl rfl)
abbrev cX4_hasPond : ByteArray := prog_16_method_15_code
def yX4_hasPond : MethodName := ⟨RX4, "hasPond", "(I)Z"⟩
def dkwX4_hasPond_0 : List UInt8 := [42, 180, 0, 17, 27, 184, 0, 80, 46, 4, 160, 0, 7, 4, 167, 0, 4, 3, 172]
abbrev dktX4_hasPond_0 : List UInt8 := dkwX4_hasPond_0 ++ []
theorem dksX4_hasPond_0 : cX4_hasPond.data.toList.drop 0 = dktX4_hasPond_0 := by decide +kernel
theorem dX4_hasPond_0 : decode cX4_hasPond 0 = .ok (.aload_n 0, 1) := dk_42 (dk_at dksX4_hasPond_0 0 rfl rfl)
theorem dX4_hasPond_1 : decode cX4_hasPond 1 = .ok (.getfield 17, 3) := dk_180 0 17 (dk_at dksX4_hasPond_0 1 rfl rfl)
theorem dX4_hasPond_4 : decode cX4_hasPond 4 = .ok (.iload_n 1, 1) := dk_27 (dk_at dksX4_hasPond_0 4 rfl rfl)
theorem dX4_hasPond_5 : decode cX4_hasPond 5 = .ok (.invokestatic 80, 3) := dk_184 0 80 (dk_at dksX4_hasPond_0 5 rfl rfl)
theorem dX4_hasPond_8 : decode cX4_hasPond 8 = .ok (.iaload, 1) := dk_46 (dk_at dksX4_hasPond_0 8 rfl rfl)
theorem dX4_hasPond_9 : decode cX4_hasPond 9 = .ok (.iconst 1, 1) := dk_4 (dk_at dksX4_hasPond_0 9 rfl rfl)
theorem dX4_hasPond_10 : decode cX4_hasPond 10 = .ok (.if_icmp .ne 7, 3) := dk_160 0 7 (dk_at dksX4_hasPond_0 10 rfl rfl)
theorem dX4_hasPond_13 : decode cX4_hasPond 13 = .ok (.iconst 1, 1) := dk_4 (dk_at dksX4_hasPond_0 13 rfl rfl)
theorem dX4_hasPond_14 : decode cX4_hasPond 14 = .ok (.goto 4, 3) := dk_167 0 4 (dk_at dksX4_hasPond_0 14 rfl rfl)
theorem dX4_hasPond_17 : decode cX4_hasPond 17 = .ok (.iconst 0, 1) := dk_3 (dk_at dksX4_hasPond_0 17 rfl rfl)
theorem dX4_hasPond_18 : decode cX4_hasPond 18 = .ok (.ireturn, 1) := dk_172 (dk_at dksX4_hasPond_0 18 rfl rfl)
abbrev cX4_add : ByteArray := prog_16_method_19_code
def yX4_add : MethodName := ⟨RX4, "add", "(IIII)I"⟩
def dkwX4_add_3 : List UInt8 := [16, 89, 92, 46, 4, 96, 79, 21, 5, 172]
abbrev dktX4_add_3 : List UInt8 := dkwX4_add_3 ++ []
def dkwX4_add_2 : List UInt8 := [21, 5, 104, 6, 96, 21, 4, 79, 42, 180, 0, 17, 8, 21, 5, 104, 7, 96, 3, 79, 42, 180, 0, 17]
abbrev dktX4_add_2 : List UInt8 := dkwX4_add_2 ++ dktX4_add_3
def dkwX4_add_1 : List UInt8 := [21, 5, 104, 4, 96, 28, 79, 42, 180, 0, 17, 8, 21, 5, 104, 5, 96, 29, 79, 42, 180, 0, 17, 8]
abbrev dktX4_add_1 : List UInt8 := dkwX4_add_1 ++ dktX4_add_2
def dkwX4_add_0 : List UInt8 := [42, 180, 0, 17, 16, 89, 46, 54, 5, 42, 180, 0, 17, 8, 21, 5, 104, 27, 79, 42, 180, 0, 17, 8]
abbrev dktX4_add_0 : List UInt8 := dkwX4_add_0 ++ dktX4_add_1
theorem dksX4_add_0 : cX4_add.data.toList.drop 0 = dktX4_add_0 := by decide +kernel
theorem dksX4_add_1 : cX4_add.data.toList.drop 24 = dktX4_add_1 := dk_seg dksX4_add_0 24 rfl rfl
theorem dksX4_add_2 : cX4_add.data.toList.drop 48 = dktX4_add_2 := dk_seg dksX4_add_1 24 rfl rfl
theorem dksX4_add_3 : cX4_add.data.toList.drop 72 = dktX4_add_3 := dk_seg dksX4_add_2 24 rfl rfl
theorem dX4_add_0 : decode cX4_add 0 = .ok (.aload_n 0, 1) := dk_42 (dk_at dksX4_add_0 0 rfl rfl)
theorem dX4_add_1 : decode cX4_add 1 = .ok (.getfield 17, 3) := dk_180 0 17 (dk_at dksX4_add_0 1 rfl rfl)
theorem dX4_add_4 : decode cX4_add 4 = .ok (.bipush 89, 2) := dk_16 89 (dk_at dksX4_add_0 4 rfl rfl)
theorem dX4_add_6 : decode cX4_add 6 = .ok (.iaload, 1) := dk_46 (dk_at dksX4_add_0 6 rfl rfl)
theorem dX4_add_7 : decode cX4_add 7 = .ok (.istore 5, 2) := dk_54 5 (dk_at dksX4_add_0 7 rfl rfl)
theorem dX4_add_9 : decode cX4_add 9 = .ok (.aload_n 0, 1) := dk_42 (dk_at dksX4_add_0 9 rfl rfl)
theorem dX4_add_10 : decode cX4_add 10 = .ok (.getfield 17, 3) := dk_180 0 17 (dk_at dksX4_add_0 10 rfl rfl)
theorem dX4_add_13 : decode cX4_add 13 = .ok (.iconst 5, 1) := dk_8 (dk_at dksX4_add_0 13 rfl rfl)
theorem dX4_add_14 : decode cX4_add 14 = .ok (.iload 5, 2) := dk_21 5 (dk_at dksX4_add_0 14 rfl rfl)
theorem dX4_add_16 : decode cX4_add 16 = .ok (.imul, 1) := dk_104 (dk_at dksX4_add_0 16 rfl rfl)
theorem dX4_add_17 : decode cX4_add 17 = .ok (.iload_n 1, 1) := dk_27 (dk_at dksX4_add_0 17 rfl rfl)
theorem dX4_add_18 : decode cX4_add 18 = .ok (.iastore, 1) := dk_79 (dk_at dksX4_add_0 18 rfl rfl)
theorem dX4_add_19 : decode cX4_add 19 = .ok (.aload_n 0, 1) := dk_42 (dk_at dksX4_add_0 19 rfl rfl)
theorem dX4_add_20 : decode cX4_add 20 = .ok (.getfield 17, 3) := dk_180 0 17 (dk_at dksX4_add_0 20 rfl rfl)
theorem dX4_add_23 : decode cX4_add 23 = .ok (.iconst 5, 1) := dk_8 (dk_at dksX4_add_0 23 rfl rfl)
theorem dX4_add_24 : decode cX4_add 24 = .ok (.iload 5, 2) := dk_21 5 (dk_at dksX4_add_1 0 rfl rfl)
theorem dX4_add_26 : decode cX4_add 26 = .ok (.imul, 1) := dk_104 (dk_at dksX4_add_1 2 rfl rfl)
theorem dX4_add_27 : decode cX4_add 27 = .ok (.iconst 1, 1) := dk_4 (dk_at dksX4_add_1 3 rfl rfl)
theorem dX4_add_28 : decode cX4_add 28 = .ok (.iadd, 1) := dk_96 (dk_at dksX4_add_1 4 rfl rfl)
theorem dX4_add_29 : decode cX4_add 29 = .ok (.iload_n 2, 1) := dk_28 (dk_at dksX4_add_1 5 rfl rfl)
theorem dX4_add_30 : decode cX4_add 30 = .ok (.iastore, 1) := dk_79 (dk_at dksX4_add_1 6 rfl rfl)
theorem dX4_add_31 : decode cX4_add 31 = .ok (.aload_n 0, 1) := dk_42 (dk_at dksX4_add_1 7 rfl rfl)
theorem dX4_add_32 : decode cX4_add 32 = .ok (.getfield 17, 3) := dk_180 0 17 (dk_at dksX4_add_1 8 rfl rfl)
theorem dX4_add_35 : decode cX4_add 35 = .ok (.iconst 5, 1) := dk_8 (dk_at dksX4_add_1 11 rfl rfl)
theorem dX4_add_36 : decode cX4_add 36 = .ok (.iload 5, 2) := dk_21 5 (dk_at dksX4_add_1 12 rfl rfl)
theorem dX4_add_38 : decode cX4_add 38 = .ok (.imul, 1) := dk_104 (dk_at dksX4_add_1 14 rfl rfl)
theorem dX4_add_39 : decode cX4_add 39 = .ok (.iconst 2, 1) := dk_5 (dk_at dksX4_add_1 15 rfl rfl)
theorem dX4_add_40 : decode cX4_add 40 = .ok (.iadd, 1) := dk_96 (dk_at dksX4_add_1 16 rfl rfl)
theorem dX4_add_41 : decode cX4_add 41 = .ok (.iload_n 3, 1) := dk_29 (dk_at dksX4_add_1 17 rfl rfl)
theorem dX4_add_42 : decode cX4_add 42 = .ok (.iastore, 1) := dk_79 (dk_at dksX4_add_1 18 rfl rfl)
theorem dX4_add_43 : decode cX4_add 43 = .ok (.aload_n 0, 1) := dk_42 (dk_at dksX4_add_1 19 rfl rfl)
theorem dX4_add_44 : decode cX4_add 44 = .ok (.getfield 17, 3) := dk_180 0 17 (dk_at dksX4_add_1 20 rfl rfl)
theorem dX4_add_47 : decode cX4_add 47 = .ok (.iconst 5, 1) := dk_8 (dk_at dksX4_add_1 23 rfl rfl)
theorem dX4_add_48 : decode cX4_add 48 = .ok (.iload 5, 2) := dk_21 5 (dk_at dksX4_add_2 0 rfl rfl)
theorem dX4_add_50 : decode cX4_add 50 = .ok (.imul, 1) := dk_104 (dk_at dksX4_add_2 2 rfl rfl)
theorem dX4_add_51 : decode cX4_add 51 = .ok (.iconst 3, 1) := dk_6 (dk_at dksX4_add_2 3 rfl rfl)
theorem dX4_add_52 : decode cX4_add 52 = .ok (.iadd, 1) := dk_96 (dk_at dksX4_add_2 4 rfl rfl)
theorem dX4_add_53 : decode cX4_add 53 = .ok (.iload 4, 2) := dk_21 4 (dk_at dksX4_add_2 5 rfl rfl)
theorem dX4_add_55 : decode cX4_add 55 = .ok (.iastore, 1) := dk_79 (dk_at dksX4_add_2 7 rfl rfl)
theorem dX4_add_56 : decode cX4_add 56 = .ok (.aload_n 0, 1) := dk_42 (dk_at dksX4_add_2 8 rfl rfl)
theorem dX4_add_57 : decode cX4_add 57 = .ok (.getfield 17, 3) := dk_180 0 17 (dk_at dksX4_add_2 9 rfl rfl)
theorem dX4_add_60 : decode cX4_add 60 = .ok (.iconst 5, 1) := dk_8 (dk_at dksX4_add_2 12 rfl rfl)
theorem dX4_add_61 : decode cX4_add 61 = .ok (.iload 5, 2) := dk_21 5 (dk_at dksX4_add_2 13 rfl rfl)
theorem dX4_add_63 : decode cX4_add 63 = .ok (.imul, 1) := dk_104 (dk_at dksX4_add_2 15 rfl rfl)
theorem dX4_add_64 : decode cX4_add 64 = .ok (.iconst 4, 1) := dk_7 (dk_at dksX4_add_2 16 rfl rfl)
theorem dX4_add_65 : decode cX4_add 65 = .ok (.iadd, 1) := dk_96 (dk_at dksX4_add_2 17 rfl rfl)
theorem dX4_add_66 : decode cX4_add 66 = .ok (.iconst 0, 1) := dk_3 (dk_at dksX4_add_2 18 rfl rfl)
theorem dX4_add_67 : decode cX4_add 67 = .ok (.iastore, 1) := dk_79 (dk_at dksX4_add_2 19 rfl rfl)
theorem dX4_add_68 : decode cX4_add 68 = .ok (.aload_n 0, 1) := dk_42 (dk_at dksX4_add_2 20 rfl rfl)
theorem dX4_add_69 : decode cX4_add 69 = .ok (.getfield 17, 3) := dk_180 0 17 (dk_at dksX4_add_2 21 rfl rfl)
theorem dX4_add_72 : decode cX4_add 72 = .ok (.bipush 89, 2) := dk_16 89 (dk_at dksX4_add_3 0 rfl rfl)
theorem dX4_add_74 : decode cX4_add 74 = .ok (.dup2, 1) := dk_92 (dk_at dksX4_add_3 2 rfl rfl)
theorem dX4_add_75 : decode cX4_add 75 = .ok (.iaload, 1) := dk_46 (dk_at dksX4_add_3 3 rfl rfl)
theorem dX4_add_76 : decode cX4_add 76 = .ok (.iconst 1, 1) := dk_4 (dk_at dksX4_add_3 4 rfl rfl)
theorem dX4_add_77 : decode cX4_add 77 = .ok (.iadd, 1) := dk_96 (dk_at dksX4_add_3 5 rfl rfl)
theorem dX4_add_78 : decode cX4_add 78 = .ok (.iastore, 1) := dk_79 (dk_at dksX4_add_3 6 rfl rfl)
theorem dX4_add_79 : decode cX4_add 79 = .ok (.iload 5, 2) := dk_21 5 (dk_at dksX4_add_3 7 rfl rfl)
theorem dX4_add_81 : decode cX4_add 81 = .ok (.ireturn, 1) := dk_172 (dk_at dksX4_add_3 9 rfl rfl)
abbrev cX4_tell : ByteArray := prog_16_method_23_code
def yX4_tell : MethodName := ⟨RX4, "tell", "(II)I"⟩
def dkwX4_tell_2 : List UInt8 := [96, 46, 62, 42, 180, 0, 17, 16, 91, 27, 96, 28, 79, 29, 172]
abbrev dktX4_tell_2 : List UInt8 := dkwX4_tell_2 ++ []
def dkwX4_tell_1 : List UInt8 := [167, 0, 4, 10, 184, 0, 76, 154, 0, 10, 42, 16, 254, 182, 0, 101, 172, 42, 180, 0, 17, 16, 91, 27]
abbrev dktX4_tell_1 : List UInt8 := dkwX4_tell_1 ++ dktX4_tell_2
def dkwX4_tell_0 : List UInt8 := [27, 133, 9, 20, 0, 120, 184, 0, 76, 153, 0, 24, 28, 133, 9, 27, 5, 160, 0, 9, 20, 0, 122]
abbrev dktX4_tell_0 : List UInt8 := dkwX4_tell_0 ++ dktX4_tell_1
theorem dksX4_tell_0 : cX4_tell.data.toList.drop 0 = dktX4_tell_0 := by decide +kernel
theorem dksX4_tell_1 : cX4_tell.data.toList.drop 23 = dktX4_tell_1 := dk_seg dksX4_tell_0 23 rfl rfl
theorem dksX4_tell_2 : cX4_tell.data.toList.drop 47 = dktX4_tell_2 := dk_seg dksX4_tell_1 24 rfl rfl
theorem dX4_tell_0 : decode cX4_tell 0 = .ok (.iload_n 1, 1) := dk_27 (dk_at dksX4_tell_0 0 rfl rfl)
theorem dX4_tell_1 : decode cX4_tell 1 = .ok (.i2l, 1) := dk_133 (dk_at dksX4_tell_0 1 rfl rfl)
theorem dX4_tell_2 : decode cX4_tell 2 = .ok (.lconst 0, 1) := dk_9 (dk_at dksX4_tell_0 2 rfl rfl)
theorem dX4_tell_3 : decode cX4_tell 3 = .ok (.ldc2_w 120, 3) := dk_20 0 120 (dk_at dksX4_tell_0 3 rfl rfl)
theorem dX4_tell_6 : decode cX4_tell 6 = .ok (.invokestatic 76, 3) := dk_184 0 76 (dk_at dksX4_tell_0 6 rfl rfl)
theorem dX4_tell_9 : decode cX4_tell 9 = .ok (.ifCond .eq 24, 3) := dk_153 0 24 (dk_at dksX4_tell_0 9 rfl rfl)
theorem dX4_tell_12 : decode cX4_tell 12 = .ok (.iload_n 2, 1) := dk_28 (dk_at dksX4_tell_0 12 rfl rfl)
theorem dX4_tell_13 : decode cX4_tell 13 = .ok (.i2l, 1) := dk_133 (dk_at dksX4_tell_0 13 rfl rfl)
theorem dX4_tell_14 : decode cX4_tell 14 = .ok (.lconst 0, 1) := dk_9 (dk_at dksX4_tell_0 14 rfl rfl)
theorem dX4_tell_15 : decode cX4_tell 15 = .ok (.iload_n 1, 1) := dk_27 (dk_at dksX4_tell_0 15 rfl rfl)
theorem dX4_tell_16 : decode cX4_tell 16 = .ok (.iconst 2, 1) := dk_5 (dk_at dksX4_tell_0 16 rfl rfl)
theorem dX4_tell_17 : decode cX4_tell 17 = .ok (.if_icmp .ne 9, 3) := dk_160 0 9 (dk_at dksX4_tell_0 17 rfl rfl)
theorem dX4_tell_20 : decode cX4_tell 20 = .ok (.ldc2_w 122, 3) := dk_20 0 122 (dk_at dksX4_tell_0 20 rfl rfl)
theorem dX4_tell_23 : decode cX4_tell 23 = .ok (.goto 4, 3) := dk_167 0 4 (dk_at dksX4_tell_1 0 rfl rfl)
theorem dX4_tell_26 : decode cX4_tell 26 = .ok (.lconst 1, 1) := dk_10 (dk_at dksX4_tell_1 3 rfl rfl)
theorem dX4_tell_27 : decode cX4_tell 27 = .ok (.invokestatic 76, 3) := dk_184 0 76 (dk_at dksX4_tell_1 4 rfl rfl)
theorem dX4_tell_30 : decode cX4_tell 30 = .ok (.ifCond .ne 10, 3) := dk_154 0 10 (dk_at dksX4_tell_1 7 rfl rfl)
theorem dX4_tell_33 : decode cX4_tell 33 = .ok (.aload_n 0, 1) := dk_42 (dk_at dksX4_tell_1 10 rfl rfl)
theorem dX4_tell_34 : decode cX4_tell 34 = .ok (.bipush (-2), 2) := dk_16 254 (dk_at dksX4_tell_1 11 rfl rfl)
theorem dX4_tell_36 : decode cX4_tell 36 = .ok (.invokevirtual 101, 3) := dk_182 0 101 (dk_at dksX4_tell_1 13 rfl rfl)
theorem dX4_tell_39 : decode cX4_tell 39 = .ok (.ireturn, 1) := dk_172 (dk_at dksX4_tell_1 16 rfl rfl)
theorem dX4_tell_40 : decode cX4_tell 40 = .ok (.aload_n 0, 1) := dk_42 (dk_at dksX4_tell_1 17 rfl rfl)
theorem dX4_tell_41 : decode cX4_tell 41 = .ok (.getfield 17, 3) := dk_180 0 17 (dk_at dksX4_tell_1 18 rfl rfl)
theorem dX4_tell_44 : decode cX4_tell 44 = .ok (.bipush 91, 2) := dk_16 91 (dk_at dksX4_tell_1 21 rfl rfl)
theorem dX4_tell_46 : decode cX4_tell 46 = .ok (.iload_n 1, 1) := dk_27 (dk_at dksX4_tell_1 23 rfl rfl)
theorem dX4_tell_47 : decode cX4_tell 47 = .ok (.iadd, 1) := dk_96 (dk_at dksX4_tell_2 0 rfl rfl)
theorem dX4_tell_48 : decode cX4_tell 48 = .ok (.iaload, 1) := dk_46 (dk_at dksX4_tell_2 1 rfl rfl)
theorem dX4_tell_49 : decode cX4_tell 49 = .ok (.istore_n 3, 1) := dk_62 (dk_at dksX4_tell_2 2 rfl rfl)
theorem dX4_tell_50 : decode cX4_tell 50 = .ok (.aload_n 0, 1) := dk_42 (dk_at dksX4_tell_2 3 rfl rfl)
theorem dX4_tell_51 : decode cX4_tell 51 = .ok (.getfield 17, 3) := dk_180 0 17 (dk_at dksX4_tell_2 4 rfl rfl)
theorem dX4_tell_54 : decode cX4_tell 54 = .ok (.bipush 91, 2) := dk_16 91 (dk_at dksX4_tell_2 7 rfl rfl)
theorem dX4_tell_56 : decode cX4_tell 56 = .ok (.iload_n 1, 1) := dk_27 (dk_at dksX4_tell_2 9 rfl rfl)
theorem dX4_tell_57 : decode cX4_tell 57 = .ok (.iadd, 1) := dk_96 (dk_at dksX4_tell_2 10 rfl rfl)
theorem dX4_tell_58 : decode cX4_tell 58 = .ok (.iload_n 2, 1) := dk_28 (dk_at dksX4_tell_2 11 rfl rfl)
theorem dX4_tell_59 : decode cX4_tell 59 = .ok (.iastore, 1) := dk_79 (dk_at dksX4_tell_2 12 rfl rfl)
theorem dX4_tell_60 : decode cX4_tell 60 = .ok (.iload_n 3, 1) := dk_29 (dk_at dksX4_tell_2 13 rfl rfl)
theorem dX4_tell_61 : decode cX4_tell 61 = .ok (.ireturn, 1) := dk_172 (dk_at dksX4_tell_2 14 rfl rfl)
abbrev cX4_isFor : ByteArray := prog_16_method_24_code
def yX4_isFor : MethodName := ⟨RX4, "isFor", "(II)I"⟩
def dkwX4_isFor_1 : List UInt8 := [172, 42, 27, 182, 0, 127, 62, 42, 180, 0, 17, 8, 27, 104, 7, 96, 28, 79, 29, 172]
abbrev dktX4_isFor_1 : List UInt8 := dkwX4_isFor_1 ++ []
def dkwX4_isFor_0 : List UInt8 := [42, 27, 182, 0, 124, 153, 0, 13, 28, 133, 9, 10, 184, 0, 76, 154, 0, 10, 42, 16, 254, 182, 0, 101]
abbrev dktX4_isFor_0 : List UInt8 := dkwX4_isFor_0 ++ dktX4_isFor_1
theorem dksX4_isFor_0 : cX4_isFor.data.toList.drop 0 = dktX4_isFor_0 := by decide +kernel
theorem dksX4_isFor_1 : cX4_isFor.data.toList.drop 24 = dktX4_isFor_1 := dk_seg dksX4_isFor_0 24 rfl rfl
theorem dX4_isFor_0 : decode cX4_isFor 0 = .ok (.aload_n 0, 1) := dk_42 (dk_at dksX4_isFor_0 0 rfl rfl)
theorem dX4_isFor_1 : decode cX4_isFor 1 = .ok (.iload_n 1, 1) := dk_27 (dk_at dksX4_isFor_0 1 rfl rfl)
theorem dX4_isFor_2 : decode cX4_isFor 2 = .ok (.invokevirtual 124, 3) := dk_182 0 124 (dk_at dksX4_isFor_0 2 rfl rfl)
theorem dX4_isFor_5 : decode cX4_isFor 5 = .ok (.ifCond .eq 13, 3) := dk_153 0 13 (dk_at dksX4_isFor_0 5 rfl rfl)
theorem dX4_isFor_8 : decode cX4_isFor 8 = .ok (.iload_n 2, 1) := dk_28 (dk_at dksX4_isFor_0 8 rfl rfl)
theorem dX4_isFor_9 : decode cX4_isFor 9 = .ok (.i2l, 1) := dk_133 (dk_at dksX4_isFor_0 9 rfl rfl)
theorem dX4_isFor_10 : decode cX4_isFor 10 = .ok (.lconst 0, 1) := dk_9 (dk_at dksX4_isFor_0 10 rfl rfl)
theorem dX4_isFor_11 : decode cX4_isFor 11 = .ok (.lconst 1, 1) := dk_10 (dk_at dksX4_isFor_0 11 rfl rfl)
theorem dX4_isFor_12 : decode cX4_isFor 12 = .ok (.invokestatic 76, 3) := dk_184 0 76 (dk_at dksX4_isFor_0 12 rfl rfl)
theorem dX4_isFor_15 : decode cX4_isFor 15 = .ok (.ifCond .ne 10, 3) := dk_154 0 10 (dk_at dksX4_isFor_0 15 rfl rfl)
theorem dX4_isFor_18 : decode cX4_isFor 18 = .ok (.aload_n 0, 1) := dk_42 (dk_at dksX4_isFor_0 18 rfl rfl)
theorem dX4_isFor_19 : decode cX4_isFor 19 = .ok (.bipush (-2), 2) := dk_16 254 (dk_at dksX4_isFor_0 19 rfl rfl)
theorem dX4_isFor_21 : decode cX4_isFor 21 = .ok (.invokevirtual 101, 3) := dk_182 0 101 (dk_at dksX4_isFor_0 21 rfl rfl)
theorem dX4_isFor_24 : decode cX4_isFor 24 = .ok (.ireturn, 1) := dk_172 (dk_at dksX4_isFor_1 0 rfl rfl)
theorem dX4_isFor_25 : decode cX4_isFor 25 = .ok (.aload_n 0, 1) := dk_42 (dk_at dksX4_isFor_1 1 rfl rfl)
theorem dX4_isFor_26 : decode cX4_isFor 26 = .ok (.iload_n 1, 1) := dk_27 (dk_at dksX4_isFor_1 2 rfl rfl)
theorem dX4_isFor_27 : decode cX4_isFor 27 = .ok (.invokevirtual 127, 3) := dk_182 0 127 (dk_at dksX4_isFor_1 3 rfl rfl)
theorem dX4_isFor_30 : decode cX4_isFor 30 = .ok (.istore_n 3, 1) := dk_62 (dk_at dksX4_isFor_1 6 rfl rfl)
theorem dX4_isFor_31 : decode cX4_isFor 31 = .ok (.aload_n 0, 1) := dk_42 (dk_at dksX4_isFor_1 7 rfl rfl)
theorem dX4_isFor_32 : decode cX4_isFor 32 = .ok (.getfield 17, 3) := dk_180 0 17 (dk_at dksX4_isFor_1 8 rfl rfl)
theorem dX4_isFor_35 : decode cX4_isFor 35 = .ok (.iconst 5, 1) := dk_8 (dk_at dksX4_isFor_1 11 rfl rfl)
theorem dX4_isFor_36 : decode cX4_isFor 36 = .ok (.iload_n 1, 1) := dk_27 (dk_at dksX4_isFor_1 12 rfl rfl)
theorem dX4_isFor_37 : decode cX4_isFor 37 = .ok (.imul, 1) := dk_104 (dk_at dksX4_isFor_1 13 rfl rfl)
theorem dX4_isFor_38 : decode cX4_isFor 38 = .ok (.iconst 4, 1) := dk_7 (dk_at dksX4_isFor_1 14 rfl rfl)
theorem dX4_isFor_39 : decode cX4_isFor 39 = .ok (.iadd, 1) := dk_96 (dk_at dksX4_isFor_1 15 rfl rfl)
theorem dX4_isFor_40 : decode cX4_isFor 40 = .ok (.iload_n 2, 1) := dk_28 (dk_at dksX4_isFor_1 16 rfl rfl)
theorem dX4_isFor_41 : decode cX4_isFor 41 = .ok (.iastore, 1) := dk_79 (dk_at dksX4_isFor_1 17 rfl rfl)
theorem dX4_isFor_42 : decode cX4_isFor 42 = .ok (.iload_n 3, 1) := dk_29 (dk_at dksX4_isFor_1 18 rfl rfl)
theorem dX4_isFor_43 : decode cX4_isFor 43 = .ok (.ireturn, 1) := dk_172 (dk_at dksX4_isFor_1 19 rfl rfl)
abbrev cX4_isPerson : ByteArray := prog_16_method_7_code
def yX4_isPerson : MethodName := ⟨RX4, "isPerson", "(I)Z"⟩
def dkwX4_isPerson_0 : List UInt8 := [27, 133, 9, 42, 180, 0, 17, 16, 89, 46, 4, 100, 133, 184, 0, 76, 172]
abbrev dktX4_isPerson_0 : List UInt8 := dkwX4_isPerson_0 ++ []
theorem dksX4_isPerson_0 : cX4_isPerson.data.toList.drop 0 = dktX4_isPerson_0 := by decide +kernel
theorem dX4_isPerson_0 : decode cX4_isPerson 0 = .ok (.iload_n 1, 1) := dk_27 (dk_at dksX4_isPerson_0 0 rfl rfl)
theorem dX4_isPerson_1 : decode cX4_isPerson 1 = .ok (.i2l, 1) := dk_133 (dk_at dksX4_isPerson_0 1 rfl rfl)
theorem dX4_isPerson_2 : decode cX4_isPerson 2 = .ok (.lconst 0, 1) := dk_9 (dk_at dksX4_isPerson_0 2 rfl rfl)
theorem dX4_isPerson_3 : decode cX4_isPerson 3 = .ok (.aload_n 0, 1) := dk_42 (dk_at dksX4_isPerson_0 3 rfl rfl)
theorem dX4_isPerson_4 : decode cX4_isPerson 4 = .ok (.getfield 17, 3) := dk_180 0 17 (dk_at dksX4_isPerson_0 4 rfl rfl)
theorem dX4_isPerson_7 : decode cX4_isPerson 7 = .ok (.bipush 89, 2) := dk_16 89 (dk_at dksX4_isPerson_0 7 rfl rfl)
theorem dX4_isPerson_9 : decode cX4_isPerson 9 = .ok (.iaload, 1) := dk_46 (dk_at dksX4_isPerson_0 9 rfl rfl)
theorem dX4_isPerson_10 : decode cX4_isPerson 10 = .ok (.iconst 1, 1) := dk_4 (dk_at dksX4_isPerson_0 10 rfl rfl)
theorem dX4_isPerson_11 : decode cX4_isPerson 11 = .ok (.isub, 1) := dk_100 (dk_at dksX4_isPerson_0 11 rfl rfl)
theorem dX4_isPerson_12 : decode cX4_isPerson 12 = .ok (.i2l, 1) := dk_133 (dk_at dksX4_isPerson_0 12 rfl rfl)
theorem dX4_isPerson_13 : decode cX4_isPerson 13 = .ok (.invokestatic 76, 3) := dk_184 0 76 (dk_at dksX4_isPerson_0 13 rfl rfl)
theorem dX4_isPerson_16 : decode cX4_isPerson 16 = .ok (.ireturn, 1) := dk_172 (dk_at dksX4_isPerson_0 16 rfl rfl)
abbrev cX4_isFor_2 : ByteArray := prog_16_method_12_code
def yX4_isFor_2 : MethodName := ⟨RX4, "isFor", "(I)I"⟩
def dkwX4_isFor_2_0 : List UInt8 := [42, 180, 0, 17, 8, 27, 104, 7, 96, 46, 172]
abbrev dktX4_isFor_2_0 : List UInt8 := dkwX4_isFor_2_0 ++ []
theorem dksX4_isFor_2_0 : cX4_isFor_2.data.toList.drop 0 = dktX4_isFor_2_0 := by decide +kernel
theorem dX4_isFor_2_0 : decode cX4_isFor_2 0 = .ok (.aload_n 0, 1) := dk_42 (dk_at dksX4_isFor_2_0 0 rfl rfl)
theorem dX4_isFor_2_1 : decode cX4_isFor_2 1 = .ok (.getfield 17, 3) := dk_180 0 17 (dk_at dksX4_isFor_2_0 1 rfl rfl)
theorem dX4_isFor_2_4 : decode cX4_isFor_2 4 = .ok (.iconst 5, 1) := dk_8 (dk_at dksX4_isFor_2_0 4 rfl rfl)
theorem dX4_isFor_2_5 : decode cX4_isFor_2 5 = .ok (.iload_n 1, 1) := dk_27 (dk_at dksX4_isFor_2_0 5 rfl rfl)
theorem dX4_isFor_2_6 : decode cX4_isFor_2 6 = .ok (.imul, 1) := dk_104 (dk_at dksX4_isFor_2_0 6 rfl rfl)
theorem dX4_isFor_2_7 : decode cX4_isFor_2 7 = .ok (.iconst 4, 1) := dk_7 (dk_at dksX4_isFor_2_0 7 rfl rfl)
theorem dX4_isFor_2_8 : decode cX4_isFor_2 8 = .ok (.iadd, 1) := dk_96 (dk_at dksX4_isFor_2_0 8 rfl rfl)
theorem dX4_isFor_2_9 : decode cX4_isFor_2 9 = .ok (.iaload, 1) := dk_46 (dk_at dksX4_isFor_2_0 9 rfl rfl)
theorem dX4_isFor_2_10 : decode cX4_isFor_2 10 = .ok (.ireturn, 1) := dk_172 (dk_at dksX4_isFor_2_0 10 rfl rfl)
abbrev cX4_put : ByteArray := prog_16_method_25_code
def yX4_put : MethodName := ⟨RX4, "put", "(III)I"⟩
def dkwX4_put_3 : List UInt8 := [180, 0, 17, 8, 27, 104, 6, 96, 29, 79, 21, 4, 172]
abbrev dktX4_put_3 : List UInt8 := dkwX4_put_3 ++ []
def dkwX4_put_2 : List UInt8 := [182, 0, 101, 172, 42, 27, 182, 0, 88, 54, 4, 42, 180, 0, 17, 8, 27, 104, 5, 96, 28, 79, 42]
abbrev dktX4_put_2 : List UInt8 := dkwX4_put_2 ++ dktX4_put_3
def dkwX4_put_1 : List UInt8 := [184, 0, 76, 154, 0, 10, 42, 16, 254, 182, 0, 101, 172, 42, 28, 182, 0, 95, 153, 0, 10, 42, 16, 251]
abbrev dktX4_put_1 : List UInt8 := dkwX4_put_1 ++ dktX4_put_2
def dkwX4_put_0 : List UInt8 := [42, 27, 182, 0, 124, 153, 0, 23, 42, 28, 182, 0, 104, 153, 0, 15, 29, 133, 9, 20, 0, 114]
abbrev dktX4_put_0 : List UInt8 := dkwX4_put_0 ++ dktX4_put_1
theorem dksX4_put_0 : cX4_put.data.toList.drop 0 = dktX4_put_0 := by decide +kernel
theorem dksX4_put_1 : cX4_put.data.toList.drop 22 = dktX4_put_1 := dk_seg dksX4_put_0 22 rfl rfl
theorem dksX4_put_2 : cX4_put.data.toList.drop 46 = dktX4_put_2 := dk_seg dksX4_put_1 24 rfl rfl
theorem dksX4_put_3 : cX4_put.data.toList.drop 69 = dktX4_put_3 := dk_seg dksX4_put_2 23 rfl rfl
theorem dX4_put_0 : decode cX4_put 0 = .ok (.aload_n 0, 1) := dk_42 (dk_at dksX4_put_0 0 rfl rfl)
theorem dX4_put_1 : decode cX4_put 1 = .ok (.iload_n 1, 1) := dk_27 (dk_at dksX4_put_0 1 rfl rfl)
theorem dX4_put_2 : decode cX4_put 2 = .ok (.invokevirtual 124, 3) := dk_182 0 124 (dk_at dksX4_put_0 2 rfl rfl)
theorem dX4_put_5 : decode cX4_put 5 = .ok (.ifCond .eq 23, 3) := dk_153 0 23 (dk_at dksX4_put_0 5 rfl rfl)
theorem dX4_put_8 : decode cX4_put 8 = .ok (.aload_n 0, 1) := dk_42 (dk_at dksX4_put_0 8 rfl rfl)
theorem dX4_put_9 : decode cX4_put 9 = .ok (.iload_n 2, 1) := dk_28 (dk_at dksX4_put_0 9 rfl rfl)
theorem dX4_put_10 : decode cX4_put 10 = .ok (.invokevirtual 104, 3) := dk_182 0 104 (dk_at dksX4_put_0 10 rfl rfl)
theorem dX4_put_13 : decode cX4_put 13 = .ok (.ifCond .eq 15, 3) := dk_153 0 15 (dk_at dksX4_put_0 13 rfl rfl)
theorem dX4_put_16 : decode cX4_put 16 = .ok (.iload_n 3, 1) := dk_29 (dk_at dksX4_put_0 16 rfl rfl)
theorem dX4_put_17 : decode cX4_put 17 = .ok (.i2l, 1) := dk_133 (dk_at dksX4_put_0 17 rfl rfl)
theorem dX4_put_18 : decode cX4_put 18 = .ok (.lconst 0, 1) := dk_9 (dk_at dksX4_put_0 18 rfl rfl)
theorem dX4_put_19 : decode cX4_put 19 = .ok (.ldc2_w 114, 3) := dk_20 0 114 (dk_at dksX4_put_0 19 rfl rfl)
theorem dX4_put_22 : decode cX4_put 22 = .ok (.invokestatic 76, 3) := dk_184 0 76 (dk_at dksX4_put_1 0 rfl rfl)
theorem dX4_put_25 : decode cX4_put 25 = .ok (.ifCond .ne 10, 3) := dk_154 0 10 (dk_at dksX4_put_1 3 rfl rfl)
theorem dX4_put_28 : decode cX4_put 28 = .ok (.aload_n 0, 1) := dk_42 (dk_at dksX4_put_1 6 rfl rfl)
theorem dX4_put_29 : decode cX4_put 29 = .ok (.bipush (-2), 2) := dk_16 254 (dk_at dksX4_put_1 7 rfl rfl)
theorem dX4_put_31 : decode cX4_put 31 = .ok (.invokevirtual 101, 3) := dk_182 0 101 (dk_at dksX4_put_1 9 rfl rfl)
theorem dX4_put_34 : decode cX4_put 34 = .ok (.ireturn, 1) := dk_172 (dk_at dksX4_put_1 12 rfl rfl)
theorem dX4_put_35 : decode cX4_put 35 = .ok (.aload_n 0, 1) := dk_42 (dk_at dksX4_put_1 13 rfl rfl)
theorem dX4_put_36 : decode cX4_put 36 = .ok (.iload_n 2, 1) := dk_28 (dk_at dksX4_put_1 14 rfl rfl)
theorem dX4_put_37 : decode cX4_put 37 = .ok (.invokevirtual 95, 3) := dk_182 0 95 (dk_at dksX4_put_1 15 rfl rfl)
theorem dX4_put_40 : decode cX4_put 40 = .ok (.ifCond .eq 10, 3) := dk_153 0 10 (dk_at dksX4_put_1 18 rfl rfl)
theorem dX4_put_43 : decode cX4_put 43 = .ok (.aload_n 0, 1) := dk_42 (dk_at dksX4_put_1 21 rfl rfl)
theorem dX4_put_44 : decode cX4_put 44 = .ok (.bipush (-5), 2) := dk_16 251 (dk_at dksX4_put_1 22 rfl rfl)
theorem dX4_put_46 : decode cX4_put 46 = .ok (.invokevirtual 101, 3) := dk_182 0 101 (dk_at dksX4_put_2 0 rfl rfl)
theorem dX4_put_49 : decode cX4_put 49 = .ok (.ireturn, 1) := dk_172 (dk_at dksX4_put_2 3 rfl rfl)
theorem dX4_put_50 : decode cX4_put 50 = .ok (.aload_n 0, 1) := dk_42 (dk_at dksX4_put_2 4 rfl rfl)
theorem dX4_put_51 : decode cX4_put 51 = .ok (.iload_n 1, 1) := dk_27 (dk_at dksX4_put_2 5 rfl rfl)
theorem dX4_put_52 : decode cX4_put 52 = .ok (.invokevirtual 88, 3) := dk_182 0 88 (dk_at dksX4_put_2 6 rfl rfl)
theorem dX4_put_55 : decode cX4_put 55 = .ok (.istore 4, 2) := dk_54 4 (dk_at dksX4_put_2 9 rfl rfl)
theorem dX4_put_57 : decode cX4_put 57 = .ok (.aload_n 0, 1) := dk_42 (dk_at dksX4_put_2 11 rfl rfl)
theorem dX4_put_58 : decode cX4_put 58 = .ok (.getfield 17, 3) := dk_180 0 17 (dk_at dksX4_put_2 12 rfl rfl)
theorem dX4_put_61 : decode cX4_put 61 = .ok (.iconst 5, 1) := dk_8 (dk_at dksX4_put_2 15 rfl rfl)
theorem dX4_put_62 : decode cX4_put 62 = .ok (.iload_n 1, 1) := dk_27 (dk_at dksX4_put_2 16 rfl rfl)
theorem dX4_put_63 : decode cX4_put 63 = .ok (.imul, 1) := dk_104 (dk_at dksX4_put_2 17 rfl rfl)
theorem dX4_put_64 : decode cX4_put 64 = .ok (.iconst 2, 1) := dk_5 (dk_at dksX4_put_2 18 rfl rfl)
theorem dX4_put_65 : decode cX4_put 65 = .ok (.iadd, 1) := dk_96 (dk_at dksX4_put_2 19 rfl rfl)
theorem dX4_put_66 : decode cX4_put 66 = .ok (.iload_n 2, 1) := dk_28 (dk_at dksX4_put_2 20 rfl rfl)
theorem dX4_put_67 : decode cX4_put 67 = .ok (.iastore, 1) := dk_79 (dk_at dksX4_put_2 21 rfl rfl)
theorem dX4_put_68 : decode cX4_put 68 = .ok (.aload_n 0, 1) := dk_42 (dk_at dksX4_put_2 22 rfl rfl)
theorem dX4_put_69 : decode cX4_put 69 = .ok (.getfield 17, 3) := dk_180 0 17 (dk_at dksX4_put_3 0 rfl rfl)
theorem dX4_put_72 : decode cX4_put 72 = .ok (.iconst 5, 1) := dk_8 (dk_at dksX4_put_3 3 rfl rfl)
theorem dX4_put_73 : decode cX4_put 73 = .ok (.iload_n 1, 1) := dk_27 (dk_at dksX4_put_3 4 rfl rfl)
theorem dX4_put_74 : decode cX4_put 74 = .ok (.imul, 1) := dk_104 (dk_at dksX4_put_3 5 rfl rfl)
theorem dX4_put_75 : decode cX4_put 75 = .ok (.iconst 3, 1) := dk_6 (dk_at dksX4_put_3 6 rfl rfl)
theorem dX4_put_76 : decode cX4_put 76 = .ok (.iadd, 1) := dk_96 (dk_at dksX4_put_3 7 rfl rfl)
theorem dX4_put_77 : decode cX4_put 77 = .ok (.iload_n 3, 1) := dk_29 (dk_at dksX4_put_3 8 rfl rfl)
theorem dX4_put_78 : decode cX4_put 78 = .ok (.iastore, 1) := dk_79 (dk_at dksX4_put_3 9 rfl rfl)
theorem dX4_put_79 : decode cX4_put 79 = .ok (.iload 4, 2) := dk_21 4 (dk_at dksX4_put_3 10 rfl rfl)
theorem dX4_put_81 : decode cX4_put 81 = .ok (.ireturn, 1) := dk_172 (dk_at dksX4_put_3 12 rfl rfl)
abbrev cX4_isPond : ByteArray := prog_16_method_26_code
def yX4_isPond : MethodName := ⟨RX4, "isPond", "(I)I"⟩
def dkwX4_isPond_1 : List UInt8 := [182, 0, 101, 172]
abbrev dktX4_isPond_1 : List UInt8 := dkwX4_isPond_1 ++ []
def dkwX4_isPond_0 : List UInt8 := [42, 27, 182, 0, 104, 153, 0, 15, 42, 180, 0, 17, 27, 184, 0, 80, 46, 167, 0, 9, 42, 16, 254]
abbrev dktX4_isPond_0 : List UInt8 := dkwX4_isPond_0 ++ dktX4_isPond_1
theorem dksX4_isPond_0 : cX4_isPond.data.toList.drop 0 = dktX4_isPond_0 := by decide +kernel
theorem dksX4_isPond_1 : cX4_isPond.data.toList.drop 23 = dktX4_isPond_1 := dk_seg dksX4_isPond_0 23 rfl rfl
theorem dX4_isPond_0 : decode cX4_isPond 0 = .ok (.aload_n 0, 1) := dk_42 (dk_at dksX4_isPond_0 0 rfl rfl)
theorem dX4_isPond_1 : decode cX4_isPond 1 = .ok (.iload_n 1, 1) := dk_27 (dk_at dksX4_isPond_0 1 rfl rfl)
theorem dX4_isPond_2 : decode cX4_isPond 2 = .ok (.invokevirtual 104, 3) := dk_182 0 104 (dk_at dksX4_isPond_0 2 rfl rfl)
theorem dX4_isPond_5 : decode cX4_isPond 5 = .ok (.ifCond .eq 15, 3) := dk_153 0 15 (dk_at dksX4_isPond_0 5 rfl rfl)
theorem dX4_isPond_8 : decode cX4_isPond 8 = .ok (.aload_n 0, 1) := dk_42 (dk_at dksX4_isPond_0 8 rfl rfl)
theorem dX4_isPond_9 : decode cX4_isPond 9 = .ok (.getfield 17, 3) := dk_180 0 17 (dk_at dksX4_isPond_0 9 rfl rfl)
theorem dX4_isPond_12 : decode cX4_isPond 12 = .ok (.iload_n 1, 1) := dk_27 (dk_at dksX4_isPond_0 12 rfl rfl)
theorem dX4_isPond_13 : decode cX4_isPond 13 = .ok (.invokestatic 80, 3) := dk_184 0 80 (dk_at dksX4_isPond_0 13 rfl rfl)
theorem dX4_isPond_16 : decode cX4_isPond 16 = .ok (.iaload, 1) := dk_46 (dk_at dksX4_isPond_0 16 rfl rfl)
theorem dX4_isPond_17 : decode cX4_isPond 17 = .ok (.goto 9, 3) := dk_167 0 9 (dk_at dksX4_isPond_0 17 rfl rfl)
theorem dX4_isPond_20 : decode cX4_isPond 20 = .ok (.aload_n 0, 1) := dk_42 (dk_at dksX4_isPond_0 20 rfl rfl)
theorem dX4_isPond_21 : decode cX4_isPond 21 = .ok (.bipush (-2), 2) := dk_16 254 (dk_at dksX4_isPond_0 21 rfl rfl)
theorem dX4_isPond_23 : decode cX4_isPond 23 = .ok (.invokevirtual 101, 3) := dk_182 0 101 (dk_at dksX4_isPond_1 0 rfl rfl)
theorem dX4_isPond_26 : decode cX4_isPond 26 = .ok (.ireturn, 1) := dk_172 (dk_at dksX4_isPond_1 3 rfl rfl)
abbrev cX4_feed : ByteArray := prog_16_method_27_code
def yX4_feed : MethodName := ⟨RX4, "feed", "(I)I"⟩
def dkwX4_feed_2 : List UInt8 := [89, 180, 0, 132, 4, 96, 181, 0, 132, 42, 180, 0, 132, 172]
abbrev dktX4_feed_2 : List UInt8 := dkwX4_feed_2 ++ []
def dkwX4_feed_1 : List UInt8 := [17, 0, 250, 160, 0, 10, 42, 16, 250, 182, 0, 101, 172, 42, 180, 0, 26, 42, 180, 0, 132, 27, 79, 42]
abbrev dktX4_feed_1 : List UInt8 := dkwX4_feed_1 ++ dktX4_feed_2
def dkwX4_feed_0 : List UInt8 := [27, 133, 9, 20, 0, 130, 184, 0, 76, 154, 0, 10, 42, 16, 254, 182, 0, 101, 172, 42, 180, 0, 132]
abbrev dktX4_feed_0 : List UInt8 := dkwX4_feed_0 ++ dktX4_feed_1
theorem dksX4_feed_0 : cX4_feed.data.toList.drop 0 = dktX4_feed_0 := by decide +kernel
theorem dksX4_feed_1 : cX4_feed.data.toList.drop 23 = dktX4_feed_1 := dk_seg dksX4_feed_0 23 rfl rfl
theorem dksX4_feed_2 : cX4_feed.data.toList.drop 47 = dktX4_feed_2 := dk_seg dksX4_feed_1 24 rfl rfl
theorem dX4_feed_0 : decode cX4_feed 0 = .ok (.iload_n 1, 1) := dk_27 (dk_at dksX4_feed_0 0 rfl rfl)
theorem dX4_feed_1 : decode cX4_feed 1 = .ok (.i2l, 1) := dk_133 (dk_at dksX4_feed_0 1 rfl rfl)
theorem dX4_feed_2 : decode cX4_feed 2 = .ok (.lconst 0, 1) := dk_9 (dk_at dksX4_feed_0 2 rfl rfl)
theorem dX4_feed_3 : decode cX4_feed 3 = .ok (.ldc2_w 130, 3) := dk_20 0 130 (dk_at dksX4_feed_0 3 rfl rfl)
theorem dX4_feed_6 : decode cX4_feed 6 = .ok (.invokestatic 76, 3) := dk_184 0 76 (dk_at dksX4_feed_0 6 rfl rfl)
theorem dX4_feed_9 : decode cX4_feed 9 = .ok (.ifCond .ne 10, 3) := dk_154 0 10 (dk_at dksX4_feed_0 9 rfl rfl)
theorem dX4_feed_12 : decode cX4_feed 12 = .ok (.aload_n 0, 1) := dk_42 (dk_at dksX4_feed_0 12 rfl rfl)
theorem dX4_feed_13 : decode cX4_feed 13 = .ok (.bipush (-2), 2) := dk_16 254 (dk_at dksX4_feed_0 13 rfl rfl)
theorem dX4_feed_15 : decode cX4_feed 15 = .ok (.invokevirtual 101, 3) := dk_182 0 101 (dk_at dksX4_feed_0 15 rfl rfl)
theorem dX4_feed_18 : decode cX4_feed 18 = .ok (.ireturn, 1) := dk_172 (dk_at dksX4_feed_0 18 rfl rfl)
theorem dX4_feed_19 : decode cX4_feed 19 = .ok (.aload_n 0, 1) := dk_42 (dk_at dksX4_feed_0 19 rfl rfl)
theorem dX4_feed_20 : decode cX4_feed 20 = .ok (.getfield 132, 3) := dk_180 0 132 (dk_at dksX4_feed_0 20 rfl rfl)
theorem dX4_feed_23 : decode cX4_feed 23 = .ok (.sipush 250, 3) := dk_17 0 250 (dk_at dksX4_feed_1 0 rfl rfl)
theorem dX4_feed_26 : decode cX4_feed 26 = .ok (.if_icmp .ne 10, 3) := dk_160 0 10 (dk_at dksX4_feed_1 3 rfl rfl)
theorem dX4_feed_29 : decode cX4_feed 29 = .ok (.aload_n 0, 1) := dk_42 (dk_at dksX4_feed_1 6 rfl rfl)
theorem dX4_feed_30 : decode cX4_feed 30 = .ok (.bipush (-6), 2) := dk_16 250 (dk_at dksX4_feed_1 7 rfl rfl)
theorem dX4_feed_32 : decode cX4_feed 32 = .ok (.invokevirtual 101, 3) := dk_182 0 101 (dk_at dksX4_feed_1 9 rfl rfl)
theorem dX4_feed_35 : decode cX4_feed 35 = .ok (.ireturn, 1) := dk_172 (dk_at dksX4_feed_1 12 rfl rfl)
theorem dX4_feed_36 : decode cX4_feed 36 = .ok (.aload_n 0, 1) := dk_42 (dk_at dksX4_feed_1 13 rfl rfl)
theorem dX4_feed_37 : decode cX4_feed 37 = .ok (.getfield 26, 3) := dk_180 0 26 (dk_at dksX4_feed_1 14 rfl rfl)
theorem dX4_feed_40 : decode cX4_feed 40 = .ok (.aload_n 0, 1) := dk_42 (dk_at dksX4_feed_1 17 rfl rfl)
theorem dX4_feed_41 : decode cX4_feed 41 = .ok (.getfield 132, 3) := dk_180 0 132 (dk_at dksX4_feed_1 18 rfl rfl)
theorem dX4_feed_44 : decode cX4_feed 44 = .ok (.iload_n 1, 1) := dk_27 (dk_at dksX4_feed_1 21 rfl rfl)
theorem dX4_feed_45 : decode cX4_feed 45 = .ok (.iastore, 1) := dk_79 (dk_at dksX4_feed_1 22 rfl rfl)
theorem dX4_feed_46 : decode cX4_feed 46 = .ok (.aload_n 0, 1) := dk_42 (dk_at dksX4_feed_1 23 rfl rfl)
theorem dX4_feed_47 : decode cX4_feed 47 = .ok (.dup, 1) := dk_89 (dk_at dksX4_feed_2 0 rfl rfl)
theorem dX4_feed_48 : decode cX4_feed 48 = .ok (.getfield 132, 3) := dk_180 0 132 (dk_at dksX4_feed_2 1 rfl rfl)
theorem dX4_feed_51 : decode cX4_feed 51 = .ok (.iconst 1, 1) := dk_4 (dk_at dksX4_feed_2 4 rfl rfl)
theorem dX4_feed_52 : decode cX4_feed 52 = .ok (.iadd, 1) := dk_96 (dk_at dksX4_feed_2 5 rfl rfl)
theorem dX4_feed_53 : decode cX4_feed 53 = .ok (.putfield 132, 3) := dk_181 0 132 (dk_at dksX4_feed_2 6 rfl rfl)
theorem dX4_feed_56 : decode cX4_feed 56 = .ok (.aload_n 0, 1) := dk_42 (dk_at dksX4_feed_2 9 rfl rfl)
theorem dX4_feed_57 : decode cX4_feed 57 = .ok (.getfield 132, 3) := dk_180 0 132 (dk_at dksX4_feed_2 10 rfl rfl)
theorem dX4_feed_60 : decode cX4_feed 60 = .ok (.ireturn, 1) := dk_172 (dk_at dksX4_feed_2 13 rfl rfl)
abbrev cX4_wipe : ByteArray := prog_16_method_28_code
def yX4_wipe : MethodName := ⟨RX4, "wipe", "()I"⟩
def dkwX4_wipe_0 : List UInt8 := [42, 180, 0, 132, 60, 42, 3, 181, 0, 132, 27, 172]
abbrev dktX4_wipe_0 : List UInt8 := dkwX4_wipe_0 ++ []
theorem dksX4_wipe_0 : cX4_wipe.data.toList.drop 0 = dktX4_wipe_0 := by decide +kernel
theorem dX4_wipe_0 : decode cX4_wipe 0 = .ok (.aload_n 0, 1) := dk_42 (dk_at dksX4_wipe_0 0 rfl rfl)
theorem dX4_wipe_1 : decode cX4_wipe 1 = .ok (.getfield 132, 3) := dk_180 0 132 (dk_at dksX4_wipe_0 1 rfl rfl)
theorem dX4_wipe_4 : decode cX4_wipe 4 = .ok (.istore_n 1, 1) := dk_60 (dk_at dksX4_wipe_0 4 rfl rfl)
theorem dX4_wipe_5 : decode cX4_wipe 5 = .ok (.aload_n 0, 1) := dk_42 (dk_at dksX4_wipe_0 5 rfl rfl)
theorem dX4_wipe_6 : decode cX4_wipe 6 = .ok (.iconst 0, 1) := dk_3 (dk_at dksX4_wipe_0 6 rfl rfl)
theorem dX4_wipe_7 : decode cX4_wipe 7 = .ok (.putfield 132, 3) := dk_181 0 132 (dk_at dksX4_wipe_0 7 rfl rfl)
theorem dX4_wipe_10 : decode cX4_wipe 10 = .ok (.iload_n 1, 1) := dk_27 (dk_at dksX4_wipe_0 10 rfl rfl)
theorem dX4_wipe_11 : decode cX4_wipe 11 = .ok (.ireturn, 1) := dk_172 (dk_at dksX4_wipe_0 11 rfl rfl)
abbrev cX4_island : ByteArray := prog_16_method_36_code
def yX4_island : MethodName := ⟨RX4, "island", "()I"⟩
def dkwX4_island_4 : List UInt8 := [16, 236, 42, 180, 0, 147, 100, 172]
abbrev dktX4_island_4 : List UInt8 := dkwX4_island_4 ++ []
def dkwX4_island_3 : List UInt8 := [42, 180, 0, 23, 42, 180, 0, 17, 184, 0, 172, 42, 3, 181, 0, 132, 42, 16, 254, 182, 0, 101, 87]
abbrev dktX4_island_3 : List UInt8 := dkwX4_island_3 ++ dktX4_island_4
def dkwX4_island_2 : List UInt8 := [42, 180, 0, 153, 6, 160, 0, 14, 42, 182, 0, 176, 153, 0, 7, 4, 167, 0, 4, 3, 61, 167, 255, 210]
abbrev dktX4_island_2 : List UInt8 := dkwX4_island_2 ++ dktX4_island_3
def dkwX4_island_1 : List UInt8 := [153, 0, 48, 132, 1, 1, 42, 182, 0, 156, 42, 180, 0, 153, 154, 0, 10, 42, 3, 181, 0, 132, 27, 172]
abbrev dktX4_island_1 : List UInt8 := dkwX4_island_1 ++ dktX4_island_2
def dkwX4_island_0 : List UInt8 := [42, 180, 0, 17, 42, 180, 0, 23, 184, 0, 172, 42, 3, 181, 0, 144, 3, 60, 42, 182, 0, 176, 61, 28]
abbrev dktX4_island_0 : List UInt8 := dkwX4_island_0 ++ dktX4_island_1
theorem dksX4_island_0 : cX4_island.data.toList.drop 0 = dktX4_island_0 := by decide +kernel
theorem dksX4_island_1 : cX4_island.data.toList.drop 24 = dktX4_island_1 := dk_seg dksX4_island_0 24 rfl rfl
theorem dksX4_island_2 : cX4_island.data.toList.drop 48 = dktX4_island_2 := dk_seg dksX4_island_1 24 rfl rfl
theorem dksX4_island_3 : cX4_island.data.toList.drop 72 = dktX4_island_3 := dk_seg dksX4_island_2 24 rfl rfl
theorem dksX4_island_4 : cX4_island.data.toList.drop 95 = dktX4_island_4 := dk_seg dksX4_island_3 23 rfl rfl
theorem dX4_island_0 : decode cX4_island 0 = .ok (.aload_n 0, 1) := dk_42 (dk_at dksX4_island_0 0 rfl rfl)
theorem dX4_island_1 : decode cX4_island 1 = .ok (.getfield 17, 3) := dk_180 0 17 (dk_at dksX4_island_0 1 rfl rfl)
theorem dX4_island_4 : decode cX4_island 4 = .ok (.aload_n 0, 1) := dk_42 (dk_at dksX4_island_0 4 rfl rfl)
theorem dX4_island_5 : decode cX4_island 5 = .ok (.getfield 23, 3) := dk_180 0 23 (dk_at dksX4_island_0 5 rfl rfl)
theorem dX4_island_8 : decode cX4_island 8 = .ok (.invokestatic 172, 3) := dk_184 0 172 (dk_at dksX4_island_0 8 rfl rfl)
theorem dX4_island_11 : decode cX4_island 11 = .ok (.aload_n 0, 1) := dk_42 (dk_at dksX4_island_0 11 rfl rfl)
theorem dX4_island_12 : decode cX4_island 12 = .ok (.iconst 0, 1) := dk_3 (dk_at dksX4_island_0 12 rfl rfl)
theorem dX4_island_13 : decode cX4_island 13 = .ok (.putfield 144, 3) := dk_181 0 144 (dk_at dksX4_island_0 13 rfl rfl)
theorem dX4_island_16 : decode cX4_island 16 = .ok (.iconst 0, 1) := dk_3 (dk_at dksX4_island_0 16 rfl rfl)
theorem dX4_island_17 : decode cX4_island 17 = .ok (.istore_n 1, 1) := dk_60 (dk_at dksX4_island_0 17 rfl rfl)
theorem dX4_island_18 : decode cX4_island 18 = .ok (.aload_n 0, 1) := dk_42 (dk_at dksX4_island_0 18 rfl rfl)
theorem dX4_island_19 : decode cX4_island 19 = .ok (.invokevirtual 176, 3) := dk_182 0 176 (dk_at dksX4_island_0 19 rfl rfl)
theorem dX4_island_22 : decode cX4_island 22 = .ok (.istore_n 2, 1) := dk_61 (dk_at dksX4_island_0 22 rfl rfl)
theorem dX4_island_23 : decode cX4_island 23 = .ok (.iload_n 2, 1) := dk_28 (dk_at dksX4_island_0 23 rfl rfl)
theorem dX4_island_24 : decode cX4_island 24 = .ok (.ifCond .eq 48, 3) := dk_153 0 48 (dk_at dksX4_island_1 0 rfl rfl)
theorem dX4_island_27 : decode cX4_island 27 = .ok (.iinc 1 1, 3) := dk_132 1 1 (dk_at dksX4_island_1 3 rfl rfl)
theorem dX4_island_30 : decode cX4_island 30 = .ok (.aload_n 0, 1) := dk_42 (dk_at dksX4_island_1 6 rfl rfl)
theorem dX4_island_31 : decode cX4_island 31 = .ok (.invokevirtual 156, 3) := dk_182 0 156 (dk_at dksX4_island_1 7 rfl rfl)
theorem dX4_island_34 : decode cX4_island 34 = .ok (.aload_n 0, 1) := dk_42 (dk_at dksX4_island_1 10 rfl rfl)
theorem dX4_island_35 : decode cX4_island 35 = .ok (.getfield 153, 3) := dk_180 0 153 (dk_at dksX4_island_1 11 rfl rfl)
theorem dX4_island_38 : decode cX4_island 38 = .ok (.ifCond .ne 10, 3) := dk_154 0 10 (dk_at dksX4_island_1 14 rfl rfl)
theorem dX4_island_41 : decode cX4_island 41 = .ok (.aload_n 0, 1) := dk_42 (dk_at dksX4_island_1 17 rfl rfl)
theorem dX4_island_42 : decode cX4_island 42 = .ok (.iconst 0, 1) := dk_3 (dk_at dksX4_island_1 18 rfl rfl)
theorem dX4_island_43 : decode cX4_island 43 = .ok (.putfield 132, 3) := dk_181 0 132 (dk_at dksX4_island_1 19 rfl rfl)
theorem dX4_island_46 : decode cX4_island 46 = .ok (.iload_n 1, 1) := dk_27 (dk_at dksX4_island_1 22 rfl rfl)
theorem dX4_island_47 : decode cX4_island 47 = .ok (.ireturn, 1) := dk_172 (dk_at dksX4_island_1 23 rfl rfl)
theorem dX4_island_48 : decode cX4_island 48 = .ok (.aload_n 0, 1) := dk_42 (dk_at dksX4_island_2 0 rfl rfl)
theorem dX4_island_49 : decode cX4_island 49 = .ok (.getfield 153, 3) := dk_180 0 153 (dk_at dksX4_island_2 1 rfl rfl)
theorem dX4_island_52 : decode cX4_island 52 = .ok (.iconst 3, 1) := dk_6 (dk_at dksX4_island_2 4 rfl rfl)
theorem dX4_island_53 : decode cX4_island 53 = .ok (.if_icmp .ne 14, 3) := dk_160 0 14 (dk_at dksX4_island_2 5 rfl rfl)
theorem dX4_island_56 : decode cX4_island 56 = .ok (.aload_n 0, 1) := dk_42 (dk_at dksX4_island_2 8 rfl rfl)
theorem dX4_island_57 : decode cX4_island 57 = .ok (.invokevirtual 176, 3) := dk_182 0 176 (dk_at dksX4_island_2 9 rfl rfl)
theorem dX4_island_60 : decode cX4_island 60 = .ok (.ifCond .eq 7, 3) := dk_153 0 7 (dk_at dksX4_island_2 12 rfl rfl)
theorem dX4_island_63 : decode cX4_island 63 = .ok (.iconst 1, 1) := dk_4 (dk_at dksX4_island_2 15 rfl rfl)
theorem dX4_island_64 : decode cX4_island 64 = .ok (.goto 4, 3) := dk_167 0 4 (dk_at dksX4_island_2 16 rfl rfl)
theorem dX4_island_67 : decode cX4_island 67 = .ok (.iconst 0, 1) := dk_3 (dk_at dksX4_island_2 19 rfl rfl)
theorem dX4_island_68 : decode cX4_island 68 = .ok (.istore_n 2, 1) := dk_61 (dk_at dksX4_island_2 20 rfl rfl)
theorem dX4_island_69 : decode cX4_island 69 = .ok (.goto (-46), 3) := dk_167 255 210 (dk_at dksX4_island_2 21 rfl rfl)
theorem dX4_island_72 : decode cX4_island 72 = .ok (.aload_n 0, 1) := dk_42 (dk_at dksX4_island_3 0 rfl rfl)
theorem dX4_island_73 : decode cX4_island 73 = .ok (.getfield 23, 3) := dk_180 0 23 (dk_at dksX4_island_3 1 rfl rfl)
theorem dX4_island_76 : decode cX4_island 76 = .ok (.aload_n 0, 1) := dk_42 (dk_at dksX4_island_3 4 rfl rfl)
theorem dX4_island_77 : decode cX4_island 77 = .ok (.getfield 17, 3) := dk_180 0 17 (dk_at dksX4_island_3 5 rfl rfl)
theorem dX4_island_80 : decode cX4_island 80 = .ok (.invokestatic 172, 3) := dk_184 0 172 (dk_at dksX4_island_3 8 rfl rfl)
theorem dX4_island_83 : decode cX4_island 83 = .ok (.aload_n 0, 1) := dk_42 (dk_at dksX4_island_3 11 rfl rfl)
theorem dX4_island_84 : decode cX4_island 84 = .ok (.iconst 0, 1) := dk_3 (dk_at dksX4_island_3 12 rfl rfl)
theorem dX4_island_85 : decode cX4_island 85 = .ok (.putfield 132, 3) := dk_181 0 132 (dk_at dksX4_island_3 13 rfl rfl)
theorem dX4_island_88 : decode cX4_island 88 = .ok (.aload_n 0, 1) := dk_42 (dk_at dksX4_island_3 16 rfl rfl)
theorem dX4_island_89 : decode cX4_island 89 = .ok (.bipush (-2), 2) := dk_16 254 (dk_at dksX4_island_3 17 rfl rfl)
theorem dX4_island_91 : decode cX4_island 91 = .ok (.invokevirtual 101, 3) := dk_182 0 101 (dk_at dksX4_island_3 19 rfl rfl)
theorem dX4_island_94 : decode cX4_island 94 = .ok (.pop, 1) := dk_87 (dk_at dksX4_island_3 22 rfl rfl)
theorem dX4_island_95 : decode cX4_island 95 = .ok (.bipush (-20), 2) := dk_16 236 (dk_at dksX4_island_4 0 rfl rfl)
theorem dX4_island_97 : decode cX4_island 97 = .ok (.aload_n 0, 1) := dk_42 (dk_at dksX4_island_4 2 rfl rfl)
theorem dX4_island_98 : decode cX4_island 98 = .ok (.getfield 147, 3) := dk_180 0 147 (dk_at dksX4_island_4 3 rfl rfl)
theorem dX4_island_101 : decode cX4_island 101 = .ok (.isub, 1) := dk_100 (dk_at dksX4_island_4 6 rfl rfl)
theorem dX4_island_102 : decode cX4_island 102 = .ok (.ireturn, 1) := dk_172 (dk_at dksX4_island_4 7 rfl rfl)
abbrev cX4_move : ByteArray := prog_16_method_5_code
def yX4_move : MethodName := ⟨RX4, "move", "([I[I)V"⟩
def dkwX4_move_0 : List UInt8 := [3, 61, 28, 16, 97, 162, 0, 15, 43, 28, 42, 28, 46, 79, 132, 2, 1, 167, 255, 241, 177]
abbrev dktX4_move_0 : List UInt8 := dkwX4_move_0 ++ []
theorem dksX4_move_0 : cX4_move.data.toList.drop 0 = dktX4_move_0 := by decide +kernel
theorem dX4_move_0 : decode cX4_move 0 = .ok (.iconst 0, 1) := dk_3 (dk_at dksX4_move_0 0 rfl rfl)
theorem dX4_move_1 : decode cX4_move 1 = .ok (.istore_n 2, 1) := dk_61 (dk_at dksX4_move_0 1 rfl rfl)
theorem dX4_move_2 : decode cX4_move 2 = .ok (.iload_n 2, 1) := dk_28 (dk_at dksX4_move_0 2 rfl rfl)
theorem dX4_move_3 : decode cX4_move 3 = .ok (.bipush 97, 2) := dk_16 97 (dk_at dksX4_move_0 3 rfl rfl)
theorem dX4_move_5 : decode cX4_move 5 = .ok (.if_icmp .ge 15, 3) := dk_162 0 15 (dk_at dksX4_move_0 5 rfl rfl)
theorem dX4_move_8 : decode cX4_move 8 = .ok (.aload_n 1, 1) := dk_43 (dk_at dksX4_move_0 8 rfl rfl)
theorem dX4_move_9 : decode cX4_move 9 = .ok (.iload_n 2, 1) := dk_28 (dk_at dksX4_move_0 9 rfl rfl)
theorem dX4_move_10 : decode cX4_move 10 = .ok (.aload_n 0, 1) := dk_42 (dk_at dksX4_move_0 10 rfl rfl)
theorem dX4_move_11 : decode cX4_move 11 = .ok (.iload_n 2, 1) := dk_28 (dk_at dksX4_move_0 11 rfl rfl)
theorem dX4_move_12 : decode cX4_move 12 = .ok (.iaload, 1) := dk_46 (dk_at dksX4_move_0 12 rfl rfl)
theorem dX4_move_13 : decode cX4_move 13 = .ok (.iastore, 1) := dk_79 (dk_at dksX4_move_0 13 rfl rfl)
theorem dX4_move_14 : decode cX4_move 14 = .ok (.iinc 2 1, 3) := dk_132 2 1 (dk_at dksX4_move_0 14 rfl rfl)
theorem dX4_move_17 : decode cX4_move 17 = .ok (.goto (-15), 3) := dk_167 255 241 (dk_at dksX4_move_0 17 rfl rfl)
theorem dX4_move_20 : decode cX4_move 20 = .ok (.return_, 1) := dk_177 (dk_at dksX4_move_0 20 rfl rfl)
abbrev cX4_isStatement : ByteArray := prog_16_method_35_code
def yX4_isStatement : MethodName := ⟨RX4, "isStatement", "()Z"⟩
def dkwX4_isStatement_8 : List UInt8 := [28, 29, 79, 4, 172]
abbrev dktX4_isStatement_8 : List UInt8 := dkwX4_isStatement_8 ++ []
def dkwX4_isStatement_7 : List UInt8 := [160, 0, 8, 16, 12, 167, 0, 4, 4, 182, 0, 159, 62, 29, 2, 160, 0, 5, 3, 172, 42, 180, 0, 17]
abbrev dktX4_isStatement_7 : List UInt8 := dkwX4_isStatement_7 ++ dktX4_isStatement_8
def dkwX4_isStatement_6 : List UInt8 := [180, 0, 17, 16, 90, 46, 167, 0, 4, 3, 27, 154, 0, 8, 16, 7, 167, 0, 15, 27, 16, 7]
abbrev dktX4_isStatement_6 : List UInt8 := dkwX4_isStatement_6 ++ dktX4_isStatement_7
def dkwX4_isStatement_5 : List UInt8 := [100, 182, 0, 159, 62, 29, 2, 160, 0, 5, 3, 172, 8, 29, 104, 7, 96, 61, 42, 27, 154, 0, 13, 42]
abbrev dktX4_isStatement_5 : List UInt8 := dkwX4_isStatement_5 ++ dktX4_isStatement_6
def dkwX4_isStatement_4 : List UInt8 := [16, 90, 167, 0, 9, 16, 91, 27, 96, 8, 100, 61, 27, 7, 160, 0, 28, 42, 3, 42, 182, 0, 84, 4]
abbrev dktX4_isStatement_4 : List UInt8 := dkwX4_isStatement_4 ++ dktX4_isStatement_5
def dkwX4_isStatement_3 : List UInt8 := [153, 0, 5, 3, 172, 42, 180, 0, 17, 28, 184, 0, 80, 5, 27, 100, 79, 4, 172, 27, 154, 0, 8]
abbrev dktX4_isStatement_3 : List UInt8 := dkwX4_isStatement_3 ++ dktX4_isStatement_4
def dkwX4_isStatement_2 : List UInt8 := [160, 0, 42, 42, 182, 0, 162, 61, 28, 2, 159, 0, 16, 27, 4, 160, 0, 13, 42, 28, 182, 0, 107]
abbrev dktX4_isStatement_2 : List UInt8 := dkwX4_isStatement_2 ++ dktX4_isStatement_3
def dkwX4_isStatement_1 : List UInt8 := [16, 8, 160, 0, 5, 3, 172, 27, 6, 160, 0, 8, 42, 182, 0, 168, 172, 27, 4, 159, 0, 8, 27, 5]
abbrev dktX4_isStatement_1 : List UInt8 := dkwX4_isStatement_1 ++ dktX4_isStatement_2
def dkwX4_isStatement_0 : List UInt8 := [42, 182, 0, 156, 42, 182, 0, 165, 60, 27, 2, 159, 0, 17, 27, 6, 160, 0, 14, 42, 182, 0, 84]
abbrev dktX4_isStatement_0 : List UInt8 := dkwX4_isStatement_0 ++ dktX4_isStatement_1
theorem dksX4_isStatement_0 : cX4_isStatement.data.toList.drop 0 = dktX4_isStatement_0 := by decide +kernel
theorem dksX4_isStatement_1 : cX4_isStatement.data.toList.drop 23 = dktX4_isStatement_1 := dk_seg dksX4_isStatement_0 23 rfl rfl
theorem dksX4_isStatement_2 : cX4_isStatement.data.toList.drop 47 = dktX4_isStatement_2 := dk_seg dksX4_isStatement_1 24 rfl rfl
theorem dksX4_isStatement_3 : cX4_isStatement.data.toList.drop 70 = dktX4_isStatement_3 := dk_seg dksX4_isStatement_2 23 rfl rfl
theorem dksX4_isStatement_4 : cX4_isStatement.data.toList.drop 93 = dktX4_isStatement_4 := dk_seg dksX4_isStatement_3 23 rfl rfl
theorem dksX4_isStatement_5 : cX4_isStatement.data.toList.drop 117 = dktX4_isStatement_5 := dk_seg dksX4_isStatement_4 24 rfl rfl
theorem dksX4_isStatement_6 : cX4_isStatement.data.toList.drop 141 = dktX4_isStatement_6 := dk_seg dksX4_isStatement_5 24 rfl rfl
theorem dksX4_isStatement_7 : cX4_isStatement.data.toList.drop 163 = dktX4_isStatement_7 := dk_seg dksX4_isStatement_6 22 rfl rfl
theorem dksX4_isStatement_8 : cX4_isStatement.data.toList.drop 187 = dktX4_isStatement_8 := dk_seg dksX4_isStatement_7 24 rfl rfl
theorem dX4_isStatement_0 : decode cX4_isStatement 0 = .ok (.aload_n 0, 1) := dk_42 (dk_at dksX4_isStatement_0 0 rfl rfl)
theorem dX4_isStatement_1 : decode cX4_isStatement 1 = .ok (.invokevirtual 156, 3) := dk_182 0 156 (dk_at dksX4_isStatement_0 1 rfl rfl)
theorem dX4_isStatement_4 : decode cX4_isStatement 4 = .ok (.aload_n 0, 1) := dk_42 (dk_at dksX4_isStatement_0 4 rfl rfl)
theorem dX4_isStatement_5 : decode cX4_isStatement 5 = .ok (.invokevirtual 165, 3) := dk_182 0 165 (dk_at dksX4_isStatement_0 5 rfl rfl)
theorem dX4_isStatement_8 : decode cX4_isStatement 8 = .ok (.istore_n 1, 1) := dk_60 (dk_at dksX4_isStatement_0 8 rfl rfl)
theorem dX4_isStatement_9 : decode cX4_isStatement 9 = .ok (.iload_n 1, 1) := dk_27 (dk_at dksX4_isStatement_0 9 rfl rfl)
theorem dX4_isStatement_10 : decode cX4_isStatement 10 = .ok (.iconst (-1), 1) := dk_2 (dk_at dksX4_isStatement_0 10 rfl rfl)
theorem dX4_isStatement_11 : decode cX4_isStatement 11 = .ok (.if_icmp .eq 17, 3) := dk_159 0 17 (dk_at dksX4_isStatement_0 11 rfl rfl)
theorem dX4_isStatement_14 : decode cX4_isStatement 14 = .ok (.iload_n 1, 1) := dk_27 (dk_at dksX4_isStatement_0 14 rfl rfl)
theorem dX4_isStatement_15 : decode cX4_isStatement 15 = .ok (.iconst 3, 1) := dk_6 (dk_at dksX4_isStatement_0 15 rfl rfl)
theorem dX4_isStatement_16 : decode cX4_isStatement 16 = .ok (.if_icmp .ne 14, 3) := dk_160 0 14 (dk_at dksX4_isStatement_0 16 rfl rfl)
theorem dX4_isStatement_19 : decode cX4_isStatement 19 = .ok (.aload_n 0, 1) := dk_42 (dk_at dksX4_isStatement_0 19 rfl rfl)
theorem dX4_isStatement_20 : decode cX4_isStatement 20 = .ok (.invokevirtual 84, 3) := dk_182 0 84 (dk_at dksX4_isStatement_0 20 rfl rfl)
theorem dX4_isStatement_23 : decode cX4_isStatement 23 = .ok (.bipush 8, 2) := dk_16 8 (dk_at dksX4_isStatement_1 0 rfl rfl)
theorem dX4_isStatement_25 : decode cX4_isStatement 25 = .ok (.if_icmp .ne 5, 3) := dk_160 0 5 (dk_at dksX4_isStatement_1 2 rfl rfl)
theorem dX4_isStatement_28 : decode cX4_isStatement 28 = .ok (.iconst 0, 1) := dk_3 (dk_at dksX4_isStatement_1 5 rfl rfl)
theorem dX4_isStatement_29 : decode cX4_isStatement 29 = .ok (.ireturn, 1) := dk_172 (dk_at dksX4_isStatement_1 6 rfl rfl)
theorem dX4_isStatement_30 : decode cX4_isStatement 30 = .ok (.iload_n 1, 1) := dk_27 (dk_at dksX4_isStatement_1 7 rfl rfl)
theorem dX4_isStatement_31 : decode cX4_isStatement 31 = .ok (.iconst 3, 1) := dk_6 (dk_at dksX4_isStatement_1 8 rfl rfl)
theorem dX4_isStatement_32 : decode cX4_isStatement 32 = .ok (.if_icmp .ne 8, 3) := dk_160 0 8 (dk_at dksX4_isStatement_1 9 rfl rfl)
theorem dX4_isStatement_35 : decode cX4_isStatement 35 = .ok (.aload_n 0, 1) := dk_42 (dk_at dksX4_isStatement_1 12 rfl rfl)
theorem dX4_isStatement_36 : decode cX4_isStatement 36 = .ok (.invokevirtual 168, 3) := dk_182 0 168 (dk_at dksX4_isStatement_1 13 rfl rfl)
theorem dX4_isStatement_39 : decode cX4_isStatement 39 = .ok (.ireturn, 1) := dk_172 (dk_at dksX4_isStatement_1 16 rfl rfl)
theorem dX4_isStatement_40 : decode cX4_isStatement 40 = .ok (.iload_n 1, 1) := dk_27 (dk_at dksX4_isStatement_1 17 rfl rfl)
theorem dX4_isStatement_41 : decode cX4_isStatement 41 = .ok (.iconst 1, 1) := dk_4 (dk_at dksX4_isStatement_1 18 rfl rfl)
theorem dX4_isStatement_42 : decode cX4_isStatement 42 = .ok (.if_icmp .eq 8, 3) := dk_159 0 8 (dk_at dksX4_isStatement_1 19 rfl rfl)
theorem dX4_isStatement_45 : decode cX4_isStatement 45 = .ok (.iload_n 1, 1) := dk_27 (dk_at dksX4_isStatement_1 22 rfl rfl)
theorem dX4_isStatement_46 : decode cX4_isStatement 46 = .ok (.iconst 2, 1) := dk_5 (dk_at dksX4_isStatement_1 23 rfl rfl)
theorem dX4_isStatement_47 : decode cX4_isStatement 47 = .ok (.if_icmp .ne 42, 3) := dk_160 0 42 (dk_at dksX4_isStatement_2 0 rfl rfl)
theorem dX4_isStatement_50 : decode cX4_isStatement 50 = .ok (.aload_n 0, 1) := dk_42 (dk_at dksX4_isStatement_2 3 rfl rfl)
theorem dX4_isStatement_51 : decode cX4_isStatement 51 = .ok (.invokevirtual 162, 3) := dk_182 0 162 (dk_at dksX4_isStatement_2 4 rfl rfl)
theorem dX4_isStatement_54 : decode cX4_isStatement 54 = .ok (.istore_n 2, 1) := dk_61 (dk_at dksX4_isStatement_2 7 rfl rfl)
theorem dX4_isStatement_55 : decode cX4_isStatement 55 = .ok (.iload_n 2, 1) := dk_28 (dk_at dksX4_isStatement_2 8 rfl rfl)
theorem dX4_isStatement_56 : decode cX4_isStatement 56 = .ok (.iconst (-1), 1) := dk_2 (dk_at dksX4_isStatement_2 9 rfl rfl)
theorem dX4_isStatement_57 : decode cX4_isStatement 57 = .ok (.if_icmp .eq 16, 3) := dk_159 0 16 (dk_at dksX4_isStatement_2 10 rfl rfl)
theorem dX4_isStatement_60 : decode cX4_isStatement 60 = .ok (.iload_n 1, 1) := dk_27 (dk_at dksX4_isStatement_2 13 rfl rfl)
theorem dX4_isStatement_61 : decode cX4_isStatement 61 = .ok (.iconst 1, 1) := dk_4 (dk_at dksX4_isStatement_2 14 rfl rfl)
theorem dX4_isStatement_62 : decode cX4_isStatement 62 = .ok (.if_icmp .ne 13, 3) := dk_160 0 13 (dk_at dksX4_isStatement_2 15 rfl rfl)
theorem dX4_isStatement_65 : decode cX4_isStatement 65 = .ok (.aload_n 0, 1) := dk_42 (dk_at dksX4_isStatement_2 18 rfl rfl)
theorem dX4_isStatement_66 : decode cX4_isStatement 66 = .ok (.iload_n 2, 1) := dk_28 (dk_at dksX4_isStatement_2 19 rfl rfl)
theorem dX4_isStatement_67 : decode cX4_isStatement 67 = .ok (.invokevirtual 107, 3) := dk_182 0 107 (dk_at dksX4_isStatement_2 20 rfl rfl)
theorem dX4_isStatement_70 : decode cX4_isStatement 70 = .ok (.ifCond .eq 5, 3) := dk_153 0 5 (dk_at dksX4_isStatement_3 0 rfl rfl)
theorem dX4_isStatement_73 : decode cX4_isStatement 73 = .ok (.iconst 0, 1) := dk_3 (dk_at dksX4_isStatement_3 3 rfl rfl)
theorem dX4_isStatement_74 : decode cX4_isStatement 74 = .ok (.ireturn, 1) := dk_172 (dk_at dksX4_isStatement_3 4 rfl rfl)
theorem dX4_isStatement_75 : decode cX4_isStatement 75 = .ok (.aload_n 0, 1) := dk_42 (dk_at dksX4_isStatement_3 5 rfl rfl)
theorem dX4_isStatement_76 : decode cX4_isStatement 76 = .ok (.getfield 17, 3) := dk_180 0 17 (dk_at dksX4_isStatement_3 6 rfl rfl)
theorem dX4_isStatement_79 : decode cX4_isStatement 79 = .ok (.iload_n 2, 1) := dk_28 (dk_at dksX4_isStatement_3 9 rfl rfl)
theorem dX4_isStatement_80 : decode cX4_isStatement 80 = .ok (.invokestatic 80, 3) := dk_184 0 80 (dk_at dksX4_isStatement_3 10 rfl rfl)
theorem dX4_isStatement_83 : decode cX4_isStatement 83 = .ok (.iconst 2, 1) := dk_5 (dk_at dksX4_isStatement_3 13 rfl rfl)
theorem dX4_isStatement_84 : decode cX4_isStatement 84 = .ok (.iload_n 1, 1) := dk_27 (dk_at dksX4_isStatement_3 14 rfl rfl)
theorem dX4_isStatement_85 : decode cX4_isStatement 85 = .ok (.isub, 1) := dk_100 (dk_at dksX4_isStatement_3 15 rfl rfl)
theorem dX4_isStatement_86 : decode cX4_isStatement 86 = .ok (.iastore, 1) := dk_79 (dk_at dksX4_isStatement_3 16 rfl rfl)
theorem dX4_isStatement_87 : decode cX4_isStatement 87 = .ok (.iconst 1, 1) := dk_4 (dk_at dksX4_isStatement_3 17 rfl rfl)
theorem dX4_isStatement_88 : decode cX4_isStatement 88 = .ok (.ireturn, 1) := dk_172 (dk_at dksX4_isStatement_3 18 rfl rfl)
theorem dX4_isStatement_89 : decode cX4_isStatement 89 = .ok (.iload_n 1, 1) := dk_27 (dk_at dksX4_isStatement_3 19 rfl rfl)
theorem dX4_isStatement_90 : decode cX4_isStatement 90 = .ok (.ifCond .ne 8, 3) := dk_154 0 8 (dk_at dksX4_isStatement_3 20 rfl rfl)
theorem dX4_isStatement_93 : decode cX4_isStatement 93 = .ok (.bipush 90, 2) := dk_16 90 (dk_at dksX4_isStatement_4 0 rfl rfl)
theorem dX4_isStatement_95 : decode cX4_isStatement 95 = .ok (.goto 9, 3) := dk_167 0 9 (dk_at dksX4_isStatement_4 2 rfl rfl)
theorem dX4_isStatement_98 : decode cX4_isStatement 98 = .ok (.bipush 91, 2) := dk_16 91 (dk_at dksX4_isStatement_4 5 rfl rfl)
theorem dX4_isStatement_100 : decode cX4_isStatement 100 = .ok (.iload_n 1, 1) := dk_27 (dk_at dksX4_isStatement_4 7 rfl rfl)
theorem dX4_isStatement_101 : decode cX4_isStatement 101 = .ok (.iadd, 1) := dk_96 (dk_at dksX4_isStatement_4 8 rfl rfl)
theorem dX4_isStatement_102 : decode cX4_isStatement 102 = .ok (.iconst 5, 1) := dk_8 (dk_at dksX4_isStatement_4 9 rfl rfl)
theorem dX4_isStatement_103 : decode cX4_isStatement 103 = .ok (.isub, 1) := dk_100 (dk_at dksX4_isStatement_4 10 rfl rfl)
theorem dX4_isStatement_104 : decode cX4_isStatement 104 = .ok (.istore_n 2, 1) := dk_61 (dk_at dksX4_isStatement_4 11 rfl rfl)
theorem dX4_isStatement_105 : decode cX4_isStatement 105 = .ok (.iload_n 1, 1) := dk_27 (dk_at dksX4_isStatement_4 12 rfl rfl)
theorem dX4_isStatement_106 : decode cX4_isStatement 106 = .ok (.iconst 4, 1) := dk_7 (dk_at dksX4_isStatement_4 13 rfl rfl)
theorem dX4_isStatement_107 : decode cX4_isStatement 107 = .ok (.if_icmp .ne 28, 3) := dk_160 0 28 (dk_at dksX4_isStatement_4 14 rfl rfl)
theorem dX4_isStatement_110 : decode cX4_isStatement 110 = .ok (.aload_n 0, 1) := dk_42 (dk_at dksX4_isStatement_4 17 rfl rfl)
theorem dX4_isStatement_111 : decode cX4_isStatement 111 = .ok (.iconst 0, 1) := dk_3 (dk_at dksX4_isStatement_4 18 rfl rfl)
theorem dX4_isStatement_112 : decode cX4_isStatement 112 = .ok (.aload_n 0, 1) := dk_42 (dk_at dksX4_isStatement_4 19 rfl rfl)
theorem dX4_isStatement_113 : decode cX4_isStatement 113 = .ok (.invokevirtual 84, 3) := dk_182 0 84 (dk_at dksX4_isStatement_4 20 rfl rfl)
theorem dX4_isStatement_116 : decode cX4_isStatement 116 = .ok (.iconst 1, 1) := dk_4 (dk_at dksX4_isStatement_4 23 rfl rfl)
theorem dX4_isStatement_117 : decode cX4_isStatement 117 = .ok (.isub, 1) := dk_100 (dk_at dksX4_isStatement_5 0 rfl rfl)
theorem dX4_isStatement_118 : decode cX4_isStatement 118 = .ok (.invokevirtual 159, 3) := dk_182 0 159 (dk_at dksX4_isStatement_5 1 rfl rfl)
theorem dX4_isStatement_121 : decode cX4_isStatement 121 = .ok (.istore_n 3, 1) := dk_62 (dk_at dksX4_isStatement_5 4 rfl rfl)
theorem dX4_isStatement_122 : decode cX4_isStatement 122 = .ok (.iload_n 3, 1) := dk_29 (dk_at dksX4_isStatement_5 5 rfl rfl)
theorem dX4_isStatement_123 : decode cX4_isStatement 123 = .ok (.iconst (-1), 1) := dk_2 (dk_at dksX4_isStatement_5 6 rfl rfl)
theorem dX4_isStatement_124 : decode cX4_isStatement 124 = .ok (.if_icmp .ne 5, 3) := dk_160 0 5 (dk_at dksX4_isStatement_5 7 rfl rfl)
theorem dX4_isStatement_127 : decode cX4_isStatement 127 = .ok (.iconst 0, 1) := dk_3 (dk_at dksX4_isStatement_5 10 rfl rfl)
theorem dX4_isStatement_128 : decode cX4_isStatement 128 = .ok (.ireturn, 1) := dk_172 (dk_at dksX4_isStatement_5 11 rfl rfl)
theorem dX4_isStatement_129 : decode cX4_isStatement 129 = .ok (.iconst 5, 1) := dk_8 (dk_at dksX4_isStatement_5 12 rfl rfl)
theorem dX4_isStatement_130 : decode cX4_isStatement 130 = .ok (.iload_n 3, 1) := dk_29 (dk_at dksX4_isStatement_5 13 rfl rfl)
theorem dX4_isStatement_131 : decode cX4_isStatement 131 = .ok (.imul, 1) := dk_104 (dk_at dksX4_isStatement_5 14 rfl rfl)
theorem dX4_isStatement_132 : decode cX4_isStatement 132 = .ok (.iconst 4, 1) := dk_7 (dk_at dksX4_isStatement_5 15 rfl rfl)
theorem dX4_isStatement_133 : decode cX4_isStatement 133 = .ok (.iadd, 1) := dk_96 (dk_at dksX4_isStatement_5 16 rfl rfl)
theorem dX4_isStatement_134 : decode cX4_isStatement 134 = .ok (.istore_n 2, 1) := dk_61 (dk_at dksX4_isStatement_5 17 rfl rfl)
theorem dX4_isStatement_135 : decode cX4_isStatement 135 = .ok (.aload_n 0, 1) := dk_42 (dk_at dksX4_isStatement_5 18 rfl rfl)
theorem dX4_isStatement_136 : decode cX4_isStatement 136 = .ok (.iload_n 1, 1) := dk_27 (dk_at dksX4_isStatement_5 19 rfl rfl)
theorem dX4_isStatement_137 : decode cX4_isStatement 137 = .ok (.ifCond .ne 13, 3) := dk_154 0 13 (dk_at dksX4_isStatement_5 20 rfl rfl)
theorem dX4_isStatement_140 : decode cX4_isStatement 140 = .ok (.aload_n 0, 1) := dk_42 (dk_at dksX4_isStatement_5 23 rfl rfl)
theorem dX4_isStatement_141 : decode cX4_isStatement 141 = .ok (.getfield 17, 3) := dk_180 0 17 (dk_at dksX4_isStatement_6 0 rfl rfl)
theorem dX4_isStatement_144 : decode cX4_isStatement 144 = .ok (.bipush 90, 2) := dk_16 90 (dk_at dksX4_isStatement_6 3 rfl rfl)
theorem dX4_isStatement_146 : decode cX4_isStatement 146 = .ok (.iaload, 1) := dk_46 (dk_at dksX4_isStatement_6 5 rfl rfl)
theorem dX4_isStatement_147 : decode cX4_isStatement 147 = .ok (.goto 4, 3) := dk_167 0 4 (dk_at dksX4_isStatement_6 6 rfl rfl)
theorem dX4_isStatement_150 : decode cX4_isStatement 150 = .ok (.iconst 0, 1) := dk_3 (dk_at dksX4_isStatement_6 9 rfl rfl)
theorem dX4_isStatement_151 : decode cX4_isStatement 151 = .ok (.iload_n 1, 1) := dk_27 (dk_at dksX4_isStatement_6 10 rfl rfl)
theorem dX4_isStatement_152 : decode cX4_isStatement 152 = .ok (.ifCond .ne 8, 3) := dk_154 0 8 (dk_at dksX4_isStatement_6 11 rfl rfl)
theorem dX4_isStatement_155 : decode cX4_isStatement 155 = .ok (.bipush 7, 2) := dk_16 7 (dk_at dksX4_isStatement_6 14 rfl rfl)
theorem dX4_isStatement_157 : decode cX4_isStatement 157 = .ok (.goto 15, 3) := dk_167 0 15 (dk_at dksX4_isStatement_6 16 rfl rfl)
theorem dX4_isStatement_160 : decode cX4_isStatement 160 = .ok (.iload_n 1, 1) := dk_27 (dk_at dksX4_isStatement_6 19 rfl rfl)
theorem dX4_isStatement_161 : decode cX4_isStatement 161 = .ok (.bipush 7, 2) := dk_16 7 (dk_at dksX4_isStatement_6 20 rfl rfl)
theorem dX4_isStatement_163 : decode cX4_isStatement 163 = .ok (.if_icmp .ne 8, 3) := dk_160 0 8 (dk_at dksX4_isStatement_7 0 rfl rfl)
theorem dX4_isStatement_166 : decode cX4_isStatement 166 = .ok (.bipush 12, 2) := dk_16 12 (dk_at dksX4_isStatement_7 3 rfl rfl)
theorem dX4_isStatement_168 : decode cX4_isStatement 168 = .ok (.goto 4, 3) := dk_167 0 4 (dk_at dksX4_isStatement_7 5 rfl rfl)
theorem dX4_isStatement_171 : decode cX4_isStatement 171 = .ok (.iconst 1, 1) := dk_4 (dk_at dksX4_isStatement_7 8 rfl rfl)
theorem dX4_isStatement_172 : decode cX4_isStatement 172 = .ok (.invokevirtual 159, 3) := dk_182 0 159 (dk_at dksX4_isStatement_7 9 rfl rfl)
theorem dX4_isStatement_175 : decode cX4_isStatement 175 = .ok (.istore_n 3, 1) := dk_62 (dk_at dksX4_isStatement_7 12 rfl rfl)
theorem dX4_isStatement_176 : decode cX4_isStatement 176 = .ok (.iload_n 3, 1) := dk_29 (dk_at dksX4_isStatement_7 13 rfl rfl)
theorem dX4_isStatement_177 : decode cX4_isStatement 177 = .ok (.iconst (-1), 1) := dk_2 (dk_at dksX4_isStatement_7 14 rfl rfl)
theorem dX4_isStatement_178 : decode cX4_isStatement 178 = .ok (.if_icmp .ne 5, 3) := dk_160 0 5 (dk_at dksX4_isStatement_7 15 rfl rfl)
theorem dX4_isStatement_181 : decode cX4_isStatement 181 = .ok (.iconst 0, 1) := dk_3 (dk_at dksX4_isStatement_7 18 rfl rfl)
theorem dX4_isStatement_182 : decode cX4_isStatement 182 = .ok (.ireturn, 1) := dk_172 (dk_at dksX4_isStatement_7 19 rfl rfl)
theorem dX4_isStatement_183 : decode cX4_isStatement 183 = .ok (.aload_n 0, 1) := dk_42 (dk_at dksX4_isStatement_7 20 rfl rfl)
theorem dX4_isStatement_184 : decode cX4_isStatement 184 = .ok (.getfield 17, 3) := dk_180 0 17 (dk_at dksX4_isStatement_7 21 rfl rfl)
theorem dX4_isStatement_187 : decode cX4_isStatement 187 = .ok (.iload_n 2, 1) := dk_28 (dk_at dksX4_isStatement_8 0 rfl rfl)
theorem dX4_isStatement_188 : decode cX4_isStatement 188 = .ok (.iload_n 3, 1) := dk_29 (dk_at dksX4_isStatement_8 1 rfl rfl)
theorem dX4_isStatement_189 : decode cX4_isStatement 189 = .ok (.iastore, 1) := dk_79 (dk_at dksX4_isStatement_8 2 rfl rfl)
theorem dX4_isStatement_190 : decode cX4_isStatement 190 = .ok (.iconst 1, 1) := dk_4 (dk_at dksX4_isStatement_8 3 rfl rfl)
theorem dX4_isStatement_191 : decode cX4_isStatement 191 = .ok (.ireturn, 1) := dk_172 (dk_at dksX4_isStatement_8 4 rfl rfl)
abbrev cX4_next : ByteArray := prog_16_method_30_code
def yX4_next : MethodName := ⟨RX4, "next", "()V"⟩
def dkwX4_next_4 : List UInt8 := [180, 0, 153, 160, 0, 16, 42, 89, 180, 0, 144, 4, 96, 181, 0, 144, 167, 255, 223, 177]
abbrev dktX4_next_4 : List UInt8 := dkwX4_next_4 ++ []
def dkwX4_next_3 : List UInt8 := [4, 96, 181, 0, 144, 42, 180, 0, 153, 6, 162, 0, 31, 42, 42, 180, 0, 144, 182, 0, 150, 42]
abbrev dktX4_next_3 : List UInt8 := dkwX4_next_3 ++ dktX4_next_4
def dkwX4_next_2 : List UInt8 := [42, 42, 42, 180, 0, 144, 182, 0, 150, 181, 0, 153, 42, 180, 0, 153, 158, 0, 49, 42, 89, 180, 0, 144]
abbrev dktX4_next_2 : List UInt8 := dkwX4_next_2 ++ dktX4_next_3
def dkwX4_next_1 : List UInt8 := [160, 0, 16, 42, 89, 180, 0, 144, 4, 96, 181, 0, 144, 167, 255, 221, 42, 42, 180, 0, 144, 181, 0, 147]
abbrev dktX4_next_1 : List UInt8 := dkwX4_next_1 ++ dktX4_next_2
def dkwX4_next_0 : List UInt8 := [42, 180, 0, 144, 42, 180, 0, 132, 162, 0, 30, 42, 180, 0, 26, 42, 180, 0, 144, 46, 16, 32]
abbrev dktX4_next_0 : List UInt8 := dkwX4_next_0 ++ dktX4_next_1
theorem dksX4_next_0 : cX4_next.data.toList.drop 0 = dktX4_next_0 := by decide +kernel
theorem dksX4_next_1 : cX4_next.data.toList.drop 22 = dktX4_next_1 := dk_seg dksX4_next_0 22 rfl rfl
theorem dksX4_next_2 : cX4_next.data.toList.drop 46 = dktX4_next_2 := dk_seg dksX4_next_1 24 rfl rfl
theorem dksX4_next_3 : cX4_next.data.toList.drop 70 = dktX4_next_3 := dk_seg dksX4_next_2 24 rfl rfl
theorem dksX4_next_4 : cX4_next.data.toList.drop 92 = dktX4_next_4 := dk_seg dksX4_next_3 22 rfl rfl
theorem dX4_next_0 : decode cX4_next 0 = .ok (.aload_n 0, 1) := dk_42 (dk_at dksX4_next_0 0 rfl rfl)
theorem dX4_next_1 : decode cX4_next 1 = .ok (.getfield 144, 3) := dk_180 0 144 (dk_at dksX4_next_0 1 rfl rfl)
theorem dX4_next_4 : decode cX4_next 4 = .ok (.aload_n 0, 1) := dk_42 (dk_at dksX4_next_0 4 rfl rfl)
theorem dX4_next_5 : decode cX4_next 5 = .ok (.getfield 132, 3) := dk_180 0 132 (dk_at dksX4_next_0 5 rfl rfl)
theorem dX4_next_8 : decode cX4_next 8 = .ok (.if_icmp .ge 30, 3) := dk_162 0 30 (dk_at dksX4_next_0 8 rfl rfl)
theorem dX4_next_11 : decode cX4_next 11 = .ok (.aload_n 0, 1) := dk_42 (dk_at dksX4_next_0 11 rfl rfl)
theorem dX4_next_12 : decode cX4_next 12 = .ok (.getfield 26, 3) := dk_180 0 26 (dk_at dksX4_next_0 12 rfl rfl)
theorem dX4_next_15 : decode cX4_next 15 = .ok (.aload_n 0, 1) := dk_42 (dk_at dksX4_next_0 15 rfl rfl)
theorem dX4_next_16 : decode cX4_next 16 = .ok (.getfield 144, 3) := dk_180 0 144 (dk_at dksX4_next_0 16 rfl rfl)
theorem dX4_next_19 : decode cX4_next 19 = .ok (.iaload, 1) := dk_46 (dk_at dksX4_next_0 19 rfl rfl)
theorem dX4_next_20 : decode cX4_next 20 = .ok (.bipush 32, 2) := dk_16 32 (dk_at dksX4_next_0 20 rfl rfl)
theorem dX4_next_22 : decode cX4_next 22 = .ok (.if_icmp .ne 16, 3) := dk_160 0 16 (dk_at dksX4_next_1 0 rfl rfl)
theorem dX4_next_25 : decode cX4_next 25 = .ok (.aload_n 0, 1) := dk_42 (dk_at dksX4_next_1 3 rfl rfl)
theorem dX4_next_26 : decode cX4_next 26 = .ok (.dup, 1) := dk_89 (dk_at dksX4_next_1 4 rfl rfl)
theorem dX4_next_27 : decode cX4_next 27 = .ok (.getfield 144, 3) := dk_180 0 144 (dk_at dksX4_next_1 5 rfl rfl)
theorem dX4_next_30 : decode cX4_next 30 = .ok (.iconst 1, 1) := dk_4 (dk_at dksX4_next_1 8 rfl rfl)
theorem dX4_next_31 : decode cX4_next 31 = .ok (.iadd, 1) := dk_96 (dk_at dksX4_next_1 9 rfl rfl)
theorem dX4_next_32 : decode cX4_next 32 = .ok (.putfield 144, 3) := dk_181 0 144 (dk_at dksX4_next_1 10 rfl rfl)
theorem dX4_next_35 : decode cX4_next 35 = .ok (.goto (-35), 3) := dk_167 255 221 (dk_at dksX4_next_1 13 rfl rfl)
theorem dX4_next_38 : decode cX4_next 38 = .ok (.aload_n 0, 1) := dk_42 (dk_at dksX4_next_1 16 rfl rfl)
theorem dX4_next_39 : decode cX4_next 39 = .ok (.aload_n 0, 1) := dk_42 (dk_at dksX4_next_1 17 rfl rfl)
theorem dX4_next_40 : decode cX4_next 40 = .ok (.getfield 144, 3) := dk_180 0 144 (dk_at dksX4_next_1 18 rfl rfl)
theorem dX4_next_43 : decode cX4_next 43 = .ok (.putfield 147, 3) := dk_181 0 147 (dk_at dksX4_next_1 21 rfl rfl)
theorem dX4_next_46 : decode cX4_next 46 = .ok (.aload_n 0, 1) := dk_42 (dk_at dksX4_next_2 0 rfl rfl)
theorem dX4_next_47 : decode cX4_next 47 = .ok (.aload_n 0, 1) := dk_42 (dk_at dksX4_next_2 1 rfl rfl)
theorem dX4_next_48 : decode cX4_next 48 = .ok (.aload_n 0, 1) := dk_42 (dk_at dksX4_next_2 2 rfl rfl)
theorem dX4_next_49 : decode cX4_next 49 = .ok (.getfield 144, 3) := dk_180 0 144 (dk_at dksX4_next_2 3 rfl rfl)
theorem dX4_next_52 : decode cX4_next 52 = .ok (.invokevirtual 150, 3) := dk_182 0 150 (dk_at dksX4_next_2 6 rfl rfl)
theorem dX4_next_55 : decode cX4_next 55 = .ok (.putfield 153, 3) := dk_181 0 153 (dk_at dksX4_next_2 9 rfl rfl)
theorem dX4_next_58 : decode cX4_next 58 = .ok (.aload_n 0, 1) := dk_42 (dk_at dksX4_next_2 12 rfl rfl)
theorem dX4_next_59 : decode cX4_next 59 = .ok (.getfield 153, 3) := dk_180 0 153 (dk_at dksX4_next_2 13 rfl rfl)
theorem dX4_next_62 : decode cX4_next 62 = .ok (.ifCond .le 49, 3) := dk_158 0 49 (dk_at dksX4_next_2 16 rfl rfl)
theorem dX4_next_65 : decode cX4_next 65 = .ok (.aload_n 0, 1) := dk_42 (dk_at dksX4_next_2 19 rfl rfl)
theorem dX4_next_66 : decode cX4_next 66 = .ok (.dup, 1) := dk_89 (dk_at dksX4_next_2 20 rfl rfl)
theorem dX4_next_67 : decode cX4_next 67 = .ok (.getfield 144, 3) := dk_180 0 144 (dk_at dksX4_next_2 21 rfl rfl)
theorem dX4_next_70 : decode cX4_next 70 = .ok (.iconst 1, 1) := dk_4 (dk_at dksX4_next_3 0 rfl rfl)
theorem dX4_next_71 : decode cX4_next 71 = .ok (.iadd, 1) := dk_96 (dk_at dksX4_next_3 1 rfl rfl)
theorem dX4_next_72 : decode cX4_next 72 = .ok (.putfield 144, 3) := dk_181 0 144 (dk_at dksX4_next_3 2 rfl rfl)
theorem dX4_next_75 : decode cX4_next 75 = .ok (.aload_n 0, 1) := dk_42 (dk_at dksX4_next_3 5 rfl rfl)
theorem dX4_next_76 : decode cX4_next 76 = .ok (.getfield 153, 3) := dk_180 0 153 (dk_at dksX4_next_3 6 rfl rfl)
theorem dX4_next_79 : decode cX4_next 79 = .ok (.iconst 3, 1) := dk_6 (dk_at dksX4_next_3 9 rfl rfl)
theorem dX4_next_80 : decode cX4_next 80 = .ok (.if_icmp .ge 31, 3) := dk_162 0 31 (dk_at dksX4_next_3 10 rfl rfl)
theorem dX4_next_83 : decode cX4_next 83 = .ok (.aload_n 0, 1) := dk_42 (dk_at dksX4_next_3 13 rfl rfl)
theorem dX4_next_84 : decode cX4_next 84 = .ok (.aload_n 0, 1) := dk_42 (dk_at dksX4_next_3 14 rfl rfl)
theorem dX4_next_85 : decode cX4_next 85 = .ok (.getfield 144, 3) := dk_180 0 144 (dk_at dksX4_next_3 15 rfl rfl)
theorem dX4_next_88 : decode cX4_next 88 = .ok (.invokevirtual 150, 3) := dk_182 0 150 (dk_at dksX4_next_3 18 rfl rfl)
theorem dX4_next_91 : decode cX4_next 91 = .ok (.aload_n 0, 1) := dk_42 (dk_at dksX4_next_3 21 rfl rfl)
theorem dX4_next_92 : decode cX4_next 92 = .ok (.getfield 153, 3) := dk_180 0 153 (dk_at dksX4_next_4 0 rfl rfl)
theorem dX4_next_95 : decode cX4_next 95 = .ok (.if_icmp .ne 16, 3) := dk_160 0 16 (dk_at dksX4_next_4 3 rfl rfl)
theorem dX4_next_98 : decode cX4_next 98 = .ok (.aload_n 0, 1) := dk_42 (dk_at dksX4_next_4 6 rfl rfl)
theorem dX4_next_99 : decode cX4_next 99 = .ok (.dup, 1) := dk_89 (dk_at dksX4_next_4 7 rfl rfl)
theorem dX4_next_100 : decode cX4_next 100 = .ok (.getfield 144, 3) := dk_180 0 144 (dk_at dksX4_next_4 8 rfl rfl)
theorem dX4_next_103 : decode cX4_next 103 = .ok (.iconst 1, 1) := dk_4 (dk_at dksX4_next_4 11 rfl rfl)
theorem dX4_next_104 : decode cX4_next 104 = .ok (.iadd, 1) := dk_96 (dk_at dksX4_next_4 12 rfl rfl)
theorem dX4_next_105 : decode cX4_next 105 = .ok (.putfield 144, 3) := dk_181 0 144 (dk_at dksX4_next_4 13 rfl rfl)
theorem dX4_next_108 : decode cX4_next 108 = .ok (.goto (-33), 3) := dk_167 255 223 (dk_at dksX4_next_4 16 rfl rfl)
theorem dX4_next_111 : decode cX4_next 111 = .ok (.return_, 1) := dk_177 (dk_at dksX4_next_4 19 rfl rfl)
abbrev cX4_sortAt : ByteArray := prog_16_method_29_code
def yX4_sortAt : MethodName := ⟨RX4, "sortAt", "(I)I"⟩
def dkwX4_sortAt_3 : List UInt8 := [6, 167, 0, 4, 7, 172]
abbrev dktX4_sortAt_3 : List UInt8 := dkwX4_sortAt_3 ++ []
def dkwX4_sortAt_2 : List UInt8 := [20, 0, 142, 184, 0, 76, 153, 0, 7, 5, 167, 0, 19, 42, 180, 0, 26, 27, 46, 16, 59, 160, 0, 7]
abbrev dktX4_sortAt_2 : List UInt8 := dkwX4_sortAt_2 ++ dktX4_sortAt_3
def dkwX4_sortAt_1 : List UInt8 := [20, 0, 138, 184, 0, 76, 153, 0, 7, 4, 167, 0, 42, 42, 180, 0, 26, 27, 46, 133, 20, 0, 140]
abbrev dktX4_sortAt_1 : List UInt8 := dkwX4_sortAt_1 ++ dktX4_sortAt_2
def dkwX4_sortAt_0 : List UInt8 := [27, 42, 180, 0, 132, 161, 0, 7, 3, 167, 0, 65, 42, 180, 0, 26, 27, 46, 133, 20, 0, 136]
abbrev dktX4_sortAt_0 : List UInt8 := dkwX4_sortAt_0 ++ dktX4_sortAt_1
theorem dksX4_sortAt_0 : cX4_sortAt.data.toList.drop 0 = dktX4_sortAt_0 := by decide +kernel
theorem dksX4_sortAt_1 : cX4_sortAt.data.toList.drop 22 = dktX4_sortAt_1 := dk_seg dksX4_sortAt_0 22 rfl rfl
theorem dksX4_sortAt_2 : cX4_sortAt.data.toList.drop 45 = dktX4_sortAt_2 := dk_seg dksX4_sortAt_1 23 rfl rfl
theorem dksX4_sortAt_3 : cX4_sortAt.data.toList.drop 69 = dktX4_sortAt_3 := dk_seg dksX4_sortAt_2 24 rfl rfl
theorem dX4_sortAt_0 : decode cX4_sortAt 0 = .ok (.iload_n 1, 1) := dk_27 (dk_at dksX4_sortAt_0 0 rfl rfl)
theorem dX4_sortAt_1 : decode cX4_sortAt 1 = .ok (.aload_n 0, 1) := dk_42 (dk_at dksX4_sortAt_0 1 rfl rfl)
theorem dX4_sortAt_2 : decode cX4_sortAt 2 = .ok (.getfield 132, 3) := dk_180 0 132 (dk_at dksX4_sortAt_0 2 rfl rfl)
theorem dX4_sortAt_5 : decode cX4_sortAt 5 = .ok (.if_icmp .lt 7, 3) := dk_161 0 7 (dk_at dksX4_sortAt_0 5 rfl rfl)
theorem dX4_sortAt_8 : decode cX4_sortAt 8 = .ok (.iconst 0, 1) := dk_3 (dk_at dksX4_sortAt_0 8 rfl rfl)
theorem dX4_sortAt_9 : decode cX4_sortAt 9 = .ok (.goto 65, 3) := dk_167 0 65 (dk_at dksX4_sortAt_0 9 rfl rfl)
theorem dX4_sortAt_12 : decode cX4_sortAt 12 = .ok (.aload_n 0, 1) := dk_42 (dk_at dksX4_sortAt_0 12 rfl rfl)
theorem dX4_sortAt_13 : decode cX4_sortAt 13 = .ok (.getfield 26, 3) := dk_180 0 26 (dk_at dksX4_sortAt_0 13 rfl rfl)
theorem dX4_sortAt_16 : decode cX4_sortAt 16 = .ok (.iload_n 1, 1) := dk_27 (dk_at dksX4_sortAt_0 16 rfl rfl)
theorem dX4_sortAt_17 : decode cX4_sortAt 17 = .ok (.iaload, 1) := dk_46 (dk_at dksX4_sortAt_0 17 rfl rfl)
theorem dX4_sortAt_18 : decode cX4_sortAt 18 = .ok (.i2l, 1) := dk_133 (dk_at dksX4_sortAt_0 18 rfl rfl)
theorem dX4_sortAt_19 : decode cX4_sortAt 19 = .ok (.ldc2_w 136, 3) := dk_20 0 136 (dk_at dksX4_sortAt_0 19 rfl rfl)
theorem dX4_sortAt_22 : decode cX4_sortAt 22 = .ok (.ldc2_w 138, 3) := dk_20 0 138 (dk_at dksX4_sortAt_1 0 rfl rfl)
theorem dX4_sortAt_25 : decode cX4_sortAt 25 = .ok (.invokestatic 76, 3) := dk_184 0 76 (dk_at dksX4_sortAt_1 3 rfl rfl)
theorem dX4_sortAt_28 : decode cX4_sortAt 28 = .ok (.ifCond .eq 7, 3) := dk_153 0 7 (dk_at dksX4_sortAt_1 6 rfl rfl)
theorem dX4_sortAt_31 : decode cX4_sortAt 31 = .ok (.iconst 1, 1) := dk_4 (dk_at dksX4_sortAt_1 9 rfl rfl)
theorem dX4_sortAt_32 : decode cX4_sortAt 32 = .ok (.goto 42, 3) := dk_167 0 42 (dk_at dksX4_sortAt_1 10 rfl rfl)
theorem dX4_sortAt_35 : decode cX4_sortAt 35 = .ok (.aload_n 0, 1) := dk_42 (dk_at dksX4_sortAt_1 13 rfl rfl)
theorem dX4_sortAt_36 : decode cX4_sortAt 36 = .ok (.getfield 26, 3) := dk_180 0 26 (dk_at dksX4_sortAt_1 14 rfl rfl)
theorem dX4_sortAt_39 : decode cX4_sortAt 39 = .ok (.iload_n 1, 1) := dk_27 (dk_at dksX4_sortAt_1 17 rfl rfl)
theorem dX4_sortAt_40 : decode cX4_sortAt 40 = .ok (.iaload, 1) := dk_46 (dk_at dksX4_sortAt_1 18 rfl rfl)
theorem dX4_sortAt_41 : decode cX4_sortAt 41 = .ok (.i2l, 1) := dk_133 (dk_at dksX4_sortAt_1 19 rfl rfl)
theorem dX4_sortAt_42 : decode cX4_sortAt 42 = .ok (.ldc2_w 140, 3) := dk_20 0 140 (dk_at dksX4_sortAt_1 20 rfl rfl)
theorem dX4_sortAt_45 : decode cX4_sortAt 45 = .ok (.ldc2_w 142, 3) := dk_20 0 142 (dk_at dksX4_sortAt_2 0 rfl rfl)
theorem dX4_sortAt_48 : decode cX4_sortAt 48 = .ok (.invokestatic 76, 3) := dk_184 0 76 (dk_at dksX4_sortAt_2 3 rfl rfl)
theorem dX4_sortAt_51 : decode cX4_sortAt 51 = .ok (.ifCond .eq 7, 3) := dk_153 0 7 (dk_at dksX4_sortAt_2 6 rfl rfl)
theorem dX4_sortAt_54 : decode cX4_sortAt 54 = .ok (.iconst 2, 1) := dk_5 (dk_at dksX4_sortAt_2 9 rfl rfl)
theorem dX4_sortAt_55 : decode cX4_sortAt 55 = .ok (.goto 19, 3) := dk_167 0 19 (dk_at dksX4_sortAt_2 10 rfl rfl)
theorem dX4_sortAt_58 : decode cX4_sortAt 58 = .ok (.aload_n 0, 1) := dk_42 (dk_at dksX4_sortAt_2 13 rfl rfl)
theorem dX4_sortAt_59 : decode cX4_sortAt 59 = .ok (.getfield 26, 3) := dk_180 0 26 (dk_at dksX4_sortAt_2 14 rfl rfl)
theorem dX4_sortAt_62 : decode cX4_sortAt 62 = .ok (.iload_n 1, 1) := dk_27 (dk_at dksX4_sortAt_2 17 rfl rfl)
theorem dX4_sortAt_63 : decode cX4_sortAt 63 = .ok (.iaload, 1) := dk_46 (dk_at dksX4_sortAt_2 18 rfl rfl)
theorem dX4_sortAt_64 : decode cX4_sortAt 64 = .ok (.bipush 59, 2) := dk_16 59 (dk_at dksX4_sortAt_2 19 rfl rfl)
theorem dX4_sortAt_66 : decode cX4_sortAt 66 = .ok (.if_icmp .ne 7, 3) := dk_160 0 7 (dk_at dksX4_sortAt_2 21 rfl rfl)
theorem dX4_sortAt_69 : decode cX4_sortAt 69 = .ok (.iconst 3, 1) := dk_6 (dk_at dksX4_sortAt_3 0 rfl rfl)
theorem dX4_sortAt_70 : decode cX4_sortAt 70 = .ok (.goto 4, 3) := dk_167 0 4 (dk_at dksX4_sortAt_3 1 rfl rfl)
theorem dX4_sortAt_73 : decode cX4_sortAt 73 = .ok (.iconst 4, 1) := dk_7 (dk_at dksX4_sortAt_3 4 rfl rfl)
theorem dX4_sortAt_74 : decode cX4_sortAt 74 = .ok (.ireturn, 1) := dk_172 (dk_at dksX4_sortAt_3 5 rfl rfl)
abbrev cX4_word : ByteArray := prog_16_method_31_code
def yX4_word : MethodName := ⟨RX4, "word", "()I"⟩
def dkwX4_word_5 : List UInt8 := [167, 0, 4, 27, 60, 132, 2, 1, 167, 255, 138, 27, 172]
abbrev dktX4_word_5 : List UInt8 := dkwX4_word_5 ++ []
def dkwX4_word_4 : List UInt8 := [21, 4, 96, 52, 160, 0, 7, 4, 167, 0, 4, 3, 62, 132, 4, 1, 167, 255, 191, 29, 153, 0, 7, 28]
abbrev dktX4_word_4 : List UInt8 := dkwX4_word_4 ++ dktX4_word_5
def dkwX4_word_3 : List UInt8 := [180, 0, 26, 42, 180, 0, 147, 21, 4, 96, 46, 167, 0, 4, 3, 42, 180, 0, 29, 16, 6, 28, 104]
abbrev dktX4_word_3 : List UInt8 := dkwX4_word_3 ++ dktX4_word_4
def dkwX4_word_2 : List UInt8 := [162, 0, 64, 29, 153, 0, 60, 42, 180, 0, 147, 21, 4, 96, 42, 180, 0, 144, 162, 0, 18, 42]
abbrev dktX4_word_2 : List UInt8 := dkwX4_word_2 ++ dktX4_word_3
def dkwX4_word_1 : List UInt8 := [180, 0, 147, 100, 16, 6, 163, 0, 7, 4, 167, 0, 4, 3, 62, 3, 54, 4, 21, 4, 16, 6]
abbrev dktX4_word_1 : List UInt8 := dkwX4_word_1 ++ dktX4_word_2
def dkwX4_word_0 : List UInt8 := [2, 60, 3, 61, 28, 16, 8, 162, 0, 118, 42, 180, 0, 153, 4, 160, 0, 21, 42, 180, 0, 144, 42]
abbrev dktX4_word_0 : List UInt8 := dkwX4_word_0 ++ dktX4_word_1
theorem dksX4_word_0 : cX4_word.data.toList.drop 0 = dktX4_word_0 := by decide +kernel
theorem dksX4_word_1 : cX4_word.data.toList.drop 23 = dktX4_word_1 := dk_seg dksX4_word_0 23 rfl rfl
theorem dksX4_word_2 : cX4_word.data.toList.drop 45 = dktX4_word_2 := dk_seg dksX4_word_1 22 rfl rfl
theorem dksX4_word_3 : cX4_word.data.toList.drop 67 = dktX4_word_3 := dk_seg dksX4_word_2 22 rfl rfl
theorem dksX4_word_4 : cX4_word.data.toList.drop 90 = dktX4_word_4 := dk_seg dksX4_word_3 23 rfl rfl
theorem dksX4_word_5 : cX4_word.data.toList.drop 114 = dktX4_word_5 := dk_seg dksX4_word_4 24 rfl rfl
theorem dX4_word_0 : decode cX4_word 0 = .ok (.iconst (-1), 1) := dk_2 (dk_at dksX4_word_0 0 rfl rfl)
theorem dX4_word_1 : decode cX4_word 1 = .ok (.istore_n 1, 1) := dk_60 (dk_at dksX4_word_0 1 rfl rfl)
theorem dX4_word_2 : decode cX4_word 2 = .ok (.iconst 0, 1) := dk_3 (dk_at dksX4_word_0 2 rfl rfl)
theorem dX4_word_3 : decode cX4_word 3 = .ok (.istore_n 2, 1) := dk_61 (dk_at dksX4_word_0 3 rfl rfl)
theorem dX4_word_4 : decode cX4_word 4 = .ok (.iload_n 2, 1) := dk_28 (dk_at dksX4_word_0 4 rfl rfl)
theorem dX4_word_5 : decode cX4_word 5 = .ok (.bipush 8, 2) := dk_16 8 (dk_at dksX4_word_0 5 rfl rfl)
theorem dX4_word_7 : decode cX4_word 7 = .ok (.if_icmp .ge 118, 3) := dk_162 0 118 (dk_at dksX4_word_0 7 rfl rfl)
theorem dX4_word_10 : decode cX4_word 10 = .ok (.aload_n 0, 1) := dk_42 (dk_at dksX4_word_0 10 rfl rfl)
theorem dX4_word_11 : decode cX4_word 11 = .ok (.getfield 153, 3) := dk_180 0 153 (dk_at dksX4_word_0 11 rfl rfl)
theorem dX4_word_14 : decode cX4_word 14 = .ok (.iconst 1, 1) := dk_4 (dk_at dksX4_word_0 14 rfl rfl)
theorem dX4_word_15 : decode cX4_word 15 = .ok (.if_icmp .ne 21, 3) := dk_160 0 21 (dk_at dksX4_word_0 15 rfl rfl)
theorem dX4_word_18 : decode cX4_word 18 = .ok (.aload_n 0, 1) := dk_42 (dk_at dksX4_word_0 18 rfl rfl)
theorem dX4_word_19 : decode cX4_word 19 = .ok (.getfield 144, 3) := dk_180 0 144 (dk_at dksX4_word_0 19 rfl rfl)
theorem dX4_word_22 : decode cX4_word 22 = .ok (.aload_n 0, 1) := dk_42 (dk_at dksX4_word_0 22 rfl rfl)
theorem dX4_word_23 : decode cX4_word 23 = .ok (.getfield 147, 3) := dk_180 0 147 (dk_at dksX4_word_1 0 rfl rfl)
theorem dX4_word_26 : decode cX4_word 26 = .ok (.isub, 1) := dk_100 (dk_at dksX4_word_1 3 rfl rfl)
theorem dX4_word_27 : decode cX4_word 27 = .ok (.bipush 6, 2) := dk_16 6 (dk_at dksX4_word_1 4 rfl rfl)
theorem dX4_word_29 : decode cX4_word 29 = .ok (.if_icmp .gt 7, 3) := dk_163 0 7 (dk_at dksX4_word_1 6 rfl rfl)
theorem dX4_word_32 : decode cX4_word 32 = .ok (.iconst 1, 1) := dk_4 (dk_at dksX4_word_1 9 rfl rfl)
theorem dX4_word_33 : decode cX4_word 33 = .ok (.goto 4, 3) := dk_167 0 4 (dk_at dksX4_word_1 10 rfl rfl)
theorem dX4_word_36 : decode cX4_word 36 = .ok (.iconst 0, 1) := dk_3 (dk_at dksX4_word_1 13 rfl rfl)
theorem dX4_word_37 : decode cX4_word 37 = .ok (.istore_n 3, 1) := dk_62 (dk_at dksX4_word_1 14 rfl rfl)
theorem dX4_word_38 : decode cX4_word 38 = .ok (.iconst 0, 1) := dk_3 (dk_at dksX4_word_1 15 rfl rfl)
theorem dX4_word_39 : decode cX4_word 39 = .ok (.istore 4, 2) := dk_54 4 (dk_at dksX4_word_1 16 rfl rfl)
theorem dX4_word_41 : decode cX4_word 41 = .ok (.iload 4, 2) := dk_21 4 (dk_at dksX4_word_1 18 rfl rfl)
theorem dX4_word_43 : decode cX4_word 43 = .ok (.bipush 6, 2) := dk_16 6 (dk_at dksX4_word_1 20 rfl rfl)
theorem dX4_word_45 : decode cX4_word 45 = .ok (.if_icmp .ge 64, 3) := dk_162 0 64 (dk_at dksX4_word_2 0 rfl rfl)
theorem dX4_word_48 : decode cX4_word 48 = .ok (.iload_n 3, 1) := dk_29 (dk_at dksX4_word_2 3 rfl rfl)
theorem dX4_word_49 : decode cX4_word 49 = .ok (.ifCond .eq 60, 3) := dk_153 0 60 (dk_at dksX4_word_2 4 rfl rfl)
theorem dX4_word_52 : decode cX4_word 52 = .ok (.aload_n 0, 1) := dk_42 (dk_at dksX4_word_2 7 rfl rfl)
theorem dX4_word_53 : decode cX4_word 53 = .ok (.getfield 147, 3) := dk_180 0 147 (dk_at dksX4_word_2 8 rfl rfl)
theorem dX4_word_56 : decode cX4_word 56 = .ok (.iload 4, 2) := dk_21 4 (dk_at dksX4_word_2 11 rfl rfl)
theorem dX4_word_58 : decode cX4_word 58 = .ok (.iadd, 1) := dk_96 (dk_at dksX4_word_2 13 rfl rfl)
theorem dX4_word_59 : decode cX4_word 59 = .ok (.aload_n 0, 1) := dk_42 (dk_at dksX4_word_2 14 rfl rfl)
theorem dX4_word_60 : decode cX4_word 60 = .ok (.getfield 144, 3) := dk_180 0 144 (dk_at dksX4_word_2 15 rfl rfl)
theorem dX4_word_63 : decode cX4_word 63 = .ok (.if_icmp .ge 18, 3) := dk_162 0 18 (dk_at dksX4_word_2 18 rfl rfl)
theorem dX4_word_66 : decode cX4_word 66 = .ok (.aload_n 0, 1) := dk_42 (dk_at dksX4_word_2 21 rfl rfl)
theorem dX4_word_67 : decode cX4_word 67 = .ok (.getfield 26, 3) := dk_180 0 26 (dk_at dksX4_word_3 0 rfl rfl)
theorem dX4_word_70 : decode cX4_word 70 = .ok (.aload_n 0, 1) := dk_42 (dk_at dksX4_word_3 3 rfl rfl)
theorem dX4_word_71 : decode cX4_word 71 = .ok (.getfield 147, 3) := dk_180 0 147 (dk_at dksX4_word_3 4 rfl rfl)
theorem dX4_word_74 : decode cX4_word 74 = .ok (.iload 4, 2) := dk_21 4 (dk_at dksX4_word_3 7 rfl rfl)
theorem dX4_word_76 : decode cX4_word 76 = .ok (.iadd, 1) := dk_96 (dk_at dksX4_word_3 9 rfl rfl)
theorem dX4_word_77 : decode cX4_word 77 = .ok (.iaload, 1) := dk_46 (dk_at dksX4_word_3 10 rfl rfl)
theorem dX4_word_78 : decode cX4_word 78 = .ok (.goto 4, 3) := dk_167 0 4 (dk_at dksX4_word_3 11 rfl rfl)
theorem dX4_word_81 : decode cX4_word 81 = .ok (.iconst 0, 1) := dk_3 (dk_at dksX4_word_3 14 rfl rfl)
theorem dX4_word_82 : decode cX4_word 82 = .ok (.aload_n 0, 1) := dk_42 (dk_at dksX4_word_3 15 rfl rfl)
theorem dX4_word_83 : decode cX4_word 83 = .ok (.getfield 29, 3) := dk_180 0 29 (dk_at dksX4_word_3 16 rfl rfl)
theorem dX4_word_86 : decode cX4_word 86 = .ok (.bipush 6, 2) := dk_16 6 (dk_at dksX4_word_3 19 rfl rfl)
theorem dX4_word_88 : decode cX4_word 88 = .ok (.iload_n 2, 1) := dk_28 (dk_at dksX4_word_3 21 rfl rfl)
theorem dX4_word_89 : decode cX4_word 89 = .ok (.imul, 1) := dk_104 (dk_at dksX4_word_3 22 rfl rfl)
theorem dX4_word_90 : decode cX4_word 90 = .ok (.iload 4, 2) := dk_21 4 (dk_at dksX4_word_4 0 rfl rfl)
theorem dX4_word_92 : decode cX4_word 92 = .ok (.iadd, 1) := dk_96 (dk_at dksX4_word_4 2 rfl rfl)
theorem dX4_word_93 : decode cX4_word 93 = .ok (.caload, 1) := dk_52 (dk_at dksX4_word_4 3 rfl rfl)
theorem dX4_word_94 : decode cX4_word 94 = .ok (.if_icmp .ne 7, 3) := dk_160 0 7 (dk_at dksX4_word_4 4 rfl rfl)
theorem dX4_word_97 : decode cX4_word 97 = .ok (.iconst 1, 1) := dk_4 (dk_at dksX4_word_4 7 rfl rfl)
theorem dX4_word_98 : decode cX4_word 98 = .ok (.goto 4, 3) := dk_167 0 4 (dk_at dksX4_word_4 8 rfl rfl)
theorem dX4_word_101 : decode cX4_word 101 = .ok (.iconst 0, 1) := dk_3 (dk_at dksX4_word_4 11 rfl rfl)
theorem dX4_word_102 : decode cX4_word 102 = .ok (.istore_n 3, 1) := dk_62 (dk_at dksX4_word_4 12 rfl rfl)
theorem dX4_word_103 : decode cX4_word 103 = .ok (.iinc 4 1, 3) := dk_132 4 1 (dk_at dksX4_word_4 13 rfl rfl)
theorem dX4_word_106 : decode cX4_word 106 = .ok (.goto (-65), 3) := dk_167 255 191 (dk_at dksX4_word_4 16 rfl rfl)
theorem dX4_word_109 : decode cX4_word 109 = .ok (.iload_n 3, 1) := dk_29 (dk_at dksX4_word_4 19 rfl rfl)
theorem dX4_word_110 : decode cX4_word 110 = .ok (.ifCond .eq 7, 3) := dk_153 0 7 (dk_at dksX4_word_4 20 rfl rfl)
theorem dX4_word_113 : decode cX4_word 113 = .ok (.iload_n 2, 1) := dk_28 (dk_at dksX4_word_4 23 rfl rfl)
theorem dX4_word_114 : decode cX4_word 114 = .ok (.goto 4, 3) := dk_167 0 4 (dk_at dksX4_word_5 0 rfl rfl)
theorem dX4_word_117 : decode cX4_word 117 = .ok (.iload_n 1, 1) := dk_27 (dk_at dksX4_word_5 3 rfl rfl)
theorem dX4_word_118 : decode cX4_word 118 = .ok (.istore_n 1, 1) := dk_60 (dk_at dksX4_word_5 4 rfl rfl)
theorem dX4_word_119 : decode cX4_word 119 = .ok (.iinc 2 1, 3) := dk_132 2 1 (dk_at dksX4_word_5 5 rfl rfl)
theorem dX4_word_122 : decode cX4_word 122 = .ok (.goto (-118), 3) := dk_167 255 138 (dk_at dksX4_word_5 8 rfl rfl)
theorem dX4_word_125 : decode cX4_word 125 = .ok (.iload_n 1, 1) := dk_27 (dk_at dksX4_word_5 11 rfl rfl)
theorem dX4_word_126 : decode cX4_word 126 = .ok (.ireturn, 1) := dk_172 (dk_at dksX4_word_5 12 rfl rfl)
abbrev cX4_isPersonStatement : ByteArray := prog_16_method_34_code
def yX4_isPersonStatement : MethodName := ⟨RX4, "isPersonStatement", "()Z"⟩
def dkwX4_isPersonStatement_3 : List UInt8 := [27, 28, 29, 21, 4, 182, 0, 116, 87, 4, 172]
abbrev dktX4_isPersonStatement_3 : List UInt8 := dkwX4_isPersonStatement_3 ++ []
def dkwX4_isPersonStatement_2 : List UInt8 := [153, 0, 7, 2, 167, 0, 9, 42, 3, 6, 182, 0, 159, 54, 4, 21, 4, 2, 160, 0, 5, 3, 172, 42]
abbrev dktX4_isPersonStatement_2 : List UInt8 := dkwX4_isPersonStatement_2 ++ dktX4_isPersonStatement_3
def dkwX4_isPersonStatement_1 : List UInt8 := [28, 2, 160, 0, 7, 2, 167, 0, 7, 42, 182, 0, 162, 62, 29, 2, 159, 0, 11, 42, 29, 182, 0, 95]
abbrev dktX4_isPersonStatement_1 : List UInt8 := dkwX4_isPersonStatement_1 ++ dktX4_isPersonStatement_2
def dkwX4_isPersonStatement_0 : List UInt8 := [42, 3, 8, 182, 0, 159, 60, 27, 2, 160, 0, 7, 2, 167, 0, 10, 42, 3, 16, 9, 182, 0, 159, 61]
abbrev dktX4_isPersonStatement_0 : List UInt8 := dkwX4_isPersonStatement_0 ++ dktX4_isPersonStatement_1
theorem dksX4_isPersonStatement_0 : cX4_isPersonStatement.data.toList.drop 0 = dktX4_isPersonStatement_0 := by decide +kernel
theorem dksX4_isPersonStatement_1 : cX4_isPersonStatement.data.toList.drop 24 = dktX4_isPersonStatement_1 := dk_seg dksX4_isPersonStatement_0 24 rfl rfl
theorem dksX4_isPersonStatement_2 : cX4_isPersonStatement.data.toList.drop 48 = dktX4_isPersonStatement_2 := dk_seg dksX4_isPersonStatement_1 24 rfl rfl
theorem dksX4_isPersonStatement_3 : cX4_isPersonStatement.data.toList.drop 72 = dktX4_isPersonStatement_3 := dk_seg dksX4_isPersonStatement_2 24 rfl rfl
theorem dX4_isPersonStatement_0 : decode cX4_isPersonStatement 0 = .ok (.aload_n 0, 1) := dk_42 (dk_at dksX4_isPersonStatement_0 0 rfl rfl)
theorem dX4_isPersonStatement_1 : decode cX4_isPersonStatement 1 = .ok (.iconst 0, 1) := dk_3 (dk_at dksX4_isPersonStatement_0 1 rfl rfl)
theorem dX4_isPersonStatement_2 : decode cX4_isPersonStatement 2 = .ok (.iconst 5, 1) := dk_8 (dk_at dksX4_isPersonStatement_0 2 rfl rfl)
theorem dX4_isPersonStatement_3 : decode cX4_isPersonStatement 3 = .ok (.invokevirtual 159, 3) := dk_182 0 159 (dk_at dksX4_isPersonStatement_0 3 rfl rfl)
theorem dX4_isPersonStatement_6 : decode cX4_isPersonStatement 6 = .ok (.istore_n 1, 1) := dk_60 (dk_at dksX4_isPersonStatement_0 6 rfl rfl)
theorem dX4_isPersonStatement_7 : decode cX4_isPersonStatement 7 = .ok (.iload_n 1, 1) := dk_27 (dk_at dksX4_isPersonStatement_0 7 rfl rfl)
theorem dX4_isPersonStatement_8 : decode cX4_isPersonStatement 8 = .ok (.iconst (-1), 1) := dk_2 (dk_at dksX4_isPersonStatement_0 8 rfl rfl)
theorem dX4_isPersonStatement_9 : decode cX4_isPersonStatement 9 = .ok (.if_icmp .ne 7, 3) := dk_160 0 7 (dk_at dksX4_isPersonStatement_0 9 rfl rfl)
theorem dX4_isPersonStatement_12 : decode cX4_isPersonStatement 12 = .ok (.iconst (-1), 1) := dk_2 (dk_at dksX4_isPersonStatement_0 12 rfl rfl)
theorem dX4_isPersonStatement_13 : decode cX4_isPersonStatement 13 = .ok (.goto 10, 3) := dk_167 0 10 (dk_at dksX4_isPersonStatement_0 13 rfl rfl)
theorem dX4_isPersonStatement_16 : decode cX4_isPersonStatement 16 = .ok (.aload_n 0, 1) := dk_42 (dk_at dksX4_isPersonStatement_0 16 rfl rfl)
theorem dX4_isPersonStatement_17 : decode cX4_isPersonStatement 17 = .ok (.iconst 0, 1) := dk_3 (dk_at dksX4_isPersonStatement_0 17 rfl rfl)
theorem dX4_isPersonStatement_18 : decode cX4_isPersonStatement 18 = .ok (.bipush 9, 2) := dk_16 9 (dk_at dksX4_isPersonStatement_0 18 rfl rfl)
theorem dX4_isPersonStatement_20 : decode cX4_isPersonStatement 20 = .ok (.invokevirtual 159, 3) := dk_182 0 159 (dk_at dksX4_isPersonStatement_0 20 rfl rfl)
theorem dX4_isPersonStatement_23 : decode cX4_isPersonStatement 23 = .ok (.istore_n 2, 1) := dk_61 (dk_at dksX4_isPersonStatement_0 23 rfl rfl)
theorem dX4_isPersonStatement_24 : decode cX4_isPersonStatement 24 = .ok (.iload_n 2, 1) := dk_28 (dk_at dksX4_isPersonStatement_1 0 rfl rfl)
theorem dX4_isPersonStatement_25 : decode cX4_isPersonStatement 25 = .ok (.iconst (-1), 1) := dk_2 (dk_at dksX4_isPersonStatement_1 1 rfl rfl)
theorem dX4_isPersonStatement_26 : decode cX4_isPersonStatement 26 = .ok (.if_icmp .ne 7, 3) := dk_160 0 7 (dk_at dksX4_isPersonStatement_1 2 rfl rfl)
theorem dX4_isPersonStatement_29 : decode cX4_isPersonStatement 29 = .ok (.iconst (-1), 1) := dk_2 (dk_at dksX4_isPersonStatement_1 5 rfl rfl)
theorem dX4_isPersonStatement_30 : decode cX4_isPersonStatement 30 = .ok (.goto 7, 3) := dk_167 0 7 (dk_at dksX4_isPersonStatement_1 6 rfl rfl)
theorem dX4_isPersonStatement_33 : decode cX4_isPersonStatement 33 = .ok (.aload_n 0, 1) := dk_42 (dk_at dksX4_isPersonStatement_1 9 rfl rfl)
theorem dX4_isPersonStatement_34 : decode cX4_isPersonStatement 34 = .ok (.invokevirtual 162, 3) := dk_182 0 162 (dk_at dksX4_isPersonStatement_1 10 rfl rfl)
theorem dX4_isPersonStatement_37 : decode cX4_isPersonStatement 37 = .ok (.istore_n 3, 1) := dk_62 (dk_at dksX4_isPersonStatement_1 13 rfl rfl)
theorem dX4_isPersonStatement_38 : decode cX4_isPersonStatement 38 = .ok (.iload_n 3, 1) := dk_29 (dk_at dksX4_isPersonStatement_1 14 rfl rfl)
theorem dX4_isPersonStatement_39 : decode cX4_isPersonStatement 39 = .ok (.iconst (-1), 1) := dk_2 (dk_at dksX4_isPersonStatement_1 15 rfl rfl)
theorem dX4_isPersonStatement_40 : decode cX4_isPersonStatement 40 = .ok (.if_icmp .eq 11, 3) := dk_159 0 11 (dk_at dksX4_isPersonStatement_1 16 rfl rfl)
theorem dX4_isPersonStatement_43 : decode cX4_isPersonStatement 43 = .ok (.aload_n 0, 1) := dk_42 (dk_at dksX4_isPersonStatement_1 19 rfl rfl)
theorem dX4_isPersonStatement_44 : decode cX4_isPersonStatement 44 = .ok (.iload_n 3, 1) := dk_29 (dk_at dksX4_isPersonStatement_1 20 rfl rfl)
theorem dX4_isPersonStatement_45 : decode cX4_isPersonStatement 45 = .ok (.invokevirtual 95, 3) := dk_182 0 95 (dk_at dksX4_isPersonStatement_1 21 rfl rfl)
theorem dX4_isPersonStatement_48 : decode cX4_isPersonStatement 48 = .ok (.ifCond .eq 7, 3) := dk_153 0 7 (dk_at dksX4_isPersonStatement_2 0 rfl rfl)
theorem dX4_isPersonStatement_51 : decode cX4_isPersonStatement 51 = .ok (.iconst (-1), 1) := dk_2 (dk_at dksX4_isPersonStatement_2 3 rfl rfl)
theorem dX4_isPersonStatement_52 : decode cX4_isPersonStatement 52 = .ok (.goto 9, 3) := dk_167 0 9 (dk_at dksX4_isPersonStatement_2 4 rfl rfl)
theorem dX4_isPersonStatement_55 : decode cX4_isPersonStatement 55 = .ok (.aload_n 0, 1) := dk_42 (dk_at dksX4_isPersonStatement_2 7 rfl rfl)
theorem dX4_isPersonStatement_56 : decode cX4_isPersonStatement 56 = .ok (.iconst 0, 1) := dk_3 (dk_at dksX4_isPersonStatement_2 8 rfl rfl)
theorem dX4_isPersonStatement_57 : decode cX4_isPersonStatement 57 = .ok (.iconst 3, 1) := dk_6 (dk_at dksX4_isPersonStatement_2 9 rfl rfl)
theorem dX4_isPersonStatement_58 : decode cX4_isPersonStatement 58 = .ok (.invokevirtual 159, 3) := dk_182 0 159 (dk_at dksX4_isPersonStatement_2 10 rfl rfl)
theorem dX4_isPersonStatement_61 : decode cX4_isPersonStatement 61 = .ok (.istore 4, 2) := dk_54 4 (dk_at dksX4_isPersonStatement_2 13 rfl rfl)
theorem dX4_isPersonStatement_63 : decode cX4_isPersonStatement 63 = .ok (.iload 4, 2) := dk_21 4 (dk_at dksX4_isPersonStatement_2 15 rfl rfl)
theorem dX4_isPersonStatement_65 : decode cX4_isPersonStatement 65 = .ok (.iconst (-1), 1) := dk_2 (dk_at dksX4_isPersonStatement_2 17 rfl rfl)
theorem dX4_isPersonStatement_66 : decode cX4_isPersonStatement 66 = .ok (.if_icmp .ne 5, 3) := dk_160 0 5 (dk_at dksX4_isPersonStatement_2 18 rfl rfl)
theorem dX4_isPersonStatement_69 : decode cX4_isPersonStatement 69 = .ok (.iconst 0, 1) := dk_3 (dk_at dksX4_isPersonStatement_2 21 rfl rfl)
theorem dX4_isPersonStatement_70 : decode cX4_isPersonStatement 70 = .ok (.ireturn, 1) := dk_172 (dk_at dksX4_isPersonStatement_2 22 rfl rfl)
theorem dX4_isPersonStatement_71 : decode cX4_isPersonStatement 71 = .ok (.aload_n 0, 1) := dk_42 (dk_at dksX4_isPersonStatement_2 23 rfl rfl)
theorem dX4_isPersonStatement_72 : decode cX4_isPersonStatement 72 = .ok (.iload_n 1, 1) := dk_27 (dk_at dksX4_isPersonStatement_3 0 rfl rfl)
theorem dX4_isPersonStatement_73 : decode cX4_isPersonStatement 73 = .ok (.iload_n 2, 1) := dk_28 (dk_at dksX4_isPersonStatement_3 1 rfl rfl)
theorem dX4_isPersonStatement_74 : decode cX4_isPersonStatement 74 = .ok (.iload_n 3, 1) := dk_29 (dk_at dksX4_isPersonStatement_3 2 rfl rfl)
theorem dX4_isPersonStatement_75 : decode cX4_isPersonStatement 75 = .ok (.iload 4, 2) := dk_21 4 (dk_at dksX4_isPersonStatement_3 3 rfl rfl)
theorem dX4_isPersonStatement_77 : decode cX4_isPersonStatement 77 = .ok (.invokevirtual 116, 3) := dk_182 0 116 (dk_at dksX4_isPersonStatement_3 5 rfl rfl)
theorem dX4_isPersonStatement_80 : decode cX4_isPersonStatement 80 = .ok (.pop, 1) := dk_87 (dk_at dksX4_isPersonStatement_3 8 rfl rfl)
theorem dX4_isPersonStatement_81 : decode cX4_isPersonStatement 81 = .ok (.iconst 1, 1) := dk_4 (dk_at dksX4_isPersonStatement_3 9 rfl rfl)
theorem dX4_isPersonStatement_82 : decode cX4_isPersonStatement 82 = .ok (.ireturn, 1) := dk_172 (dk_at dksX4_isPersonStatement_3 10 rfl rfl)
abbrev cX4_number : ByteArray := prog_16_method_32_code
def yX4_number : MethodName := ⟨RX4, "number", "(II)I"⟩
def dkwX4_number_3 : List UInt8 := [28, 133, 184, 0, 76, 153, 0, 7, 29, 167, 0, 4, 2, 172]
abbrev dktX4_number_3 : List UInt8 := dkwX4_number_3 ++ []
def dkwX4_number_2 : List UInt8 := [29, 104, 42, 180, 0, 26, 21, 4, 46, 96, 16, 48, 100, 62, 132, 4, 1, 167, 255, 228, 29, 133, 27, 133]
abbrev dktX4_number_2 : List UInt8 := dkwX4_number_2 ++ dktX4_number_3
def dkwX4_number_1 : List UInt8 := [164, 0, 5, 2, 172, 3, 62, 42, 180, 0, 147, 54, 4, 21, 4, 42, 180, 0, 144, 162, 0, 25, 16, 10]
abbrev dktX4_number_1 : List UInt8 := dkwX4_number_1 ++ dktX4_number_2
def dkwX4_number_0 : List UInt8 := [42, 182, 0, 156, 42, 180, 0, 153, 5, 160, 0, 16, 42, 180, 0, 144, 42, 180, 0, 147, 100, 5]
abbrev dktX4_number_0 : List UInt8 := dkwX4_number_0 ++ dktX4_number_1
theorem dksX4_number_0 : cX4_number.data.toList.drop 0 = dktX4_number_0 := by decide +kernel
theorem dksX4_number_1 : cX4_number.data.toList.drop 22 = dktX4_number_1 := dk_seg dksX4_number_0 22 rfl rfl
theorem dksX4_number_2 : cX4_number.data.toList.drop 46 = dktX4_number_2 := dk_seg dksX4_number_1 24 rfl rfl
theorem dksX4_number_3 : cX4_number.data.toList.drop 70 = dktX4_number_3 := dk_seg dksX4_number_2 24 rfl rfl
theorem dX4_number_0 : decode cX4_number 0 = .ok (.aload_n 0, 1) := dk_42 (dk_at dksX4_number_0 0 rfl rfl)
theorem dX4_number_1 : decode cX4_number 1 = .ok (.invokevirtual 156, 3) := dk_182 0 156 (dk_at dksX4_number_0 1 rfl rfl)
theorem dX4_number_4 : decode cX4_number 4 = .ok (.aload_n 0, 1) := dk_42 (dk_at dksX4_number_0 4 rfl rfl)
theorem dX4_number_5 : decode cX4_number 5 = .ok (.getfield 153, 3) := dk_180 0 153 (dk_at dksX4_number_0 5 rfl rfl)
theorem dX4_number_8 : decode cX4_number 8 = .ok (.iconst 2, 1) := dk_5 (dk_at dksX4_number_0 8 rfl rfl)
theorem dX4_number_9 : decode cX4_number 9 = .ok (.if_icmp .ne 16, 3) := dk_160 0 16 (dk_at dksX4_number_0 9 rfl rfl)
theorem dX4_number_12 : decode cX4_number 12 = .ok (.aload_n 0, 1) := dk_42 (dk_at dksX4_number_0 12 rfl rfl)
theorem dX4_number_13 : decode cX4_number 13 = .ok (.getfield 144, 3) := dk_180 0 144 (dk_at dksX4_number_0 13 rfl rfl)
theorem dX4_number_16 : decode cX4_number 16 = .ok (.aload_n 0, 1) := dk_42 (dk_at dksX4_number_0 16 rfl rfl)
theorem dX4_number_17 : decode cX4_number 17 = .ok (.getfield 147, 3) := dk_180 0 147 (dk_at dksX4_number_0 17 rfl rfl)
theorem dX4_number_20 : decode cX4_number 20 = .ok (.isub, 1) := dk_100 (dk_at dksX4_number_0 20 rfl rfl)
theorem dX4_number_21 : decode cX4_number 21 = .ok (.iconst 2, 1) := dk_5 (dk_at dksX4_number_0 21 rfl rfl)
theorem dX4_number_22 : decode cX4_number 22 = .ok (.if_icmp .le 5, 3) := dk_164 0 5 (dk_at dksX4_number_1 0 rfl rfl)
theorem dX4_number_25 : decode cX4_number 25 = .ok (.iconst (-1), 1) := dk_2 (dk_at dksX4_number_1 3 rfl rfl)
theorem dX4_number_26 : decode cX4_number 26 = .ok (.ireturn, 1) := dk_172 (dk_at dksX4_number_1 4 rfl rfl)
theorem dX4_number_27 : decode cX4_number 27 = .ok (.iconst 0, 1) := dk_3 (dk_at dksX4_number_1 5 rfl rfl)
theorem dX4_number_28 : decode cX4_number 28 = .ok (.istore_n 3, 1) := dk_62 (dk_at dksX4_number_1 6 rfl rfl)
theorem dX4_number_29 : decode cX4_number 29 = .ok (.aload_n 0, 1) := dk_42 (dk_at dksX4_number_1 7 rfl rfl)
theorem dX4_number_30 : decode cX4_number 30 = .ok (.getfield 147, 3) := dk_180 0 147 (dk_at dksX4_number_1 8 rfl rfl)
theorem dX4_number_33 : decode cX4_number 33 = .ok (.istore 4, 2) := dk_54 4 (dk_at dksX4_number_1 11 rfl rfl)
theorem dX4_number_35 : decode cX4_number 35 = .ok (.iload 4, 2) := dk_21 4 (dk_at dksX4_number_1 13 rfl rfl)
theorem dX4_number_37 : decode cX4_number 37 = .ok (.aload_n 0, 1) := dk_42 (dk_at dksX4_number_1 15 rfl rfl)
theorem dX4_number_38 : decode cX4_number 38 = .ok (.getfield 144, 3) := dk_180 0 144 (dk_at dksX4_number_1 16 rfl rfl)
theorem dX4_number_41 : decode cX4_number 41 = .ok (.if_icmp .ge 25, 3) := dk_162 0 25 (dk_at dksX4_number_1 19 rfl rfl)
theorem dX4_number_44 : decode cX4_number 44 = .ok (.bipush 10, 2) := dk_16 10 (dk_at dksX4_number_1 22 rfl rfl)
theorem dX4_number_46 : decode cX4_number 46 = .ok (.iload_n 3, 1) := dk_29 (dk_at dksX4_number_2 0 rfl rfl)
theorem dX4_number_47 : decode cX4_number 47 = .ok (.imul, 1) := dk_104 (dk_at dksX4_number_2 1 rfl rfl)
theorem dX4_number_48 : decode cX4_number 48 = .ok (.aload_n 0, 1) := dk_42 (dk_at dksX4_number_2 2 rfl rfl)
theorem dX4_number_49 : decode cX4_number 49 = .ok (.getfield 26, 3) := dk_180 0 26 (dk_at dksX4_number_2 3 rfl rfl)
theorem dX4_number_52 : decode cX4_number 52 = .ok (.iload 4, 2) := dk_21 4 (dk_at dksX4_number_2 6 rfl rfl)
theorem dX4_number_54 : decode cX4_number 54 = .ok (.iaload, 1) := dk_46 (dk_at dksX4_number_2 8 rfl rfl)
theorem dX4_number_55 : decode cX4_number 55 = .ok (.iadd, 1) := dk_96 (dk_at dksX4_number_2 9 rfl rfl)
theorem dX4_number_56 : decode cX4_number 56 = .ok (.bipush 48, 2) := dk_16 48 (dk_at dksX4_number_2 10 rfl rfl)
theorem dX4_number_58 : decode cX4_number 58 = .ok (.isub, 1) := dk_100 (dk_at dksX4_number_2 12 rfl rfl)
theorem dX4_number_59 : decode cX4_number 59 = .ok (.istore_n 3, 1) := dk_62 (dk_at dksX4_number_2 13 rfl rfl)
theorem dX4_number_60 : decode cX4_number 60 = .ok (.iinc 4 1, 3) := dk_132 4 1 (dk_at dksX4_number_2 14 rfl rfl)
theorem dX4_number_63 : decode cX4_number 63 = .ok (.goto (-28), 3) := dk_167 255 228 (dk_at dksX4_number_2 17 rfl rfl)
theorem dX4_number_66 : decode cX4_number 66 = .ok (.iload_n 3, 1) := dk_29 (dk_at dksX4_number_2 20 rfl rfl)
theorem dX4_number_67 : decode cX4_number 67 = .ok (.i2l, 1) := dk_133 (dk_at dksX4_number_2 21 rfl rfl)
theorem dX4_number_68 : decode cX4_number 68 = .ok (.iload_n 1, 1) := dk_27 (dk_at dksX4_number_2 22 rfl rfl)
theorem dX4_number_69 : decode cX4_number 69 = .ok (.i2l, 1) := dk_133 (dk_at dksX4_number_2 23 rfl rfl)
theorem dX4_number_70 : decode cX4_number 70 = .ok (.iload_n 2, 1) := dk_28 (dk_at dksX4_number_3 0 rfl rfl)
theorem dX4_number_71 : decode cX4_number 71 = .ok (.i2l, 1) := dk_133 (dk_at dksX4_number_3 1 rfl rfl)
theorem dX4_number_72 : decode cX4_number 72 = .ok (.invokestatic 76, 3) := dk_184 0 76 (dk_at dksX4_number_3 2 rfl rfl)
theorem dX4_number_75 : decode cX4_number 75 = .ok (.ifCond .eq 7, 3) := dk_153 0 7 (dk_at dksX4_number_3 5 rfl rfl)
theorem dX4_number_78 : decode cX4_number 78 = .ok (.iload_n 3, 1) := dk_29 (dk_at dksX4_number_3 8 rfl rfl)
theorem dX4_number_79 : decode cX4_number 79 = .ok (.goto 4, 3) := dk_167 0 4 (dk_at dksX4_number_3 9 rfl rfl)
theorem dX4_number_82 : decode cX4_number 82 = .ok (.iconst (-1), 1) := dk_2 (dk_at dksX4_number_3 12 rfl rfl)
theorem dX4_number_83 : decode cX4_number 83 = .ok (.ireturn, 1) := dk_172 (dk_at dksX4_number_3 13 rfl rfl)
abbrev cX4_cellNumber : ByteArray := prog_16_method_33_code
def yX4_cellNumber : MethodName := ⟨RX4, "cellNumber", "()I"⟩
def dkwX4_cellNumber_1 : List UInt8 := [167, 0, 4, 27, 172]
abbrev dktX4_cellNumber_1 : List UInt8 := dkwX4_cellNumber_1 ++ []
def dkwX4_cellNumber_0 : List UInt8 := [42, 3, 16, 99, 182, 0, 159, 60, 27, 2, 159, 0, 11, 42, 27, 182, 0, 104, 154, 0, 7, 2]
abbrev dktX4_cellNumber_0 : List UInt8 := dkwX4_cellNumber_0 ++ dktX4_cellNumber_1
theorem dksX4_cellNumber_0 : cX4_cellNumber.data.toList.drop 0 = dktX4_cellNumber_0 := by decide +kernel
theorem dksX4_cellNumber_1 : cX4_cellNumber.data.toList.drop 22 = dktX4_cellNumber_1 := dk_seg dksX4_cellNumber_0 22 rfl rfl
theorem dX4_cellNumber_0 : decode cX4_cellNumber 0 = .ok (.aload_n 0, 1) := dk_42 (dk_at dksX4_cellNumber_0 0 rfl rfl)
theorem dX4_cellNumber_1 : decode cX4_cellNumber 1 = .ok (.iconst 0, 1) := dk_3 (dk_at dksX4_cellNumber_0 1 rfl rfl)
theorem dX4_cellNumber_2 : decode cX4_cellNumber 2 = .ok (.bipush 99, 2) := dk_16 99 (dk_at dksX4_cellNumber_0 2 rfl rfl)
theorem dX4_cellNumber_4 : decode cX4_cellNumber 4 = .ok (.invokevirtual 159, 3) := dk_182 0 159 (dk_at dksX4_cellNumber_0 4 rfl rfl)
theorem dX4_cellNumber_7 : decode cX4_cellNumber 7 = .ok (.istore_n 1, 1) := dk_60 (dk_at dksX4_cellNumber_0 7 rfl rfl)
theorem dX4_cellNumber_8 : decode cX4_cellNumber 8 = .ok (.iload_n 1, 1) := dk_27 (dk_at dksX4_cellNumber_0 8 rfl rfl)
theorem dX4_cellNumber_9 : decode cX4_cellNumber 9 = .ok (.iconst (-1), 1) := dk_2 (dk_at dksX4_cellNumber_0 9 rfl rfl)
theorem dX4_cellNumber_10 : decode cX4_cellNumber 10 = .ok (.if_icmp .eq 11, 3) := dk_159 0 11 (dk_at dksX4_cellNumber_0 10 rfl rfl)
theorem dX4_cellNumber_13 : decode cX4_cellNumber 13 = .ok (.aload_n 0, 1) := dk_42 (dk_at dksX4_cellNumber_0 13 rfl rfl)
theorem dX4_cellNumber_14 : decode cX4_cellNumber 14 = .ok (.iload_n 1, 1) := dk_27 (dk_at dksX4_cellNumber_0 14 rfl rfl)
theorem dX4_cellNumber_15 : decode cX4_cellNumber 15 = .ok (.invokevirtual 104, 3) := dk_182 0 104 (dk_at dksX4_cellNumber_0 15 rfl rfl)
theorem dX4_cellNumber_18 : decode cX4_cellNumber 18 = .ok (.ifCond .ne 7, 3) := dk_154 0 7 (dk_at dksX4_cellNumber_0 18 rfl rfl)
theorem dX4_cellNumber_21 : decode cX4_cellNumber 21 = .ok (.iconst (-1), 1) := dk_2 (dk_at dksX4_cellNumber_0 21 rfl rfl)
theorem dX4_cellNumber_22 : decode cX4_cellNumber 22 = .ok (.goto 4, 3) := dk_167 0 4 (dk_at dksX4_cellNumber_1 0 rfl rfl)
theorem dX4_cellNumber_25 : decode cX4_cellNumber 25 = .ok (.iload_n 1, 1) := dk_27 (dk_at dksX4_cellNumber_1 3 rfl rfl)
theorem dX4_cellNumber_26 : decode cX4_cellNumber 26 = .ok (.ireturn, 1) := dk_172 (dk_at dksX4_cellNumber_1 4 rfl rfl)
abbrev cX4_row : ByteArray := prog_16_method_42_code
def yX4_row : MethodName := ⟨RX4, "row", "(III)I"⟩
def dkwX4_row_3 : List UInt8 := [21, 4, 96, 9, 80, 132, 4, 1, 167, 255, 233, 4, 172]
abbrev dktX4_row_3 : List UInt8 := dkwX4_row_3 ++ []
def dkwX4_row_2 : List UInt8 := [180, 0, 57, 27, 29, 79, 3, 54, 4, 21, 4, 16, 40, 162, 0, 22, 42, 180, 0, 60, 16, 40, 27, 104]
abbrev dktX4_row_2 : List UInt8 := dkwX4_row_2 ++ dktX4_row_3
def dkwX4_row_1 : List UInt8 := [20, 0, 208, 184, 0, 76, 154, 0, 10, 42, 16, 254, 182, 0, 101, 172, 42, 180, 0, 54, 27, 28, 79, 42]
abbrev dktX4_row_1 : List UInt8 := dkwX4_row_1 ++ dktX4_row_2
def dkwX4_row_0 : List UInt8 := [27, 184, 0, 203, 153, 0, 27, 28, 133, 9, 20, 0, 206, 184, 0, 76, 153, 0, 15, 29, 133, 9]
abbrev dktX4_row_0 : List UInt8 := dkwX4_row_0 ++ dktX4_row_1
theorem dksX4_row_0 : cX4_row.data.toList.drop 0 = dktX4_row_0 := by decide +kernel
theorem dksX4_row_1 : cX4_row.data.toList.drop 22 = dktX4_row_1 := dk_seg dksX4_row_0 22 rfl rfl
theorem dksX4_row_2 : cX4_row.data.toList.drop 46 = dktX4_row_2 := dk_seg dksX4_row_1 24 rfl rfl
theorem dksX4_row_3 : cX4_row.data.toList.drop 70 = dktX4_row_3 := dk_seg dksX4_row_2 24 rfl rfl
theorem dX4_row_0 : decode cX4_row 0 = .ok (.iload_n 1, 1) := dk_27 (dk_at dksX4_row_0 0 rfl rfl)
theorem dX4_row_1 : decode cX4_row 1 = .ok (.invokestatic 203, 3) := dk_184 0 203 (dk_at dksX4_row_0 1 rfl rfl)
theorem dX4_row_4 : decode cX4_row 4 = .ok (.ifCond .eq 27, 3) := dk_153 0 27 (dk_at dksX4_row_0 4 rfl rfl)
theorem dX4_row_7 : decode cX4_row 7 = .ok (.iload_n 2, 1) := dk_28 (dk_at dksX4_row_0 7 rfl rfl)
theorem dX4_row_8 : decode cX4_row 8 = .ok (.i2l, 1) := dk_133 (dk_at dksX4_row_0 8 rfl rfl)
theorem dX4_row_9 : decode cX4_row 9 = .ok (.lconst 0, 1) := dk_9 (dk_at dksX4_row_0 9 rfl rfl)
theorem dX4_row_10 : decode cX4_row 10 = .ok (.ldc2_w 206, 3) := dk_20 0 206 (dk_at dksX4_row_0 10 rfl rfl)
theorem dX4_row_13 : decode cX4_row 13 = .ok (.invokestatic 76, 3) := dk_184 0 76 (dk_at dksX4_row_0 13 rfl rfl)
theorem dX4_row_16 : decode cX4_row 16 = .ok (.ifCond .eq 15, 3) := dk_153 0 15 (dk_at dksX4_row_0 16 rfl rfl)
theorem dX4_row_19 : decode cX4_row 19 = .ok (.iload_n 3, 1) := dk_29 (dk_at dksX4_row_0 19 rfl rfl)
theorem dX4_row_20 : decode cX4_row 20 = .ok (.i2l, 1) := dk_133 (dk_at dksX4_row_0 20 rfl rfl)
theorem dX4_row_21 : decode cX4_row 21 = .ok (.lconst 0, 1) := dk_9 (dk_at dksX4_row_0 21 rfl rfl)
theorem dX4_row_22 : decode cX4_row 22 = .ok (.ldc2_w 208, 3) := dk_20 0 208 (dk_at dksX4_row_1 0 rfl rfl)
theorem dX4_row_25 : decode cX4_row 25 = .ok (.invokestatic 76, 3) := dk_184 0 76 (dk_at dksX4_row_1 3 rfl rfl)
theorem dX4_row_28 : decode cX4_row 28 = .ok (.ifCond .ne 10, 3) := dk_154 0 10 (dk_at dksX4_row_1 6 rfl rfl)
theorem dX4_row_31 : decode cX4_row 31 = .ok (.aload_n 0, 1) := dk_42 (dk_at dksX4_row_1 9 rfl rfl)
theorem dX4_row_32 : decode cX4_row 32 = .ok (.bipush (-2), 2) := dk_16 254 (dk_at dksX4_row_1 10 rfl rfl)
theorem dX4_row_34 : decode cX4_row 34 = .ok (.invokevirtual 101, 3) := dk_182 0 101 (dk_at dksX4_row_1 12 rfl rfl)
theorem dX4_row_37 : decode cX4_row 37 = .ok (.ireturn, 1) := dk_172 (dk_at dksX4_row_1 15 rfl rfl)
theorem dX4_row_38 : decode cX4_row 38 = .ok (.aload_n 0, 1) := dk_42 (dk_at dksX4_row_1 16 rfl rfl)
theorem dX4_row_39 : decode cX4_row 39 = .ok (.getfield 54, 3) := dk_180 0 54 (dk_at dksX4_row_1 17 rfl rfl)
theorem dX4_row_42 : decode cX4_row 42 = .ok (.iload_n 1, 1) := dk_27 (dk_at dksX4_row_1 20 rfl rfl)
theorem dX4_row_43 : decode cX4_row 43 = .ok (.iload_n 2, 1) := dk_28 (dk_at dksX4_row_1 21 rfl rfl)
theorem dX4_row_44 : decode cX4_row 44 = .ok (.iastore, 1) := dk_79 (dk_at dksX4_row_1 22 rfl rfl)
theorem dX4_row_45 : decode cX4_row 45 = .ok (.aload_n 0, 1) := dk_42 (dk_at dksX4_row_1 23 rfl rfl)
theorem dX4_row_46 : decode cX4_row 46 = .ok (.getfield 57, 3) := dk_180 0 57 (dk_at dksX4_row_2 0 rfl rfl)
theorem dX4_row_49 : decode cX4_row 49 = .ok (.iload_n 1, 1) := dk_27 (dk_at dksX4_row_2 3 rfl rfl)
theorem dX4_row_50 : decode cX4_row 50 = .ok (.iload_n 3, 1) := dk_29 (dk_at dksX4_row_2 4 rfl rfl)
theorem dX4_row_51 : decode cX4_row 51 = .ok (.iastore, 1) := dk_79 (dk_at dksX4_row_2 5 rfl rfl)
theorem dX4_row_52 : decode cX4_row 52 = .ok (.iconst 0, 1) := dk_3 (dk_at dksX4_row_2 6 rfl rfl)
theorem dX4_row_53 : decode cX4_row 53 = .ok (.istore 4, 2) := dk_54 4 (dk_at dksX4_row_2 7 rfl rfl)
theorem dX4_row_55 : decode cX4_row 55 = .ok (.iload 4, 2) := dk_21 4 (dk_at dksX4_row_2 9 rfl rfl)
theorem dX4_row_57 : decode cX4_row 57 = .ok (.bipush 40, 2) := dk_16 40 (dk_at dksX4_row_2 11 rfl rfl)
theorem dX4_row_59 : decode cX4_row 59 = .ok (.if_icmp .ge 22, 3) := dk_162 0 22 (dk_at dksX4_row_2 13 rfl rfl)
theorem dX4_row_62 : decode cX4_row 62 = .ok (.aload_n 0, 1) := dk_42 (dk_at dksX4_row_2 16 rfl rfl)
theorem dX4_row_63 : decode cX4_row 63 = .ok (.getfield 60, 3) := dk_180 0 60 (dk_at dksX4_row_2 17 rfl rfl)
theorem dX4_row_66 : decode cX4_row 66 = .ok (.bipush 40, 2) := dk_16 40 (dk_at dksX4_row_2 20 rfl rfl)
theorem dX4_row_68 : decode cX4_row 68 = .ok (.iload_n 1, 1) := dk_27 (dk_at dksX4_row_2 22 rfl rfl)
theorem dX4_row_69 : decode cX4_row 69 = .ok (.imul, 1) := dk_104 (dk_at dksX4_row_2 23 rfl rfl)
theorem dX4_row_70 : decode cX4_row 70 = .ok (.iload 4, 2) := dk_21 4 (dk_at dksX4_row_3 0 rfl rfl)
theorem dX4_row_72 : decode cX4_row 72 = .ok (.iadd, 1) := dk_96 (dk_at dksX4_row_3 2 rfl rfl)
theorem dX4_row_73 : decode cX4_row 73 = .ok (.lconst 0, 1) := dk_9 (dk_at dksX4_row_3 3 rfl rfl)
theorem dX4_row_74 : decode cX4_row 74 = .ok (.lastore, 1) := dk_80 (dk_at dksX4_row_3 4 rfl rfl)
theorem dX4_row_75 : decode cX4_row 75 = .ok (.iinc 4 1, 3) := dk_132 4 1 (dk_at dksX4_row_3 5 rfl rfl)
theorem dX4_row_78 : decode cX4_row 78 = .ok (.goto (-23), 3) := dk_167 255 233 (dk_at dksX4_row_3 8 rfl rfl)
theorem dX4_row_81 : decode cX4_row 81 = .ok (.iconst 1, 1) := dk_4 (dk_at dksX4_row_3 11 rfl rfl)
theorem dX4_row_82 : decode cX4_row 82 = .ok (.ireturn, 1) := dk_172 (dk_at dksX4_row_3 12 rfl rfl)
abbrev cX4_isShelf : ByteArray := prog_16_method_41_code
def yX4_isShelf : MethodName := ⟨RX4, "isShelf", "(I)Z"⟩
def dkwX4_isShelf_0 : List UInt8 := [26, 133, 9, 20, 0, 99, 184, 0, 76, 172]
abbrev dktX4_isShelf_0 : List UInt8 := dkwX4_isShelf_0 ++ []
theorem dksX4_isShelf_0 : cX4_isShelf.data.toList.drop 0 = dktX4_isShelf_0 := by decide +kernel
theorem dX4_isShelf_0 : decode cX4_isShelf 0 = .ok (.iload_n 0, 1) := dk_26 (dk_at dksX4_isShelf_0 0 rfl rfl)
theorem dX4_isShelf_1 : decode cX4_isShelf 1 = .ok (.i2l, 1) := dk_133 (dk_at dksX4_isShelf_0 1 rfl rfl)
theorem dX4_isShelf_2 : decode cX4_isShelf 2 = .ok (.lconst 0, 1) := dk_9 (dk_at dksX4_isShelf_0 2 rfl rfl)
theorem dX4_isShelf_3 : decode cX4_isShelf 3 = .ok (.ldc2_w 99, 3) := dk_20 0 99 (dk_at dksX4_isShelf_0 3 rfl rfl)
theorem dX4_isShelf_6 : decode cX4_isShelf 6 = .ok (.invokestatic 76, 3) := dk_184 0 76 (dk_at dksX4_isShelf_0 6 rfl rfl)
theorem dX4_isShelf_9 : decode cX4_isShelf 9 = .ok (.ireturn, 1) := dk_172 (dk_at dksX4_isShelf_0 9 rfl rfl)
abbrev cX4_set : ByteArray := prog_16_method_44_code
def yX4_set : MethodName := ⟨RX4, "set", "(IIJ)I"⟩
def dkwX4_set_5 : List UInt8 := [167, 0, 14, 33, 9, 148, 153, 0, 7, 10, 167, 0, 4, 9, 80, 4, 172]
abbrev dktX4_set_5 : List UInt8 := dkwX4_set_5 ++ []
def dkwX4_set_4 : List UInt8 := [147, 133, 167, 0, 36, 21, 5, 5, 160, 0, 9, 33, 136, 133, 167, 0, 24, 21, 5, 6, 160, 0, 7, 33]
abbrev dktX4_set_4 : List UInt8 := dkwX4_set_4 ++ dktX4_set_5
def dkwX4_set_3 : List UInt8 := [27, 104, 28, 96, 21, 5, 154, 0, 10, 33, 136, 145, 133, 167, 0, 49, 21, 5, 4, 160, 0, 10, 33, 136]
abbrev dktX4_set_3 : List UInt8 := dkwX4_set_3 ++ dktX4_set_4
def dkwX4_set_2 : List UInt8 := [154, 0, 10, 42, 16, 254, 182, 0, 101, 172, 42, 180, 0, 54, 27, 46, 54, 5, 42, 180, 0, 60, 16, 40]
abbrev dktX4_set_2 : List UInt8 := dkwX4_set_2 ++ dktX4_set_3
def dkwX4_set_1 : List UInt8 := [27, 182, 0, 210, 182, 0, 101, 172, 28, 133, 9, 42, 180, 0, 57, 27, 46, 4, 100, 133, 184, 0, 76]
abbrev dktX4_set_1 : List UInt8 := dkwX4_set_1 ++ dktX4_set_2
def dkwX4_set_0 : List UInt8 := [27, 184, 0, 203, 154, 0, 10, 42, 16, 254, 182, 0, 101, 172, 42, 27, 182, 0, 210, 156, 0, 13, 42, 42]
abbrev dktX4_set_0 : List UInt8 := dkwX4_set_0 ++ dktX4_set_1
theorem dksX4_set_0 : cX4_set.data.toList.drop 0 = dktX4_set_0 := by decide +kernel
theorem dksX4_set_1 : cX4_set.data.toList.drop 24 = dktX4_set_1 := dk_seg dksX4_set_0 24 rfl rfl
theorem dksX4_set_2 : cX4_set.data.toList.drop 47 = dktX4_set_2 := dk_seg dksX4_set_1 23 rfl rfl
theorem dksX4_set_3 : cX4_set.data.toList.drop 71 = dktX4_set_3 := dk_seg dksX4_set_2 24 rfl rfl
theorem dksX4_set_4 : cX4_set.data.toList.drop 95 = dktX4_set_4 := dk_seg dksX4_set_3 24 rfl rfl
theorem dksX4_set_5 : cX4_set.data.toList.drop 119 = dktX4_set_5 := dk_seg dksX4_set_4 24 rfl rfl
theorem dX4_set_0 : decode cX4_set 0 = .ok (.iload_n 1, 1) := dk_27 (dk_at dksX4_set_0 0 rfl rfl)
theorem dX4_set_1 : decode cX4_set 1 = .ok (.invokestatic 203, 3) := dk_184 0 203 (dk_at dksX4_set_0 1 rfl rfl)
theorem dX4_set_4 : decode cX4_set 4 = .ok (.ifCond .ne 10, 3) := dk_154 0 10 (dk_at dksX4_set_0 4 rfl rfl)
theorem dX4_set_7 : decode cX4_set 7 = .ok (.aload_n 0, 1) := dk_42 (dk_at dksX4_set_0 7 rfl rfl)
theorem dX4_set_8 : decode cX4_set 8 = .ok (.bipush (-2), 2) := dk_16 254 (dk_at dksX4_set_0 8 rfl rfl)
theorem dX4_set_10 : decode cX4_set 10 = .ok (.invokevirtual 101, 3) := dk_182 0 101 (dk_at dksX4_set_0 10 rfl rfl)
theorem dX4_set_13 : decode cX4_set 13 = .ok (.ireturn, 1) := dk_172 (dk_at dksX4_set_0 13 rfl rfl)
theorem dX4_set_14 : decode cX4_set 14 = .ok (.aload_n 0, 1) := dk_42 (dk_at dksX4_set_0 14 rfl rfl)
theorem dX4_set_15 : decode cX4_set 15 = .ok (.iload_n 1, 1) := dk_27 (dk_at dksX4_set_0 15 rfl rfl)
theorem dX4_set_16 : decode cX4_set 16 = .ok (.invokevirtual 210, 3) := dk_182 0 210 (dk_at dksX4_set_0 16 rfl rfl)
theorem dX4_set_19 : decode cX4_set 19 = .ok (.ifCond .ge 13, 3) := dk_156 0 13 (dk_at dksX4_set_0 19 rfl rfl)
theorem dX4_set_22 : decode cX4_set 22 = .ok (.aload_n 0, 1) := dk_42 (dk_at dksX4_set_0 22 rfl rfl)
theorem dX4_set_23 : decode cX4_set 23 = .ok (.aload_n 0, 1) := dk_42 (dk_at dksX4_set_0 23 rfl rfl)
theorem dX4_set_24 : decode cX4_set 24 = .ok (.iload_n 1, 1) := dk_27 (dk_at dksX4_set_1 0 rfl rfl)
theorem dX4_set_25 : decode cX4_set 25 = .ok (.invokevirtual 210, 3) := dk_182 0 210 (dk_at dksX4_set_1 1 rfl rfl)
theorem dX4_set_28 : decode cX4_set 28 = .ok (.invokevirtual 101, 3) := dk_182 0 101 (dk_at dksX4_set_1 4 rfl rfl)
theorem dX4_set_31 : decode cX4_set 31 = .ok (.ireturn, 1) := dk_172 (dk_at dksX4_set_1 7 rfl rfl)
theorem dX4_set_32 : decode cX4_set 32 = .ok (.iload_n 2, 1) := dk_28 (dk_at dksX4_set_1 8 rfl rfl)
theorem dX4_set_33 : decode cX4_set 33 = .ok (.i2l, 1) := dk_133 (dk_at dksX4_set_1 9 rfl rfl)
theorem dX4_set_34 : decode cX4_set 34 = .ok (.lconst 0, 1) := dk_9 (dk_at dksX4_set_1 10 rfl rfl)
theorem dX4_set_35 : decode cX4_set 35 = .ok (.aload_n 0, 1) := dk_42 (dk_at dksX4_set_1 11 rfl rfl)
theorem dX4_set_36 : decode cX4_set 36 = .ok (.getfield 57, 3) := dk_180 0 57 (dk_at dksX4_set_1 12 rfl rfl)
theorem dX4_set_39 : decode cX4_set 39 = .ok (.iload_n 1, 1) := dk_27 (dk_at dksX4_set_1 15 rfl rfl)
theorem dX4_set_40 : decode cX4_set 40 = .ok (.iaload, 1) := dk_46 (dk_at dksX4_set_1 16 rfl rfl)
theorem dX4_set_41 : decode cX4_set 41 = .ok (.iconst 1, 1) := dk_4 (dk_at dksX4_set_1 17 rfl rfl)
theorem dX4_set_42 : decode cX4_set 42 = .ok (.isub, 1) := dk_100 (dk_at dksX4_set_1 18 rfl rfl)
theorem dX4_set_43 : decode cX4_set 43 = .ok (.i2l, 1) := dk_133 (dk_at dksX4_set_1 19 rfl rfl)
theorem dX4_set_44 : decode cX4_set 44 = .ok (.invokestatic 76, 3) := dk_184 0 76 (dk_at dksX4_set_1 20 rfl rfl)
theorem dX4_set_47 : decode cX4_set 47 = .ok (.ifCond .ne 10, 3) := dk_154 0 10 (dk_at dksX4_set_2 0 rfl rfl)
theorem dX4_set_50 : decode cX4_set 50 = .ok (.aload_n 0, 1) := dk_42 (dk_at dksX4_set_2 3 rfl rfl)
theorem dX4_set_51 : decode cX4_set 51 = .ok (.bipush (-2), 2) := dk_16 254 (dk_at dksX4_set_2 4 rfl rfl)
theorem dX4_set_53 : decode cX4_set 53 = .ok (.invokevirtual 101, 3) := dk_182 0 101 (dk_at dksX4_set_2 6 rfl rfl)
theorem dX4_set_56 : decode cX4_set 56 = .ok (.ireturn, 1) := dk_172 (dk_at dksX4_set_2 9 rfl rfl)
theorem dX4_set_57 : decode cX4_set 57 = .ok (.aload_n 0, 1) := dk_42 (dk_at dksX4_set_2 10 rfl rfl)
theorem dX4_set_58 : decode cX4_set 58 = .ok (.getfield 54, 3) := dk_180 0 54 (dk_at dksX4_set_2 11 rfl rfl)
theorem dX4_set_61 : decode cX4_set 61 = .ok (.iload_n 1, 1) := dk_27 (dk_at dksX4_set_2 14 rfl rfl)
theorem dX4_set_62 : decode cX4_set 62 = .ok (.iaload, 1) := dk_46 (dk_at dksX4_set_2 15 rfl rfl)
theorem dX4_set_63 : decode cX4_set 63 = .ok (.istore 5, 2) := dk_54 5 (dk_at dksX4_set_2 16 rfl rfl)
theorem dX4_set_65 : decode cX4_set 65 = .ok (.aload_n 0, 1) := dk_42 (dk_at dksX4_set_2 18 rfl rfl)
theorem dX4_set_66 : decode cX4_set 66 = .ok (.getfield 60, 3) := dk_180 0 60 (dk_at dksX4_set_2 19 rfl rfl)
theorem dX4_set_69 : decode cX4_set 69 = .ok (.bipush 40, 2) := dk_16 40 (dk_at dksX4_set_2 22 rfl rfl)
theorem dX4_set_71 : decode cX4_set 71 = .ok (.iload_n 1, 1) := dk_27 (dk_at dksX4_set_3 0 rfl rfl)
theorem dX4_set_72 : decode cX4_set 72 = .ok (.imul, 1) := dk_104 (dk_at dksX4_set_3 1 rfl rfl)
theorem dX4_set_73 : decode cX4_set 73 = .ok (.iload_n 2, 1) := dk_28 (dk_at dksX4_set_3 2 rfl rfl)
theorem dX4_set_74 : decode cX4_set 74 = .ok (.iadd, 1) := dk_96 (dk_at dksX4_set_3 3 rfl rfl)
theorem dX4_set_75 : decode cX4_set 75 = .ok (.iload 5, 2) := dk_21 5 (dk_at dksX4_set_3 4 rfl rfl)
theorem dX4_set_77 : decode cX4_set 77 = .ok (.ifCond .ne 10, 3) := dk_154 0 10 (dk_at dksX4_set_3 6 rfl rfl)
theorem dX4_set_80 : decode cX4_set 80 = .ok (.lload_n 3, 1) := dk_33 (dk_at dksX4_set_3 9 rfl rfl)
theorem dX4_set_81 : decode cX4_set 81 = .ok (.l2i, 1) := dk_136 (dk_at dksX4_set_3 10 rfl rfl)
theorem dX4_set_82 : decode cX4_set 82 = .ok (.i2b, 1) := dk_145 (dk_at dksX4_set_3 11 rfl rfl)
theorem dX4_set_83 : decode cX4_set 83 = .ok (.i2l, 1) := dk_133 (dk_at dksX4_set_3 12 rfl rfl)
theorem dX4_set_84 : decode cX4_set 84 = .ok (.goto 49, 3) := dk_167 0 49 (dk_at dksX4_set_3 13 rfl rfl)
theorem dX4_set_87 : decode cX4_set 87 = .ok (.iload 5, 2) := dk_21 5 (dk_at dksX4_set_3 16 rfl rfl)
theorem dX4_set_89 : decode cX4_set 89 = .ok (.iconst 1, 1) := dk_4 (dk_at dksX4_set_3 18 rfl rfl)
theorem dX4_set_90 : decode cX4_set 90 = .ok (.if_icmp .ne 10, 3) := dk_160 0 10 (dk_at dksX4_set_3 19 rfl rfl)
theorem dX4_set_93 : decode cX4_set 93 = .ok (.lload_n 3, 1) := dk_33 (dk_at dksX4_set_3 22 rfl rfl)
theorem dX4_set_94 : decode cX4_set 94 = .ok (.l2i, 1) := dk_136 (dk_at dksX4_set_3 23 rfl rfl)
theorem dX4_set_95 : decode cX4_set 95 = .ok (.i2s, 1) := dk_147 (dk_at dksX4_set_4 0 rfl rfl)
theorem dX4_set_96 : decode cX4_set 96 = .ok (.i2l, 1) := dk_133 (dk_at dksX4_set_4 1 rfl rfl)
theorem dX4_set_97 : decode cX4_set 97 = .ok (.goto 36, 3) := dk_167 0 36 (dk_at dksX4_set_4 2 rfl rfl)
theorem dX4_set_100 : decode cX4_set 100 = .ok (.iload 5, 2) := dk_21 5 (dk_at dksX4_set_4 5 rfl rfl)
theorem dX4_set_102 : decode cX4_set 102 = .ok (.iconst 2, 1) := dk_5 (dk_at dksX4_set_4 7 rfl rfl)
theorem dX4_set_103 : decode cX4_set 103 = .ok (.if_icmp .ne 9, 3) := dk_160 0 9 (dk_at dksX4_set_4 8 rfl rfl)
theorem dX4_set_106 : decode cX4_set 106 = .ok (.lload_n 3, 1) := dk_33 (dk_at dksX4_set_4 11 rfl rfl)
theorem dX4_set_107 : decode cX4_set 107 = .ok (.l2i, 1) := dk_136 (dk_at dksX4_set_4 12 rfl rfl)
theorem dX4_set_108 : decode cX4_set 108 = .ok (.i2l, 1) := dk_133 (dk_at dksX4_set_4 13 rfl rfl)
theorem dX4_set_109 : decode cX4_set 109 = .ok (.goto 24, 3) := dk_167 0 24 (dk_at dksX4_set_4 14 rfl rfl)
theorem dX4_set_112 : decode cX4_set 112 = .ok (.iload 5, 2) := dk_21 5 (dk_at dksX4_set_4 17 rfl rfl)
theorem dX4_set_114 : decode cX4_set 114 = .ok (.iconst 3, 1) := dk_6 (dk_at dksX4_set_4 19 rfl rfl)
theorem dX4_set_115 : decode cX4_set 115 = .ok (.if_icmp .ne 7, 3) := dk_160 0 7 (dk_at dksX4_set_4 20 rfl rfl)
theorem dX4_set_118 : decode cX4_set 118 = .ok (.lload_n 3, 1) := dk_33 (dk_at dksX4_set_4 23 rfl rfl)
theorem dX4_set_119 : decode cX4_set 119 = .ok (.goto 14, 3) := dk_167 0 14 (dk_at dksX4_set_5 0 rfl rfl)
theorem dX4_set_122 : decode cX4_set 122 = .ok (.lload_n 3, 1) := dk_33 (dk_at dksX4_set_5 3 rfl rfl)
theorem dX4_set_123 : decode cX4_set 123 = .ok (.lconst 0, 1) := dk_9 (dk_at dksX4_set_5 4 rfl rfl)
theorem dX4_set_124 : decode cX4_set 124 = .ok (.lcmp, 1) := dk_148 (dk_at dksX4_set_5 5 rfl rfl)
theorem dX4_set_125 : decode cX4_set 125 = .ok (.ifCond .eq 7, 3) := dk_153 0 7 (dk_at dksX4_set_5 6 rfl rfl)
theorem dX4_set_128 : decode cX4_set 128 = .ok (.lconst 1, 1) := dk_10 (dk_at dksX4_set_5 9 rfl rfl)
theorem dX4_set_129 : decode cX4_set 129 = .ok (.goto 4, 3) := dk_167 0 4 (dk_at dksX4_set_5 10 rfl rfl)
theorem dX4_set_132 : decode cX4_set 132 = .ok (.lconst 0, 1) := dk_9 (dk_at dksX4_set_5 13 rfl rfl)
theorem dX4_set_133 : decode cX4_set 133 = .ok (.lastore, 1) := dk_80 (dk_at dksX4_set_5 14 rfl rfl)
theorem dX4_set_134 : decode cX4_set 134 = .ok (.iconst 1, 1) := dk_4 (dk_at dksX4_set_5 15 rfl rfl)
theorem dX4_set_135 : decode cX4_set 135 = .ok (.ireturn, 1) := dk_172 (dk_at dksX4_set_5 16 rfl rfl)
abbrev cX4_rowIn : ByteArray := prog_16_method_43_code
def yX4_rowIn : MethodName := ⟨RX4, "rowIn", "(I)I"⟩
def dkwX4_rowIn_1 : List UInt8 := [160, 0, 8, 16, 252, 167, 0, 4, 4, 172]
abbrev dktX4_rowIn_1 : List UInt8 := dkwX4_rowIn_1 ++ []
def dkwX4_rowIn_0 : List UInt8 := [42, 180, 0, 54, 27, 46, 16, 10, 161, 0, 8, 16, 253, 167, 0, 19, 42, 180, 0, 54, 27, 46, 2]
abbrev dktX4_rowIn_0 : List UInt8 := dkwX4_rowIn_0 ++ dktX4_rowIn_1
theorem dksX4_rowIn_0 : cX4_rowIn.data.toList.drop 0 = dktX4_rowIn_0 := by decide +kernel
theorem dksX4_rowIn_1 : cX4_rowIn.data.toList.drop 23 = dktX4_rowIn_1 := dk_seg dksX4_rowIn_0 23 rfl rfl
theorem dX4_rowIn_0 : decode cX4_rowIn 0 = .ok (.aload_n 0, 1) := dk_42 (dk_at dksX4_rowIn_0 0 rfl rfl)
theorem dX4_rowIn_1 : decode cX4_rowIn 1 = .ok (.getfield 54, 3) := dk_180 0 54 (dk_at dksX4_rowIn_0 1 rfl rfl)
theorem dX4_rowIn_4 : decode cX4_rowIn 4 = .ok (.iload_n 1, 1) := dk_27 (dk_at dksX4_rowIn_0 4 rfl rfl)
theorem dX4_rowIn_5 : decode cX4_rowIn 5 = .ok (.iaload, 1) := dk_46 (dk_at dksX4_rowIn_0 5 rfl rfl)
theorem dX4_rowIn_6 : decode cX4_rowIn 6 = .ok (.bipush 10, 2) := dk_16 10 (dk_at dksX4_rowIn_0 6 rfl rfl)
theorem dX4_rowIn_8 : decode cX4_rowIn 8 = .ok (.if_icmp .lt 8, 3) := dk_161 0 8 (dk_at dksX4_rowIn_0 8 rfl rfl)
theorem dX4_rowIn_11 : decode cX4_rowIn 11 = .ok (.bipush (-3), 2) := dk_16 253 (dk_at dksX4_rowIn_0 11 rfl rfl)
theorem dX4_rowIn_13 : decode cX4_rowIn 13 = .ok (.goto 19, 3) := dk_167 0 19 (dk_at dksX4_rowIn_0 13 rfl rfl)
theorem dX4_rowIn_16 : decode cX4_rowIn 16 = .ok (.aload_n 0, 1) := dk_42 (dk_at dksX4_rowIn_0 16 rfl rfl)
theorem dX4_rowIn_17 : decode cX4_rowIn 17 = .ok (.getfield 54, 3) := dk_180 0 54 (dk_at dksX4_rowIn_0 17 rfl rfl)
theorem dX4_rowIn_20 : decode cX4_rowIn 20 = .ok (.iload_n 1, 1) := dk_27 (dk_at dksX4_rowIn_0 20 rfl rfl)
theorem dX4_rowIn_21 : decode cX4_rowIn 21 = .ok (.iaload, 1) := dk_46 (dk_at dksX4_rowIn_0 21 rfl rfl)
theorem dX4_rowIn_22 : decode cX4_rowIn 22 = .ok (.iconst (-1), 1) := dk_2 (dk_at dksX4_rowIn_0 22 rfl rfl)
theorem dX4_rowIn_23 : decode cX4_rowIn 23 = .ok (.if_icmp .ne 8, 3) := dk_160 0 8 (dk_at dksX4_rowIn_1 0 rfl rfl)
theorem dX4_rowIn_26 : decode cX4_rowIn 26 = .ok (.bipush (-4), 2) := dk_16 252 (dk_at dksX4_rowIn_1 3 rfl rfl)
theorem dX4_rowIn_28 : decode cX4_rowIn 28 = .ok (.goto 4, 3) := dk_167 0 4 (dk_at dksX4_rowIn_1 5 rfl rfl)
theorem dX4_rowIn_31 : decode cX4_rowIn 31 = .ok (.iconst 1, 1) := dk_4 (dk_at dksX4_rowIn_1 8 rfl rfl)
theorem dX4_rowIn_32 : decode cX4_rowIn 32 = .ok (.ireturn, 1) := dk_172 (dk_at dksX4_rowIn_1 9 rfl rfl)
abbrev cX4_copy : ByteArray := prog_16_method_45_code
def yX4_copy : MethodName := ⟨RX4, "copy", "(IIIII)I"⟩
def dkwX4_copy_10 : List UInt8 := [172]
abbrev dktX4_copy_10 : List UInt8 := dkwX4_copy_10 ++ []
def dkwX4_copy_9 : List UInt8 := [28, 104, 21, 4, 96, 21, 7, 96, 42, 180, 0, 64, 21, 7, 47, 80, 132, 7, 1, 167, 255, 224, 21, 5]
abbrev dktX4_copy_9 : List UInt8 := dkwX4_copy_9 ++ dktX4_copy_10
def dkwX4_copy_8 : List UInt8 := [47, 80, 132, 7, 1, 167, 255, 225, 3, 54, 7, 21, 7, 21, 5, 162, 0, 31, 42, 180, 0, 60, 16, 40]
abbrev dktX4_copy_8 : List UInt8 := dkwX4_copy_8 ++ dktX4_copy_9
def dkwX4_copy_7 : List UInt8 := [21, 5, 162, 0, 30, 42, 180, 0, 64, 21, 7, 42, 180, 0, 60, 16, 40, 27, 104, 29, 96, 21, 7, 96]
abbrev dktX4_copy_7 : List UInt8 := dkwX4_copy_7 ++ dktX4_copy_8
def dkwX4_copy_6 : List UInt8 := [180, 0, 57, 28, 46, 21, 4, 100, 164, 0, 10, 42, 16, 254, 182, 0, 101, 172, 3, 54, 7, 21, 7]
abbrev dktX4_copy_6 : List UInt8 := dkwX4_copy_6 ++ dktX4_copy_7
def dkwX4_copy_5 : List UInt8 := [155, 0, 35, 21, 4, 155, 0, 30, 21, 5, 42, 180, 0, 57, 27, 46, 29, 100, 163, 0, 17, 21, 5, 42]
abbrev dktX4_copy_5 : List UInt8 := dkwX4_copy_5 ++ dktX4_copy_6
def dkwX4_copy_4 : List UInt8 := [182, 0, 101, 172, 21, 6, 154, 0, 10, 42, 16, 252, 182, 0, 101, 172, 21, 5, 155, 0, 39, 29]
abbrev dktX4_copy_4 : List UInt8 := dkwX4_copy_4 ++ dktX4_copy_5
def dkwX4_copy_3 : List UInt8 := [21, 6, 153, 0, 25, 42, 180, 0, 54, 27, 46, 42, 180, 0, 54, 28, 46, 159, 0, 10, 42, 16, 253]
abbrev dktX4_copy_3 : List UInt8 := dkwX4_copy_3 ++ dktX4_copy_4
def dkwX4_copy_2 : List UInt8 := [54, 6, 42, 180, 0, 54, 27, 46, 16, 10, 162, 0, 34, 42, 180, 0, 54, 28, 46, 16, 10, 162, 0, 23]
abbrev dktX4_copy_2 : List UInt8 := dkwX4_copy_2 ++ dktX4_copy_3
def dkwX4_copy_1 : List UInt8 := [180, 0, 54, 27, 46, 2, 159, 0, 17, 42, 180, 0, 54, 28, 46, 2, 159, 0, 7, 4, 167, 0, 4, 3]
abbrev dktX4_copy_1 : List UInt8 := dkwX4_copy_1 ++ dktX4_copy_2
def dkwX4_copy_0 : List UInt8 := [27, 184, 0, 203, 153, 0, 10, 28, 184, 0, 203, 154, 0, 10, 42, 16, 254, 182, 0, 101, 172, 42]
abbrev dktX4_copy_0 : List UInt8 := dkwX4_copy_0 ++ dktX4_copy_1
theorem dksX4_copy_0 : cX4_copy.data.toList.drop 0 = dktX4_copy_0 := by decide +kernel
theorem dksX4_copy_1 : cX4_copy.data.toList.drop 22 = dktX4_copy_1 := dk_seg dksX4_copy_0 22 rfl rfl
theorem dksX4_copy_2 : cX4_copy.data.toList.drop 46 = dktX4_copy_2 := dk_seg dksX4_copy_1 24 rfl rfl
theorem dksX4_copy_3 : cX4_copy.data.toList.drop 70 = dktX4_copy_3 := dk_seg dksX4_copy_2 24 rfl rfl
theorem dksX4_copy_4 : cX4_copy.data.toList.drop 93 = dktX4_copy_4 := dk_seg dksX4_copy_3 23 rfl rfl
theorem dksX4_copy_5 : cX4_copy.data.toList.drop 115 = dktX4_copy_5 := dk_seg dksX4_copy_4 22 rfl rfl
theorem dksX4_copy_6 : cX4_copy.data.toList.drop 139 = dktX4_copy_6 := dk_seg dksX4_copy_5 24 rfl rfl
theorem dksX4_copy_7 : cX4_copy.data.toList.drop 162 = dktX4_copy_7 := dk_seg dksX4_copy_6 23 rfl rfl
theorem dksX4_copy_8 : cX4_copy.data.toList.drop 186 = dktX4_copy_8 := dk_seg dksX4_copy_7 24 rfl rfl
theorem dksX4_copy_9 : cX4_copy.data.toList.drop 210 = dktX4_copy_9 := dk_seg dksX4_copy_8 24 rfl rfl
theorem dksX4_copy_10 : cX4_copy.data.toList.drop 234 = dktX4_copy_10 := dk_seg dksX4_copy_9 24 rfl rfl
theorem dX4_copy_0 : decode cX4_copy 0 = .ok (.iload_n 1, 1) := dk_27 (dk_at dksX4_copy_0 0 rfl rfl)
theorem dX4_copy_1 : decode cX4_copy 1 = .ok (.invokestatic 203, 3) := dk_184 0 203 (dk_at dksX4_copy_0 1 rfl rfl)
theorem dX4_copy_4 : decode cX4_copy 4 = .ok (.ifCond .eq 10, 3) := dk_153 0 10 (dk_at dksX4_copy_0 4 rfl rfl)
theorem dX4_copy_7 : decode cX4_copy 7 = .ok (.iload_n 2, 1) := dk_28 (dk_at dksX4_copy_0 7 rfl rfl)
theorem dX4_copy_8 : decode cX4_copy 8 = .ok (.invokestatic 203, 3) := dk_184 0 203 (dk_at dksX4_copy_0 8 rfl rfl)
theorem dX4_copy_11 : decode cX4_copy 11 = .ok (.ifCond .ne 10, 3) := dk_154 0 10 (dk_at dksX4_copy_0 11 rfl rfl)
theorem dX4_copy_14 : decode cX4_copy 14 = .ok (.aload_n 0, 1) := dk_42 (dk_at dksX4_copy_0 14 rfl rfl)
theorem dX4_copy_15 : decode cX4_copy 15 = .ok (.bipush (-2), 2) := dk_16 254 (dk_at dksX4_copy_0 15 rfl rfl)
theorem dX4_copy_17 : decode cX4_copy 17 = .ok (.invokevirtual 101, 3) := dk_182 0 101 (dk_at dksX4_copy_0 17 rfl rfl)
theorem dX4_copy_20 : decode cX4_copy 20 = .ok (.ireturn, 1) := dk_172 (dk_at dksX4_copy_0 20 rfl rfl)
theorem dX4_copy_21 : decode cX4_copy 21 = .ok (.aload_n 0, 1) := dk_42 (dk_at dksX4_copy_0 21 rfl rfl)
theorem dX4_copy_22 : decode cX4_copy 22 = .ok (.getfield 54, 3) := dk_180 0 54 (dk_at dksX4_copy_1 0 rfl rfl)
theorem dX4_copy_25 : decode cX4_copy 25 = .ok (.iload_n 1, 1) := dk_27 (dk_at dksX4_copy_1 3 rfl rfl)
theorem dX4_copy_26 : decode cX4_copy 26 = .ok (.iaload, 1) := dk_46 (dk_at dksX4_copy_1 4 rfl rfl)
theorem dX4_copy_27 : decode cX4_copy 27 = .ok (.iconst (-1), 1) := dk_2 (dk_at dksX4_copy_1 5 rfl rfl)
theorem dX4_copy_28 : decode cX4_copy 28 = .ok (.if_icmp .eq 17, 3) := dk_159 0 17 (dk_at dksX4_copy_1 6 rfl rfl)
theorem dX4_copy_31 : decode cX4_copy 31 = .ok (.aload_n 0, 1) := dk_42 (dk_at dksX4_copy_1 9 rfl rfl)
theorem dX4_copy_32 : decode cX4_copy 32 = .ok (.getfield 54, 3) := dk_180 0 54 (dk_at dksX4_copy_1 10 rfl rfl)
theorem dX4_copy_35 : decode cX4_copy 35 = .ok (.iload_n 2, 1) := dk_28 (dk_at dksX4_copy_1 13 rfl rfl)
theorem dX4_copy_36 : decode cX4_copy 36 = .ok (.iaload, 1) := dk_46 (dk_at dksX4_copy_1 14 rfl rfl)
theorem dX4_copy_37 : decode cX4_copy 37 = .ok (.iconst (-1), 1) := dk_2 (dk_at dksX4_copy_1 15 rfl rfl)
theorem dX4_copy_38 : decode cX4_copy 38 = .ok (.if_icmp .eq 7, 3) := dk_159 0 7 (dk_at dksX4_copy_1 16 rfl rfl)
theorem dX4_copy_41 : decode cX4_copy 41 = .ok (.iconst 1, 1) := dk_4 (dk_at dksX4_copy_1 19 rfl rfl)
theorem dX4_copy_42 : decode cX4_copy 42 = .ok (.goto 4, 3) := dk_167 0 4 (dk_at dksX4_copy_1 20 rfl rfl)
theorem dX4_copy_45 : decode cX4_copy 45 = .ok (.iconst 0, 1) := dk_3 (dk_at dksX4_copy_1 23 rfl rfl)
theorem dX4_copy_46 : decode cX4_copy 46 = .ok (.istore 6, 2) := dk_54 6 (dk_at dksX4_copy_2 0 rfl rfl)
theorem dX4_copy_48 : decode cX4_copy 48 = .ok (.aload_n 0, 1) := dk_42 (dk_at dksX4_copy_2 2 rfl rfl)
theorem dX4_copy_49 : decode cX4_copy 49 = .ok (.getfield 54, 3) := dk_180 0 54 (dk_at dksX4_copy_2 3 rfl rfl)
theorem dX4_copy_52 : decode cX4_copy 52 = .ok (.iload_n 1, 1) := dk_27 (dk_at dksX4_copy_2 6 rfl rfl)
theorem dX4_copy_53 : decode cX4_copy 53 = .ok (.iaload, 1) := dk_46 (dk_at dksX4_copy_2 7 rfl rfl)
theorem dX4_copy_54 : decode cX4_copy 54 = .ok (.bipush 10, 2) := dk_16 10 (dk_at dksX4_copy_2 8 rfl rfl)
theorem dX4_copy_56 : decode cX4_copy 56 = .ok (.if_icmp .ge 34, 3) := dk_162 0 34 (dk_at dksX4_copy_2 10 rfl rfl)
theorem dX4_copy_59 : decode cX4_copy 59 = .ok (.aload_n 0, 1) := dk_42 (dk_at dksX4_copy_2 13 rfl rfl)
theorem dX4_copy_60 : decode cX4_copy 60 = .ok (.getfield 54, 3) := dk_180 0 54 (dk_at dksX4_copy_2 14 rfl rfl)
theorem dX4_copy_63 : decode cX4_copy 63 = .ok (.iload_n 2, 1) := dk_28 (dk_at dksX4_copy_2 17 rfl rfl)
theorem dX4_copy_64 : decode cX4_copy 64 = .ok (.iaload, 1) := dk_46 (dk_at dksX4_copy_2 18 rfl rfl)
theorem dX4_copy_65 : decode cX4_copy 65 = .ok (.bipush 10, 2) := dk_16 10 (dk_at dksX4_copy_2 19 rfl rfl)
theorem dX4_copy_67 : decode cX4_copy 67 = .ok (.if_icmp .ge 23, 3) := dk_162 0 23 (dk_at dksX4_copy_2 21 rfl rfl)
theorem dX4_copy_70 : decode cX4_copy 70 = .ok (.iload 6, 2) := dk_21 6 (dk_at dksX4_copy_3 0 rfl rfl)
theorem dX4_copy_72 : decode cX4_copy 72 = .ok (.ifCond .eq 25, 3) := dk_153 0 25 (dk_at dksX4_copy_3 2 rfl rfl)
theorem dX4_copy_75 : decode cX4_copy 75 = .ok (.aload_n 0, 1) := dk_42 (dk_at dksX4_copy_3 5 rfl rfl)
theorem dX4_copy_76 : decode cX4_copy 76 = .ok (.getfield 54, 3) := dk_180 0 54 (dk_at dksX4_copy_3 6 rfl rfl)
theorem dX4_copy_79 : decode cX4_copy 79 = .ok (.iload_n 1, 1) := dk_27 (dk_at dksX4_copy_3 9 rfl rfl)
theorem dX4_copy_80 : decode cX4_copy 80 = .ok (.iaload, 1) := dk_46 (dk_at dksX4_copy_3 10 rfl rfl)
theorem dX4_copy_81 : decode cX4_copy 81 = .ok (.aload_n 0, 1) := dk_42 (dk_at dksX4_copy_3 11 rfl rfl)
theorem dX4_copy_82 : decode cX4_copy 82 = .ok (.getfield 54, 3) := dk_180 0 54 (dk_at dksX4_copy_3 12 rfl rfl)
theorem dX4_copy_85 : decode cX4_copy 85 = .ok (.iload_n 2, 1) := dk_28 (dk_at dksX4_copy_3 15 rfl rfl)
theorem dX4_copy_86 : decode cX4_copy 86 = .ok (.iaload, 1) := dk_46 (dk_at dksX4_copy_3 16 rfl rfl)
theorem dX4_copy_87 : decode cX4_copy 87 = .ok (.if_icmp .eq 10, 3) := dk_159 0 10 (dk_at dksX4_copy_3 17 rfl rfl)
theorem dX4_copy_90 : decode cX4_copy 90 = .ok (.aload_n 0, 1) := dk_42 (dk_at dksX4_copy_3 20 rfl rfl)
theorem dX4_copy_91 : decode cX4_copy 91 = .ok (.bipush (-3), 2) := dk_16 253 (dk_at dksX4_copy_3 21 rfl rfl)
theorem dX4_copy_93 : decode cX4_copy 93 = .ok (.invokevirtual 101, 3) := dk_182 0 101 (dk_at dksX4_copy_4 0 rfl rfl)
theorem dX4_copy_96 : decode cX4_copy 96 = .ok (.ireturn, 1) := dk_172 (dk_at dksX4_copy_4 3 rfl rfl)
theorem dX4_copy_97 : decode cX4_copy 97 = .ok (.iload 6, 2) := dk_21 6 (dk_at dksX4_copy_4 4 rfl rfl)
theorem dX4_copy_99 : decode cX4_copy 99 = .ok (.ifCond .ne 10, 3) := dk_154 0 10 (dk_at dksX4_copy_4 6 rfl rfl)
theorem dX4_copy_102 : decode cX4_copy 102 = .ok (.aload_n 0, 1) := dk_42 (dk_at dksX4_copy_4 9 rfl rfl)
theorem dX4_copy_103 : decode cX4_copy 103 = .ok (.bipush (-4), 2) := dk_16 252 (dk_at dksX4_copy_4 10 rfl rfl)
theorem dX4_copy_105 : decode cX4_copy 105 = .ok (.invokevirtual 101, 3) := dk_182 0 101 (dk_at dksX4_copy_4 12 rfl rfl)
theorem dX4_copy_108 : decode cX4_copy 108 = .ok (.ireturn, 1) := dk_172 (dk_at dksX4_copy_4 15 rfl rfl)
theorem dX4_copy_109 : decode cX4_copy 109 = .ok (.iload 5, 2) := dk_21 5 (dk_at dksX4_copy_4 16 rfl rfl)
theorem dX4_copy_111 : decode cX4_copy 111 = .ok (.ifCond .lt 39, 3) := dk_155 0 39 (dk_at dksX4_copy_4 18 rfl rfl)
theorem dX4_copy_114 : decode cX4_copy 114 = .ok (.iload_n 3, 1) := dk_29 (dk_at dksX4_copy_4 21 rfl rfl)
theorem dX4_copy_115 : decode cX4_copy 115 = .ok (.ifCond .lt 35, 3) := dk_155 0 35 (dk_at dksX4_copy_5 0 rfl rfl)
theorem dX4_copy_118 : decode cX4_copy 118 = .ok (.iload 4, 2) := dk_21 4 (dk_at dksX4_copy_5 3 rfl rfl)
theorem dX4_copy_120 : decode cX4_copy 120 = .ok (.ifCond .lt 30, 3) := dk_155 0 30 (dk_at dksX4_copy_5 5 rfl rfl)
theorem dX4_copy_123 : decode cX4_copy 123 = .ok (.iload 5, 2) := dk_21 5 (dk_at dksX4_copy_5 8 rfl rfl)
theorem dX4_copy_125 : decode cX4_copy 125 = .ok (.aload_n 0, 1) := dk_42 (dk_at dksX4_copy_5 10 rfl rfl)
theorem dX4_copy_126 : decode cX4_copy 126 = .ok (.getfield 57, 3) := dk_180 0 57 (dk_at dksX4_copy_5 11 rfl rfl)
theorem dX4_copy_129 : decode cX4_copy 129 = .ok (.iload_n 1, 1) := dk_27 (dk_at dksX4_copy_5 14 rfl rfl)
theorem dX4_copy_130 : decode cX4_copy 130 = .ok (.iaload, 1) := dk_46 (dk_at dksX4_copy_5 15 rfl rfl)
theorem dX4_copy_131 : decode cX4_copy 131 = .ok (.iload_n 3, 1) := dk_29 (dk_at dksX4_copy_5 16 rfl rfl)
theorem dX4_copy_132 : decode cX4_copy 132 = .ok (.isub, 1) := dk_100 (dk_at dksX4_copy_5 17 rfl rfl)
theorem dX4_copy_133 : decode cX4_copy 133 = .ok (.if_icmp .gt 17, 3) := dk_163 0 17 (dk_at dksX4_copy_5 18 rfl rfl)
theorem dX4_copy_136 : decode cX4_copy 136 = .ok (.iload 5, 2) := dk_21 5 (dk_at dksX4_copy_5 21 rfl rfl)
theorem dX4_copy_138 : decode cX4_copy 138 = .ok (.aload_n 0, 1) := dk_42 (dk_at dksX4_copy_5 23 rfl rfl)
theorem dX4_copy_139 : decode cX4_copy 139 = .ok (.getfield 57, 3) := dk_180 0 57 (dk_at dksX4_copy_6 0 rfl rfl)
theorem dX4_copy_142 : decode cX4_copy 142 = .ok (.iload_n 2, 1) := dk_28 (dk_at dksX4_copy_6 3 rfl rfl)
theorem dX4_copy_143 : decode cX4_copy 143 = .ok (.iaload, 1) := dk_46 (dk_at dksX4_copy_6 4 rfl rfl)
theorem dX4_copy_144 : decode cX4_copy 144 = .ok (.iload 4, 2) := dk_21 4 (dk_at dksX4_copy_6 5 rfl rfl)
theorem dX4_copy_146 : decode cX4_copy 146 = .ok (.isub, 1) := dk_100 (dk_at dksX4_copy_6 7 rfl rfl)
theorem dX4_copy_147 : decode cX4_copy 147 = .ok (.if_icmp .le 10, 3) := dk_164 0 10 (dk_at dksX4_copy_6 8 rfl rfl)
theorem dX4_copy_150 : decode cX4_copy 150 = .ok (.aload_n 0, 1) := dk_42 (dk_at dksX4_copy_6 11 rfl rfl)
theorem dX4_copy_151 : decode cX4_copy 151 = .ok (.bipush (-2), 2) := dk_16 254 (dk_at dksX4_copy_6 12 rfl rfl)
theorem dX4_copy_153 : decode cX4_copy 153 = .ok (.invokevirtual 101, 3) := dk_182 0 101 (dk_at dksX4_copy_6 14 rfl rfl)
theorem dX4_copy_156 : decode cX4_copy 156 = .ok (.ireturn, 1) := dk_172 (dk_at dksX4_copy_6 17 rfl rfl)
theorem dX4_copy_157 : decode cX4_copy 157 = .ok (.iconst 0, 1) := dk_3 (dk_at dksX4_copy_6 18 rfl rfl)
theorem dX4_copy_158 : decode cX4_copy 158 = .ok (.istore 7, 2) := dk_54 7 (dk_at dksX4_copy_6 19 rfl rfl)
theorem dX4_copy_160 : decode cX4_copy 160 = .ok (.iload 7, 2) := dk_21 7 (dk_at dksX4_copy_6 21 rfl rfl)
theorem dX4_copy_162 : decode cX4_copy 162 = .ok (.iload 5, 2) := dk_21 5 (dk_at dksX4_copy_7 0 rfl rfl)
theorem dX4_copy_164 : decode cX4_copy 164 = .ok (.if_icmp .ge 30, 3) := dk_162 0 30 (dk_at dksX4_copy_7 2 rfl rfl)
theorem dX4_copy_167 : decode cX4_copy 167 = .ok (.aload_n 0, 1) := dk_42 (dk_at dksX4_copy_7 5 rfl rfl)
theorem dX4_copy_168 : decode cX4_copy 168 = .ok (.getfield 64, 3) := dk_180 0 64 (dk_at dksX4_copy_7 6 rfl rfl)
theorem dX4_copy_171 : decode cX4_copy 171 = .ok (.iload 7, 2) := dk_21 7 (dk_at dksX4_copy_7 9 rfl rfl)
theorem dX4_copy_173 : decode cX4_copy 173 = .ok (.aload_n 0, 1) := dk_42 (dk_at dksX4_copy_7 11 rfl rfl)
theorem dX4_copy_174 : decode cX4_copy 174 = .ok (.getfield 60, 3) := dk_180 0 60 (dk_at dksX4_copy_7 12 rfl rfl)
theorem dX4_copy_177 : decode cX4_copy 177 = .ok (.bipush 40, 2) := dk_16 40 (dk_at dksX4_copy_7 15 rfl rfl)
theorem dX4_copy_179 : decode cX4_copy 179 = .ok (.iload_n 1, 1) := dk_27 (dk_at dksX4_copy_7 17 rfl rfl)
theorem dX4_copy_180 : decode cX4_copy 180 = .ok (.imul, 1) := dk_104 (dk_at dksX4_copy_7 18 rfl rfl)
theorem dX4_copy_181 : decode cX4_copy 181 = .ok (.iload_n 3, 1) := dk_29 (dk_at dksX4_copy_7 19 rfl rfl)
theorem dX4_copy_182 : decode cX4_copy 182 = .ok (.iadd, 1) := dk_96 (dk_at dksX4_copy_7 20 rfl rfl)
theorem dX4_copy_183 : decode cX4_copy 183 = .ok (.iload 7, 2) := dk_21 7 (dk_at dksX4_copy_7 21 rfl rfl)
theorem dX4_copy_185 : decode cX4_copy 185 = .ok (.iadd, 1) := dk_96 (dk_at dksX4_copy_7 23 rfl rfl)
theorem dX4_copy_186 : decode cX4_copy 186 = .ok (.laload, 1) := dk_47 (dk_at dksX4_copy_8 0 rfl rfl)
theorem dX4_copy_187 : decode cX4_copy 187 = .ok (.lastore, 1) := dk_80 (dk_at dksX4_copy_8 1 rfl rfl)
theorem dX4_copy_188 : decode cX4_copy 188 = .ok (.iinc 7 1, 3) := dk_132 7 1 (dk_at dksX4_copy_8 2 rfl rfl)
theorem dX4_copy_191 : decode cX4_copy 191 = .ok (.goto (-31), 3) := dk_167 255 225 (dk_at dksX4_copy_8 5 rfl rfl)
theorem dX4_copy_194 : decode cX4_copy 194 = .ok (.iconst 0, 1) := dk_3 (dk_at dksX4_copy_8 8 rfl rfl)
theorem dX4_copy_195 : decode cX4_copy 195 = .ok (.istore 7, 2) := dk_54 7 (dk_at dksX4_copy_8 9 rfl rfl)
theorem dX4_copy_197 : decode cX4_copy 197 = .ok (.iload 7, 2) := dk_21 7 (dk_at dksX4_copy_8 11 rfl rfl)
theorem dX4_copy_199 : decode cX4_copy 199 = .ok (.iload 5, 2) := dk_21 5 (dk_at dksX4_copy_8 13 rfl rfl)
theorem dX4_copy_201 : decode cX4_copy 201 = .ok (.if_icmp .ge 31, 3) := dk_162 0 31 (dk_at dksX4_copy_8 15 rfl rfl)
theorem dX4_copy_204 : decode cX4_copy 204 = .ok (.aload_n 0, 1) := dk_42 (dk_at dksX4_copy_8 18 rfl rfl)
theorem dX4_copy_205 : decode cX4_copy 205 = .ok (.getfield 60, 3) := dk_180 0 60 (dk_at dksX4_copy_8 19 rfl rfl)
theorem dX4_copy_208 : decode cX4_copy 208 = .ok (.bipush 40, 2) := dk_16 40 (dk_at dksX4_copy_8 22 rfl rfl)
theorem dX4_copy_210 : decode cX4_copy 210 = .ok (.iload_n 2, 1) := dk_28 (dk_at dksX4_copy_9 0 rfl rfl)
theorem dX4_copy_211 : decode cX4_copy 211 = .ok (.imul, 1) := dk_104 (dk_at dksX4_copy_9 1 rfl rfl)
theorem dX4_copy_212 : decode cX4_copy 212 = .ok (.iload 4, 2) := dk_21 4 (dk_at dksX4_copy_9 2 rfl rfl)
theorem dX4_copy_214 : decode cX4_copy 214 = .ok (.iadd, 1) := dk_96 (dk_at dksX4_copy_9 4 rfl rfl)
theorem dX4_copy_215 : decode cX4_copy 215 = .ok (.iload 7, 2) := dk_21 7 (dk_at dksX4_copy_9 5 rfl rfl)
theorem dX4_copy_217 : decode cX4_copy 217 = .ok (.iadd, 1) := dk_96 (dk_at dksX4_copy_9 7 rfl rfl)
theorem dX4_copy_218 : decode cX4_copy 218 = .ok (.aload_n 0, 1) := dk_42 (dk_at dksX4_copy_9 8 rfl rfl)
theorem dX4_copy_219 : decode cX4_copy 219 = .ok (.getfield 64, 3) := dk_180 0 64 (dk_at dksX4_copy_9 9 rfl rfl)
theorem dX4_copy_222 : decode cX4_copy 222 = .ok (.iload 7, 2) := dk_21 7 (dk_at dksX4_copy_9 12 rfl rfl)
theorem dX4_copy_224 : decode cX4_copy 224 = .ok (.laload, 1) := dk_47 (dk_at dksX4_copy_9 14 rfl rfl)
theorem dX4_copy_225 : decode cX4_copy 225 = .ok (.lastore, 1) := dk_80 (dk_at dksX4_copy_9 15 rfl rfl)
theorem dX4_copy_226 : decode cX4_copy 226 = .ok (.iinc 7 1, 3) := dk_132 7 1 (dk_at dksX4_copy_9 16 rfl rfl)
theorem dX4_copy_229 : decode cX4_copy 229 = .ok (.goto (-32), 3) := dk_167 255 224 (dk_at dksX4_copy_9 19 rfl rfl)
theorem dX4_copy_232 : decode cX4_copy 232 = .ok (.iload 5, 2) := dk_21 5 (dk_at dksX4_copy_9 22 rfl rfl)
theorem dX4_copy_234 : decode cX4_copy 234 = .ok (.ireturn, 1) := dk_172 (dk_at dksX4_copy_10 0 rfl rfl)
abbrev cX4_element : ByteArray := prog_16_method_46_code
def yX4_element : MethodName := ⟨RX4, "element", "(II)J"⟩
def dkwX4_element_2 : List UInt8 := [27, 104, 28, 96, 47, 167, 0, 4, 9, 173]
abbrev dktX4_element_2 : List UInt8 := dkwX4_element_2 ++ []
def dkwX4_element_1 : List UInt8 := [28, 133, 9, 42, 180, 0, 57, 27, 46, 4, 100, 133, 184, 0, 76, 153, 0, 17, 42, 180, 0, 60, 16, 40]
abbrev dktX4_element_1 : List UInt8 := dkwX4_element_1 ++ dktX4_element_2
def dkwX4_element_0 : List UInt8 := [27, 184, 0, 203, 153, 0, 52, 42, 180, 0, 54, 27, 46, 133, 9, 20, 0, 206, 184, 0, 76, 153, 0, 35]
abbrev dktX4_element_0 : List UInt8 := dkwX4_element_0 ++ dktX4_element_1
theorem dksX4_element_0 : cX4_element.data.toList.drop 0 = dktX4_element_0 := by decide +kernel
theorem dksX4_element_1 : cX4_element.data.toList.drop 24 = dktX4_element_1 := dk_seg dksX4_element_0 24 rfl rfl
theorem dksX4_element_2 : cX4_element.data.toList.drop 48 = dktX4_element_2 := dk_seg dksX4_element_1 24 rfl rfl
theorem dX4_element_0 : decode cX4_element 0 = .ok (.iload_n 1, 1) := dk_27 (dk_at dksX4_element_0 0 rfl rfl)
theorem dX4_element_1 : decode cX4_element 1 = .ok (.invokestatic 203, 3) := dk_184 0 203 (dk_at dksX4_element_0 1 rfl rfl)
theorem dX4_element_4 : decode cX4_element 4 = .ok (.ifCond .eq 52, 3) := dk_153 0 52 (dk_at dksX4_element_0 4 rfl rfl)
theorem dX4_element_7 : decode cX4_element 7 = .ok (.aload_n 0, 1) := dk_42 (dk_at dksX4_element_0 7 rfl rfl)
theorem dX4_element_8 : decode cX4_element 8 = .ok (.getfield 54, 3) := dk_180 0 54 (dk_at dksX4_element_0 8 rfl rfl)
theorem dX4_element_11 : decode cX4_element 11 = .ok (.iload_n 1, 1) := dk_27 (dk_at dksX4_element_0 11 rfl rfl)
theorem dX4_element_12 : decode cX4_element 12 = .ok (.iaload, 1) := dk_46 (dk_at dksX4_element_0 12 rfl rfl)
theorem dX4_element_13 : decode cX4_element 13 = .ok (.i2l, 1) := dk_133 (dk_at dksX4_element_0 13 rfl rfl)
theorem dX4_element_14 : decode cX4_element 14 = .ok (.lconst 0, 1) := dk_9 (dk_at dksX4_element_0 14 rfl rfl)
theorem dX4_element_15 : decode cX4_element 15 = .ok (.ldc2_w 206, 3) := dk_20 0 206 (dk_at dksX4_element_0 15 rfl rfl)
theorem dX4_element_18 : decode cX4_element 18 = .ok (.invokestatic 76, 3) := dk_184 0 76 (dk_at dksX4_element_0 18 rfl rfl)
theorem dX4_element_21 : decode cX4_element 21 = .ok (.ifCond .eq 35, 3) := dk_153 0 35 (dk_at dksX4_element_0 21 rfl rfl)
theorem dX4_element_24 : decode cX4_element 24 = .ok (.iload_n 2, 1) := dk_28 (dk_at dksX4_element_1 0 rfl rfl)
theorem dX4_element_25 : decode cX4_element 25 = .ok (.i2l, 1) := dk_133 (dk_at dksX4_element_1 1 rfl rfl)
theorem dX4_element_26 : decode cX4_element 26 = .ok (.lconst 0, 1) := dk_9 (dk_at dksX4_element_1 2 rfl rfl)
theorem dX4_element_27 : decode cX4_element 27 = .ok (.aload_n 0, 1) := dk_42 (dk_at dksX4_element_1 3 rfl rfl)
theorem dX4_element_28 : decode cX4_element 28 = .ok (.getfield 57, 3) := dk_180 0 57 (dk_at dksX4_element_1 4 rfl rfl)
theorem dX4_element_31 : decode cX4_element 31 = .ok (.iload_n 1, 1) := dk_27 (dk_at dksX4_element_1 7 rfl rfl)
theorem dX4_element_32 : decode cX4_element 32 = .ok (.iaload, 1) := dk_46 (dk_at dksX4_element_1 8 rfl rfl)
theorem dX4_element_33 : decode cX4_element 33 = .ok (.iconst 1, 1) := dk_4 (dk_at dksX4_element_1 9 rfl rfl)
theorem dX4_element_34 : decode cX4_element 34 = .ok (.isub, 1) := dk_100 (dk_at dksX4_element_1 10 rfl rfl)
theorem dX4_element_35 : decode cX4_element 35 = .ok (.i2l, 1) := dk_133 (dk_at dksX4_element_1 11 rfl rfl)
theorem dX4_element_36 : decode cX4_element 36 = .ok (.invokestatic 76, 3) := dk_184 0 76 (dk_at dksX4_element_1 12 rfl rfl)
theorem dX4_element_39 : decode cX4_element 39 = .ok (.ifCond .eq 17, 3) := dk_153 0 17 (dk_at dksX4_element_1 15 rfl rfl)
theorem dX4_element_42 : decode cX4_element 42 = .ok (.aload_n 0, 1) := dk_42 (dk_at dksX4_element_1 18 rfl rfl)
theorem dX4_element_43 : decode cX4_element 43 = .ok (.getfield 60, 3) := dk_180 0 60 (dk_at dksX4_element_1 19 rfl rfl)
theorem dX4_element_46 : decode cX4_element 46 = .ok (.bipush 40, 2) := dk_16 40 (dk_at dksX4_element_1 22 rfl rfl)
theorem dX4_element_48 : decode cX4_element 48 = .ok (.iload_n 1, 1) := dk_27 (dk_at dksX4_element_2 0 rfl rfl)
theorem dX4_element_49 : decode cX4_element 49 = .ok (.imul, 1) := dk_104 (dk_at dksX4_element_2 1 rfl rfl)
theorem dX4_element_50 : decode cX4_element 50 = .ok (.iload_n 2, 1) := dk_28 (dk_at dksX4_element_2 2 rfl rfl)
theorem dX4_element_51 : decode cX4_element 51 = .ok (.iadd, 1) := dk_96 (dk_at dksX4_element_2 3 rfl rfl)
theorem dX4_element_52 : decode cX4_element 52 = .ok (.laload, 1) := dk_47 (dk_at dksX4_element_2 4 rfl rfl)
theorem dX4_element_53 : decode cX4_element 53 = .ok (.goto 4, 3) := dk_167 0 4 (dk_at dksX4_element_2 5 rfl rfl)
theorem dX4_element_56 : decode cX4_element 56 = .ok (.lconst 0, 1) := dk_9 (dk_at dksX4_element_2 8 rfl rfl)
theorem dX4_element_57 : decode cX4_element 57 = .ok (.lreturn, 1) := dk_173 (dk_at dksX4_element_2 9 rfl rfl)
abbrev cX4_holds : ByteArray := prog_16_method_47_code
def yX4_holds : MethodName := ⟨RX4, "holds", "(I)I"⟩
def dkwX4_holds_0 : List UInt8 := [27, 184, 0, 203, 153, 0, 12, 42, 180, 0, 54, 27, 46, 167, 0, 4, 2, 172]
abbrev dktX4_holds_0 : List UInt8 := dkwX4_holds_0 ++ []
theorem dksX4_holds_0 : cX4_holds.data.toList.drop 0 = dktX4_holds_0 := by decide +kernel
theorem dX4_holds_0 : decode cX4_holds 0 = .ok (.iload_n 1, 1) := dk_27 (dk_at dksX4_holds_0 0 rfl rfl)
theorem dX4_holds_1 : decode cX4_holds 1 = .ok (.invokestatic 203, 3) := dk_184 0 203 (dk_at dksX4_holds_0 1 rfl rfl)
theorem dX4_holds_4 : decode cX4_holds 4 = .ok (.ifCond .eq 12, 3) := dk_153 0 12 (dk_at dksX4_holds_0 4 rfl rfl)
theorem dX4_holds_7 : decode cX4_holds 7 = .ok (.aload_n 0, 1) := dk_42 (dk_at dksX4_holds_0 7 rfl rfl)
theorem dX4_holds_8 : decode cX4_holds 8 = .ok (.getfield 54, 3) := dk_180 0 54 (dk_at dksX4_holds_0 8 rfl rfl)
theorem dX4_holds_11 : decode cX4_holds 11 = .ok (.iload_n 1, 1) := dk_27 (dk_at dksX4_holds_0 11 rfl rfl)
theorem dX4_holds_12 : decode cX4_holds 12 = .ok (.iaload, 1) := dk_46 (dk_at dksX4_holds_0 12 rfl rfl)
theorem dX4_holds_13 : decode cX4_holds 13 = .ok (.goto 4, 3) := dk_167 0 4 (dk_at dksX4_holds_0 13 rfl rfl)
theorem dX4_holds_16 : decode cX4_holds 16 = .ok (.iconst (-1), 1) := dk_2 (dk_at dksX4_holds_0 16 rfl rfl)
theorem dX4_holds_17 : decode cX4_holds 17 = .ok (.ireturn, 1) := dk_172 (dk_at dksX4_holds_0 17 rfl rfl)
abbrev cX4_show : ByteArray := prog_16_method_48_code
def yX4_show : MethodName := ⟨RX4, "show", "(II)I"⟩
def dkwX4_show_2 : List UInt8 := [172]
abbrev dktX4_show_2 : List UInt8 := dkwX4_show_2 ++ []
def dkwX4_show_1 : List UInt8 := [182, 0, 101, 172, 42, 180, 0, 54, 27, 28, 2, 160, 0, 7, 2, 167, 0, 7, 16, 10, 28, 96, 79, 4]
abbrev dktX4_show_1 : List UInt8 := dkwX4_show_1 ++ dktX4_show_2
def dkwX4_show_0 : List UInt8 := [27, 184, 0, 203, 153, 0, 16, 28, 2, 159, 0, 18, 42, 28, 182, 0, 124, 154, 0, 10, 42, 16, 254]
abbrev dktX4_show_0 : List UInt8 := dkwX4_show_0 ++ dktX4_show_1
theorem dksX4_show_0 : cX4_show.data.toList.drop 0 = dktX4_show_0 := by decide +kernel
theorem dksX4_show_1 : cX4_show.data.toList.drop 23 = dktX4_show_1 := dk_seg dksX4_show_0 23 rfl rfl
theorem dksX4_show_2 : cX4_show.data.toList.drop 47 = dktX4_show_2 := dk_seg dksX4_show_1 24 rfl rfl
theorem dX4_show_0 : decode cX4_show 0 = .ok (.iload_n 1, 1) := dk_27 (dk_at dksX4_show_0 0 rfl rfl)
theorem dX4_show_1 : decode cX4_show 1 = .ok (.invokestatic 203, 3) := dk_184 0 203 (dk_at dksX4_show_0 1 rfl rfl)
theorem dX4_show_4 : decode cX4_show 4 = .ok (.ifCond .eq 16, 3) := dk_153 0 16 (dk_at dksX4_show_0 4 rfl rfl)
theorem dX4_show_7 : decode cX4_show 7 = .ok (.iload_n 2, 1) := dk_28 (dk_at dksX4_show_0 7 rfl rfl)
theorem dX4_show_8 : decode cX4_show 8 = .ok (.iconst (-1), 1) := dk_2 (dk_at dksX4_show_0 8 rfl rfl)
theorem dX4_show_9 : decode cX4_show 9 = .ok (.if_icmp .eq 18, 3) := dk_159 0 18 (dk_at dksX4_show_0 9 rfl rfl)
theorem dX4_show_12 : decode cX4_show 12 = .ok (.aload_n 0, 1) := dk_42 (dk_at dksX4_show_0 12 rfl rfl)
theorem dX4_show_13 : decode cX4_show 13 = .ok (.iload_n 2, 1) := dk_28 (dk_at dksX4_show_0 13 rfl rfl)
theorem dX4_show_14 : decode cX4_show 14 = .ok (.invokevirtual 124, 3) := dk_182 0 124 (dk_at dksX4_show_0 14 rfl rfl)
theorem dX4_show_17 : decode cX4_show 17 = .ok (.ifCond .ne 10, 3) := dk_154 0 10 (dk_at dksX4_show_0 17 rfl rfl)
theorem dX4_show_20 : decode cX4_show 20 = .ok (.aload_n 0, 1) := dk_42 (dk_at dksX4_show_0 20 rfl rfl)
theorem dX4_show_21 : decode cX4_show 21 = .ok (.bipush (-2), 2) := dk_16 254 (dk_at dksX4_show_0 21 rfl rfl)
theorem dX4_show_23 : decode cX4_show 23 = .ok (.invokevirtual 101, 3) := dk_182 0 101 (dk_at dksX4_show_1 0 rfl rfl)
theorem dX4_show_26 : decode cX4_show 26 = .ok (.ireturn, 1) := dk_172 (dk_at dksX4_show_1 3 rfl rfl)
theorem dX4_show_27 : decode cX4_show 27 = .ok (.aload_n 0, 1) := dk_42 (dk_at dksX4_show_1 4 rfl rfl)
theorem dX4_show_28 : decode cX4_show 28 = .ok (.getfield 54, 3) := dk_180 0 54 (dk_at dksX4_show_1 5 rfl rfl)
theorem dX4_show_31 : decode cX4_show 31 = .ok (.iload_n 1, 1) := dk_27 (dk_at dksX4_show_1 8 rfl rfl)
theorem dX4_show_32 : decode cX4_show 32 = .ok (.iload_n 2, 1) := dk_28 (dk_at dksX4_show_1 9 rfl rfl)
theorem dX4_show_33 : decode cX4_show 33 = .ok (.iconst (-1), 1) := dk_2 (dk_at dksX4_show_1 10 rfl rfl)
theorem dX4_show_34 : decode cX4_show 34 = .ok (.if_icmp .ne 7, 3) := dk_160 0 7 (dk_at dksX4_show_1 11 rfl rfl)
theorem dX4_show_37 : decode cX4_show 37 = .ok (.iconst (-1), 1) := dk_2 (dk_at dksX4_show_1 14 rfl rfl)
theorem dX4_show_38 : decode cX4_show 38 = .ok (.goto 7, 3) := dk_167 0 7 (dk_at dksX4_show_1 15 rfl rfl)
theorem dX4_show_41 : decode cX4_show 41 = .ok (.bipush 10, 2) := dk_16 10 (dk_at dksX4_show_1 18 rfl rfl)
theorem dX4_show_43 : decode cX4_show 43 = .ok (.iload_n 2, 1) := dk_28 (dk_at dksX4_show_1 20 rfl rfl)
theorem dX4_show_44 : decode cX4_show 44 = .ok (.iadd, 1) := dk_96 (dk_at dksX4_show_1 21 rfl rfl)
theorem dX4_show_45 : decode cX4_show 45 = .ok (.iastore, 1) := dk_79 (dk_at dksX4_show_1 22 rfl rfl)
theorem dX4_show_46 : decode cX4_show 46 = .ok (.iconst 1, 1) := dk_4 (dk_at dksX4_show_1 23 rfl rfl)
theorem dX4_show_47 : decode cX4_show 47 = .ok (.ireturn, 1) := dk_172 (dk_at dksX4_show_2 0 rfl rfl)
abbrev cX4_says : ByteArray := prog_16_method_49_code
def yX4_says : MethodName := ⟨RX4, "says", "(II)I"⟩
def dkwX4_says_6 : List UInt8 := [180, 0, 36, 3, 46, 172]
abbrev dktX4_says_6 : List UInt8 := dkwX4_says_6 ++ []
def dkwX4_says_5 : List UInt8 := [3, 42, 29, 182, 0, 88, 42, 29, 182, 0, 192, 182, 0, 195, 42, 3, 29, 4, 3, 182, 0, 199, 42]
abbrev dktX4_says_5 : List UInt8 := dkwX4_says_5 ++ dktX4_says_6
def dkwX4_says_4 : List UInt8 := [21, 4, 2, 160, 0, 10, 42, 16, 253, 182, 0, 101, 172, 28, 154, 0, 9, 42, 29, 182, 0, 213, 172, 42]
abbrev dktX4_says_4 : List UInt8 := dkwX4_says_4 ++ dktX4_says_5
def dkwX4_says_3 : List UInt8 := [21, 4, 2, 159, 0, 21, 21, 4, 28, 159, 0, 15, 42, 180, 0, 67, 21, 4, 46, 54, 4, 167, 255, 235]
abbrev dktX4_says_3 : List UInt8 := dkwX4_says_3 ++ dktX4_says_4
def dkwX4_says_2 : List UInt8 := [180, 0, 54, 27, 46, 16, 10, 100, 62, 29, 156, 0, 7, 2, 167, 0, 8, 42, 29, 182, 0, 179, 54, 4]
abbrev dktX4_says_2 : List UInt8 := dkwX4_says_2 ++ dktX4_says_3
def dkwX4_says_1 : List UInt8 := [182, 0, 101, 172, 42, 180, 0, 54, 27, 46, 2, 160, 0, 10, 42, 16, 252, 182, 0, 101, 172, 42]
abbrev dktX4_says_1 : List UInt8 := dkwX4_says_1 ++ dktX4_says_2
def dkwX4_says_0 : List UInt8 := [27, 184, 0, 203, 153, 0, 15, 28, 133, 9, 20, 0, 110, 184, 0, 76, 154, 0, 10, 42, 16, 254]
abbrev dktX4_says_0 : List UInt8 := dkwX4_says_0 ++ dktX4_says_1
theorem dksX4_says_0 : cX4_says.data.toList.drop 0 = dktX4_says_0 := by decide +kernel
theorem dksX4_says_1 : cX4_says.data.toList.drop 22 = dktX4_says_1 := dk_seg dksX4_says_0 22 rfl rfl
theorem dksX4_says_2 : cX4_says.data.toList.drop 44 = dktX4_says_2 := dk_seg dksX4_says_1 22 rfl rfl
theorem dksX4_says_3 : cX4_says.data.toList.drop 68 = dktX4_says_3 := dk_seg dksX4_says_2 24 rfl rfl
theorem dksX4_says_4 : cX4_says.data.toList.drop 92 = dktX4_says_4 := dk_seg dksX4_says_3 24 rfl rfl
theorem dksX4_says_5 : cX4_says.data.toList.drop 116 = dktX4_says_5 := dk_seg dksX4_says_4 24 rfl rfl
theorem dksX4_says_6 : cX4_says.data.toList.drop 139 = dktX4_says_6 := dk_seg dksX4_says_5 23 rfl rfl
theorem dX4_says_0 : decode cX4_says 0 = .ok (.iload_n 1, 1) := dk_27 (dk_at dksX4_says_0 0 rfl rfl)
theorem dX4_says_1 : decode cX4_says 1 = .ok (.invokestatic 203, 3) := dk_184 0 203 (dk_at dksX4_says_0 1 rfl rfl)
theorem dX4_says_4 : decode cX4_says 4 = .ok (.ifCond .eq 15, 3) := dk_153 0 15 (dk_at dksX4_says_0 4 rfl rfl)
theorem dX4_says_7 : decode cX4_says 7 = .ok (.iload_n 2, 1) := dk_28 (dk_at dksX4_says_0 7 rfl rfl)
theorem dX4_says_8 : decode cX4_says 8 = .ok (.i2l, 1) := dk_133 (dk_at dksX4_says_0 8 rfl rfl)
theorem dX4_says_9 : decode cX4_says 9 = .ok (.lconst 0, 1) := dk_9 (dk_at dksX4_says_0 9 rfl rfl)
theorem dX4_says_10 : decode cX4_says 10 = .ok (.ldc2_w 110, 3) := dk_20 0 110 (dk_at dksX4_says_0 10 rfl rfl)
theorem dX4_says_13 : decode cX4_says 13 = .ok (.invokestatic 76, 3) := dk_184 0 76 (dk_at dksX4_says_0 13 rfl rfl)
theorem dX4_says_16 : decode cX4_says 16 = .ok (.ifCond .ne 10, 3) := dk_154 0 10 (dk_at dksX4_says_0 16 rfl rfl)
theorem dX4_says_19 : decode cX4_says 19 = .ok (.aload_n 0, 1) := dk_42 (dk_at dksX4_says_0 19 rfl rfl)
theorem dX4_says_20 : decode cX4_says 20 = .ok (.bipush (-2), 2) := dk_16 254 (dk_at dksX4_says_0 20 rfl rfl)
theorem dX4_says_22 : decode cX4_says 22 = .ok (.invokevirtual 101, 3) := dk_182 0 101 (dk_at dksX4_says_1 0 rfl rfl)
theorem dX4_says_25 : decode cX4_says 25 = .ok (.ireturn, 1) := dk_172 (dk_at dksX4_says_1 3 rfl rfl)
theorem dX4_says_26 : decode cX4_says 26 = .ok (.aload_n 0, 1) := dk_42 (dk_at dksX4_says_1 4 rfl rfl)
theorem dX4_says_27 : decode cX4_says 27 = .ok (.getfield 54, 3) := dk_180 0 54 (dk_at dksX4_says_1 5 rfl rfl)
theorem dX4_says_30 : decode cX4_says 30 = .ok (.iload_n 1, 1) := dk_27 (dk_at dksX4_says_1 8 rfl rfl)
theorem dX4_says_31 : decode cX4_says 31 = .ok (.iaload, 1) := dk_46 (dk_at dksX4_says_1 9 rfl rfl)
theorem dX4_says_32 : decode cX4_says 32 = .ok (.iconst (-1), 1) := dk_2 (dk_at dksX4_says_1 10 rfl rfl)
theorem dX4_says_33 : decode cX4_says 33 = .ok (.if_icmp .ne 10, 3) := dk_160 0 10 (dk_at dksX4_says_1 11 rfl rfl)
theorem dX4_says_36 : decode cX4_says 36 = .ok (.aload_n 0, 1) := dk_42 (dk_at dksX4_says_1 14 rfl rfl)
theorem dX4_says_37 : decode cX4_says 37 = .ok (.bipush (-4), 2) := dk_16 252 (dk_at dksX4_says_1 15 rfl rfl)
theorem dX4_says_39 : decode cX4_says 39 = .ok (.invokevirtual 101, 3) := dk_182 0 101 (dk_at dksX4_says_1 17 rfl rfl)
theorem dX4_says_42 : decode cX4_says 42 = .ok (.ireturn, 1) := dk_172 (dk_at dksX4_says_1 20 rfl rfl)
theorem dX4_says_43 : decode cX4_says 43 = .ok (.aload_n 0, 1) := dk_42 (dk_at dksX4_says_1 21 rfl rfl)
theorem dX4_says_44 : decode cX4_says 44 = .ok (.getfield 54, 3) := dk_180 0 54 (dk_at dksX4_says_2 0 rfl rfl)
theorem dX4_says_47 : decode cX4_says 47 = .ok (.iload_n 1, 1) := dk_27 (dk_at dksX4_says_2 3 rfl rfl)
theorem dX4_says_48 : decode cX4_says 48 = .ok (.iaload, 1) := dk_46 (dk_at dksX4_says_2 4 rfl rfl)
theorem dX4_says_49 : decode cX4_says 49 = .ok (.bipush 10, 2) := dk_16 10 (dk_at dksX4_says_2 5 rfl rfl)
theorem dX4_says_51 : decode cX4_says 51 = .ok (.isub, 1) := dk_100 (dk_at dksX4_says_2 7 rfl rfl)
theorem dX4_says_52 : decode cX4_says 52 = .ok (.istore_n 3, 1) := dk_62 (dk_at dksX4_says_2 8 rfl rfl)
theorem dX4_says_53 : decode cX4_says 53 = .ok (.iload_n 3, 1) := dk_29 (dk_at dksX4_says_2 9 rfl rfl)
theorem dX4_says_54 : decode cX4_says 54 = .ok (.ifCond .ge 7, 3) := dk_156 0 7 (dk_at dksX4_says_2 10 rfl rfl)
theorem dX4_says_57 : decode cX4_says 57 = .ok (.iconst (-1), 1) := dk_2 (dk_at dksX4_says_2 13 rfl rfl)
theorem dX4_says_58 : decode cX4_says 58 = .ok (.goto 8, 3) := dk_167 0 8 (dk_at dksX4_says_2 14 rfl rfl)
theorem dX4_says_61 : decode cX4_says 61 = .ok (.aload_n 0, 1) := dk_42 (dk_at dksX4_says_2 17 rfl rfl)
theorem dX4_says_62 : decode cX4_says 62 = .ok (.iload_n 3, 1) := dk_29 (dk_at dksX4_says_2 18 rfl rfl)
theorem dX4_says_63 : decode cX4_says 63 = .ok (.invokevirtual 179, 3) := dk_182 0 179 (dk_at dksX4_says_2 19 rfl rfl)
theorem dX4_says_66 : decode cX4_says 66 = .ok (.istore 4, 2) := dk_54 4 (dk_at dksX4_says_2 22 rfl rfl)
theorem dX4_says_68 : decode cX4_says 68 = .ok (.iload 4, 2) := dk_21 4 (dk_at dksX4_says_3 0 rfl rfl)
theorem dX4_says_70 : decode cX4_says 70 = .ok (.iconst (-1), 1) := dk_2 (dk_at dksX4_says_3 2 rfl rfl)
theorem dX4_says_71 : decode cX4_says 71 = .ok (.if_icmp .eq 21, 3) := dk_159 0 21 (dk_at dksX4_says_3 3 rfl rfl)
theorem dX4_says_74 : decode cX4_says 74 = .ok (.iload 4, 2) := dk_21 4 (dk_at dksX4_says_3 6 rfl rfl)
theorem dX4_says_76 : decode cX4_says 76 = .ok (.iload_n 2, 1) := dk_28 (dk_at dksX4_says_3 8 rfl rfl)
theorem dX4_says_77 : decode cX4_says 77 = .ok (.if_icmp .eq 15, 3) := dk_159 0 15 (dk_at dksX4_says_3 9 rfl rfl)
theorem dX4_says_80 : decode cX4_says 80 = .ok (.aload_n 0, 1) := dk_42 (dk_at dksX4_says_3 12 rfl rfl)
theorem dX4_says_81 : decode cX4_says 81 = .ok (.getfield 67, 3) := dk_180 0 67 (dk_at dksX4_says_3 13 rfl rfl)
theorem dX4_says_84 : decode cX4_says 84 = .ok (.iload 4, 2) := dk_21 4 (dk_at dksX4_says_3 16 rfl rfl)
theorem dX4_says_86 : decode cX4_says 86 = .ok (.iaload, 1) := dk_46 (dk_at dksX4_says_3 18 rfl rfl)
theorem dX4_says_87 : decode cX4_says 87 = .ok (.istore 4, 2) := dk_54 4 (dk_at dksX4_says_3 19 rfl rfl)
theorem dX4_says_89 : decode cX4_says 89 = .ok (.goto (-21), 3) := dk_167 255 235 (dk_at dksX4_says_3 21 rfl rfl)
theorem dX4_says_92 : decode cX4_says 92 = .ok (.iload 4, 2) := dk_21 4 (dk_at dksX4_says_4 0 rfl rfl)
theorem dX4_says_94 : decode cX4_says 94 = .ok (.iconst (-1), 1) := dk_2 (dk_at dksX4_says_4 2 rfl rfl)
theorem dX4_says_95 : decode cX4_says 95 = .ok (.if_icmp .ne 10, 3) := dk_160 0 10 (dk_at dksX4_says_4 3 rfl rfl)
theorem dX4_says_98 : decode cX4_says 98 = .ok (.aload_n 0, 1) := dk_42 (dk_at dksX4_says_4 6 rfl rfl)
theorem dX4_says_99 : decode cX4_says 99 = .ok (.bipush (-3), 2) := dk_16 253 (dk_at dksX4_says_4 7 rfl rfl)
theorem dX4_says_101 : decode cX4_says 101 = .ok (.invokevirtual 101, 3) := dk_182 0 101 (dk_at dksX4_says_4 9 rfl rfl)
theorem dX4_says_104 : decode cX4_says 104 = .ok (.ireturn, 1) := dk_172 (dk_at dksX4_says_4 12 rfl rfl)
theorem dX4_says_105 : decode cX4_says 105 = .ok (.iload_n 2, 1) := dk_28 (dk_at dksX4_says_4 13 rfl rfl)
theorem dX4_says_106 : decode cX4_says 106 = .ok (.ifCond .ne 9, 3) := dk_154 0 9 (dk_at dksX4_says_4 14 rfl rfl)
theorem dX4_says_109 : decode cX4_says 109 = .ok (.aload_n 0, 1) := dk_42 (dk_at dksX4_says_4 17 rfl rfl)
theorem dX4_says_110 : decode cX4_says 110 = .ok (.iload_n 3, 1) := dk_29 (dk_at dksX4_says_4 18 rfl rfl)
theorem dX4_says_111 : decode cX4_says 111 = .ok (.invokevirtual 213, 3) := dk_182 0 213 (dk_at dksX4_says_4 19 rfl rfl)
theorem dX4_says_114 : decode cX4_says 114 = .ok (.ireturn, 1) := dk_172 (dk_at dksX4_says_4 22 rfl rfl)
theorem dX4_says_115 : decode cX4_says 115 = .ok (.aload_n 0, 1) := dk_42 (dk_at dksX4_says_4 23 rfl rfl)
theorem dX4_says_116 : decode cX4_says 116 = .ok (.iconst 0, 1) := dk_3 (dk_at dksX4_says_5 0 rfl rfl)
theorem dX4_says_117 : decode cX4_says 117 = .ok (.aload_n 0, 1) := dk_42 (dk_at dksX4_says_5 1 rfl rfl)
theorem dX4_says_118 : decode cX4_says 118 = .ok (.iload_n 3, 1) := dk_29 (dk_at dksX4_says_5 2 rfl rfl)
theorem dX4_says_119 : decode cX4_says 119 = .ok (.invokevirtual 88, 3) := dk_182 0 88 (dk_at dksX4_says_5 3 rfl rfl)
theorem dX4_says_122 : decode cX4_says 122 = .ok (.aload_n 0, 1) := dk_42 (dk_at dksX4_says_5 6 rfl rfl)
theorem dX4_says_123 : decode cX4_says 123 = .ok (.iload_n 3, 1) := dk_29 (dk_at dksX4_says_5 7 rfl rfl)
theorem dX4_says_124 : decode cX4_says 124 = .ok (.invokevirtual 192, 3) := dk_182 0 192 (dk_at dksX4_says_5 8 rfl rfl)
theorem dX4_says_127 : decode cX4_says 127 = .ok (.invokevirtual 195, 3) := dk_182 0 195 (dk_at dksX4_says_5 11 rfl rfl)
theorem dX4_says_130 : decode cX4_says 130 = .ok (.aload_n 0, 1) := dk_42 (dk_at dksX4_says_5 14 rfl rfl)
theorem dX4_says_131 : decode cX4_says 131 = .ok (.iconst 0, 1) := dk_3 (dk_at dksX4_says_5 15 rfl rfl)
theorem dX4_says_132 : decode cX4_says 132 = .ok (.iload_n 3, 1) := dk_29 (dk_at dksX4_says_5 16 rfl rfl)
theorem dX4_says_133 : decode cX4_says 133 = .ok (.iconst 1, 1) := dk_4 (dk_at dksX4_says_5 17 rfl rfl)
theorem dX4_says_134 : decode cX4_says 134 = .ok (.iconst 0, 1) := dk_3 (dk_at dksX4_says_5 18 rfl rfl)
theorem dX4_says_135 : decode cX4_says 135 = .ok (.invokevirtual 199, 3) := dk_182 0 199 (dk_at dksX4_says_5 19 rfl rfl)
theorem dX4_says_138 : decode cX4_says 138 = .ok (.aload_n 0, 1) := dk_42 (dk_at dksX4_says_5 22 rfl rfl)
theorem dX4_says_139 : decode cX4_says 139 = .ok (.getfield 36, 3) := dk_180 0 36 (dk_at dksX4_says_6 0 rfl rfl)
theorem dX4_says_142 : decode cX4_says 142 = .ok (.iconst 0, 1) := dk_3 (dk_at dksX4_says_6 3 rfl rfl)
theorem dX4_says_143 : decode cX4_says 143 = .ok (.iaload, 1) := dk_46 (dk_at dksX4_says_6 4 rfl rfl)
theorem dX4_says_144 : decode cX4_says 144 = .ok (.ireturn, 1) := dk_172 (dk_at dksX4_says_6 5 rfl rfl)
abbrev cX4_kind : ByteArray := prog_16_method_8_code
def yX4_kind : MethodName := ⟨RX4, "kind", "(I)I"⟩
def dkwX4_kind_0 : List UInt8 := [42, 180, 0, 17, 8, 27, 104, 46, 172]
abbrev dktX4_kind_0 : List UInt8 := dkwX4_kind_0 ++ []
theorem dksX4_kind_0 : cX4_kind.data.toList.drop 0 = dktX4_kind_0 := by decide +kernel
theorem dX4_kind_0 : decode cX4_kind 0 = .ok (.aload_n 0, 1) := dk_42 (dk_at dksX4_kind_0 0 rfl rfl)
theorem dX4_kind_1 : decode cX4_kind 1 = .ok (.getfield 17, 3) := dk_180 0 17 (dk_at dksX4_kind_0 1 rfl rfl)
theorem dX4_kind_4 : decode cX4_kind 4 = .ok (.iconst 5, 1) := dk_8 (dk_at dksX4_kind_0 4 rfl rfl)
theorem dX4_kind_5 : decode cX4_kind 5 = .ok (.iload_n 1, 1) := dk_27 (dk_at dksX4_kind_0 5 rfl rfl)
theorem dX4_kind_6 : decode cX4_kind 6 = .ok (.imul, 1) := dk_104 (dk_at dksX4_kind_0 6 rfl rfl)
theorem dX4_kind_7 : decode cX4_kind 7 = .ok (.iaload, 1) := dk_46 (dk_at dksX4_kind_0 7 rfl rfl)
theorem dX4_kind_8 : decode cX4_kind 8 = .ok (.ireturn, 1) := dk_172 (dk_at dksX4_kind_0 8 rfl rfl)
abbrev cX4_a : ByteArray := prog_16_method_9_code
def yX4_a : MethodName := ⟨RX4, "a", "(I)I"⟩
def dkwX4_a_0 : List UInt8 := [42, 180, 0, 17, 8, 27, 104, 4, 96, 46, 172]
abbrev dktX4_a_0 : List UInt8 := dkwX4_a_0 ++ []
theorem dksX4_a_0 : cX4_a.data.toList.drop 0 = dktX4_a_0 := by decide +kernel
theorem dX4_a_0 : decode cX4_a 0 = .ok (.aload_n 0, 1) := dk_42 (dk_at dksX4_a_0 0 rfl rfl)
theorem dX4_a_1 : decode cX4_a 1 = .ok (.getfield 17, 3) := dk_180 0 17 (dk_at dksX4_a_0 1 rfl rfl)
theorem dX4_a_4 : decode cX4_a 4 = .ok (.iconst 5, 1) := dk_8 (dk_at dksX4_a_0 4 rfl rfl)
theorem dX4_a_5 : decode cX4_a 5 = .ok (.iload_n 1, 1) := dk_27 (dk_at dksX4_a_0 5 rfl rfl)
theorem dX4_a_6 : decode cX4_a 6 = .ok (.imul, 1) := dk_104 (dk_at dksX4_a_0 6 rfl rfl)
theorem dX4_a_7 : decode cX4_a 7 = .ok (.iconst 1, 1) := dk_4 (dk_at dksX4_a_0 7 rfl rfl)
theorem dX4_a_8 : decode cX4_a 8 = .ok (.iadd, 1) := dk_96 (dk_at dksX4_a_0 8 rfl rfl)
theorem dX4_a_9 : decode cX4_a 9 = .ok (.iaload, 1) := dk_46 (dk_at dksX4_a_0 9 rfl rfl)
theorem dX4_a_10 : decode cX4_a 10 = .ok (.ireturn, 1) := dk_172 (dk_at dksX4_a_0 10 rfl rfl)
abbrev cX4_faces : ByteArray := prog_16_method_11_code
def yX4_faces : MethodName := ⟨RX4, "faces", "(I)I"⟩
def dkwX4_faces_0 : List UInt8 := [42, 180, 0, 17, 8, 27, 104, 6, 96, 46, 172]
abbrev dktX4_faces_0 : List UInt8 := dkwX4_faces_0 ++ []
theorem dksX4_faces_0 : cX4_faces.data.toList.drop 0 = dktX4_faces_0 := by decide +kernel
theorem dX4_faces_0 : decode cX4_faces 0 = .ok (.aload_n 0, 1) := dk_42 (dk_at dksX4_faces_0 0 rfl rfl)
theorem dX4_faces_1 : decode cX4_faces 1 = .ok (.getfield 17, 3) := dk_180 0 17 (dk_at dksX4_faces_0 1 rfl rfl)
theorem dX4_faces_4 : decode cX4_faces 4 = .ok (.iconst 5, 1) := dk_8 (dk_at dksX4_faces_0 4 rfl rfl)
theorem dX4_faces_5 : decode cX4_faces 5 = .ok (.iload_n 1, 1) := dk_27 (dk_at dksX4_faces_0 5 rfl rfl)
theorem dX4_faces_6 : decode cX4_faces 6 = .ok (.imul, 1) := dk_104 (dk_at dksX4_faces_0 6 rfl rfl)
theorem dX4_faces_7 : decode cX4_faces 7 = .ok (.iconst 3, 1) := dk_6 (dk_at dksX4_faces_0 7 rfl rfl)
theorem dX4_faces_8 : decode cX4_faces 8 = .ok (.iadd, 1) := dk_96 (dk_at dksX4_faces_0 8 rfl rfl)
theorem dX4_faces_9 : decode cX4_faces 9 = .ok (.iaload, 1) := dk_46 (dk_at dksX4_faces_0 9 rfl rfl)
theorem dX4_faces_10 : decode cX4_faces 10 = .ok (.ireturn, 1) := dk_172 (dk_at dksX4_faces_0 10 rfl rfl)
abbrev cX4_start : ByteArray := prog_16_method_37_code
def yX4_start : MethodName := ⟨RX4, "start", "(III)V"⟩
def dkwX4_start_1 : List UInt8 := [180, 0, 48, 27, 2, 79, 177]
abbrev dktX4_start_1 : List UInt8 := dkwX4_start_1 ++ []
def dkwX4_start_0 : List UInt8 := [42, 180, 0, 33, 27, 28, 79, 42, 180, 0, 36, 27, 29, 79, 42, 180, 0, 39, 27, 3, 79, 42]
abbrev dktX4_start_0 : List UInt8 := dkwX4_start_0 ++ dktX4_start_1
theorem dksX4_start_0 : cX4_start.data.toList.drop 0 = dktX4_start_0 := by decide +kernel
theorem dksX4_start_1 : cX4_start.data.toList.drop 22 = dktX4_start_1 := dk_seg dksX4_start_0 22 rfl rfl
theorem dX4_start_0 : decode cX4_start 0 = .ok (.aload_n 0, 1) := dk_42 (dk_at dksX4_start_0 0 rfl rfl)
theorem dX4_start_1 : decode cX4_start 1 = .ok (.getfield 33, 3) := dk_180 0 33 (dk_at dksX4_start_0 1 rfl rfl)
theorem dX4_start_4 : decode cX4_start 4 = .ok (.iload_n 1, 1) := dk_27 (dk_at dksX4_start_0 4 rfl rfl)
theorem dX4_start_5 : decode cX4_start 5 = .ok (.iload_n 2, 1) := dk_28 (dk_at dksX4_start_0 5 rfl rfl)
theorem dX4_start_6 : decode cX4_start 6 = .ok (.iastore, 1) := dk_79 (dk_at dksX4_start_0 6 rfl rfl)
theorem dX4_start_7 : decode cX4_start 7 = .ok (.aload_n 0, 1) := dk_42 (dk_at dksX4_start_0 7 rfl rfl)
theorem dX4_start_8 : decode cX4_start 8 = .ok (.getfield 36, 3) := dk_180 0 36 (dk_at dksX4_start_0 8 rfl rfl)
theorem dX4_start_11 : decode cX4_start 11 = .ok (.iload_n 1, 1) := dk_27 (dk_at dksX4_start_0 11 rfl rfl)
theorem dX4_start_12 : decode cX4_start 12 = .ok (.iload_n 3, 1) := dk_29 (dk_at dksX4_start_0 12 rfl rfl)
theorem dX4_start_13 : decode cX4_start 13 = .ok (.iastore, 1) := dk_79 (dk_at dksX4_start_0 13 rfl rfl)
theorem dX4_start_14 : decode cX4_start 14 = .ok (.aload_n 0, 1) := dk_42 (dk_at dksX4_start_0 14 rfl rfl)
theorem dX4_start_15 : decode cX4_start 15 = .ok (.getfield 39, 3) := dk_180 0 39 (dk_at dksX4_start_0 15 rfl rfl)
theorem dX4_start_18 : decode cX4_start 18 = .ok (.iload_n 1, 1) := dk_27 (dk_at dksX4_start_0 18 rfl rfl)
theorem dX4_start_19 : decode cX4_start 19 = .ok (.iconst 0, 1) := dk_3 (dk_at dksX4_start_0 19 rfl rfl)
theorem dX4_start_20 : decode cX4_start 20 = .ok (.iastore, 1) := dk_79 (dk_at dksX4_start_0 20 rfl rfl)
theorem dX4_start_21 : decode cX4_start 21 = .ok (.aload_n 0, 1) := dk_42 (dk_at dksX4_start_0 21 rfl rfl)
theorem dX4_start_22 : decode cX4_start 22 = .ok (.getfield 48, 3) := dk_180 0 48 (dk_at dksX4_start_1 0 rfl rfl)
theorem dX4_start_25 : decode cX4_start 25 = .ok (.iload_n 1, 1) := dk_27 (dk_at dksX4_start_1 3 rfl rfl)
theorem dX4_start_26 : decode cX4_start 26 = .ok (.iconst (-1), 1) := dk_2 (dk_at dksX4_start_1 4 rfl rfl)
theorem dX4_start_27 : decode cX4_start 27 = .ok (.iastore, 1) := dk_79 (dk_at dksX4_start_1 5 rfl rfl)
theorem dX4_start_28 : decode cX4_start 28 = .ok (.return_, 1) := dk_177 (dk_at dksX4_start_1 6 rfl rfl)
abbrev cX4_step : ByteArray := prog_16_method_39_code
def yX4_step : MethodName := ⟨RX4, "step", "(IIII)V"⟩
def dkwX4_step_6 : List UInt8 := [27, 92, 46, 4, 96, 79, 42, 180, 0, 42, 27, 29, 79, 42, 180, 0, 45, 27, 21, 5, 79, 177]
abbrev dktX4_step_6 : List UInt8 := dkwX4_step_6 ++ []
def dkwX4_step_5 : List UInt8 := [160, 0, 7, 4, 167, 0, 4, 3, 160, 0, 7, 4, 167, 0, 4, 6, 96, 7, 112, 79, 42, 180, 0, 39]
abbrev dktX4_step_5 : List UInt8 := dkwX4_step_5 ++ dktX4_step_6
def dkwX4_step_4 : List UInt8 := [180, 0, 36, 27, 42, 180, 0, 36, 27, 46, 21, 5, 4, 160, 0, 7, 4, 167, 0, 4, 3, 29, 4]
abbrev dktX4_step_4 : List UInt8 := dkwX4_step_4 ++ dktX4_step_5
def dkwX4_step_3 : List UInt8 := [182, 0, 95, 153, 0, 8, 21, 4, 167, 0, 4, 2, 79, 177, 42, 27, 28, 29, 182, 0, 188, 54, 5, 42]
abbrev dktX4_step_3 : List UInt8 := dkwX4_step_3 ++ dktX4_step_4
def dkwX4_step_2 : List UInt8 := [180, 0, 33, 27, 46, 181, 0, 185, 42, 180, 0, 33, 27, 21, 5, 79, 42, 180, 0, 48, 27, 42, 21, 5]
abbrev dktX4_step_2 : List UInt8 := dkwX4_step_2 ++ dktX4_step_3
def dkwX4_step_1 : List UInt8 := [180, 0, 33, 27, 46, 42, 180, 0, 36, 27, 46, 182, 0, 91, 54, 5, 21, 5, 2, 159, 0, 42, 42, 42]
abbrev dktX4_step_1 : List UInt8 := dkwX4_step_1 ++ dktX4_step_2
def dkwX4_step_0 : List UInt8 := [42, 180, 0, 48, 27, 46, 2, 160, 0, 8, 29, 6, 160, 0, 4, 177, 29, 154, 0, 67, 42, 42]
abbrev dktX4_step_0 : List UInt8 := dkwX4_step_0 ++ dktX4_step_1
theorem dksX4_step_0 : cX4_step.data.toList.drop 0 = dktX4_step_0 := by decide +kernel
theorem dksX4_step_1 : cX4_step.data.toList.drop 22 = dktX4_step_1 := dk_seg dksX4_step_0 22 rfl rfl
theorem dksX4_step_2 : cX4_step.data.toList.drop 46 = dktX4_step_2 := dk_seg dksX4_step_1 24 rfl rfl
theorem dksX4_step_3 : cX4_step.data.toList.drop 70 = dktX4_step_3 := dk_seg dksX4_step_2 24 rfl rfl
theorem dksX4_step_4 : cX4_step.data.toList.drop 94 = dktX4_step_4 := dk_seg dksX4_step_3 24 rfl rfl
theorem dksX4_step_5 : cX4_step.data.toList.drop 117 = dktX4_step_5 := dk_seg dksX4_step_4 23 rfl rfl
theorem dksX4_step_6 : cX4_step.data.toList.drop 141 = dktX4_step_6 := dk_seg dksX4_step_5 24 rfl rfl
theorem dX4_step_0 : decode cX4_step 0 = .ok (.aload_n 0, 1) := dk_42 (dk_at dksX4_step_0 0 rfl rfl)
theorem dX4_step_1 : decode cX4_step 1 = .ok (.getfield 48, 3) := dk_180 0 48 (dk_at dksX4_step_0 1 rfl rfl)
theorem dX4_step_4 : decode cX4_step 4 = .ok (.iload_n 1, 1) := dk_27 (dk_at dksX4_step_0 4 rfl rfl)
theorem dX4_step_5 : decode cX4_step 5 = .ok (.iaload, 1) := dk_46 (dk_at dksX4_step_0 5 rfl rfl)
theorem dX4_step_6 : decode cX4_step 6 = .ok (.iconst (-1), 1) := dk_2 (dk_at dksX4_step_0 6 rfl rfl)
theorem dX4_step_7 : decode cX4_step 7 = .ok (.if_icmp .ne 8, 3) := dk_160 0 8 (dk_at dksX4_step_0 7 rfl rfl)
theorem dX4_step_10 : decode cX4_step 10 = .ok (.iload_n 3, 1) := dk_29 (dk_at dksX4_step_0 10 rfl rfl)
theorem dX4_step_11 : decode cX4_step 11 = .ok (.iconst 3, 1) := dk_6 (dk_at dksX4_step_0 11 rfl rfl)
theorem dX4_step_12 : decode cX4_step 12 = .ok (.if_icmp .ne 4, 3) := dk_160 0 4 (dk_at dksX4_step_0 12 rfl rfl)
theorem dX4_step_15 : decode cX4_step 15 = .ok (.return_, 1) := dk_177 (dk_at dksX4_step_0 15 rfl rfl)
theorem dX4_step_16 : decode cX4_step 16 = .ok (.iload_n 3, 1) := dk_29 (dk_at dksX4_step_0 16 rfl rfl)
theorem dX4_step_17 : decode cX4_step 17 = .ok (.ifCond .ne 67, 3) := dk_154 0 67 (dk_at dksX4_step_0 17 rfl rfl)
theorem dX4_step_20 : decode cX4_step 20 = .ok (.aload_n 0, 1) := dk_42 (dk_at dksX4_step_0 20 rfl rfl)
theorem dX4_step_21 : decode cX4_step 21 = .ok (.aload_n 0, 1) := dk_42 (dk_at dksX4_step_0 21 rfl rfl)
theorem dX4_step_22 : decode cX4_step 22 = .ok (.getfield 33, 3) := dk_180 0 33 (dk_at dksX4_step_1 0 rfl rfl)
theorem dX4_step_25 : decode cX4_step 25 = .ok (.iload_n 1, 1) := dk_27 (dk_at dksX4_step_1 3 rfl rfl)
theorem dX4_step_26 : decode cX4_step 26 = .ok (.iaload, 1) := dk_46 (dk_at dksX4_step_1 4 rfl rfl)
theorem dX4_step_27 : decode cX4_step 27 = .ok (.aload_n 0, 1) := dk_42 (dk_at dksX4_step_1 5 rfl rfl)
theorem dX4_step_28 : decode cX4_step 28 = .ok (.getfield 36, 3) := dk_180 0 36 (dk_at dksX4_step_1 6 rfl rfl)
theorem dX4_step_31 : decode cX4_step 31 = .ok (.iload_n 1, 1) := dk_27 (dk_at dksX4_step_1 9 rfl rfl)
theorem dX4_step_32 : decode cX4_step 32 = .ok (.iaload, 1) := dk_46 (dk_at dksX4_step_1 10 rfl rfl)
theorem dX4_step_33 : decode cX4_step 33 = .ok (.invokevirtual 91, 3) := dk_182 0 91 (dk_at dksX4_step_1 11 rfl rfl)
theorem dX4_step_36 : decode cX4_step 36 = .ok (.istore 5, 2) := dk_54 5 (dk_at dksX4_step_1 14 rfl rfl)
theorem dX4_step_38 : decode cX4_step 38 = .ok (.iload 5, 2) := dk_21 5 (dk_at dksX4_step_1 16 rfl rfl)
theorem dX4_step_40 : decode cX4_step 40 = .ok (.iconst (-1), 1) := dk_2 (dk_at dksX4_step_1 18 rfl rfl)
theorem dX4_step_41 : decode cX4_step 41 = .ok (.if_icmp .eq 42, 3) := dk_159 0 42 (dk_at dksX4_step_1 19 rfl rfl)
theorem dX4_step_44 : decode cX4_step 44 = .ok (.aload_n 0, 1) := dk_42 (dk_at dksX4_step_1 22 rfl rfl)
theorem dX4_step_45 : decode cX4_step 45 = .ok (.aload_n 0, 1) := dk_42 (dk_at dksX4_step_1 23 rfl rfl)
theorem dX4_step_46 : decode cX4_step 46 = .ok (.getfield 33, 3) := dk_180 0 33 (dk_at dksX4_step_2 0 rfl rfl)
theorem dX4_step_49 : decode cX4_step 49 = .ok (.iload_n 1, 1) := dk_27 (dk_at dksX4_step_2 3 rfl rfl)
theorem dX4_step_50 : decode cX4_step 50 = .ok (.iaload, 1) := dk_46 (dk_at dksX4_step_2 4 rfl rfl)
theorem dX4_step_51 : decode cX4_step 51 = .ok (.putfield 185, 3) := dk_181 0 185 (dk_at dksX4_step_2 5 rfl rfl)
theorem dX4_step_54 : decode cX4_step 54 = .ok (.aload_n 0, 1) := dk_42 (dk_at dksX4_step_2 8 rfl rfl)
theorem dX4_step_55 : decode cX4_step 55 = .ok (.getfield 33, 3) := dk_180 0 33 (dk_at dksX4_step_2 9 rfl rfl)
theorem dX4_step_58 : decode cX4_step 58 = .ok (.iload_n 1, 1) := dk_27 (dk_at dksX4_step_2 12 rfl rfl)
theorem dX4_step_59 : decode cX4_step 59 = .ok (.iload 5, 2) := dk_21 5 (dk_at dksX4_step_2 13 rfl rfl)
theorem dX4_step_61 : decode cX4_step 61 = .ok (.iastore, 1) := dk_79 (dk_at dksX4_step_2 15 rfl rfl)
theorem dX4_step_62 : decode cX4_step 62 = .ok (.aload_n 0, 1) := dk_42 (dk_at dksX4_step_2 16 rfl rfl)
theorem dX4_step_63 : decode cX4_step 63 = .ok (.getfield 48, 3) := dk_180 0 48 (dk_at dksX4_step_2 17 rfl rfl)
theorem dX4_step_66 : decode cX4_step 66 = .ok (.iload_n 1, 1) := dk_27 (dk_at dksX4_step_2 20 rfl rfl)
theorem dX4_step_67 : decode cX4_step 67 = .ok (.aload_n 0, 1) := dk_42 (dk_at dksX4_step_2 21 rfl rfl)
theorem dX4_step_68 : decode cX4_step 68 = .ok (.iload 5, 2) := dk_21 5 (dk_at dksX4_step_2 22 rfl rfl)
theorem dX4_step_70 : decode cX4_step 70 = .ok (.invokevirtual 95, 3) := dk_182 0 95 (dk_at dksX4_step_3 0 rfl rfl)
theorem dX4_step_73 : decode cX4_step 73 = .ok (.ifCond .eq 8, 3) := dk_153 0 8 (dk_at dksX4_step_3 3 rfl rfl)
theorem dX4_step_76 : decode cX4_step 76 = .ok (.iload 4, 2) := dk_21 4 (dk_at dksX4_step_3 6 rfl rfl)
theorem dX4_step_78 : decode cX4_step 78 = .ok (.goto 4, 3) := dk_167 0 4 (dk_at dksX4_step_3 8 rfl rfl)
theorem dX4_step_81 : decode cX4_step 81 = .ok (.iconst (-1), 1) := dk_2 (dk_at dksX4_step_3 11 rfl rfl)
theorem dX4_step_82 : decode cX4_step 82 = .ok (.iastore, 1) := dk_79 (dk_at dksX4_step_3 12 rfl rfl)
theorem dX4_step_83 : decode cX4_step 83 = .ok (.return_, 1) := dk_177 (dk_at dksX4_step_3 13 rfl rfl)
theorem dX4_step_84 : decode cX4_step 84 = .ok (.aload_n 0, 1) := dk_42 (dk_at dksX4_step_3 14 rfl rfl)
theorem dX4_step_85 : decode cX4_step 85 = .ok (.iload_n 1, 1) := dk_27 (dk_at dksX4_step_3 15 rfl rfl)
theorem dX4_step_86 : decode cX4_step 86 = .ok (.iload_n 2, 1) := dk_28 (dk_at dksX4_step_3 16 rfl rfl)
theorem dX4_step_87 : decode cX4_step 87 = .ok (.iload_n 3, 1) := dk_29 (dk_at dksX4_step_3 17 rfl rfl)
theorem dX4_step_88 : decode cX4_step 88 = .ok (.invokevirtual 188, 3) := dk_182 0 188 (dk_at dksX4_step_3 18 rfl rfl)
theorem dX4_step_91 : decode cX4_step 91 = .ok (.istore 5, 2) := dk_54 5 (dk_at dksX4_step_3 21 rfl rfl)
theorem dX4_step_93 : decode cX4_step 93 = .ok (.aload_n 0, 1) := dk_42 (dk_at dksX4_step_3 23 rfl rfl)
theorem dX4_step_94 : decode cX4_step 94 = .ok (.getfield 36, 3) := dk_180 0 36 (dk_at dksX4_step_4 0 rfl rfl)
theorem dX4_step_97 : decode cX4_step 97 = .ok (.iload_n 1, 1) := dk_27 (dk_at dksX4_step_4 3 rfl rfl)
theorem dX4_step_98 : decode cX4_step 98 = .ok (.aload_n 0, 1) := dk_42 (dk_at dksX4_step_4 4 rfl rfl)
theorem dX4_step_99 : decode cX4_step 99 = .ok (.getfield 36, 3) := dk_180 0 36 (dk_at dksX4_step_4 5 rfl rfl)
theorem dX4_step_102 : decode cX4_step 102 = .ok (.iload_n 1, 1) := dk_27 (dk_at dksX4_step_4 8 rfl rfl)
theorem dX4_step_103 : decode cX4_step 103 = .ok (.iaload, 1) := dk_46 (dk_at dksX4_step_4 9 rfl rfl)
theorem dX4_step_104 : decode cX4_step 104 = .ok (.iload 5, 2) := dk_21 5 (dk_at dksX4_step_4 10 rfl rfl)
theorem dX4_step_106 : decode cX4_step 106 = .ok (.iconst 1, 1) := dk_4 (dk_at dksX4_step_4 12 rfl rfl)
theorem dX4_step_107 : decode cX4_step 107 = .ok (.if_icmp .ne 7, 3) := dk_160 0 7 (dk_at dksX4_step_4 13 rfl rfl)
theorem dX4_step_110 : decode cX4_step 110 = .ok (.iconst 1, 1) := dk_4 (dk_at dksX4_step_4 16 rfl rfl)
theorem dX4_step_111 : decode cX4_step 111 = .ok (.goto 4, 3) := dk_167 0 4 (dk_at dksX4_step_4 17 rfl rfl)
theorem dX4_step_114 : decode cX4_step 114 = .ok (.iconst 0, 1) := dk_3 (dk_at dksX4_step_4 20 rfl rfl)
theorem dX4_step_115 : decode cX4_step 115 = .ok (.iload_n 3, 1) := dk_29 (dk_at dksX4_step_4 21 rfl rfl)
theorem dX4_step_116 : decode cX4_step 116 = .ok (.iconst 1, 1) := dk_4 (dk_at dksX4_step_4 22 rfl rfl)
theorem dX4_step_117 : decode cX4_step 117 = .ok (.if_icmp .ne 7, 3) := dk_160 0 7 (dk_at dksX4_step_5 0 rfl rfl)
theorem dX4_step_120 : decode cX4_step 120 = .ok (.iconst 1, 1) := dk_4 (dk_at dksX4_step_5 3 rfl rfl)
theorem dX4_step_121 : decode cX4_step 121 = .ok (.goto 4, 3) := dk_167 0 4 (dk_at dksX4_step_5 4 rfl rfl)
theorem dX4_step_124 : decode cX4_step 124 = .ok (.iconst 0, 1) := dk_3 (dk_at dksX4_step_5 7 rfl rfl)
theorem dX4_step_125 : decode cX4_step 125 = .ok (.if_icmp .ne 7, 3) := dk_160 0 7 (dk_at dksX4_step_5 8 rfl rfl)
theorem dX4_step_128 : decode cX4_step 128 = .ok (.iconst 1, 1) := dk_4 (dk_at dksX4_step_5 11 rfl rfl)
theorem dX4_step_129 : decode cX4_step 129 = .ok (.goto 4, 3) := dk_167 0 4 (dk_at dksX4_step_5 12 rfl rfl)
theorem dX4_step_132 : decode cX4_step 132 = .ok (.iconst 3, 1) := dk_6 (dk_at dksX4_step_5 15 rfl rfl)
theorem dX4_step_133 : decode cX4_step 133 = .ok (.iadd, 1) := dk_96 (dk_at dksX4_step_5 16 rfl rfl)
theorem dX4_step_134 : decode cX4_step 134 = .ok (.iconst 4, 1) := dk_7 (dk_at dksX4_step_5 17 rfl rfl)
theorem dX4_step_135 : decode cX4_step 135 = .ok (.irem, 1) := dk_112 (dk_at dksX4_step_5 18 rfl rfl)
theorem dX4_step_136 : decode cX4_step 136 = .ok (.iastore, 1) := dk_79 (dk_at dksX4_step_5 19 rfl rfl)
theorem dX4_step_137 : decode cX4_step 137 = .ok (.aload_n 0, 1) := dk_42 (dk_at dksX4_step_5 20 rfl rfl)
theorem dX4_step_138 : decode cX4_step 138 = .ok (.getfield 39, 3) := dk_180 0 39 (dk_at dksX4_step_5 21 rfl rfl)
theorem dX4_step_141 : decode cX4_step 141 = .ok (.iload_n 1, 1) := dk_27 (dk_at dksX4_step_6 0 rfl rfl)
theorem dX4_step_142 : decode cX4_step 142 = .ok (.dup2, 1) := dk_92 (dk_at dksX4_step_6 1 rfl rfl)
theorem dX4_step_143 : decode cX4_step 143 = .ok (.iaload, 1) := dk_46 (dk_at dksX4_step_6 2 rfl rfl)
theorem dX4_step_144 : decode cX4_step 144 = .ok (.iconst 1, 1) := dk_4 (dk_at dksX4_step_6 3 rfl rfl)
theorem dX4_step_145 : decode cX4_step 145 = .ok (.iadd, 1) := dk_96 (dk_at dksX4_step_6 4 rfl rfl)
theorem dX4_step_146 : decode cX4_step 146 = .ok (.iastore, 1) := dk_79 (dk_at dksX4_step_6 5 rfl rfl)
theorem dX4_step_147 : decode cX4_step 147 = .ok (.aload_n 0, 1) := dk_42 (dk_at dksX4_step_6 6 rfl rfl)
theorem dX4_step_148 : decode cX4_step 148 = .ok (.getfield 42, 3) := dk_180 0 42 (dk_at dksX4_step_6 7 rfl rfl)
theorem dX4_step_151 : decode cX4_step 151 = .ok (.iload_n 1, 1) := dk_27 (dk_at dksX4_step_6 10 rfl rfl)
theorem dX4_step_152 : decode cX4_step 152 = .ok (.iload_n 3, 1) := dk_29 (dk_at dksX4_step_6 11 rfl rfl)
theorem dX4_step_153 : decode cX4_step 153 = .ok (.iastore, 1) := dk_79 (dk_at dksX4_step_6 12 rfl rfl)
theorem dX4_step_154 : decode cX4_step 154 = .ok (.aload_n 0, 1) := dk_42 (dk_at dksX4_step_6 13 rfl rfl)
theorem dX4_step_155 : decode cX4_step 155 = .ok (.getfield 45, 3) := dk_180 0 45 (dk_at dksX4_step_6 14 rfl rfl)
theorem dX4_step_158 : decode cX4_step 158 = .ok (.iload_n 1, 1) := dk_27 (dk_at dksX4_step_6 17 rfl rfl)
theorem dX4_step_159 : decode cX4_step 159 = .ok (.iload 5, 2) := dk_21 5 (dk_at dksX4_step_6 18 rfl rfl)
theorem dX4_step_161 : decode cX4_step 161 = .ok (.iastore, 1) := dk_79 (dk_at dksX4_step_6 20 rfl rfl)
theorem dX4_step_162 : decode cX4_step 162 = .ok (.return_, 1) := dk_177 (dk_at dksX4_step_6 21 rfl rfl)
abbrev cX4_beside : ByteArray := prog_16_method_17_code
def yX4_beside : MethodName := ⟨RX4, "beside", "(II)I"⟩
def dkwX4_beside_4 : List UInt8 := [167, 0, 4, 2, 172]
abbrev dktX4_beside_4 : List UInt8 := dkwX4_beside_4 ++ []
def dkwX4_beside_3 : List UInt8 := [9, 42, 180, 0, 17, 16, 90, 46, 4, 100, 133, 184, 0, 76, 153, 0, 13, 16, 10, 29, 104, 21, 4, 96]
abbrev dktX4_beside_3 : List UInt8 := dkwX4_beside_3 ++ dktX4_beside_4
def dkwX4_beside_2 : List UInt8 := [54, 4, 29, 133, 9, 42, 180, 0, 17, 16, 90, 46, 4, 100, 133, 184, 0, 76, 153, 0, 33, 21, 4, 133]
abbrev dktX4_beside_2 : List UInt8 := dkwX4_beside_2 ++ dktX4_beside_3
def dkwX4_beside_1 : List UInt8 := [27, 16, 10, 112, 28, 6, 160, 0, 7, 2, 167, 0, 13, 28, 4, 160, 0, 7, 4, 167, 0, 4, 3, 96]
abbrev dktX4_beside_1 : List UInt8 := dkwX4_beside_1 ++ dktX4_beside_2
def dkwX4_beside_0 : List UInt8 := [27, 16, 10, 108, 28, 154, 0, 7, 2, 167, 0, 13, 28, 5, 160, 0, 7, 4, 167, 0, 4, 3, 96, 62]
abbrev dktX4_beside_0 : List UInt8 := dkwX4_beside_0 ++ dktX4_beside_1
theorem dksX4_beside_0 : cX4_beside.data.toList.drop 0 = dktX4_beside_0 := by decide +kernel
theorem dksX4_beside_1 : cX4_beside.data.toList.drop 24 = dktX4_beside_1 := dk_seg dksX4_beside_0 24 rfl rfl
theorem dksX4_beside_2 : cX4_beside.data.toList.drop 48 = dktX4_beside_2 := dk_seg dksX4_beside_1 24 rfl rfl
theorem dksX4_beside_3 : cX4_beside.data.toList.drop 72 = dktX4_beside_3 := dk_seg dksX4_beside_2 24 rfl rfl
theorem dksX4_beside_4 : cX4_beside.data.toList.drop 96 = dktX4_beside_4 := dk_seg dksX4_beside_3 24 rfl rfl
theorem dX4_beside_0 : decode cX4_beside 0 = .ok (.iload_n 1, 1) := dk_27 (dk_at dksX4_beside_0 0 rfl rfl)
theorem dX4_beside_1 : decode cX4_beside 1 = .ok (.bipush 10, 2) := dk_16 10 (dk_at dksX4_beside_0 1 rfl rfl)
theorem dX4_beside_3 : decode cX4_beside 3 = .ok (.idiv, 1) := dk_108 (dk_at dksX4_beside_0 3 rfl rfl)
theorem dX4_beside_4 : decode cX4_beside 4 = .ok (.iload_n 2, 1) := dk_28 (dk_at dksX4_beside_0 4 rfl rfl)
theorem dX4_beside_5 : decode cX4_beside 5 = .ok (.ifCond .ne 7, 3) := dk_154 0 7 (dk_at dksX4_beside_0 5 rfl rfl)
theorem dX4_beside_8 : decode cX4_beside 8 = .ok (.iconst (-1), 1) := dk_2 (dk_at dksX4_beside_0 8 rfl rfl)
theorem dX4_beside_9 : decode cX4_beside 9 = .ok (.goto 13, 3) := dk_167 0 13 (dk_at dksX4_beside_0 9 rfl rfl)
theorem dX4_beside_12 : decode cX4_beside 12 = .ok (.iload_n 2, 1) := dk_28 (dk_at dksX4_beside_0 12 rfl rfl)
theorem dX4_beside_13 : decode cX4_beside 13 = .ok (.iconst 2, 1) := dk_5 (dk_at dksX4_beside_0 13 rfl rfl)
theorem dX4_beside_14 : decode cX4_beside 14 = .ok (.if_icmp .ne 7, 3) := dk_160 0 7 (dk_at dksX4_beside_0 14 rfl rfl)
theorem dX4_beside_17 : decode cX4_beside 17 = .ok (.iconst 1, 1) := dk_4 (dk_at dksX4_beside_0 17 rfl rfl)
theorem dX4_beside_18 : decode cX4_beside 18 = .ok (.goto 4, 3) := dk_167 0 4 (dk_at dksX4_beside_0 18 rfl rfl)
theorem dX4_beside_21 : decode cX4_beside 21 = .ok (.iconst 0, 1) := dk_3 (dk_at dksX4_beside_0 21 rfl rfl)
theorem dX4_beside_22 : decode cX4_beside 22 = .ok (.iadd, 1) := dk_96 (dk_at dksX4_beside_0 22 rfl rfl)
theorem dX4_beside_23 : decode cX4_beside 23 = .ok (.istore_n 3, 1) := dk_62 (dk_at dksX4_beside_0 23 rfl rfl)
theorem dX4_beside_24 : decode cX4_beside 24 = .ok (.iload_n 1, 1) := dk_27 (dk_at dksX4_beside_1 0 rfl rfl)
theorem dX4_beside_25 : decode cX4_beside 25 = .ok (.bipush 10, 2) := dk_16 10 (dk_at dksX4_beside_1 1 rfl rfl)
theorem dX4_beside_27 : decode cX4_beside 27 = .ok (.irem, 1) := dk_112 (dk_at dksX4_beside_1 3 rfl rfl)
theorem dX4_beside_28 : decode cX4_beside 28 = .ok (.iload_n 2, 1) := dk_28 (dk_at dksX4_beside_1 4 rfl rfl)
theorem dX4_beside_29 : decode cX4_beside 29 = .ok (.iconst 3, 1) := dk_6 (dk_at dksX4_beside_1 5 rfl rfl)
theorem dX4_beside_30 : decode cX4_beside 30 = .ok (.if_icmp .ne 7, 3) := dk_160 0 7 (dk_at dksX4_beside_1 6 rfl rfl)
theorem dX4_beside_33 : decode cX4_beside 33 = .ok (.iconst (-1), 1) := dk_2 (dk_at dksX4_beside_1 9 rfl rfl)
theorem dX4_beside_34 : decode cX4_beside 34 = .ok (.goto 13, 3) := dk_167 0 13 (dk_at dksX4_beside_1 10 rfl rfl)
theorem dX4_beside_37 : decode cX4_beside 37 = .ok (.iload_n 2, 1) := dk_28 (dk_at dksX4_beside_1 13 rfl rfl)
theorem dX4_beside_38 : decode cX4_beside 38 = .ok (.iconst 1, 1) := dk_4 (dk_at dksX4_beside_1 14 rfl rfl)
theorem dX4_beside_39 : decode cX4_beside 39 = .ok (.if_icmp .ne 7, 3) := dk_160 0 7 (dk_at dksX4_beside_1 15 rfl rfl)
theorem dX4_beside_42 : decode cX4_beside 42 = .ok (.iconst 1, 1) := dk_4 (dk_at dksX4_beside_1 18 rfl rfl)
theorem dX4_beside_43 : decode cX4_beside 43 = .ok (.goto 4, 3) := dk_167 0 4 (dk_at dksX4_beside_1 19 rfl rfl)
theorem dX4_beside_46 : decode cX4_beside 46 = .ok (.iconst 0, 1) := dk_3 (dk_at dksX4_beside_1 22 rfl rfl)
theorem dX4_beside_47 : decode cX4_beside 47 = .ok (.iadd, 1) := dk_96 (dk_at dksX4_beside_1 23 rfl rfl)
theorem dX4_beside_48 : decode cX4_beside 48 = .ok (.istore 4, 2) := dk_54 4 (dk_at dksX4_beside_2 0 rfl rfl)
theorem dX4_beside_50 : decode cX4_beside 50 = .ok (.iload_n 3, 1) := dk_29 (dk_at dksX4_beside_2 2 rfl rfl)
theorem dX4_beside_51 : decode cX4_beside 51 = .ok (.i2l, 1) := dk_133 (dk_at dksX4_beside_2 3 rfl rfl)
theorem dX4_beside_52 : decode cX4_beside 52 = .ok (.lconst 0, 1) := dk_9 (dk_at dksX4_beside_2 4 rfl rfl)
theorem dX4_beside_53 : decode cX4_beside 53 = .ok (.aload_n 0, 1) := dk_42 (dk_at dksX4_beside_2 5 rfl rfl)
theorem dX4_beside_54 : decode cX4_beside 54 = .ok (.getfield 17, 3) := dk_180 0 17 (dk_at dksX4_beside_2 6 rfl rfl)
theorem dX4_beside_57 : decode cX4_beside 57 = .ok (.bipush 90, 2) := dk_16 90 (dk_at dksX4_beside_2 9 rfl rfl)
theorem dX4_beside_59 : decode cX4_beside 59 = .ok (.iaload, 1) := dk_46 (dk_at dksX4_beside_2 11 rfl rfl)
theorem dX4_beside_60 : decode cX4_beside 60 = .ok (.iconst 1, 1) := dk_4 (dk_at dksX4_beside_2 12 rfl rfl)
theorem dX4_beside_61 : decode cX4_beside 61 = .ok (.isub, 1) := dk_100 (dk_at dksX4_beside_2 13 rfl rfl)
theorem dX4_beside_62 : decode cX4_beside 62 = .ok (.i2l, 1) := dk_133 (dk_at dksX4_beside_2 14 rfl rfl)
theorem dX4_beside_63 : decode cX4_beside 63 = .ok (.invokestatic 76, 3) := dk_184 0 76 (dk_at dksX4_beside_2 15 rfl rfl)
theorem dX4_beside_66 : decode cX4_beside 66 = .ok (.ifCond .eq 33, 3) := dk_153 0 33 (dk_at dksX4_beside_2 18 rfl rfl)
theorem dX4_beside_69 : decode cX4_beside 69 = .ok (.iload 4, 2) := dk_21 4 (dk_at dksX4_beside_2 21 rfl rfl)
theorem dX4_beside_71 : decode cX4_beside 71 = .ok (.i2l, 1) := dk_133 (dk_at dksX4_beside_2 23 rfl rfl)
theorem dX4_beside_72 : decode cX4_beside 72 = .ok (.lconst 0, 1) := dk_9 (dk_at dksX4_beside_3 0 rfl rfl)
theorem dX4_beside_73 : decode cX4_beside 73 = .ok (.aload_n 0, 1) := dk_42 (dk_at dksX4_beside_3 1 rfl rfl)
theorem dX4_beside_74 : decode cX4_beside 74 = .ok (.getfield 17, 3) := dk_180 0 17 (dk_at dksX4_beside_3 2 rfl rfl)
theorem dX4_beside_77 : decode cX4_beside 77 = .ok (.bipush 90, 2) := dk_16 90 (dk_at dksX4_beside_3 5 rfl rfl)
theorem dX4_beside_79 : decode cX4_beside 79 = .ok (.iaload, 1) := dk_46 (dk_at dksX4_beside_3 7 rfl rfl)
theorem dX4_beside_80 : decode cX4_beside 80 = .ok (.iconst 1, 1) := dk_4 (dk_at dksX4_beside_3 8 rfl rfl)
theorem dX4_beside_81 : decode cX4_beside 81 = .ok (.isub, 1) := dk_100 (dk_at dksX4_beside_3 9 rfl rfl)
theorem dX4_beside_82 : decode cX4_beside 82 = .ok (.i2l, 1) := dk_133 (dk_at dksX4_beside_3 10 rfl rfl)
theorem dX4_beside_83 : decode cX4_beside 83 = .ok (.invokestatic 76, 3) := dk_184 0 76 (dk_at dksX4_beside_3 11 rfl rfl)
theorem dX4_beside_86 : decode cX4_beside 86 = .ok (.ifCond .eq 13, 3) := dk_153 0 13 (dk_at dksX4_beside_3 14 rfl rfl)
theorem dX4_beside_89 : decode cX4_beside 89 = .ok (.bipush 10, 2) := dk_16 10 (dk_at dksX4_beside_3 17 rfl rfl)
theorem dX4_beside_91 : decode cX4_beside 91 = .ok (.iload_n 3, 1) := dk_29 (dk_at dksX4_beside_3 19 rfl rfl)
theorem dX4_beside_92 : decode cX4_beside 92 = .ok (.imul, 1) := dk_104 (dk_at dksX4_beside_3 20 rfl rfl)
theorem dX4_beside_93 : decode cX4_beside 93 = .ok (.iload 4, 2) := dk_21 4 (dk_at dksX4_beside_3 21 rfl rfl)
theorem dX4_beside_95 : decode cX4_beside 95 = .ok (.iadd, 1) := dk_96 (dk_at dksX4_beside_3 23 rfl rfl)
theorem dX4_beside_96 : decode cX4_beside 96 = .ok (.goto 4, 3) := dk_167 0 4 (dk_at dksX4_beside_4 0 rfl rfl)
theorem dX4_beside_99 : decode cX4_beside 99 = .ok (.iconst (-1), 1) := dk_2 (dk_at dksX4_beside_4 3 rfl rfl)
theorem dX4_beside_100 : decode cX4_beside 100 = .ok (.ireturn, 1) := dk_172 (dk_at dksX4_beside_4 4 rfl rfl)
abbrev cX4_goesBy : ByteArray := prog_16_method_38_code
def yX4_goesBy : MethodName := ⟨RX4, "goesBy", "(III)I"⟩
def dkwX4_goesBy_6 : List UInt8 := [42, 180, 0, 45, 27, 46, 172]
abbrev dktX4_goesBy_6 : List UInt8 := dkwX4_goesBy_6 ++ []
def dkwX4_goesBy_5 : List UInt8 := [167, 0, 30, 42, 180, 0, 42, 27, 46, 29, 160, 0, 14, 4, 42, 180, 0, 45, 27, 46, 100, 167, 0, 9]
abbrev dktX4_goesBy_5 : List UInt8 := dkwX4_goesBy_5 ++ dktX4_goesBy_6
def dkwX4_goesBy_4 : List UInt8 := [153, 0, 10, 4, 21, 4, 100, 167, 0, 5, 21, 4, 172, 42, 180, 0, 39, 27, 46, 154, 0, 8, 21, 4]
abbrev dktX4_goesBy_4 : List UInt8 := dkwX4_goesBy_4 ++ dktX4_goesBy_5
def dkwX4_goesBy_3 : List UInt8 := [167, 0, 7, 4, 21, 4, 100, 172, 42, 28, 182, 0, 127, 172, 42, 42, 180, 0, 33, 27, 46, 182, 0, 182]
abbrev dktX4_goesBy_3 : List UInt8 := dkwX4_goesBy_3 ++ dktX4_goesBy_4
def dkwX4_goesBy_2 : List UInt8 := [21, 4, 172, 42, 180, 0, 17, 16, 92, 46, 172, 42, 180, 0, 39, 27, 46, 5, 112, 154, 0, 8, 21, 4]
abbrev dktX4_goesBy_2 : List UInt8 := dkwX4_goesBy_2 ++ dktX4_goesBy_3
def dkwX4_goesBy_1 : List UInt8 := [170, 0, 0, 0, 0, 95, 0, 0, 0, 0, 0, 0, 0, 4, 0, 0, 0, 34, 0, 0, 0, 37, 0, 0, 0, 45, 0, 0, 0, 66, 0, 0, 0, 72]
abbrev dktX4_goesBy_1 : List UInt8 := dkwX4_goesBy_1 ++ dktX4_goesBy_2
def dkwX4_goesBy_0 : List UInt8 := [42, 180, 0, 17, 16, 91, 46, 54, 4, 42, 28, 182, 0, 179]
abbrev dktX4_goesBy_0 : List UInt8 := dkwX4_goesBy_0 ++ dktX4_goesBy_1
theorem dksX4_goesBy_0 : cX4_goesBy.data.toList.drop 0 = dktX4_goesBy_0 := by decide +kernel
theorem dksX4_goesBy_1 : cX4_goesBy.data.toList.drop 14 = dktX4_goesBy_1 := dk_seg dksX4_goesBy_0 14 rfl rfl
theorem dksX4_goesBy_2 : cX4_goesBy.data.toList.drop 48 = dktX4_goesBy_2 := dk_seg dksX4_goesBy_1 34 rfl rfl
theorem dksX4_goesBy_3 : cX4_goesBy.data.toList.drop 72 = dktX4_goesBy_3 := dk_seg dksX4_goesBy_2 24 rfl rfl
theorem dksX4_goesBy_4 : cX4_goesBy.data.toList.drop 96 = dktX4_goesBy_4 := dk_seg dksX4_goesBy_3 24 rfl rfl
theorem dksX4_goesBy_5 : cX4_goesBy.data.toList.drop 120 = dktX4_goesBy_5 := dk_seg dksX4_goesBy_4 24 rfl rfl
theorem dksX4_goesBy_6 : cX4_goesBy.data.toList.drop 144 = dktX4_goesBy_6 := dk_seg dksX4_goesBy_5 24 rfl rfl
theorem dX4_goesBy_0 : decode cX4_goesBy 0 = .ok (.aload_n 0, 1) := dk_42 (dk_at dksX4_goesBy_0 0 rfl rfl)
theorem dX4_goesBy_1 : decode cX4_goesBy 1 = .ok (.getfield 17, 3) := dk_180 0 17 (dk_at dksX4_goesBy_0 1 rfl rfl)
theorem dX4_goesBy_4 : decode cX4_goesBy 4 = .ok (.bipush 91, 2) := dk_16 91 (dk_at dksX4_goesBy_0 4 rfl rfl)
theorem dX4_goesBy_6 : decode cX4_goesBy 6 = .ok (.iaload, 1) := dk_46 (dk_at dksX4_goesBy_0 6 rfl rfl)
theorem dX4_goesBy_7 : decode cX4_goesBy 7 = .ok (.istore 4, 2) := dk_54 4 (dk_at dksX4_goesBy_0 7 rfl rfl)
theorem dX4_goesBy_9 : decode cX4_goesBy 9 = .ok (.aload_n 0, 1) := dk_42 (dk_at dksX4_goesBy_0 9 rfl rfl)
theorem dX4_goesBy_10 : decode cX4_goesBy 10 = .ok (.iload_n 2, 1) := dk_28 (dk_at dksX4_goesBy_0 10 rfl rfl)
theorem dX4_goesBy_11 : decode cX4_goesBy 11 = .ok (.invokevirtual 179, 3) := dk_182 0 179 (dk_at dksX4_goesBy_0 11 rfl rfl)
theorem dX4_goesBy_14 : decode cX4_goesBy 14 = .ok (.tableswitch 95 0 4 #[34, 37, 45, 66, 72], 34) := by decide +kernel
theorem dX4_goesBy_48 : decode cX4_goesBy 48 = .ok (.iload 4, 2) := dk_21 4 (dk_at dksX4_goesBy_2 0 rfl rfl)
theorem dX4_goesBy_50 : decode cX4_goesBy 50 = .ok (.ireturn, 1) := dk_172 (dk_at dksX4_goesBy_2 2 rfl rfl)
theorem dX4_goesBy_51 : decode cX4_goesBy 51 = .ok (.aload_n 0, 1) := dk_42 (dk_at dksX4_goesBy_2 3 rfl rfl)
theorem dX4_goesBy_52 : decode cX4_goesBy 52 = .ok (.getfield 17, 3) := dk_180 0 17 (dk_at dksX4_goesBy_2 4 rfl rfl)
theorem dX4_goesBy_55 : decode cX4_goesBy 55 = .ok (.bipush 92, 2) := dk_16 92 (dk_at dksX4_goesBy_2 7 rfl rfl)
theorem dX4_goesBy_57 : decode cX4_goesBy 57 = .ok (.iaload, 1) := dk_46 (dk_at dksX4_goesBy_2 9 rfl rfl)
theorem dX4_goesBy_58 : decode cX4_goesBy 58 = .ok (.ireturn, 1) := dk_172 (dk_at dksX4_goesBy_2 10 rfl rfl)
theorem dX4_goesBy_59 : decode cX4_goesBy 59 = .ok (.aload_n 0, 1) := dk_42 (dk_at dksX4_goesBy_2 11 rfl rfl)
theorem dX4_goesBy_60 : decode cX4_goesBy 60 = .ok (.getfield 39, 3) := dk_180 0 39 (dk_at dksX4_goesBy_2 12 rfl rfl)
theorem dX4_goesBy_63 : decode cX4_goesBy 63 = .ok (.iload_n 1, 1) := dk_27 (dk_at dksX4_goesBy_2 15 rfl rfl)
theorem dX4_goesBy_64 : decode cX4_goesBy 64 = .ok (.iaload, 1) := dk_46 (dk_at dksX4_goesBy_2 16 rfl rfl)
theorem dX4_goesBy_65 : decode cX4_goesBy 65 = .ok (.iconst 2, 1) := dk_5 (dk_at dksX4_goesBy_2 17 rfl rfl)
theorem dX4_goesBy_66 : decode cX4_goesBy 66 = .ok (.irem, 1) := dk_112 (dk_at dksX4_goesBy_2 18 rfl rfl)
theorem dX4_goesBy_67 : decode cX4_goesBy 67 = .ok (.ifCond .ne 8, 3) := dk_154 0 8 (dk_at dksX4_goesBy_2 19 rfl rfl)
theorem dX4_goesBy_70 : decode cX4_goesBy 70 = .ok (.iload 4, 2) := dk_21 4 (dk_at dksX4_goesBy_2 22 rfl rfl)
theorem dX4_goesBy_72 : decode cX4_goesBy 72 = .ok (.goto 7, 3) := dk_167 0 7 (dk_at dksX4_goesBy_3 0 rfl rfl)
theorem dX4_goesBy_75 : decode cX4_goesBy 75 = .ok (.iconst 1, 1) := dk_4 (dk_at dksX4_goesBy_3 3 rfl rfl)
theorem dX4_goesBy_76 : decode cX4_goesBy 76 = .ok (.iload 4, 2) := dk_21 4 (dk_at dksX4_goesBy_3 4 rfl rfl)
theorem dX4_goesBy_78 : decode cX4_goesBy 78 = .ok (.isub, 1) := dk_100 (dk_at dksX4_goesBy_3 6 rfl rfl)
theorem dX4_goesBy_79 : decode cX4_goesBy 79 = .ok (.ireturn, 1) := dk_172 (dk_at dksX4_goesBy_3 7 rfl rfl)
theorem dX4_goesBy_80 : decode cX4_goesBy 80 = .ok (.aload_n 0, 1) := dk_42 (dk_at dksX4_goesBy_3 8 rfl rfl)
theorem dX4_goesBy_81 : decode cX4_goesBy 81 = .ok (.iload_n 2, 1) := dk_28 (dk_at dksX4_goesBy_3 9 rfl rfl)
theorem dX4_goesBy_82 : decode cX4_goesBy 82 = .ok (.invokevirtual 127, 3) := dk_182 0 127 (dk_at dksX4_goesBy_3 10 rfl rfl)
theorem dX4_goesBy_85 : decode cX4_goesBy 85 = .ok (.ireturn, 1) := dk_172 (dk_at dksX4_goesBy_3 13 rfl rfl)
theorem dX4_goesBy_86 : decode cX4_goesBy 86 = .ok (.aload_n 0, 1) := dk_42 (dk_at dksX4_goesBy_3 14 rfl rfl)
theorem dX4_goesBy_87 : decode cX4_goesBy 87 = .ok (.aload_n 0, 1) := dk_42 (dk_at dksX4_goesBy_3 15 rfl rfl)
theorem dX4_goesBy_88 : decode cX4_goesBy 88 = .ok (.getfield 33, 3) := dk_180 0 33 (dk_at dksX4_goesBy_3 16 rfl rfl)
theorem dX4_goesBy_91 : decode cX4_goesBy 91 = .ok (.iload_n 1, 1) := dk_27 (dk_at dksX4_goesBy_3 19 rfl rfl)
theorem dX4_goesBy_92 : decode cX4_goesBy 92 = .ok (.iaload, 1) := dk_46 (dk_at dksX4_goesBy_3 20 rfl rfl)
theorem dX4_goesBy_93 : decode cX4_goesBy 93 = .ok (.invokevirtual 182, 3) := dk_182 0 182 (dk_at dksX4_goesBy_3 21 rfl rfl)
theorem dX4_goesBy_96 : decode cX4_goesBy 96 = .ok (.ifCond .eq 10, 3) := dk_153 0 10 (dk_at dksX4_goesBy_4 0 rfl rfl)
theorem dX4_goesBy_99 : decode cX4_goesBy 99 = .ok (.iconst 1, 1) := dk_4 (dk_at dksX4_goesBy_4 3 rfl rfl)
theorem dX4_goesBy_100 : decode cX4_goesBy 100 = .ok (.iload 4, 2) := dk_21 4 (dk_at dksX4_goesBy_4 4 rfl rfl)
theorem dX4_goesBy_102 : decode cX4_goesBy 102 = .ok (.isub, 1) := dk_100 (dk_at dksX4_goesBy_4 6 rfl rfl)
theorem dX4_goesBy_103 : decode cX4_goesBy 103 = .ok (.goto 5, 3) := dk_167 0 5 (dk_at dksX4_goesBy_4 7 rfl rfl)
theorem dX4_goesBy_106 : decode cX4_goesBy 106 = .ok (.iload 4, 2) := dk_21 4 (dk_at dksX4_goesBy_4 10 rfl rfl)
theorem dX4_goesBy_108 : decode cX4_goesBy 108 = .ok (.ireturn, 1) := dk_172 (dk_at dksX4_goesBy_4 12 rfl rfl)
theorem dX4_goesBy_109 : decode cX4_goesBy 109 = .ok (.aload_n 0, 1) := dk_42 (dk_at dksX4_goesBy_4 13 rfl rfl)
theorem dX4_goesBy_110 : decode cX4_goesBy 110 = .ok (.getfield 39, 3) := dk_180 0 39 (dk_at dksX4_goesBy_4 14 rfl rfl)
theorem dX4_goesBy_113 : decode cX4_goesBy 113 = .ok (.iload_n 1, 1) := dk_27 (dk_at dksX4_goesBy_4 17 rfl rfl)
theorem dX4_goesBy_114 : decode cX4_goesBy 114 = .ok (.iaload, 1) := dk_46 (dk_at dksX4_goesBy_4 18 rfl rfl)
theorem dX4_goesBy_115 : decode cX4_goesBy 115 = .ok (.ifCond .ne 8, 3) := dk_154 0 8 (dk_at dksX4_goesBy_4 19 rfl rfl)
theorem dX4_goesBy_118 : decode cX4_goesBy 118 = .ok (.iload 4, 2) := dk_21 4 (dk_at dksX4_goesBy_4 22 rfl rfl)
theorem dX4_goesBy_120 : decode cX4_goesBy 120 = .ok (.goto 30, 3) := dk_167 0 30 (dk_at dksX4_goesBy_5 0 rfl rfl)
theorem dX4_goesBy_123 : decode cX4_goesBy 123 = .ok (.aload_n 0, 1) := dk_42 (dk_at dksX4_goesBy_5 3 rfl rfl)
theorem dX4_goesBy_124 : decode cX4_goesBy 124 = .ok (.getfield 42, 3) := dk_180 0 42 (dk_at dksX4_goesBy_5 4 rfl rfl)
theorem dX4_goesBy_127 : decode cX4_goesBy 127 = .ok (.iload_n 1, 1) := dk_27 (dk_at dksX4_goesBy_5 7 rfl rfl)
theorem dX4_goesBy_128 : decode cX4_goesBy 128 = .ok (.iaload, 1) := dk_46 (dk_at dksX4_goesBy_5 8 rfl rfl)
theorem dX4_goesBy_129 : decode cX4_goesBy 129 = .ok (.iload_n 3, 1) := dk_29 (dk_at dksX4_goesBy_5 9 rfl rfl)
theorem dX4_goesBy_130 : decode cX4_goesBy 130 = .ok (.if_icmp .ne 14, 3) := dk_160 0 14 (dk_at dksX4_goesBy_5 10 rfl rfl)
theorem dX4_goesBy_133 : decode cX4_goesBy 133 = .ok (.iconst 1, 1) := dk_4 (dk_at dksX4_goesBy_5 13 rfl rfl)
theorem dX4_goesBy_134 : decode cX4_goesBy 134 = .ok (.aload_n 0, 1) := dk_42 (dk_at dksX4_goesBy_5 14 rfl rfl)
theorem dX4_goesBy_135 : decode cX4_goesBy 135 = .ok (.getfield 45, 3) := dk_180 0 45 (dk_at dksX4_goesBy_5 15 rfl rfl)
theorem dX4_goesBy_138 : decode cX4_goesBy 138 = .ok (.iload_n 1, 1) := dk_27 (dk_at dksX4_goesBy_5 18 rfl rfl)
theorem dX4_goesBy_139 : decode cX4_goesBy 139 = .ok (.iaload, 1) := dk_46 (dk_at dksX4_goesBy_5 19 rfl rfl)
theorem dX4_goesBy_140 : decode cX4_goesBy 140 = .ok (.isub, 1) := dk_100 (dk_at dksX4_goesBy_5 20 rfl rfl)
theorem dX4_goesBy_141 : decode cX4_goesBy 141 = .ok (.goto 9, 3) := dk_167 0 9 (dk_at dksX4_goesBy_5 21 rfl rfl)
theorem dX4_goesBy_144 : decode cX4_goesBy 144 = .ok (.aload_n 0, 1) := dk_42 (dk_at dksX4_goesBy_6 0 rfl rfl)
theorem dX4_goesBy_145 : decode cX4_goesBy 145 = .ok (.getfield 45, 3) := dk_180 0 45 (dk_at dksX4_goesBy_6 1 rfl rfl)
theorem dX4_goesBy_148 : decode cX4_goesBy 148 = .ok (.iload_n 1, 1) := dk_27 (dk_at dksX4_goesBy_6 4 rfl rfl)
theorem dX4_goesBy_149 : decode cX4_goesBy 149 = .ok (.iaload, 1) := dk_46 (dk_at dksX4_goesBy_6 5 rfl rfl)
theorem dX4_goesBy_150 : decode cX4_goesBy 150 = .ok (.ireturn, 1) := dk_172 (dk_at dksX4_goesBy_6 6 rfl rfl)
abbrev cX4_isShore : ByteArray := prog_16_method_18_code
def yX4_isShore : MethodName := ⟨RX4, "isShore", "(I)Z"⟩
def dkwX4_isShore_2 : List UInt8 := [28, 172]
abbrev dktX4_isShore_2 : List UInt8 := dkwX4_isShore_2 ++ []
def dkwX4_isShore_1 : List UInt8 := [159, 0, 16, 42, 21, 4, 182, 0, 95, 153, 0, 7, 4, 167, 0, 4, 3, 61, 132, 3, 1, 167, 255, 215]
abbrev dktX4_isShore_1 : List UInt8 := dkwX4_isShore_1 ++ dktX4_isShore_2
def dkwX4_isShore_0 : List UInt8 := [3, 61, 3, 62, 29, 7, 162, 0, 42, 42, 27, 29, 182, 0, 91, 54, 4, 28, 154, 0, 18, 21, 4, 2]
abbrev dktX4_isShore_0 : List UInt8 := dkwX4_isShore_0 ++ dktX4_isShore_1
theorem dksX4_isShore_0 : cX4_isShore.data.toList.drop 0 = dktX4_isShore_0 := by decide +kernel
theorem dksX4_isShore_1 : cX4_isShore.data.toList.drop 24 = dktX4_isShore_1 := dk_seg dksX4_isShore_0 24 rfl rfl
theorem dksX4_isShore_2 : cX4_isShore.data.toList.drop 48 = dktX4_isShore_2 := dk_seg dksX4_isShore_1 24 rfl rfl
theorem dX4_isShore_0 : decode cX4_isShore 0 = .ok (.iconst 0, 1) := dk_3 (dk_at dksX4_isShore_0 0 rfl rfl)
theorem dX4_isShore_1 : decode cX4_isShore 1 = .ok (.istore_n 2, 1) := dk_61 (dk_at dksX4_isShore_0 1 rfl rfl)
theorem dX4_isShore_2 : decode cX4_isShore 2 = .ok (.iconst 0, 1) := dk_3 (dk_at dksX4_isShore_0 2 rfl rfl)
theorem dX4_isShore_3 : decode cX4_isShore 3 = .ok (.istore_n 3, 1) := dk_62 (dk_at dksX4_isShore_0 3 rfl rfl)
theorem dX4_isShore_4 : decode cX4_isShore 4 = .ok (.iload_n 3, 1) := dk_29 (dk_at dksX4_isShore_0 4 rfl rfl)
theorem dX4_isShore_5 : decode cX4_isShore 5 = .ok (.iconst 4, 1) := dk_7 (dk_at dksX4_isShore_0 5 rfl rfl)
theorem dX4_isShore_6 : decode cX4_isShore 6 = .ok (.if_icmp .ge 42, 3) := dk_162 0 42 (dk_at dksX4_isShore_0 6 rfl rfl)
theorem dX4_isShore_9 : decode cX4_isShore 9 = .ok (.aload_n 0, 1) := dk_42 (dk_at dksX4_isShore_0 9 rfl rfl)
theorem dX4_isShore_10 : decode cX4_isShore 10 = .ok (.iload_n 1, 1) := dk_27 (dk_at dksX4_isShore_0 10 rfl rfl)
theorem dX4_isShore_11 : decode cX4_isShore 11 = .ok (.iload_n 3, 1) := dk_29 (dk_at dksX4_isShore_0 11 rfl rfl)
theorem dX4_isShore_12 : decode cX4_isShore 12 = .ok (.invokevirtual 91, 3) := dk_182 0 91 (dk_at dksX4_isShore_0 12 rfl rfl)
theorem dX4_isShore_15 : decode cX4_isShore 15 = .ok (.istore 4, 2) := dk_54 4 (dk_at dksX4_isShore_0 15 rfl rfl)
theorem dX4_isShore_17 : decode cX4_isShore 17 = .ok (.iload_n 2, 1) := dk_28 (dk_at dksX4_isShore_0 17 rfl rfl)
theorem dX4_isShore_18 : decode cX4_isShore 18 = .ok (.ifCond .ne 18, 3) := dk_154 0 18 (dk_at dksX4_isShore_0 18 rfl rfl)
theorem dX4_isShore_21 : decode cX4_isShore 21 = .ok (.iload 4, 2) := dk_21 4 (dk_at dksX4_isShore_0 21 rfl rfl)
theorem dX4_isShore_23 : decode cX4_isShore 23 = .ok (.iconst (-1), 1) := dk_2 (dk_at dksX4_isShore_0 23 rfl rfl)
theorem dX4_isShore_24 : decode cX4_isShore 24 = .ok (.if_icmp .eq 16, 3) := dk_159 0 16 (dk_at dksX4_isShore_1 0 rfl rfl)
theorem dX4_isShore_27 : decode cX4_isShore 27 = .ok (.aload_n 0, 1) := dk_42 (dk_at dksX4_isShore_1 3 rfl rfl)
theorem dX4_isShore_28 : decode cX4_isShore 28 = .ok (.iload 4, 2) := dk_21 4 (dk_at dksX4_isShore_1 4 rfl rfl)
theorem dX4_isShore_30 : decode cX4_isShore 30 = .ok (.invokevirtual 95, 3) := dk_182 0 95 (dk_at dksX4_isShore_1 6 rfl rfl)
theorem dX4_isShore_33 : decode cX4_isShore 33 = .ok (.ifCond .eq 7, 3) := dk_153 0 7 (dk_at dksX4_isShore_1 9 rfl rfl)
theorem dX4_isShore_36 : decode cX4_isShore 36 = .ok (.iconst 1, 1) := dk_4 (dk_at dksX4_isShore_1 12 rfl rfl)
theorem dX4_isShore_37 : decode cX4_isShore 37 = .ok (.goto 4, 3) := dk_167 0 4 (dk_at dksX4_isShore_1 13 rfl rfl)
theorem dX4_isShore_40 : decode cX4_isShore 40 = .ok (.iconst 0, 1) := dk_3 (dk_at dksX4_isShore_1 16 rfl rfl)
theorem dX4_isShore_41 : decode cX4_isShore 41 = .ok (.istore_n 2, 1) := dk_61 (dk_at dksX4_isShore_1 17 rfl rfl)
theorem dX4_isShore_42 : decode cX4_isShore 42 = .ok (.iinc 3 1, 3) := dk_132 3 1 (dk_at dksX4_isShore_1 18 rfl rfl)
theorem dX4_isShore_45 : decode cX4_isShore 45 = .ok (.goto (-41), 3) := dk_167 255 215 (dk_at dksX4_isShore_1 21 rfl rfl)
theorem dX4_isShore_48 : decode cX4_isShore 48 = .ok (.iload_n 2, 1) := dk_28 (dk_at dksX4_isShore_2 0 rfl rfl)
theorem dX4_isShore_49 : decode cX4_isShore 49 = .ok (.ireturn, 1) := dk_172 (dk_at dksX4_isShore_2 1 rfl rfl)
abbrev cX4_comes : ByteArray := prog_16_method_52_code
def yX4_comes : MethodName := ⟨RX4, "comes", "(IIII)I"⟩
def dkwX4_comes_3 : List UInt8 := [160, 0, 12, 42, 180, 0, 36, 3, 46, 167, 0, 9, 42, 180, 0, 48, 3, 46, 172]
abbrev dktX4_comes_3 : List UInt8 := dkwX4_comes_3 ++ []
def dkwX4_comes_2 : List UInt8 := [29, 28, 182, 0, 223, 21, 4, 154, 0, 12, 42, 180, 0, 33, 3, 46, 167, 0, 24, 21, 4, 4]
abbrev dktX4_comes_2 : List UInt8 := dkwX4_comes_2 ++ dktX4_comes_3
def dkwX4_comes_1 : List UInt8 := [167, 0, 4, 3, 27, 28, 182, 0, 219, 54, 5, 21, 5, 156, 0, 10, 42, 21, 5, 182, 0, 101, 172, 42]
abbrev dktX4_comes_1 : List UInt8 := dkwX4_comes_1 ++ dktX4_comes_2
def dkwX4_comes_0 : List UInt8 := [42, 42, 29, 182, 0, 124, 153, 0, 20, 21, 4, 133, 9, 20, 0, 120, 184, 0, 76, 153, 0, 7, 4]
abbrev dktX4_comes_0 : List UInt8 := dkwX4_comes_0 ++ dktX4_comes_1
theorem dksX4_comes_0 : cX4_comes.data.toList.drop 0 = dktX4_comes_0 := by decide +kernel
theorem dksX4_comes_1 : cX4_comes.data.toList.drop 23 = dktX4_comes_1 := dk_seg dksX4_comes_0 23 rfl rfl
theorem dksX4_comes_2 : cX4_comes.data.toList.drop 47 = dktX4_comes_2 := dk_seg dksX4_comes_1 24 rfl rfl
theorem dksX4_comes_3 : cX4_comes.data.toList.drop 69 = dktX4_comes_3 := dk_seg dksX4_comes_2 22 rfl rfl
theorem dX4_comes_0 : decode cX4_comes 0 = .ok (.aload_n 0, 1) := dk_42 (dk_at dksX4_comes_0 0 rfl rfl)
theorem dX4_comes_1 : decode cX4_comes 1 = .ok (.aload_n 0, 1) := dk_42 (dk_at dksX4_comes_0 1 rfl rfl)
theorem dX4_comes_2 : decode cX4_comes 2 = .ok (.iload_n 3, 1) := dk_29 (dk_at dksX4_comes_0 2 rfl rfl)
theorem dX4_comes_3 : decode cX4_comes 3 = .ok (.invokevirtual 124, 3) := dk_182 0 124 (dk_at dksX4_comes_0 3 rfl rfl)
theorem dX4_comes_6 : decode cX4_comes 6 = .ok (.ifCond .eq 20, 3) := dk_153 0 20 (dk_at dksX4_comes_0 6 rfl rfl)
theorem dX4_comes_9 : decode cX4_comes 9 = .ok (.iload 4, 2) := dk_21 4 (dk_at dksX4_comes_0 9 rfl rfl)
theorem dX4_comes_11 : decode cX4_comes 11 = .ok (.i2l, 1) := dk_133 (dk_at dksX4_comes_0 11 rfl rfl)
theorem dX4_comes_12 : decode cX4_comes 12 = .ok (.lconst 0, 1) := dk_9 (dk_at dksX4_comes_0 12 rfl rfl)
theorem dX4_comes_13 : decode cX4_comes 13 = .ok (.ldc2_w 120, 3) := dk_20 0 120 (dk_at dksX4_comes_0 13 rfl rfl)
theorem dX4_comes_16 : decode cX4_comes 16 = .ok (.invokestatic 76, 3) := dk_184 0 76 (dk_at dksX4_comes_0 16 rfl rfl)
theorem dX4_comes_19 : decode cX4_comes 19 = .ok (.ifCond .eq 7, 3) := dk_153 0 7 (dk_at dksX4_comes_0 19 rfl rfl)
theorem dX4_comes_22 : decode cX4_comes 22 = .ok (.iconst 1, 1) := dk_4 (dk_at dksX4_comes_0 22 rfl rfl)
theorem dX4_comes_23 : decode cX4_comes 23 = .ok (.goto 4, 3) := dk_167 0 4 (dk_at dksX4_comes_1 0 rfl rfl)
theorem dX4_comes_26 : decode cX4_comes 26 = .ok (.iconst 0, 1) := dk_3 (dk_at dksX4_comes_1 3 rfl rfl)
theorem dX4_comes_27 : decode cX4_comes 27 = .ok (.iload_n 1, 1) := dk_27 (dk_at dksX4_comes_1 4 rfl rfl)
theorem dX4_comes_28 : decode cX4_comes 28 = .ok (.iload_n 2, 1) := dk_28 (dk_at dksX4_comes_1 5 rfl rfl)
theorem dX4_comes_29 : decode cX4_comes 29 = .ok (.invokevirtual 219, 3) := dk_182 0 219 (dk_at dksX4_comes_1 6 rfl rfl)
theorem dX4_comes_32 : decode cX4_comes 32 = .ok (.istore 5, 2) := dk_54 5 (dk_at dksX4_comes_1 9 rfl rfl)
theorem dX4_comes_34 : decode cX4_comes 34 = .ok (.iload 5, 2) := dk_21 5 (dk_at dksX4_comes_1 11 rfl rfl)
theorem dX4_comes_36 : decode cX4_comes 36 = .ok (.ifCond .ge 10, 3) := dk_156 0 10 (dk_at dksX4_comes_1 13 rfl rfl)
theorem dX4_comes_39 : decode cX4_comes 39 = .ok (.aload_n 0, 1) := dk_42 (dk_at dksX4_comes_1 16 rfl rfl)
theorem dX4_comes_40 : decode cX4_comes 40 = .ok (.iload 5, 2) := dk_21 5 (dk_at dksX4_comes_1 17 rfl rfl)
theorem dX4_comes_42 : decode cX4_comes 42 = .ok (.invokevirtual 101, 3) := dk_182 0 101 (dk_at dksX4_comes_1 19 rfl rfl)
theorem dX4_comes_45 : decode cX4_comes 45 = .ok (.ireturn, 1) := dk_172 (dk_at dksX4_comes_1 22 rfl rfl)
theorem dX4_comes_46 : decode cX4_comes 46 = .ok (.aload_n 0, 1) := dk_42 (dk_at dksX4_comes_1 23 rfl rfl)
theorem dX4_comes_47 : decode cX4_comes 47 = .ok (.iload_n 3, 1) := dk_29 (dk_at dksX4_comes_2 0 rfl rfl)
theorem dX4_comes_48 : decode cX4_comes 48 = .ok (.iload_n 2, 1) := dk_28 (dk_at dksX4_comes_2 1 rfl rfl)
theorem dX4_comes_49 : decode cX4_comes 49 = .ok (.invokevirtual 223, 3) := dk_182 0 223 (dk_at dksX4_comes_2 2 rfl rfl)
theorem dX4_comes_52 : decode cX4_comes 52 = .ok (.iload 4, 2) := dk_21 4 (dk_at dksX4_comes_2 5 rfl rfl)
theorem dX4_comes_54 : decode cX4_comes 54 = .ok (.ifCond .ne 12, 3) := dk_154 0 12 (dk_at dksX4_comes_2 7 rfl rfl)
theorem dX4_comes_57 : decode cX4_comes 57 = .ok (.aload_n 0, 1) := dk_42 (dk_at dksX4_comes_2 10 rfl rfl)
theorem dX4_comes_58 : decode cX4_comes 58 = .ok (.getfield 33, 3) := dk_180 0 33 (dk_at dksX4_comes_2 11 rfl rfl)
theorem dX4_comes_61 : decode cX4_comes 61 = .ok (.iconst 0, 1) := dk_3 (dk_at dksX4_comes_2 14 rfl rfl)
theorem dX4_comes_62 : decode cX4_comes 62 = .ok (.iaload, 1) := dk_46 (dk_at dksX4_comes_2 15 rfl rfl)
theorem dX4_comes_63 : decode cX4_comes 63 = .ok (.goto 24, 3) := dk_167 0 24 (dk_at dksX4_comes_2 16 rfl rfl)
theorem dX4_comes_66 : decode cX4_comes 66 = .ok (.iload 4, 2) := dk_21 4 (dk_at dksX4_comes_2 19 rfl rfl)
theorem dX4_comes_68 : decode cX4_comes 68 = .ok (.iconst 1, 1) := dk_4 (dk_at dksX4_comes_2 21 rfl rfl)
theorem dX4_comes_69 : decode cX4_comes 69 = .ok (.if_icmp .ne 12, 3) := dk_160 0 12 (dk_at dksX4_comes_3 0 rfl rfl)
theorem dX4_comes_72 : decode cX4_comes 72 = .ok (.aload_n 0, 1) := dk_42 (dk_at dksX4_comes_3 3 rfl rfl)
theorem dX4_comes_73 : decode cX4_comes 73 = .ok (.getfield 36, 3) := dk_180 0 36 (dk_at dksX4_comes_3 4 rfl rfl)
theorem dX4_comes_76 : decode cX4_comes 76 = .ok (.iconst 0, 1) := dk_3 (dk_at dksX4_comes_3 7 rfl rfl)
theorem dX4_comes_77 : decode cX4_comes 77 = .ok (.iaload, 1) := dk_46 (dk_at dksX4_comes_3 8 rfl rfl)
theorem dX4_comes_78 : decode cX4_comes 78 = .ok (.goto 9, 3) := dk_167 0 9 (dk_at dksX4_comes_3 9 rfl rfl)
theorem dX4_comes_81 : decode cX4_comes 81 = .ok (.aload_n 0, 1) := dk_42 (dk_at dksX4_comes_3 12 rfl rfl)
theorem dX4_comes_82 : decode cX4_comes 82 = .ok (.getfield 48, 3) := dk_180 0 48 (dk_at dksX4_comes_3 13 rfl rfl)
theorem dX4_comes_85 : decode cX4_comes 85 = .ok (.iconst 0, 1) := dk_3 (dk_at dksX4_comes_3 16 rfl rfl)
theorem dX4_comes_86 : decode cX4_comes 86 = .ok (.iaload, 1) := dk_46 (dk_at dksX4_comes_3 17 rfl rfl)
theorem dX4_comes_87 : decode cX4_comes 87 = .ok (.ireturn, 1) := dk_172 (dk_at dksX4_comes_3 18 rfl rfl)
abbrev cX4_loadIf : ByteArray := prog_16_method_51_code
def yX4_loadIf : MethodName := ⟨RX4, "loadIf", "(ZII)I"⟩
def dkwX4_loadIf_1 : List UInt8 := [16, 254, 167, 0, 9, 42, 28, 29, 182, 0, 216, 172]
abbrev dktX4_loadIf_1 : List UInt8 := dkwX4_loadIf_1 ++ []
def dkwX4_loadIf_0 : List UInt8 := [28, 184, 0, 203, 153, 0, 19, 29, 133, 9, 20, 0, 208, 184, 0, 76, 153, 0, 7, 27, 154, 0, 8]
abbrev dktX4_loadIf_0 : List UInt8 := dkwX4_loadIf_0 ++ dktX4_loadIf_1
theorem dksX4_loadIf_0 : cX4_loadIf.data.toList.drop 0 = dktX4_loadIf_0 := by decide +kernel
theorem dksX4_loadIf_1 : cX4_loadIf.data.toList.drop 23 = dktX4_loadIf_1 := dk_seg dksX4_loadIf_0 23 rfl rfl
theorem dX4_loadIf_0 : decode cX4_loadIf 0 = .ok (.iload_n 2, 1) := dk_28 (dk_at dksX4_loadIf_0 0 rfl rfl)
theorem dX4_loadIf_1 : decode cX4_loadIf 1 = .ok (.invokestatic 203, 3) := dk_184 0 203 (dk_at dksX4_loadIf_0 1 rfl rfl)
theorem dX4_loadIf_4 : decode cX4_loadIf 4 = .ok (.ifCond .eq 19, 3) := dk_153 0 19 (dk_at dksX4_loadIf_0 4 rfl rfl)
theorem dX4_loadIf_7 : decode cX4_loadIf 7 = .ok (.iload_n 3, 1) := dk_29 (dk_at dksX4_loadIf_0 7 rfl rfl)
theorem dX4_loadIf_8 : decode cX4_loadIf 8 = .ok (.i2l, 1) := dk_133 (dk_at dksX4_loadIf_0 8 rfl rfl)
theorem dX4_loadIf_9 : decode cX4_loadIf 9 = .ok (.lconst 0, 1) := dk_9 (dk_at dksX4_loadIf_0 9 rfl rfl)
theorem dX4_loadIf_10 : decode cX4_loadIf 10 = .ok (.ldc2_w 208, 3) := dk_20 0 208 (dk_at dksX4_loadIf_0 10 rfl rfl)
theorem dX4_loadIf_13 : decode cX4_loadIf 13 = .ok (.invokestatic 76, 3) := dk_184 0 76 (dk_at dksX4_loadIf_0 13 rfl rfl)
theorem dX4_loadIf_16 : decode cX4_loadIf 16 = .ok (.ifCond .eq 7, 3) := dk_153 0 7 (dk_at dksX4_loadIf_0 16 rfl rfl)
theorem dX4_loadIf_19 : decode cX4_loadIf 19 = .ok (.iload_n 1, 1) := dk_27 (dk_at dksX4_loadIf_0 19 rfl rfl)
theorem dX4_loadIf_20 : decode cX4_loadIf 20 = .ok (.ifCond .ne 8, 3) := dk_154 0 8 (dk_at dksX4_loadIf_0 20 rfl rfl)
theorem dX4_loadIf_23 : decode cX4_loadIf 23 = .ok (.bipush (-2), 2) := dk_16 254 (dk_at dksX4_loadIf_1 0 rfl rfl)
theorem dX4_loadIf_25 : decode cX4_loadIf 25 = .ok (.goto 9, 3) := dk_167 0 9 (dk_at dksX4_loadIf_1 2 rfl rfl)
theorem dX4_loadIf_28 : decode cX4_loadIf 28 = .ok (.aload_n 0, 1) := dk_42 (dk_at dksX4_loadIf_1 5 rfl rfl)
theorem dX4_loadIf_29 : decode cX4_loadIf 29 = .ok (.iload_n 2, 1) := dk_28 (dk_at dksX4_loadIf_1 6 rfl rfl)
theorem dX4_loadIf_30 : decode cX4_loadIf 30 = .ok (.iload_n 3, 1) := dk_29 (dk_at dksX4_loadIf_1 7 rfl rfl)
theorem dX4_loadIf_31 : decode cX4_loadIf 31 = .ok (.invokevirtual 216, 3) := dk_182 0 216 (dk_at dksX4_loadIf_1 8 rfl rfl)
theorem dX4_loadIf_34 : decode cX4_loadIf 34 = .ok (.ireturn, 1) := dk_172 (dk_at dksX4_loadIf_1 11 rfl rfl)
abbrev cX4_load : ByteArray := prog_16_method_50_code
def yX4_load : MethodName := ⟨RX4, "load", "(II)I"⟩
def dkwX4_load_3 : List UInt8 := [104, 29, 96, 47, 136, 79, 132, 3, 1, 167, 255, 206, 4, 172]
abbrev dktX4_load_3 : List UInt8 := dkwX4_load_3 ++ []
def dkwX4_load_2 : List UInt8 := [20, 0, 114, 184, 0, 76, 154, 0, 6, 16, 251, 172, 42, 180, 0, 51, 29, 42, 180, 0, 60, 16, 40, 27]
abbrev dktX4_load_2 : List UInt8 := dkwX4_load_2 ++ dktX4_load_3
def dkwX4_load_1 : List UInt8 := [16, 254, 172, 3, 62, 29, 28, 162, 0, 51, 42, 180, 0, 60, 16, 40, 27, 104, 29, 96, 47, 9]
abbrev dktX4_load_1 : List UInt8 := dkwX4_load_1 ++ dktX4_load_2
def dkwX4_load_0 : List UInt8 := [42, 27, 182, 0, 210, 156, 0, 9, 42, 27, 182, 0, 210, 172, 28, 42, 180, 0, 57, 27, 46, 164, 0, 6]
abbrev dktX4_load_0 : List UInt8 := dkwX4_load_0 ++ dktX4_load_1
theorem dksX4_load_0 : cX4_load.data.toList.drop 0 = dktX4_load_0 := by decide +kernel
theorem dksX4_load_1 : cX4_load.data.toList.drop 24 = dktX4_load_1 := dk_seg dksX4_load_0 24 rfl rfl
theorem dksX4_load_2 : cX4_load.data.toList.drop 46 = dktX4_load_2 := dk_seg dksX4_load_1 22 rfl rfl
theorem dksX4_load_3 : cX4_load.data.toList.drop 70 = dktX4_load_3 := dk_seg dksX4_load_2 24 rfl rfl
theorem dX4_load_0 : decode cX4_load 0 = .ok (.aload_n 0, 1) := dk_42 (dk_at dksX4_load_0 0 rfl rfl)
theorem dX4_load_1 : decode cX4_load 1 = .ok (.iload_n 1, 1) := dk_27 (dk_at dksX4_load_0 1 rfl rfl)
theorem dX4_load_2 : decode cX4_load 2 = .ok (.invokevirtual 210, 3) := dk_182 0 210 (dk_at dksX4_load_0 2 rfl rfl)
theorem dX4_load_5 : decode cX4_load 5 = .ok (.ifCond .ge 9, 3) := dk_156 0 9 (dk_at dksX4_load_0 5 rfl rfl)
theorem dX4_load_8 : decode cX4_load 8 = .ok (.aload_n 0, 1) := dk_42 (dk_at dksX4_load_0 8 rfl rfl)
theorem dX4_load_9 : decode cX4_load 9 = .ok (.iload_n 1, 1) := dk_27 (dk_at dksX4_load_0 9 rfl rfl)
theorem dX4_load_10 : decode cX4_load 10 = .ok (.invokevirtual 210, 3) := dk_182 0 210 (dk_at dksX4_load_0 10 rfl rfl)
theorem dX4_load_13 : decode cX4_load 13 = .ok (.ireturn, 1) := dk_172 (dk_at dksX4_load_0 13 rfl rfl)
theorem dX4_load_14 : decode cX4_load 14 = .ok (.iload_n 2, 1) := dk_28 (dk_at dksX4_load_0 14 rfl rfl)
theorem dX4_load_15 : decode cX4_load 15 = .ok (.aload_n 0, 1) := dk_42 (dk_at dksX4_load_0 15 rfl rfl)
theorem dX4_load_16 : decode cX4_load 16 = .ok (.getfield 57, 3) := dk_180 0 57 (dk_at dksX4_load_0 16 rfl rfl)
theorem dX4_load_19 : decode cX4_load 19 = .ok (.iload_n 1, 1) := dk_27 (dk_at dksX4_load_0 19 rfl rfl)
theorem dX4_load_20 : decode cX4_load 20 = .ok (.iaload, 1) := dk_46 (dk_at dksX4_load_0 20 rfl rfl)
theorem dX4_load_21 : decode cX4_load 21 = .ok (.if_icmp .le 6, 3) := dk_164 0 6 (dk_at dksX4_load_0 21 rfl rfl)
theorem dX4_load_24 : decode cX4_load 24 = .ok (.bipush (-2), 2) := dk_16 254 (dk_at dksX4_load_1 0 rfl rfl)
theorem dX4_load_26 : decode cX4_load 26 = .ok (.ireturn, 1) := dk_172 (dk_at dksX4_load_1 2 rfl rfl)
theorem dX4_load_27 : decode cX4_load 27 = .ok (.iconst 0, 1) := dk_3 (dk_at dksX4_load_1 3 rfl rfl)
theorem dX4_load_28 : decode cX4_load 28 = .ok (.istore_n 3, 1) := dk_62 (dk_at dksX4_load_1 4 rfl rfl)
theorem dX4_load_29 : decode cX4_load 29 = .ok (.iload_n 3, 1) := dk_29 (dk_at dksX4_load_1 5 rfl rfl)
theorem dX4_load_30 : decode cX4_load 30 = .ok (.iload_n 2, 1) := dk_28 (dk_at dksX4_load_1 6 rfl rfl)
theorem dX4_load_31 : decode cX4_load 31 = .ok (.if_icmp .ge 51, 3) := dk_162 0 51 (dk_at dksX4_load_1 7 rfl rfl)
theorem dX4_load_34 : decode cX4_load 34 = .ok (.aload_n 0, 1) := dk_42 (dk_at dksX4_load_1 10 rfl rfl)
theorem dX4_load_35 : decode cX4_load 35 = .ok (.getfield 60, 3) := dk_180 0 60 (dk_at dksX4_load_1 11 rfl rfl)
theorem dX4_load_38 : decode cX4_load 38 = .ok (.bipush 40, 2) := dk_16 40 (dk_at dksX4_load_1 14 rfl rfl)
theorem dX4_load_40 : decode cX4_load 40 = .ok (.iload_n 1, 1) := dk_27 (dk_at dksX4_load_1 16 rfl rfl)
theorem dX4_load_41 : decode cX4_load 41 = .ok (.imul, 1) := dk_104 (dk_at dksX4_load_1 17 rfl rfl)
theorem dX4_load_42 : decode cX4_load 42 = .ok (.iload_n 3, 1) := dk_29 (dk_at dksX4_load_1 18 rfl rfl)
theorem dX4_load_43 : decode cX4_load 43 = .ok (.iadd, 1) := dk_96 (dk_at dksX4_load_1 19 rfl rfl)
theorem dX4_load_44 : decode cX4_load 44 = .ok (.laload, 1) := dk_47 (dk_at dksX4_load_1 20 rfl rfl)
theorem dX4_load_45 : decode cX4_load 45 = .ok (.lconst 0, 1) := dk_9 (dk_at dksX4_load_1 21 rfl rfl)
theorem dX4_load_46 : decode cX4_load 46 = .ok (.ldc2_w 114, 3) := dk_20 0 114 (dk_at dksX4_load_2 0 rfl rfl)
theorem dX4_load_49 : decode cX4_load 49 = .ok (.invokestatic 76, 3) := dk_184 0 76 (dk_at dksX4_load_2 3 rfl rfl)
theorem dX4_load_52 : decode cX4_load 52 = .ok (.ifCond .ne 6, 3) := dk_154 0 6 (dk_at dksX4_load_2 6 rfl rfl)
theorem dX4_load_55 : decode cX4_load 55 = .ok (.bipush (-5), 2) := dk_16 251 (dk_at dksX4_load_2 9 rfl rfl)
theorem dX4_load_57 : decode cX4_load 57 = .ok (.ireturn, 1) := dk_172 (dk_at dksX4_load_2 11 rfl rfl)
theorem dX4_load_58 : decode cX4_load 58 = .ok (.aload_n 0, 1) := dk_42 (dk_at dksX4_load_2 12 rfl rfl)
theorem dX4_load_59 : decode cX4_load 59 = .ok (.getfield 51, 3) := dk_180 0 51 (dk_at dksX4_load_2 13 rfl rfl)
theorem dX4_load_62 : decode cX4_load 62 = .ok (.iload_n 3, 1) := dk_29 (dk_at dksX4_load_2 16 rfl rfl)
theorem dX4_load_63 : decode cX4_load 63 = .ok (.aload_n 0, 1) := dk_42 (dk_at dksX4_load_2 17 rfl rfl)
theorem dX4_load_64 : decode cX4_load 64 = .ok (.getfield 60, 3) := dk_180 0 60 (dk_at dksX4_load_2 18 rfl rfl)
theorem dX4_load_67 : decode cX4_load 67 = .ok (.bipush 40, 2) := dk_16 40 (dk_at dksX4_load_2 21 rfl rfl)
theorem dX4_load_69 : decode cX4_load 69 = .ok (.iload_n 1, 1) := dk_27 (dk_at dksX4_load_2 23 rfl rfl)
theorem dX4_load_70 : decode cX4_load 70 = .ok (.imul, 1) := dk_104 (dk_at dksX4_load_3 0 rfl rfl)
theorem dX4_load_71 : decode cX4_load 71 = .ok (.iload_n 3, 1) := dk_29 (dk_at dksX4_load_3 1 rfl rfl)
theorem dX4_load_72 : decode cX4_load 72 = .ok (.iadd, 1) := dk_96 (dk_at dksX4_load_3 2 rfl rfl)
theorem dX4_load_73 : decode cX4_load 73 = .ok (.laload, 1) := dk_47 (dk_at dksX4_load_3 3 rfl rfl)
theorem dX4_load_74 : decode cX4_load 74 = .ok (.l2i, 1) := dk_136 (dk_at dksX4_load_3 4 rfl rfl)
theorem dX4_load_75 : decode cX4_load 75 = .ok (.iastore, 1) := dk_79 (dk_at dksX4_load_3 5 rfl rfl)
theorem dX4_load_76 : decode cX4_load 76 = .ok (.iinc 3 1, 3) := dk_132 3 1 (dk_at dksX4_load_3 6 rfl rfl)
theorem dX4_load_79 : decode cX4_load 79 = .ok (.goto (-50), 3) := dk_167 255 206 (dk_at dksX4_load_3 9 rfl rfl)
theorem dX4_load_82 : decode cX4_load 82 = .ok (.iconst 1, 1) := dk_4 (dk_at dksX4_load_3 12 rfl rfl)
theorem dX4_load_83 : decode cX4_load 83 = .ok (.ireturn, 1) := dk_172 (dk_at dksX4_load_3 13 rfl rfl)
abbrev cX4_go : ByteArray := prog_16_method_40_code
def yX4_go : MethodName := ⟨RX4, "go", "(II)V"⟩
def dkwX4_go_1 : List UInt8 := [27, 42, 180, 0, 51, 29, 46, 29, 182, 0, 199, 132, 3, 1, 167, 255, 235, 177]
abbrev dktX4_go_1 : List UInt8 := dkwX4_go_1 ++ []
def dkwX4_go_0 : List UInt8 := [42, 3, 42, 27, 182, 0, 88, 42, 27, 182, 0, 192, 182, 0, 195, 3, 62, 29, 28, 162, 0, 22, 42, 3]
abbrev dktX4_go_0 : List UInt8 := dkwX4_go_0 ++ dktX4_go_1
theorem dksX4_go_0 : cX4_go.data.toList.drop 0 = dktX4_go_0 := by decide +kernel
theorem dksX4_go_1 : cX4_go.data.toList.drop 24 = dktX4_go_1 := dk_seg dksX4_go_0 24 rfl rfl
theorem dX4_go_0 : decode cX4_go 0 = .ok (.aload_n 0, 1) := dk_42 (dk_at dksX4_go_0 0 rfl rfl)
theorem dX4_go_1 : decode cX4_go 1 = .ok (.iconst 0, 1) := dk_3 (dk_at dksX4_go_0 1 rfl rfl)
theorem dX4_go_2 : decode cX4_go 2 = .ok (.aload_n 0, 1) := dk_42 (dk_at dksX4_go_0 2 rfl rfl)
theorem dX4_go_3 : decode cX4_go 3 = .ok (.iload_n 1, 1) := dk_27 (dk_at dksX4_go_0 3 rfl rfl)
theorem dX4_go_4 : decode cX4_go 4 = .ok (.invokevirtual 88, 3) := dk_182 0 88 (dk_at dksX4_go_0 4 rfl rfl)
theorem dX4_go_7 : decode cX4_go 7 = .ok (.aload_n 0, 1) := dk_42 (dk_at dksX4_go_0 7 rfl rfl)
theorem dX4_go_8 : decode cX4_go 8 = .ok (.iload_n 1, 1) := dk_27 (dk_at dksX4_go_0 8 rfl rfl)
theorem dX4_go_9 : decode cX4_go 9 = .ok (.invokevirtual 192, 3) := dk_182 0 192 (dk_at dksX4_go_0 9 rfl rfl)
theorem dX4_go_12 : decode cX4_go 12 = .ok (.invokevirtual 195, 3) := dk_182 0 195 (dk_at dksX4_go_0 12 rfl rfl)
theorem dX4_go_15 : decode cX4_go 15 = .ok (.iconst 0, 1) := dk_3 (dk_at dksX4_go_0 15 rfl rfl)
theorem dX4_go_16 : decode cX4_go 16 = .ok (.istore_n 3, 1) := dk_62 (dk_at dksX4_go_0 16 rfl rfl)
theorem dX4_go_17 : decode cX4_go 17 = .ok (.iload_n 3, 1) := dk_29 (dk_at dksX4_go_0 17 rfl rfl)
theorem dX4_go_18 : decode cX4_go 18 = .ok (.iload_n 2, 1) := dk_28 (dk_at dksX4_go_0 18 rfl rfl)
theorem dX4_go_19 : decode cX4_go 19 = .ok (.if_icmp .ge 22, 3) := dk_162 0 22 (dk_at dksX4_go_0 19 rfl rfl)
theorem dX4_go_22 : decode cX4_go 22 = .ok (.aload_n 0, 1) := dk_42 (dk_at dksX4_go_0 22 rfl rfl)
theorem dX4_go_23 : decode cX4_go 23 = .ok (.iconst 0, 1) := dk_3 (dk_at dksX4_go_0 23 rfl rfl)
theorem dX4_go_24 : decode cX4_go 24 = .ok (.iload_n 1, 1) := dk_27 (dk_at dksX4_go_1 0 rfl rfl)
theorem dX4_go_25 : decode cX4_go 25 = .ok (.aload_n 0, 1) := dk_42 (dk_at dksX4_go_1 1 rfl rfl)
theorem dX4_go_26 : decode cX4_go 26 = .ok (.getfield 51, 3) := dk_180 0 51 (dk_at dksX4_go_1 2 rfl rfl)
theorem dX4_go_29 : decode cX4_go 29 = .ok (.iload_n 3, 1) := dk_29 (dk_at dksX4_go_1 5 rfl rfl)
theorem dX4_go_30 : decode cX4_go 30 = .ok (.iaload, 1) := dk_46 (dk_at dksX4_go_1 6 rfl rfl)
theorem dX4_go_31 : decode cX4_go 31 = .ok (.iload_n 3, 1) := dk_29 (dk_at dksX4_go_1 7 rfl rfl)
theorem dX4_go_32 : decode cX4_go 32 = .ok (.invokevirtual 199, 3) := dk_182 0 199 (dk_at dksX4_go_1 8 rfl rfl)
theorem dX4_go_35 : decode cX4_go 35 = .ok (.iinc 3 1, 3) := dk_132 3 1 (dk_at dksX4_go_1 11 rfl rfl)
theorem dX4_go_38 : decode cX4_go 38 = .ok (.goto (-21), 3) := dk_167 255 235 (dk_at dksX4_go_1 14 rfl rfl)
theorem dX4_go_41 : decode cX4_go 41 = .ok (.return_, 1) := dk_177 (dk_at dksX4_go_1 17 rfl rfl)
abbrev cX4_fell : ByteArray := prog_16_method_53_code
def yX4_fell : MethodName := ⟨RX4, "fell", "(II)I"⟩
def dkwX4_fell_2 : List UInt8 := [2, 160, 0, 7, 3, 167, 0, 4, 4, 96, 54, 4, 132, 5, 1, 167, 255, 217, 21, 4, 172]
abbrev dktX4_fell_2 : List UInt8 := dkwX4_fell_2 ++ []
def dkwX4_fell_1 : List UInt8 := [21, 5, 42, 182, 0, 84, 162, 0, 36, 42, 21, 5, 28, 182, 0, 223, 21, 4, 42, 180, 0, 48, 3, 46]
abbrev dktX4_fell_1 : List UInt8 := dkwX4_fell_1 ++ dktX4_fell_2
def dkwX4_fell_0 : List UInt8 := [42, 4, 27, 28, 182, 0, 219, 62, 29, 156, 0, 9, 42, 29, 182, 0, 101, 172, 3, 54, 4, 3, 54, 5]
abbrev dktX4_fell_0 : List UInt8 := dkwX4_fell_0 ++ dktX4_fell_1
theorem dksX4_fell_0 : cX4_fell.data.toList.drop 0 = dktX4_fell_0 := by decide +kernel
theorem dksX4_fell_1 : cX4_fell.data.toList.drop 24 = dktX4_fell_1 := dk_seg dksX4_fell_0 24 rfl rfl
theorem dksX4_fell_2 : cX4_fell.data.toList.drop 48 = dktX4_fell_2 := dk_seg dksX4_fell_1 24 rfl rfl
theorem dX4_fell_0 : decode cX4_fell 0 = .ok (.aload_n 0, 1) := dk_42 (dk_at dksX4_fell_0 0 rfl rfl)
theorem dX4_fell_1 : decode cX4_fell 1 = .ok (.iconst 1, 1) := dk_4 (dk_at dksX4_fell_0 1 rfl rfl)
theorem dX4_fell_2 : decode cX4_fell 2 = .ok (.iload_n 1, 1) := dk_27 (dk_at dksX4_fell_0 2 rfl rfl)
theorem dX4_fell_3 : decode cX4_fell 3 = .ok (.iload_n 2, 1) := dk_28 (dk_at dksX4_fell_0 3 rfl rfl)
theorem dX4_fell_4 : decode cX4_fell 4 = .ok (.invokevirtual 219, 3) := dk_182 0 219 (dk_at dksX4_fell_0 4 rfl rfl)
theorem dX4_fell_7 : decode cX4_fell 7 = .ok (.istore_n 3, 1) := dk_62 (dk_at dksX4_fell_0 7 rfl rfl)
theorem dX4_fell_8 : decode cX4_fell 8 = .ok (.iload_n 3, 1) := dk_29 (dk_at dksX4_fell_0 8 rfl rfl)
theorem dX4_fell_9 : decode cX4_fell 9 = .ok (.ifCond .ge 9, 3) := dk_156 0 9 (dk_at dksX4_fell_0 9 rfl rfl)
theorem dX4_fell_12 : decode cX4_fell 12 = .ok (.aload_n 0, 1) := dk_42 (dk_at dksX4_fell_0 12 rfl rfl)
theorem dX4_fell_13 : decode cX4_fell 13 = .ok (.iload_n 3, 1) := dk_29 (dk_at dksX4_fell_0 13 rfl rfl)
theorem dX4_fell_14 : decode cX4_fell 14 = .ok (.invokevirtual 101, 3) := dk_182 0 101 (dk_at dksX4_fell_0 14 rfl rfl)
theorem dX4_fell_17 : decode cX4_fell 17 = .ok (.ireturn, 1) := dk_172 (dk_at dksX4_fell_0 17 rfl rfl)
theorem dX4_fell_18 : decode cX4_fell 18 = .ok (.iconst 0, 1) := dk_3 (dk_at dksX4_fell_0 18 rfl rfl)
theorem dX4_fell_19 : decode cX4_fell 19 = .ok (.istore 4, 2) := dk_54 4 (dk_at dksX4_fell_0 19 rfl rfl)
theorem dX4_fell_21 : decode cX4_fell 21 = .ok (.iconst 0, 1) := dk_3 (dk_at dksX4_fell_0 21 rfl rfl)
theorem dX4_fell_22 : decode cX4_fell 22 = .ok (.istore 5, 2) := dk_54 5 (dk_at dksX4_fell_0 22 rfl rfl)
theorem dX4_fell_24 : decode cX4_fell 24 = .ok (.iload 5, 2) := dk_21 5 (dk_at dksX4_fell_1 0 rfl rfl)
theorem dX4_fell_26 : decode cX4_fell 26 = .ok (.aload_n 0, 1) := dk_42 (dk_at dksX4_fell_1 2 rfl rfl)
theorem dX4_fell_27 : decode cX4_fell 27 = .ok (.invokevirtual 84, 3) := dk_182 0 84 (dk_at dksX4_fell_1 3 rfl rfl)
theorem dX4_fell_30 : decode cX4_fell 30 = .ok (.if_icmp .ge 36, 3) := dk_162 0 36 (dk_at dksX4_fell_1 6 rfl rfl)
theorem dX4_fell_33 : decode cX4_fell 33 = .ok (.aload_n 0, 1) := dk_42 (dk_at dksX4_fell_1 9 rfl rfl)
theorem dX4_fell_34 : decode cX4_fell 34 = .ok (.iload 5, 2) := dk_21 5 (dk_at dksX4_fell_1 10 rfl rfl)
theorem dX4_fell_36 : decode cX4_fell 36 = .ok (.iload_n 2, 1) := dk_28 (dk_at dksX4_fell_1 12 rfl rfl)
theorem dX4_fell_37 : decode cX4_fell 37 = .ok (.invokevirtual 223, 3) := dk_182 0 223 (dk_at dksX4_fell_1 13 rfl rfl)
theorem dX4_fell_40 : decode cX4_fell 40 = .ok (.iload 4, 2) := dk_21 4 (dk_at dksX4_fell_1 16 rfl rfl)
theorem dX4_fell_42 : decode cX4_fell 42 = .ok (.aload_n 0, 1) := dk_42 (dk_at dksX4_fell_1 18 rfl rfl)
theorem dX4_fell_43 : decode cX4_fell 43 = .ok (.getfield 48, 3) := dk_180 0 48 (dk_at dksX4_fell_1 19 rfl rfl)
theorem dX4_fell_46 : decode cX4_fell 46 = .ok (.iconst 0, 1) := dk_3 (dk_at dksX4_fell_1 22 rfl rfl)
theorem dX4_fell_47 : decode cX4_fell 47 = .ok (.iaload, 1) := dk_46 (dk_at dksX4_fell_1 23 rfl rfl)
theorem dX4_fell_48 : decode cX4_fell 48 = .ok (.iconst (-1), 1) := dk_2 (dk_at dksX4_fell_2 0 rfl rfl)
theorem dX4_fell_49 : decode cX4_fell 49 = .ok (.if_icmp .ne 7, 3) := dk_160 0 7 (dk_at dksX4_fell_2 1 rfl rfl)
theorem dX4_fell_52 : decode cX4_fell 52 = .ok (.iconst 0, 1) := dk_3 (dk_at dksX4_fell_2 4 rfl rfl)
theorem dX4_fell_53 : decode cX4_fell 53 = .ok (.goto 4, 3) := dk_167 0 4 (dk_at dksX4_fell_2 5 rfl rfl)
theorem dX4_fell_56 : decode cX4_fell 56 = .ok (.iconst 1, 1) := dk_4 (dk_at dksX4_fell_2 8 rfl rfl)
theorem dX4_fell_57 : decode cX4_fell 57 = .ok (.iadd, 1) := dk_96 (dk_at dksX4_fell_2 9 rfl rfl)
theorem dX4_fell_58 : decode cX4_fell 58 = .ok (.istore 4, 2) := dk_54 4 (dk_at dksX4_fell_2 10 rfl rfl)
theorem dX4_fell_60 : decode cX4_fell 60 = .ok (.iinc 5 1, 3) := dk_132 5 1 (dk_at dksX4_fell_2 12 rfl rfl)
theorem dX4_fell_63 : decode cX4_fell 63 = .ok (.goto (-39), 3) := dk_167 255 217 (dk_at dksX4_fell_2 15 rfl rfl)
theorem dX4_fell_66 : decode cX4_fell 66 = .ok (.iload 4, 2) := dk_21 4 (dk_at dksX4_fell_2 18 rfl rfl)
theorem dX4_fell_68 : decode cX4_fell 68 = .ok (.ireturn, 1) := dk_172 (dk_at dksX4_fell_2 20 rfl rfl)
abbrev cX4_ponds : ByteArray := prog_16_method_54_code
def yX4_ponds : MethodName := ⟨RX4, "ponds", "(III)I"⟩
def dkwX4_ponds_5 : List UInt8 := [79, 21, 6, 172]
abbrev dktX4_ponds_5 : List UInt8 := dkwX4_ponds_5 ++ []
def dkwX4_ponds_4 : List UInt8 := [167, 0, 4, 4, 96, 54, 6, 132, 7, 1, 167, 255, 190, 42, 180, 0, 17, 8, 29, 104, 5, 96, 21, 5]
abbrev dktX4_ponds_4 : List UInt8 := dkwX4_ponds_4 ++ dktX4_ponds_5
def dkwX4_ponds_3 : List UInt8 := [21, 7, 79, 42, 29, 28, 182, 0, 223, 21, 6, 42, 180, 0, 48, 3, 46, 2, 160, 0, 7, 3]
abbrev dktX4_ponds_3 : List UInt8 := dkwX4_ponds_3 ++ dktX4_ponds_4
def dkwX4_ponds_2 : List UInt8 := [182, 0, 104, 153, 0, 50, 42, 21, 7, 182, 0, 95, 154, 0, 41, 42, 180, 0, 17, 8, 29, 104, 5, 96]
abbrev dktX4_ponds_2 : List UInt8 := dkwX4_ponds_2 ++ dktX4_ponds_3
def dkwX4_ponds_1 : List UInt8 := [172, 42, 29, 182, 0, 88, 54, 5, 3, 54, 6, 3, 54, 7, 21, 7, 16, 67, 162, 0, 65, 42, 21, 7]
abbrev dktX4_ponds_1 : List UInt8 := dkwX4_ponds_1 ++ dktX4_ponds_2
def dkwX4_ponds_0 : List UInt8 := [42, 42, 29, 182, 0, 124, 27, 28, 182, 0, 219, 54, 4, 21, 4, 156, 0, 10, 42, 21, 4, 182, 0, 101]
abbrev dktX4_ponds_0 : List UInt8 := dkwX4_ponds_0 ++ dktX4_ponds_1
theorem dksX4_ponds_0 : cX4_ponds.data.toList.drop 0 = dktX4_ponds_0 := by decide +kernel
theorem dksX4_ponds_1 : cX4_ponds.data.toList.drop 24 = dktX4_ponds_1 := dk_seg dksX4_ponds_0 24 rfl rfl
theorem dksX4_ponds_2 : cX4_ponds.data.toList.drop 48 = dktX4_ponds_2 := dk_seg dksX4_ponds_1 24 rfl rfl
theorem dksX4_ponds_3 : cX4_ponds.data.toList.drop 72 = dktX4_ponds_3 := dk_seg dksX4_ponds_2 24 rfl rfl
theorem dksX4_ponds_4 : cX4_ponds.data.toList.drop 94 = dktX4_ponds_4 := dk_seg dksX4_ponds_3 22 rfl rfl
theorem dksX4_ponds_5 : cX4_ponds.data.toList.drop 118 = dktX4_ponds_5 := dk_seg dksX4_ponds_4 24 rfl rfl
theorem dX4_ponds_0 : decode cX4_ponds 0 = .ok (.aload_n 0, 1) := dk_42 (dk_at dksX4_ponds_0 0 rfl rfl)
theorem dX4_ponds_1 : decode cX4_ponds 1 = .ok (.aload_n 0, 1) := dk_42 (dk_at dksX4_ponds_0 1 rfl rfl)
theorem dX4_ponds_2 : decode cX4_ponds 2 = .ok (.iload_n 3, 1) := dk_29 (dk_at dksX4_ponds_0 2 rfl rfl)
theorem dX4_ponds_3 : decode cX4_ponds 3 = .ok (.invokevirtual 124, 3) := dk_182 0 124 (dk_at dksX4_ponds_0 3 rfl rfl)
theorem dX4_ponds_6 : decode cX4_ponds 6 = .ok (.iload_n 1, 1) := dk_27 (dk_at dksX4_ponds_0 6 rfl rfl)
theorem dX4_ponds_7 : decode cX4_ponds 7 = .ok (.iload_n 2, 1) := dk_28 (dk_at dksX4_ponds_0 7 rfl rfl)
theorem dX4_ponds_8 : decode cX4_ponds 8 = .ok (.invokevirtual 219, 3) := dk_182 0 219 (dk_at dksX4_ponds_0 8 rfl rfl)
theorem dX4_ponds_11 : decode cX4_ponds 11 = .ok (.istore 4, 2) := dk_54 4 (dk_at dksX4_ponds_0 11 rfl rfl)
theorem dX4_ponds_13 : decode cX4_ponds 13 = .ok (.iload 4, 2) := dk_21 4 (dk_at dksX4_ponds_0 13 rfl rfl)
theorem dX4_ponds_15 : decode cX4_ponds 15 = .ok (.ifCond .ge 10, 3) := dk_156 0 10 (dk_at dksX4_ponds_0 15 rfl rfl)
theorem dX4_ponds_18 : decode cX4_ponds 18 = .ok (.aload_n 0, 1) := dk_42 (dk_at dksX4_ponds_0 18 rfl rfl)
theorem dX4_ponds_19 : decode cX4_ponds 19 = .ok (.iload 4, 2) := dk_21 4 (dk_at dksX4_ponds_0 19 rfl rfl)
theorem dX4_ponds_21 : decode cX4_ponds 21 = .ok (.invokevirtual 101, 3) := dk_182 0 101 (dk_at dksX4_ponds_0 21 rfl rfl)
theorem dX4_ponds_24 : decode cX4_ponds 24 = .ok (.ireturn, 1) := dk_172 (dk_at dksX4_ponds_1 0 rfl rfl)
theorem dX4_ponds_25 : decode cX4_ponds 25 = .ok (.aload_n 0, 1) := dk_42 (dk_at dksX4_ponds_1 1 rfl rfl)
theorem dX4_ponds_26 : decode cX4_ponds 26 = .ok (.iload_n 3, 1) := dk_29 (dk_at dksX4_ponds_1 2 rfl rfl)
theorem dX4_ponds_27 : decode cX4_ponds 27 = .ok (.invokevirtual 88, 3) := dk_182 0 88 (dk_at dksX4_ponds_1 3 rfl rfl)
theorem dX4_ponds_30 : decode cX4_ponds 30 = .ok (.istore 5, 2) := dk_54 5 (dk_at dksX4_ponds_1 6 rfl rfl)
theorem dX4_ponds_32 : decode cX4_ponds 32 = .ok (.iconst 0, 1) := dk_3 (dk_at dksX4_ponds_1 8 rfl rfl)
theorem dX4_ponds_33 : decode cX4_ponds 33 = .ok (.istore 6, 2) := dk_54 6 (dk_at dksX4_ponds_1 9 rfl rfl)
theorem dX4_ponds_35 : decode cX4_ponds 35 = .ok (.iconst 0, 1) := dk_3 (dk_at dksX4_ponds_1 11 rfl rfl)
theorem dX4_ponds_36 : decode cX4_ponds 36 = .ok (.istore 7, 2) := dk_54 7 (dk_at dksX4_ponds_1 12 rfl rfl)
theorem dX4_ponds_38 : decode cX4_ponds 38 = .ok (.iload 7, 2) := dk_21 7 (dk_at dksX4_ponds_1 14 rfl rfl)
theorem dX4_ponds_40 : decode cX4_ponds 40 = .ok (.bipush 67, 2) := dk_16 67 (dk_at dksX4_ponds_1 16 rfl rfl)
theorem dX4_ponds_42 : decode cX4_ponds 42 = .ok (.if_icmp .ge 65, 3) := dk_162 0 65 (dk_at dksX4_ponds_1 18 rfl rfl)
theorem dX4_ponds_45 : decode cX4_ponds 45 = .ok (.aload_n 0, 1) := dk_42 (dk_at dksX4_ponds_1 21 rfl rfl)
theorem dX4_ponds_46 : decode cX4_ponds 46 = .ok (.iload 7, 2) := dk_21 7 (dk_at dksX4_ponds_1 22 rfl rfl)
theorem dX4_ponds_48 : decode cX4_ponds 48 = .ok (.invokevirtual 104, 3) := dk_182 0 104 (dk_at dksX4_ponds_2 0 rfl rfl)
theorem dX4_ponds_51 : decode cX4_ponds 51 = .ok (.ifCond .eq 50, 3) := dk_153 0 50 (dk_at dksX4_ponds_2 3 rfl rfl)
theorem dX4_ponds_54 : decode cX4_ponds 54 = .ok (.aload_n 0, 1) := dk_42 (dk_at dksX4_ponds_2 6 rfl rfl)
theorem dX4_ponds_55 : decode cX4_ponds 55 = .ok (.iload 7, 2) := dk_21 7 (dk_at dksX4_ponds_2 7 rfl rfl)
theorem dX4_ponds_57 : decode cX4_ponds 57 = .ok (.invokevirtual 95, 3) := dk_182 0 95 (dk_at dksX4_ponds_2 9 rfl rfl)
theorem dX4_ponds_60 : decode cX4_ponds 60 = .ok (.ifCond .ne 41, 3) := dk_154 0 41 (dk_at dksX4_ponds_2 12 rfl rfl)
theorem dX4_ponds_63 : decode cX4_ponds 63 = .ok (.aload_n 0, 1) := dk_42 (dk_at dksX4_ponds_2 15 rfl rfl)
theorem dX4_ponds_64 : decode cX4_ponds 64 = .ok (.getfield 17, 3) := dk_180 0 17 (dk_at dksX4_ponds_2 16 rfl rfl)
theorem dX4_ponds_67 : decode cX4_ponds 67 = .ok (.iconst 5, 1) := dk_8 (dk_at dksX4_ponds_2 19 rfl rfl)
theorem dX4_ponds_68 : decode cX4_ponds 68 = .ok (.iload_n 3, 1) := dk_29 (dk_at dksX4_ponds_2 20 rfl rfl)
theorem dX4_ponds_69 : decode cX4_ponds 69 = .ok (.imul, 1) := dk_104 (dk_at dksX4_ponds_2 21 rfl rfl)
theorem dX4_ponds_70 : decode cX4_ponds 70 = .ok (.iconst 2, 1) := dk_5 (dk_at dksX4_ponds_2 22 rfl rfl)
theorem dX4_ponds_71 : decode cX4_ponds 71 = .ok (.iadd, 1) := dk_96 (dk_at dksX4_ponds_2 23 rfl rfl)
theorem dX4_ponds_72 : decode cX4_ponds 72 = .ok (.iload 7, 2) := dk_21 7 (dk_at dksX4_ponds_3 0 rfl rfl)
theorem dX4_ponds_74 : decode cX4_ponds 74 = .ok (.iastore, 1) := dk_79 (dk_at dksX4_ponds_3 2 rfl rfl)
theorem dX4_ponds_75 : decode cX4_ponds 75 = .ok (.aload_n 0, 1) := dk_42 (dk_at dksX4_ponds_3 3 rfl rfl)
theorem dX4_ponds_76 : decode cX4_ponds 76 = .ok (.iload_n 3, 1) := dk_29 (dk_at dksX4_ponds_3 4 rfl rfl)
theorem dX4_ponds_77 : decode cX4_ponds 77 = .ok (.iload_n 2, 1) := dk_28 (dk_at dksX4_ponds_3 5 rfl rfl)
theorem dX4_ponds_78 : decode cX4_ponds 78 = .ok (.invokevirtual 223, 3) := dk_182 0 223 (dk_at dksX4_ponds_3 6 rfl rfl)
theorem dX4_ponds_81 : decode cX4_ponds 81 = .ok (.iload 6, 2) := dk_21 6 (dk_at dksX4_ponds_3 9 rfl rfl)
theorem dX4_ponds_83 : decode cX4_ponds 83 = .ok (.aload_n 0, 1) := dk_42 (dk_at dksX4_ponds_3 11 rfl rfl)
theorem dX4_ponds_84 : decode cX4_ponds 84 = .ok (.getfield 48, 3) := dk_180 0 48 (dk_at dksX4_ponds_3 12 rfl rfl)
theorem dX4_ponds_87 : decode cX4_ponds 87 = .ok (.iconst 0, 1) := dk_3 (dk_at dksX4_ponds_3 15 rfl rfl)
theorem dX4_ponds_88 : decode cX4_ponds 88 = .ok (.iaload, 1) := dk_46 (dk_at dksX4_ponds_3 16 rfl rfl)
theorem dX4_ponds_89 : decode cX4_ponds 89 = .ok (.iconst (-1), 1) := dk_2 (dk_at dksX4_ponds_3 17 rfl rfl)
theorem dX4_ponds_90 : decode cX4_ponds 90 = .ok (.if_icmp .ne 7, 3) := dk_160 0 7 (dk_at dksX4_ponds_3 18 rfl rfl)
theorem dX4_ponds_93 : decode cX4_ponds 93 = .ok (.iconst 0, 1) := dk_3 (dk_at dksX4_ponds_3 21 rfl rfl)
theorem dX4_ponds_94 : decode cX4_ponds 94 = .ok (.goto 4, 3) := dk_167 0 4 (dk_at dksX4_ponds_4 0 rfl rfl)
theorem dX4_ponds_97 : decode cX4_ponds 97 = .ok (.iconst 1, 1) := dk_4 (dk_at dksX4_ponds_4 3 rfl rfl)
theorem dX4_ponds_98 : decode cX4_ponds 98 = .ok (.iadd, 1) := dk_96 (dk_at dksX4_ponds_4 4 rfl rfl)
theorem dX4_ponds_99 : decode cX4_ponds 99 = .ok (.istore 6, 2) := dk_54 6 (dk_at dksX4_ponds_4 5 rfl rfl)
theorem dX4_ponds_101 : decode cX4_ponds 101 = .ok (.iinc 7 1, 3) := dk_132 7 1 (dk_at dksX4_ponds_4 7 rfl rfl)
theorem dX4_ponds_104 : decode cX4_ponds 104 = .ok (.goto (-66), 3) := dk_167 255 190 (dk_at dksX4_ponds_4 10 rfl rfl)
theorem dX4_ponds_107 : decode cX4_ponds 107 = .ok (.aload_n 0, 1) := dk_42 (dk_at dksX4_ponds_4 13 rfl rfl)
theorem dX4_ponds_108 : decode cX4_ponds 108 = .ok (.getfield 17, 3) := dk_180 0 17 (dk_at dksX4_ponds_4 14 rfl rfl)
theorem dX4_ponds_111 : decode cX4_ponds 111 = .ok (.iconst 5, 1) := dk_8 (dk_at dksX4_ponds_4 17 rfl rfl)
theorem dX4_ponds_112 : decode cX4_ponds 112 = .ok (.iload_n 3, 1) := dk_29 (dk_at dksX4_ponds_4 18 rfl rfl)
theorem dX4_ponds_113 : decode cX4_ponds 113 = .ok (.imul, 1) := dk_104 (dk_at dksX4_ponds_4 19 rfl rfl)
theorem dX4_ponds_114 : decode cX4_ponds 114 = .ok (.iconst 2, 1) := dk_5 (dk_at dksX4_ponds_4 20 rfl rfl)
theorem dX4_ponds_115 : decode cX4_ponds 115 = .ok (.iadd, 1) := dk_96 (dk_at dksX4_ponds_4 21 rfl rfl)
theorem dX4_ponds_116 : decode cX4_ponds 116 = .ok (.iload 5, 2) := dk_21 5 (dk_at dksX4_ponds_4 22 rfl rfl)
theorem dX4_ponds_118 : decode cX4_ponds 118 = .ok (.iastore, 1) := dk_79 (dk_at dksX4_ponds_5 0 rfl rfl)
theorem dX4_ponds_119 : decode cX4_ponds 119 = .ok (.iload 6, 2) := dk_21 6 (dk_at dksX4_ponds_5 1 rfl rfl)
theorem dX4_ponds_121 : decode cX4_ponds 121 = .ok (.ireturn, 1) := dk_172 (dk_at dksX4_ponds_5 3 rfl rfl)
abbrev cX4_safe : ByteArray := prog_16_method_57_code
def yX4_safe : MethodName := ⟨RX4, "safe", "(IIII)I"⟩
def dkwX4_safe_7 : List UInt8 := [21, 4, 2, 160, 0, 7, 2, 167, 0, 9, 42, 16, 251, 182, 0, 101, 172]
abbrev dktX4_safe_7 : List UInt8 := dkwX4_safe_7 ++ []
def dkwX4_safe_6 : List UInt8 := [16, 251, 182, 0, 101, 172, 132, 7, 1, 167, 255, 160, 21, 5, 6, 104, 54, 5, 132, 6, 1, 167, 255, 138]
abbrev dktX4_safe_6 : List UInt8 := dkwX4_safe_6 ++ dktX4_safe_7
def dkwX4_safe_5 : List UInt8 := [21, 6, 167, 0, 26, 21, 4, 21, 6, 162, 0, 13, 42, 180, 0, 51, 21, 4, 46, 167, 0, 9, 42]
abbrev dktX4_safe_5 : List UInt8 := dkwX4_safe_5 ++ dktX4_safe_6
def dkwX4_safe_4 : List UInt8 := [21, 6, 28, 4, 42, 180, 0, 17, 16, 91, 46, 100, 182, 0, 230, 153, 0, 38, 21, 4, 2, 160, 0, 8]
abbrev dktX4_safe_4 : List UInt8 := dkwX4_safe_4 ++ dktX4_safe_5
def dkwX4_safe_3 : List UInt8 := [27, 21, 6, 28, 42, 180, 0, 17, 16, 91, 46, 182, 0, 230, 153, 0, 63, 29, 4, 159, 0, 23, 42, 27]
abbrev dktX4_safe_3 : List UInt8 := dkwX4_safe_3 ++ dktX4_safe_4
def dkwX4_safe_2 : List UInt8 := [16, 6, 163, 0, 117, 3, 54, 7, 21, 7, 21, 5, 162, 0, 95, 42, 21, 7, 21, 6, 182, 0, 227, 42]
abbrev dktX4_safe_2 : List UInt8 := dkwX4_safe_2 ++ dktX4_safe_3
def dkwX4_safe_1 : List UInt8 := [153, 0, 9, 21, 4, 2, 162, 0, 10, 42, 16, 254, 182, 0, 101, 172, 4, 54, 5, 3, 54, 6, 21, 6]
abbrev dktX4_safe_1 : List UInt8 := dkwX4_safe_1 ++ dktX4_safe_2
def dkwX4_safe_0 : List UInt8 := [42, 27, 182, 0, 124, 153, 0, 27, 42, 28, 182, 0, 104, 153, 0, 19, 29, 133, 9, 10, 184, 0, 76]
abbrev dktX4_safe_0 : List UInt8 := dkwX4_safe_0 ++ dktX4_safe_1
theorem dksX4_safe_0 : cX4_safe.data.toList.drop 0 = dktX4_safe_0 := by decide +kernel
theorem dksX4_safe_1 : cX4_safe.data.toList.drop 23 = dktX4_safe_1 := dk_seg dksX4_safe_0 23 rfl rfl
theorem dksX4_safe_2 : cX4_safe.data.toList.drop 47 = dktX4_safe_2 := dk_seg dksX4_safe_1 24 rfl rfl
theorem dksX4_safe_3 : cX4_safe.data.toList.drop 71 = dktX4_safe_3 := dk_seg dksX4_safe_2 24 rfl rfl
theorem dksX4_safe_4 : cX4_safe.data.toList.drop 95 = dktX4_safe_4 := dk_seg dksX4_safe_3 24 rfl rfl
theorem dksX4_safe_5 : cX4_safe.data.toList.drop 119 = dktX4_safe_5 := dk_seg dksX4_safe_4 24 rfl rfl
theorem dksX4_safe_6 : cX4_safe.data.toList.drop 142 = dktX4_safe_6 := dk_seg dksX4_safe_5 23 rfl rfl
theorem dksX4_safe_7 : cX4_safe.data.toList.drop 166 = dktX4_safe_7 := dk_seg dksX4_safe_6 24 rfl rfl
theorem dX4_safe_0 : decode cX4_safe 0 = .ok (.aload_n 0, 1) := dk_42 (dk_at dksX4_safe_0 0 rfl rfl)
theorem dX4_safe_1 : decode cX4_safe 1 = .ok (.iload_n 1, 1) := dk_27 (dk_at dksX4_safe_0 1 rfl rfl)
theorem dX4_safe_2 : decode cX4_safe 2 = .ok (.invokevirtual 124, 3) := dk_182 0 124 (dk_at dksX4_safe_0 2 rfl rfl)
theorem dX4_safe_5 : decode cX4_safe 5 = .ok (.ifCond .eq 27, 3) := dk_153 0 27 (dk_at dksX4_safe_0 5 rfl rfl)
theorem dX4_safe_8 : decode cX4_safe 8 = .ok (.aload_n 0, 1) := dk_42 (dk_at dksX4_safe_0 8 rfl rfl)
theorem dX4_safe_9 : decode cX4_safe 9 = .ok (.iload_n 2, 1) := dk_28 (dk_at dksX4_safe_0 9 rfl rfl)
theorem dX4_safe_10 : decode cX4_safe 10 = .ok (.invokevirtual 104, 3) := dk_182 0 104 (dk_at dksX4_safe_0 10 rfl rfl)
theorem dX4_safe_13 : decode cX4_safe 13 = .ok (.ifCond .eq 19, 3) := dk_153 0 19 (dk_at dksX4_safe_0 13 rfl rfl)
theorem dX4_safe_16 : decode cX4_safe 16 = .ok (.iload_n 3, 1) := dk_29 (dk_at dksX4_safe_0 16 rfl rfl)
theorem dX4_safe_17 : decode cX4_safe 17 = .ok (.i2l, 1) := dk_133 (dk_at dksX4_safe_0 17 rfl rfl)
theorem dX4_safe_18 : decode cX4_safe 18 = .ok (.lconst 0, 1) := dk_9 (dk_at dksX4_safe_0 18 rfl rfl)
theorem dX4_safe_19 : decode cX4_safe 19 = .ok (.lconst 1, 1) := dk_10 (dk_at dksX4_safe_0 19 rfl rfl)
theorem dX4_safe_20 : decode cX4_safe 20 = .ok (.invokestatic 76, 3) := dk_184 0 76 (dk_at dksX4_safe_0 20 rfl rfl)
theorem dX4_safe_23 : decode cX4_safe 23 = .ok (.ifCond .eq 9, 3) := dk_153 0 9 (dk_at dksX4_safe_1 0 rfl rfl)
theorem dX4_safe_26 : decode cX4_safe 26 = .ok (.iload 4, 2) := dk_21 4 (dk_at dksX4_safe_1 3 rfl rfl)
theorem dX4_safe_28 : decode cX4_safe 28 = .ok (.iconst (-1), 1) := dk_2 (dk_at dksX4_safe_1 5 rfl rfl)
theorem dX4_safe_29 : decode cX4_safe 29 = .ok (.if_icmp .ge 10, 3) := dk_162 0 10 (dk_at dksX4_safe_1 6 rfl rfl)
theorem dX4_safe_32 : decode cX4_safe 32 = .ok (.aload_n 0, 1) := dk_42 (dk_at dksX4_safe_1 9 rfl rfl)
theorem dX4_safe_33 : decode cX4_safe 33 = .ok (.bipush (-2), 2) := dk_16 254 (dk_at dksX4_safe_1 10 rfl rfl)
theorem dX4_safe_35 : decode cX4_safe 35 = .ok (.invokevirtual 101, 3) := dk_182 0 101 (dk_at dksX4_safe_1 12 rfl rfl)
theorem dX4_safe_38 : decode cX4_safe 38 = .ok (.ireturn, 1) := dk_172 (dk_at dksX4_safe_1 15 rfl rfl)
theorem dX4_safe_39 : decode cX4_safe 39 = .ok (.iconst 1, 1) := dk_4 (dk_at dksX4_safe_1 16 rfl rfl)
theorem dX4_safe_40 : decode cX4_safe 40 = .ok (.istore 5, 2) := dk_54 5 (dk_at dksX4_safe_1 17 rfl rfl)
theorem dX4_safe_42 : decode cX4_safe 42 = .ok (.iconst 0, 1) := dk_3 (dk_at dksX4_safe_1 19 rfl rfl)
theorem dX4_safe_43 : decode cX4_safe 43 = .ok (.istore 6, 2) := dk_54 6 (dk_at dksX4_safe_1 20 rfl rfl)
theorem dX4_safe_45 : decode cX4_safe 45 = .ok (.iload 6, 2) := dk_21 6 (dk_at dksX4_safe_1 22 rfl rfl)
theorem dX4_safe_47 : decode cX4_safe 47 = .ok (.bipush 6, 2) := dk_16 6 (dk_at dksX4_safe_2 0 rfl rfl)
theorem dX4_safe_49 : decode cX4_safe 49 = .ok (.if_icmp .gt 117, 3) := dk_163 0 117 (dk_at dksX4_safe_2 2 rfl rfl)
theorem dX4_safe_52 : decode cX4_safe 52 = .ok (.iconst 0, 1) := dk_3 (dk_at dksX4_safe_2 5 rfl rfl)
theorem dX4_safe_53 : decode cX4_safe 53 = .ok (.istore 7, 2) := dk_54 7 (dk_at dksX4_safe_2 6 rfl rfl)
theorem dX4_safe_55 : decode cX4_safe 55 = .ok (.iload 7, 2) := dk_21 7 (dk_at dksX4_safe_2 8 rfl rfl)
theorem dX4_safe_57 : decode cX4_safe 57 = .ok (.iload 5, 2) := dk_21 5 (dk_at dksX4_safe_2 10 rfl rfl)
theorem dX4_safe_59 : decode cX4_safe 59 = .ok (.if_icmp .ge 95, 3) := dk_162 0 95 (dk_at dksX4_safe_2 12 rfl rfl)
theorem dX4_safe_62 : decode cX4_safe 62 = .ok (.aload_n 0, 1) := dk_42 (dk_at dksX4_safe_2 15 rfl rfl)
theorem dX4_safe_63 : decode cX4_safe 63 = .ok (.iload 7, 2) := dk_21 7 (dk_at dksX4_safe_2 16 rfl rfl)
theorem dX4_safe_65 : decode cX4_safe 65 = .ok (.iload 6, 2) := dk_21 6 (dk_at dksX4_safe_2 18 rfl rfl)
theorem dX4_safe_67 : decode cX4_safe 67 = .ok (.invokevirtual 227, 3) := dk_182 0 227 (dk_at dksX4_safe_2 20 rfl rfl)
theorem dX4_safe_70 : decode cX4_safe 70 = .ok (.aload_n 0, 1) := dk_42 (dk_at dksX4_safe_2 23 rfl rfl)
theorem dX4_safe_71 : decode cX4_safe 71 = .ok (.iload_n 1, 1) := dk_27 (dk_at dksX4_safe_3 0 rfl rfl)
theorem dX4_safe_72 : decode cX4_safe 72 = .ok (.iload 6, 2) := dk_21 6 (dk_at dksX4_safe_3 1 rfl rfl)
theorem dX4_safe_74 : decode cX4_safe 74 = .ok (.iload_n 2, 1) := dk_28 (dk_at dksX4_safe_3 3 rfl rfl)
theorem dX4_safe_75 : decode cX4_safe 75 = .ok (.aload_n 0, 1) := dk_42 (dk_at dksX4_safe_3 4 rfl rfl)
theorem dX4_safe_76 : decode cX4_safe 76 = .ok (.getfield 17, 3) := dk_180 0 17 (dk_at dksX4_safe_3 5 rfl rfl)
theorem dX4_safe_79 : decode cX4_safe 79 = .ok (.bipush 91, 2) := dk_16 91 (dk_at dksX4_safe_3 8 rfl rfl)
theorem dX4_safe_81 : decode cX4_safe 81 = .ok (.iaload, 1) := dk_46 (dk_at dksX4_safe_3 10 rfl rfl)
theorem dX4_safe_82 : decode cX4_safe 82 = .ok (.invokevirtual 230, 3) := dk_182 0 230 (dk_at dksX4_safe_3 11 rfl rfl)
theorem dX4_safe_85 : decode cX4_safe 85 = .ok (.ifCond .eq 63, 3) := dk_153 0 63 (dk_at dksX4_safe_3 14 rfl rfl)
theorem dX4_safe_88 : decode cX4_safe 88 = .ok (.iload_n 3, 1) := dk_29 (dk_at dksX4_safe_3 17 rfl rfl)
theorem dX4_safe_89 : decode cX4_safe 89 = .ok (.iconst 1, 1) := dk_4 (dk_at dksX4_safe_3 18 rfl rfl)
theorem dX4_safe_90 : decode cX4_safe 90 = .ok (.if_icmp .eq 23, 3) := dk_159 0 23 (dk_at dksX4_safe_3 19 rfl rfl)
theorem dX4_safe_93 : decode cX4_safe 93 = .ok (.aload_n 0, 1) := dk_42 (dk_at dksX4_safe_3 22 rfl rfl)
theorem dX4_safe_94 : decode cX4_safe 94 = .ok (.iload_n 1, 1) := dk_27 (dk_at dksX4_safe_3 23 rfl rfl)
theorem dX4_safe_95 : decode cX4_safe 95 = .ok (.iload 6, 2) := dk_21 6 (dk_at dksX4_safe_4 0 rfl rfl)
theorem dX4_safe_97 : decode cX4_safe 97 = .ok (.iload_n 2, 1) := dk_28 (dk_at dksX4_safe_4 2 rfl rfl)
theorem dX4_safe_98 : decode cX4_safe 98 = .ok (.iconst 1, 1) := dk_4 (dk_at dksX4_safe_4 3 rfl rfl)
theorem dX4_safe_99 : decode cX4_safe 99 = .ok (.aload_n 0, 1) := dk_42 (dk_at dksX4_safe_4 4 rfl rfl)
theorem dX4_safe_100 : decode cX4_safe 100 = .ok (.getfield 17, 3) := dk_180 0 17 (dk_at dksX4_safe_4 5 rfl rfl)
theorem dX4_safe_103 : decode cX4_safe 103 = .ok (.bipush 91, 2) := dk_16 91 (dk_at dksX4_safe_4 8 rfl rfl)
theorem dX4_safe_105 : decode cX4_safe 105 = .ok (.iaload, 1) := dk_46 (dk_at dksX4_safe_4 10 rfl rfl)
theorem dX4_safe_106 : decode cX4_safe 106 = .ok (.isub, 1) := dk_100 (dk_at dksX4_safe_4 11 rfl rfl)
theorem dX4_safe_107 : decode cX4_safe 107 = .ok (.invokevirtual 230, 3) := dk_182 0 230 (dk_at dksX4_safe_4 12 rfl rfl)
theorem dX4_safe_110 : decode cX4_safe 110 = .ok (.ifCond .eq 38, 3) := dk_153 0 38 (dk_at dksX4_safe_4 15 rfl rfl)
theorem dX4_safe_113 : decode cX4_safe 113 = .ok (.iload 4, 2) := dk_21 4 (dk_at dksX4_safe_4 18 rfl rfl)
theorem dX4_safe_115 : decode cX4_safe 115 = .ok (.iconst (-1), 1) := dk_2 (dk_at dksX4_safe_4 20 rfl rfl)
theorem dX4_safe_116 : decode cX4_safe 116 = .ok (.if_icmp .ne 8, 3) := dk_160 0 8 (dk_at dksX4_safe_4 21 rfl rfl)
theorem dX4_safe_119 : decode cX4_safe 119 = .ok (.iload 6, 2) := dk_21 6 (dk_at dksX4_safe_5 0 rfl rfl)
theorem dX4_safe_121 : decode cX4_safe 121 = .ok (.goto 26, 3) := dk_167 0 26 (dk_at dksX4_safe_5 2 rfl rfl)
theorem dX4_safe_124 : decode cX4_safe 124 = .ok (.iload 4, 2) := dk_21 4 (dk_at dksX4_safe_5 5 rfl rfl)
theorem dX4_safe_126 : decode cX4_safe 126 = .ok (.iload 6, 2) := dk_21 6 (dk_at dksX4_safe_5 7 rfl rfl)
theorem dX4_safe_128 : decode cX4_safe 128 = .ok (.if_icmp .ge 13, 3) := dk_162 0 13 (dk_at dksX4_safe_5 9 rfl rfl)
theorem dX4_safe_131 : decode cX4_safe 131 = .ok (.aload_n 0, 1) := dk_42 (dk_at dksX4_safe_5 12 rfl rfl)
theorem dX4_safe_132 : decode cX4_safe 132 = .ok (.getfield 51, 3) := dk_180 0 51 (dk_at dksX4_safe_5 13 rfl rfl)
theorem dX4_safe_135 : decode cX4_safe 135 = .ok (.iload 4, 2) := dk_21 4 (dk_at dksX4_safe_5 16 rfl rfl)
theorem dX4_safe_137 : decode cX4_safe 137 = .ok (.iaload, 1) := dk_46 (dk_at dksX4_safe_5 18 rfl rfl)
theorem dX4_safe_138 : decode cX4_safe 138 = .ok (.goto 9, 3) := dk_167 0 9 (dk_at dksX4_safe_5 19 rfl rfl)
theorem dX4_safe_141 : decode cX4_safe 141 = .ok (.aload_n 0, 1) := dk_42 (dk_at dksX4_safe_5 22 rfl rfl)
theorem dX4_safe_142 : decode cX4_safe 142 = .ok (.bipush (-5), 2) := dk_16 251 (dk_at dksX4_safe_6 0 rfl rfl)
theorem dX4_safe_144 : decode cX4_safe 144 = .ok (.invokevirtual 101, 3) := dk_182 0 101 (dk_at dksX4_safe_6 2 rfl rfl)
theorem dX4_safe_147 : decode cX4_safe 147 = .ok (.ireturn, 1) := dk_172 (dk_at dksX4_safe_6 5 rfl rfl)
theorem dX4_safe_148 : decode cX4_safe 148 = .ok (.iinc 7 1, 3) := dk_132 7 1 (dk_at dksX4_safe_6 6 rfl rfl)
theorem dX4_safe_151 : decode cX4_safe 151 = .ok (.goto (-96), 3) := dk_167 255 160 (dk_at dksX4_safe_6 9 rfl rfl)
theorem dX4_safe_154 : decode cX4_safe 154 = .ok (.iload 5, 2) := dk_21 5 (dk_at dksX4_safe_6 12 rfl rfl)
theorem dX4_safe_156 : decode cX4_safe 156 = .ok (.iconst 3, 1) := dk_6 (dk_at dksX4_safe_6 14 rfl rfl)
theorem dX4_safe_157 : decode cX4_safe 157 = .ok (.imul, 1) := dk_104 (dk_at dksX4_safe_6 15 rfl rfl)
theorem dX4_safe_158 : decode cX4_safe 158 = .ok (.istore 5, 2) := dk_54 5 (dk_at dksX4_safe_6 16 rfl rfl)
theorem dX4_safe_160 : decode cX4_safe 160 = .ok (.iinc 6 1, 3) := dk_132 6 1 (dk_at dksX4_safe_6 18 rfl rfl)
theorem dX4_safe_163 : decode cX4_safe 163 = .ok (.goto (-118), 3) := dk_167 255 138 (dk_at dksX4_safe_6 21 rfl rfl)
theorem dX4_safe_166 : decode cX4_safe 166 = .ok (.iload 4, 2) := dk_21 4 (dk_at dksX4_safe_7 0 rfl rfl)
theorem dX4_safe_168 : decode cX4_safe 168 = .ok (.iconst (-1), 1) := dk_2 (dk_at dksX4_safe_7 2 rfl rfl)
theorem dX4_safe_169 : decode cX4_safe 169 = .ok (.if_icmp .ne 7, 3) := dk_160 0 7 (dk_at dksX4_safe_7 3 rfl rfl)
theorem dX4_safe_172 : decode cX4_safe 172 = .ok (.iconst (-1), 1) := dk_2 (dk_at dksX4_safe_7 6 rfl rfl)
theorem dX4_safe_173 : decode cX4_safe 173 = .ok (.goto 9, 3) := dk_167 0 9 (dk_at dksX4_safe_7 7 rfl rfl)
theorem dX4_safe_176 : decode cX4_safe 176 = .ok (.aload_n 0, 1) := dk_42 (dk_at dksX4_safe_7 10 rfl rfl)
theorem dX4_safe_177 : decode cX4_safe 177 = .ok (.bipush (-5), 2) := dk_16 251 (dk_at dksX4_safe_7 11 rfl rfl)
theorem dX4_safe_179 : decode cX4_safe 179 = .ok (.invokevirtual 101, 3) := dk_182 0 101 (dk_at dksX4_safe_7 13 rfl rfl)
theorem dX4_safe_182 : decode cX4_safe 182 = .ok (.ireturn, 1) := dk_172 (dk_at dksX4_safe_7 16 rfl rfl)
abbrev cX4_spell : ByteArray := prog_16_method_56_code
def yX4_spell : MethodName := ⟨RX4, "spell", "(II)V"⟩
def dkwX4_spell_1 : List UInt8 := [108, 62, 132, 4, 255, 167, 255, 234, 177]
abbrev dktX4_spell_1 : List UInt8 := dkwX4_spell_1 ++ []
def dkwX4_spell_0 : List UInt8 := [27, 62, 28, 4, 100, 54, 4, 21, 4, 155, 0, 23, 42, 180, 0, 51, 21, 4, 29, 6, 112, 79, 29, 6]
abbrev dktX4_spell_0 : List UInt8 := dkwX4_spell_0 ++ dktX4_spell_1
theorem dksX4_spell_0 : cX4_spell.data.toList.drop 0 = dktX4_spell_0 := by decide +kernel
theorem dksX4_spell_1 : cX4_spell.data.toList.drop 24 = dktX4_spell_1 := dk_seg dksX4_spell_0 24 rfl rfl
theorem dX4_spell_0 : decode cX4_spell 0 = .ok (.iload_n 1, 1) := dk_27 (dk_at dksX4_spell_0 0 rfl rfl)
theorem dX4_spell_1 : decode cX4_spell 1 = .ok (.istore_n 3, 1) := dk_62 (dk_at dksX4_spell_0 1 rfl rfl)
theorem dX4_spell_2 : decode cX4_spell 2 = .ok (.iload_n 2, 1) := dk_28 (dk_at dksX4_spell_0 2 rfl rfl)
theorem dX4_spell_3 : decode cX4_spell 3 = .ok (.iconst 1, 1) := dk_4 (dk_at dksX4_spell_0 3 rfl rfl)
theorem dX4_spell_4 : decode cX4_spell 4 = .ok (.isub, 1) := dk_100 (dk_at dksX4_spell_0 4 rfl rfl)
theorem dX4_spell_5 : decode cX4_spell 5 = .ok (.istore 4, 2) := dk_54 4 (dk_at dksX4_spell_0 5 rfl rfl)
theorem dX4_spell_7 : decode cX4_spell 7 = .ok (.iload 4, 2) := dk_21 4 (dk_at dksX4_spell_0 7 rfl rfl)
theorem dX4_spell_9 : decode cX4_spell 9 = .ok (.ifCond .lt 23, 3) := dk_155 0 23 (dk_at dksX4_spell_0 9 rfl rfl)
theorem dX4_spell_12 : decode cX4_spell 12 = .ok (.aload_n 0, 1) := dk_42 (dk_at dksX4_spell_0 12 rfl rfl)
theorem dX4_spell_13 : decode cX4_spell 13 = .ok (.getfield 51, 3) := dk_180 0 51 (dk_at dksX4_spell_0 13 rfl rfl)
theorem dX4_spell_16 : decode cX4_spell 16 = .ok (.iload 4, 2) := dk_21 4 (dk_at dksX4_spell_0 16 rfl rfl)
theorem dX4_spell_18 : decode cX4_spell 18 = .ok (.iload_n 3, 1) := dk_29 (dk_at dksX4_spell_0 18 rfl rfl)
theorem dX4_spell_19 : decode cX4_spell 19 = .ok (.iconst 3, 1) := dk_6 (dk_at dksX4_spell_0 19 rfl rfl)
theorem dX4_spell_20 : decode cX4_spell 20 = .ok (.irem, 1) := dk_112 (dk_at dksX4_spell_0 20 rfl rfl)
theorem dX4_spell_21 : decode cX4_spell 21 = .ok (.iastore, 1) := dk_79 (dk_at dksX4_spell_0 21 rfl rfl)
theorem dX4_spell_22 : decode cX4_spell 22 = .ok (.iload_n 3, 1) := dk_29 (dk_at dksX4_spell_0 22 rfl rfl)
theorem dX4_spell_23 : decode cX4_spell 23 = .ok (.iconst 3, 1) := dk_6 (dk_at dksX4_spell_0 23 rfl rfl)
theorem dX4_spell_24 : decode cX4_spell 24 = .ok (.idiv, 1) := dk_108 (dk_at dksX4_spell_1 0 rfl rfl)
theorem dX4_spell_25 : decode cX4_spell 25 = .ok (.istore_n 3, 1) := dk_62 (dk_at dksX4_spell_1 1 rfl rfl)
theorem dX4_spell_26 : decode cX4_spell 26 = .ok (.iinc 4 (-1), 3) := dk_132 4 255 (dk_at dksX4_spell_1 2 rfl rfl)
theorem dX4_spell_29 : decode cX4_spell 29 = .ok (.goto (-22), 3) := dk_167 255 234 (dk_at dksX4_spell_1 5 rfl rfl)
theorem dX4_spell_32 : decode cX4_spell 32 = .ok (.return_, 1) := dk_177 (dk_at dksX4_spell_1 8 rfl rfl)
abbrev cX4_brings : ByteArray := prog_16_method_55_code
def yX4_brings : MethodName := ⟨RX4, "brings", "(IIII)Z"⟩
def dkwX4_brings_2 : List UInt8 := [46, 2, 160, 0, 7, 4, 167, 0, 4, 3, 172]
abbrev dktX4_brings_2 : List UInt8 := dkwX4_brings_2 ++ []
def dkwX4_brings_1 : List UInt8 := [42, 180, 0, 17, 16, 91, 21, 5, 79, 42, 180, 0, 33, 3, 46, 29, 160, 0, 17, 42, 180, 0, 48, 3]
abbrev dktX4_brings_1 : List UInt8 := dkwX4_brings_1 ++ dktX4_brings_2
def dkwX4_brings_0 : List UInt8 := [42, 180, 0, 17, 16, 91, 46, 54, 5, 42, 180, 0, 17, 16, 91, 21, 4, 79, 42, 27, 28, 182, 0, 223]
abbrev dktX4_brings_0 : List UInt8 := dkwX4_brings_0 ++ dktX4_brings_1
theorem dksX4_brings_0 : cX4_brings.data.toList.drop 0 = dktX4_brings_0 := by decide +kernel
theorem dksX4_brings_1 : cX4_brings.data.toList.drop 24 = dktX4_brings_1 := dk_seg dksX4_brings_0 24 rfl rfl
theorem dksX4_brings_2 : cX4_brings.data.toList.drop 48 = dktX4_brings_2 := dk_seg dksX4_brings_1 24 rfl rfl
theorem dX4_brings_0 : decode cX4_brings 0 = .ok (.aload_n 0, 1) := dk_42 (dk_at dksX4_brings_0 0 rfl rfl)
theorem dX4_brings_1 : decode cX4_brings 1 = .ok (.getfield 17, 3) := dk_180 0 17 (dk_at dksX4_brings_0 1 rfl rfl)
theorem dX4_brings_4 : decode cX4_brings 4 = .ok (.bipush 91, 2) := dk_16 91 (dk_at dksX4_brings_0 4 rfl rfl)
theorem dX4_brings_6 : decode cX4_brings 6 = .ok (.iaload, 1) := dk_46 (dk_at dksX4_brings_0 6 rfl rfl)
theorem dX4_brings_7 : decode cX4_brings 7 = .ok (.istore 5, 2) := dk_54 5 (dk_at dksX4_brings_0 7 rfl rfl)
theorem dX4_brings_9 : decode cX4_brings 9 = .ok (.aload_n 0, 1) := dk_42 (dk_at dksX4_brings_0 9 rfl rfl)
theorem dX4_brings_10 : decode cX4_brings 10 = .ok (.getfield 17, 3) := dk_180 0 17 (dk_at dksX4_brings_0 10 rfl rfl)
theorem dX4_brings_13 : decode cX4_brings 13 = .ok (.bipush 91, 2) := dk_16 91 (dk_at dksX4_brings_0 13 rfl rfl)
theorem dX4_brings_15 : decode cX4_brings 15 = .ok (.iload 4, 2) := dk_21 4 (dk_at dksX4_brings_0 15 rfl rfl)
theorem dX4_brings_17 : decode cX4_brings 17 = .ok (.iastore, 1) := dk_79 (dk_at dksX4_brings_0 17 rfl rfl)
theorem dX4_brings_18 : decode cX4_brings 18 = .ok (.aload_n 0, 1) := dk_42 (dk_at dksX4_brings_0 18 rfl rfl)
theorem dX4_brings_19 : decode cX4_brings 19 = .ok (.iload_n 1, 1) := dk_27 (dk_at dksX4_brings_0 19 rfl rfl)
theorem dX4_brings_20 : decode cX4_brings 20 = .ok (.iload_n 2, 1) := dk_28 (dk_at dksX4_brings_0 20 rfl rfl)
theorem dX4_brings_21 : decode cX4_brings 21 = .ok (.invokevirtual 223, 3) := dk_182 0 223 (dk_at dksX4_brings_0 21 rfl rfl)
theorem dX4_brings_24 : decode cX4_brings 24 = .ok (.aload_n 0, 1) := dk_42 (dk_at dksX4_brings_1 0 rfl rfl)
theorem dX4_brings_25 : decode cX4_brings 25 = .ok (.getfield 17, 3) := dk_180 0 17 (dk_at dksX4_brings_1 1 rfl rfl)
theorem dX4_brings_28 : decode cX4_brings 28 = .ok (.bipush 91, 2) := dk_16 91 (dk_at dksX4_brings_1 4 rfl rfl)
theorem dX4_brings_30 : decode cX4_brings 30 = .ok (.iload 5, 2) := dk_21 5 (dk_at dksX4_brings_1 6 rfl rfl)
theorem dX4_brings_32 : decode cX4_brings 32 = .ok (.iastore, 1) := dk_79 (dk_at dksX4_brings_1 8 rfl rfl)
theorem dX4_brings_33 : decode cX4_brings 33 = .ok (.aload_n 0, 1) := dk_42 (dk_at dksX4_brings_1 9 rfl rfl)
theorem dX4_brings_34 : decode cX4_brings 34 = .ok (.getfield 33, 3) := dk_180 0 33 (dk_at dksX4_brings_1 10 rfl rfl)
theorem dX4_brings_37 : decode cX4_brings 37 = .ok (.iconst 0, 1) := dk_3 (dk_at dksX4_brings_1 13 rfl rfl)
theorem dX4_brings_38 : decode cX4_brings 38 = .ok (.iaload, 1) := dk_46 (dk_at dksX4_brings_1 14 rfl rfl)
theorem dX4_brings_39 : decode cX4_brings 39 = .ok (.iload_n 3, 1) := dk_29 (dk_at dksX4_brings_1 15 rfl rfl)
theorem dX4_brings_40 : decode cX4_brings 40 = .ok (.if_icmp .ne 17, 3) := dk_160 0 17 (dk_at dksX4_brings_1 16 rfl rfl)
theorem dX4_brings_43 : decode cX4_brings 43 = .ok (.aload_n 0, 1) := dk_42 (dk_at dksX4_brings_1 19 rfl rfl)
theorem dX4_brings_44 : decode cX4_brings 44 = .ok (.getfield 48, 3) := dk_180 0 48 (dk_at dksX4_brings_1 20 rfl rfl)
theorem dX4_brings_47 : decode cX4_brings 47 = .ok (.iconst 0, 1) := dk_3 (dk_at dksX4_brings_1 23 rfl rfl)
theorem dX4_brings_48 : decode cX4_brings 48 = .ok (.iaload, 1) := dk_46 (dk_at dksX4_brings_2 0 rfl rfl)
theorem dX4_brings_49 : decode cX4_brings 49 = .ok (.iconst (-1), 1) := dk_2 (dk_at dksX4_brings_2 1 rfl rfl)
theorem dX4_brings_50 : decode cX4_brings 50 = .ok (.if_icmp .ne 7, 3) := dk_160 0 7 (dk_at dksX4_brings_2 2 rfl rfl)
theorem dX4_brings_53 : decode cX4_brings 53 = .ok (.iconst 1, 1) := dk_4 (dk_at dksX4_brings_2 5 rfl rfl)
theorem dX4_brings_54 : decode cX4_brings 54 = .ok (.goto 4, 3) := dk_167 0 4 (dk_at dksX4_brings_2 6 rfl rfl)
theorem dX4_brings_57 : decode cX4_brings 57 = .ok (.iconst 0, 1) := dk_3 (dk_at dksX4_brings_2 9 rfl rfl)
theorem dX4_brings_58 : decode cX4_brings 58 = .ok (.ireturn, 1) := dk_172 (dk_at dksX4_brings_2 10 rfl rfl)
abbrev cX4_kinds : ByteArray := prog_16_method_58_code
def yX4_kinds : MethodName := ⟨RX4, "kinds", "(IIIII)I"⟩
def dkwX4_kinds_6 : List UInt8 := [132, 10, 1, 167, 255, 198, 42, 180, 0, 17, 21, 7, 21, 8, 79, 21, 9, 172]
abbrev dktX4_kinds_6 : List UInt8 := dkwX4_kinds_6 ++ []
def dkwX4_kinds_5 : List UInt8 := [42, 180, 0, 33, 3, 46, 21, 4, 160, 0, 10, 4, 21, 10, 120, 167, 0, 4, 3, 128, 54, 9]
abbrev dktX4_kinds_5 : List UInt8 := dkwX4_kinds_5 ++ dktX4_kinds_6
def dkwX4_kinds_4 : List UInt8 := [167, 0, 4, 5, 162, 0, 48, 42, 180, 0, 17, 21, 7, 21, 10, 79, 42, 29, 28, 182, 0, 223, 21, 9]
abbrev dktX4_kinds_4 : List UInt8 := dkwX4_kinds_4 ++ dktX4_kinds_5
def dkwX4_kinds_3 : List UInt8 := [180, 0, 17, 21, 7, 46, 54, 8, 3, 54, 9, 3, 54, 10, 21, 10, 21, 5, 154, 0, 8, 16, 6]
abbrev dktX4_kinds_3 : List UInt8 := dkwX4_kinds_3 ++ dktX4_kinds_4
def dkwX4_kinds_2 : List UInt8 := [21, 6, 182, 0, 101, 172, 21, 5, 154, 0, 9, 8, 29, 104, 167, 0, 5, 16, 91, 54, 7, 42]
abbrev dktX4_kinds_2 : List UInt8 := dkwX4_kinds_2 ++ dktX4_kinds_3
def dkwX4_kinds_1 : List UInt8 := [184, 0, 76, 153, 0, 7, 4, 167, 0, 4, 3, 27, 28, 182, 0, 219, 54, 6, 21, 6, 156, 0, 10, 42]
abbrev dktX4_kinds_1 : List UInt8 := dkwX4_kinds_1 ++ dktX4_kinds_2
def dkwX4_kinds_0 : List UInt8 := [42, 42, 29, 182, 0, 124, 153, 0, 27, 42, 21, 4, 182, 0, 104, 153, 0, 18, 21, 5, 133, 9, 10]
abbrev dktX4_kinds_0 : List UInt8 := dkwX4_kinds_0 ++ dktX4_kinds_1
theorem dksX4_kinds_0 : cX4_kinds.data.toList.drop 0 = dktX4_kinds_0 := by decide +kernel
theorem dksX4_kinds_1 : cX4_kinds.data.toList.drop 23 = dktX4_kinds_1 := dk_seg dksX4_kinds_0 23 rfl rfl
theorem dksX4_kinds_2 : cX4_kinds.data.toList.drop 47 = dktX4_kinds_2 := dk_seg dksX4_kinds_1 24 rfl rfl
theorem dksX4_kinds_3 : cX4_kinds.data.toList.drop 69 = dktX4_kinds_3 := dk_seg dksX4_kinds_2 22 rfl rfl
theorem dksX4_kinds_4 : cX4_kinds.data.toList.drop 92 = dktX4_kinds_4 := dk_seg dksX4_kinds_3 23 rfl rfl
theorem dksX4_kinds_5 : cX4_kinds.data.toList.drop 116 = dktX4_kinds_5 := dk_seg dksX4_kinds_4 24 rfl rfl
theorem dksX4_kinds_6 : cX4_kinds.data.toList.drop 138 = dktX4_kinds_6 := dk_seg dksX4_kinds_5 22 rfl rfl
theorem dX4_kinds_0 : decode cX4_kinds 0 = .ok (.aload_n 0, 1) := dk_42 (dk_at dksX4_kinds_0 0 rfl rfl)
theorem dX4_kinds_1 : decode cX4_kinds 1 = .ok (.aload_n 0, 1) := dk_42 (dk_at dksX4_kinds_0 1 rfl rfl)
theorem dX4_kinds_2 : decode cX4_kinds 2 = .ok (.iload_n 3, 1) := dk_29 (dk_at dksX4_kinds_0 2 rfl rfl)
theorem dX4_kinds_3 : decode cX4_kinds 3 = .ok (.invokevirtual 124, 3) := dk_182 0 124 (dk_at dksX4_kinds_0 3 rfl rfl)
theorem dX4_kinds_6 : decode cX4_kinds 6 = .ok (.ifCond .eq 27, 3) := dk_153 0 27 (dk_at dksX4_kinds_0 6 rfl rfl)
theorem dX4_kinds_9 : decode cX4_kinds 9 = .ok (.aload_n 0, 1) := dk_42 (dk_at dksX4_kinds_0 9 rfl rfl)
theorem dX4_kinds_10 : decode cX4_kinds 10 = .ok (.iload 4, 2) := dk_21 4 (dk_at dksX4_kinds_0 10 rfl rfl)
theorem dX4_kinds_12 : decode cX4_kinds 12 = .ok (.invokevirtual 104, 3) := dk_182 0 104 (dk_at dksX4_kinds_0 12 rfl rfl)
theorem dX4_kinds_15 : decode cX4_kinds 15 = .ok (.ifCond .eq 18, 3) := dk_153 0 18 (dk_at dksX4_kinds_0 15 rfl rfl)
theorem dX4_kinds_18 : decode cX4_kinds 18 = .ok (.iload 5, 2) := dk_21 5 (dk_at dksX4_kinds_0 18 rfl rfl)
theorem dX4_kinds_20 : decode cX4_kinds 20 = .ok (.i2l, 1) := dk_133 (dk_at dksX4_kinds_0 20 rfl rfl)
theorem dX4_kinds_21 : decode cX4_kinds 21 = .ok (.lconst 0, 1) := dk_9 (dk_at dksX4_kinds_0 21 rfl rfl)
theorem dX4_kinds_22 : decode cX4_kinds 22 = .ok (.lconst 1, 1) := dk_10 (dk_at dksX4_kinds_0 22 rfl rfl)
theorem dX4_kinds_23 : decode cX4_kinds 23 = .ok (.invokestatic 76, 3) := dk_184 0 76 (dk_at dksX4_kinds_1 0 rfl rfl)
theorem dX4_kinds_26 : decode cX4_kinds 26 = .ok (.ifCond .eq 7, 3) := dk_153 0 7 (dk_at dksX4_kinds_1 3 rfl rfl)
theorem dX4_kinds_29 : decode cX4_kinds 29 = .ok (.iconst 1, 1) := dk_4 (dk_at dksX4_kinds_1 6 rfl rfl)
theorem dX4_kinds_30 : decode cX4_kinds 30 = .ok (.goto 4, 3) := dk_167 0 4 (dk_at dksX4_kinds_1 7 rfl rfl)
theorem dX4_kinds_33 : decode cX4_kinds 33 = .ok (.iconst 0, 1) := dk_3 (dk_at dksX4_kinds_1 10 rfl rfl)
theorem dX4_kinds_34 : decode cX4_kinds 34 = .ok (.iload_n 1, 1) := dk_27 (dk_at dksX4_kinds_1 11 rfl rfl)
theorem dX4_kinds_35 : decode cX4_kinds 35 = .ok (.iload_n 2, 1) := dk_28 (dk_at dksX4_kinds_1 12 rfl rfl)
theorem dX4_kinds_36 : decode cX4_kinds 36 = .ok (.invokevirtual 219, 3) := dk_182 0 219 (dk_at dksX4_kinds_1 13 rfl rfl)
theorem dX4_kinds_39 : decode cX4_kinds 39 = .ok (.istore 6, 2) := dk_54 6 (dk_at dksX4_kinds_1 16 rfl rfl)
theorem dX4_kinds_41 : decode cX4_kinds 41 = .ok (.iload 6, 2) := dk_21 6 (dk_at dksX4_kinds_1 18 rfl rfl)
theorem dX4_kinds_43 : decode cX4_kinds 43 = .ok (.ifCond .ge 10, 3) := dk_156 0 10 (dk_at dksX4_kinds_1 20 rfl rfl)
theorem dX4_kinds_46 : decode cX4_kinds 46 = .ok (.aload_n 0, 1) := dk_42 (dk_at dksX4_kinds_1 23 rfl rfl)
theorem dX4_kinds_47 : decode cX4_kinds 47 = .ok (.iload 6, 2) := dk_21 6 (dk_at dksX4_kinds_2 0 rfl rfl)
theorem dX4_kinds_49 : decode cX4_kinds 49 = .ok (.invokevirtual 101, 3) := dk_182 0 101 (dk_at dksX4_kinds_2 2 rfl rfl)
theorem dX4_kinds_52 : decode cX4_kinds 52 = .ok (.ireturn, 1) := dk_172 (dk_at dksX4_kinds_2 5 rfl rfl)
theorem dX4_kinds_53 : decode cX4_kinds 53 = .ok (.iload 5, 2) := dk_21 5 (dk_at dksX4_kinds_2 6 rfl rfl)
theorem dX4_kinds_55 : decode cX4_kinds 55 = .ok (.ifCond .ne 9, 3) := dk_154 0 9 (dk_at dksX4_kinds_2 8 rfl rfl)
theorem dX4_kinds_58 : decode cX4_kinds 58 = .ok (.iconst 5, 1) := dk_8 (dk_at dksX4_kinds_2 11 rfl rfl)
theorem dX4_kinds_59 : decode cX4_kinds 59 = .ok (.iload_n 3, 1) := dk_29 (dk_at dksX4_kinds_2 12 rfl rfl)
theorem dX4_kinds_60 : decode cX4_kinds 60 = .ok (.imul, 1) := dk_104 (dk_at dksX4_kinds_2 13 rfl rfl)
theorem dX4_kinds_61 : decode cX4_kinds 61 = .ok (.goto 5, 3) := dk_167 0 5 (dk_at dksX4_kinds_2 14 rfl rfl)
theorem dX4_kinds_64 : decode cX4_kinds 64 = .ok (.bipush 91, 2) := dk_16 91 (dk_at dksX4_kinds_2 17 rfl rfl)
theorem dX4_kinds_66 : decode cX4_kinds 66 = .ok (.istore 7, 2) := dk_54 7 (dk_at dksX4_kinds_2 19 rfl rfl)
theorem dX4_kinds_68 : decode cX4_kinds 68 = .ok (.aload_n 0, 1) := dk_42 (dk_at dksX4_kinds_2 21 rfl rfl)
theorem dX4_kinds_69 : decode cX4_kinds 69 = .ok (.getfield 17, 3) := dk_180 0 17 (dk_at dksX4_kinds_3 0 rfl rfl)
theorem dX4_kinds_72 : decode cX4_kinds 72 = .ok (.iload 7, 2) := dk_21 7 (dk_at dksX4_kinds_3 3 rfl rfl)
theorem dX4_kinds_74 : decode cX4_kinds 74 = .ok (.iaload, 1) := dk_46 (dk_at dksX4_kinds_3 5 rfl rfl)
theorem dX4_kinds_75 : decode cX4_kinds 75 = .ok (.istore 8, 2) := dk_54 8 (dk_at dksX4_kinds_3 6 rfl rfl)
theorem dX4_kinds_77 : decode cX4_kinds 77 = .ok (.iconst 0, 1) := dk_3 (dk_at dksX4_kinds_3 8 rfl rfl)
theorem dX4_kinds_78 : decode cX4_kinds 78 = .ok (.istore 9, 2) := dk_54 9 (dk_at dksX4_kinds_3 9 rfl rfl)
theorem dX4_kinds_80 : decode cX4_kinds 80 = .ok (.iconst 0, 1) := dk_3 (dk_at dksX4_kinds_3 11 rfl rfl)
theorem dX4_kinds_81 : decode cX4_kinds 81 = .ok (.istore 10, 2) := dk_54 10 (dk_at dksX4_kinds_3 12 rfl rfl)
theorem dX4_kinds_83 : decode cX4_kinds 83 = .ok (.iload 10, 2) := dk_21 10 (dk_at dksX4_kinds_3 14 rfl rfl)
theorem dX4_kinds_85 : decode cX4_kinds 85 = .ok (.iload 5, 2) := dk_21 5 (dk_at dksX4_kinds_3 16 rfl rfl)
theorem dX4_kinds_87 : decode cX4_kinds 87 = .ok (.ifCond .ne 8, 3) := dk_154 0 8 (dk_at dksX4_kinds_3 18 rfl rfl)
theorem dX4_kinds_90 : decode cX4_kinds 90 = .ok (.bipush 6, 2) := dk_16 6 (dk_at dksX4_kinds_3 21 rfl rfl)
theorem dX4_kinds_92 : decode cX4_kinds 92 = .ok (.goto 4, 3) := dk_167 0 4 (dk_at dksX4_kinds_4 0 rfl rfl)
theorem dX4_kinds_95 : decode cX4_kinds 95 = .ok (.iconst 2, 1) := dk_5 (dk_at dksX4_kinds_4 3 rfl rfl)
theorem dX4_kinds_96 : decode cX4_kinds 96 = .ok (.if_icmp .ge 48, 3) := dk_162 0 48 (dk_at dksX4_kinds_4 4 rfl rfl)
theorem dX4_kinds_99 : decode cX4_kinds 99 = .ok (.aload_n 0, 1) := dk_42 (dk_at dksX4_kinds_4 7 rfl rfl)
theorem dX4_kinds_100 : decode cX4_kinds 100 = .ok (.getfield 17, 3) := dk_180 0 17 (dk_at dksX4_kinds_4 8 rfl rfl)
theorem dX4_kinds_103 : decode cX4_kinds 103 = .ok (.iload 7, 2) := dk_21 7 (dk_at dksX4_kinds_4 11 rfl rfl)
theorem dX4_kinds_105 : decode cX4_kinds 105 = .ok (.iload 10, 2) := dk_21 10 (dk_at dksX4_kinds_4 13 rfl rfl)
theorem dX4_kinds_107 : decode cX4_kinds 107 = .ok (.iastore, 1) := dk_79 (dk_at dksX4_kinds_4 15 rfl rfl)
theorem dX4_kinds_108 : decode cX4_kinds 108 = .ok (.aload_n 0, 1) := dk_42 (dk_at dksX4_kinds_4 16 rfl rfl)
theorem dX4_kinds_109 : decode cX4_kinds 109 = .ok (.iload_n 3, 1) := dk_29 (dk_at dksX4_kinds_4 17 rfl rfl)
theorem dX4_kinds_110 : decode cX4_kinds 110 = .ok (.iload_n 2, 1) := dk_28 (dk_at dksX4_kinds_4 18 rfl rfl)
theorem dX4_kinds_111 : decode cX4_kinds 111 = .ok (.invokevirtual 223, 3) := dk_182 0 223 (dk_at dksX4_kinds_4 19 rfl rfl)
theorem dX4_kinds_114 : decode cX4_kinds 114 = .ok (.iload 9, 2) := dk_21 9 (dk_at dksX4_kinds_4 22 rfl rfl)
theorem dX4_kinds_116 : decode cX4_kinds 116 = .ok (.aload_n 0, 1) := dk_42 (dk_at dksX4_kinds_5 0 rfl rfl)
theorem dX4_kinds_117 : decode cX4_kinds 117 = .ok (.getfield 33, 3) := dk_180 0 33 (dk_at dksX4_kinds_5 1 rfl rfl)
theorem dX4_kinds_120 : decode cX4_kinds 120 = .ok (.iconst 0, 1) := dk_3 (dk_at dksX4_kinds_5 4 rfl rfl)
theorem dX4_kinds_121 : decode cX4_kinds 121 = .ok (.iaload, 1) := dk_46 (dk_at dksX4_kinds_5 5 rfl rfl)
theorem dX4_kinds_122 : decode cX4_kinds 122 = .ok (.iload 4, 2) := dk_21 4 (dk_at dksX4_kinds_5 6 rfl rfl)
theorem dX4_kinds_124 : decode cX4_kinds 124 = .ok (.if_icmp .ne 10, 3) := dk_160 0 10 (dk_at dksX4_kinds_5 8 rfl rfl)
theorem dX4_kinds_127 : decode cX4_kinds 127 = .ok (.iconst 1, 1) := dk_4 (dk_at dksX4_kinds_5 11 rfl rfl)
theorem dX4_kinds_128 : decode cX4_kinds 128 = .ok (.iload 10, 2) := dk_21 10 (dk_at dksX4_kinds_5 12 rfl rfl)
theorem dX4_kinds_130 : decode cX4_kinds 130 = .ok (.ishl, 1) := dk_120 (dk_at dksX4_kinds_5 14 rfl rfl)
theorem dX4_kinds_131 : decode cX4_kinds 131 = .ok (.goto 4, 3) := dk_167 0 4 (dk_at dksX4_kinds_5 15 rfl rfl)
theorem dX4_kinds_134 : decode cX4_kinds 134 = .ok (.iconst 0, 1) := dk_3 (dk_at dksX4_kinds_5 18 rfl rfl)
theorem dX4_kinds_135 : decode cX4_kinds 135 = .ok (.ior, 1) := dk_128 (dk_at dksX4_kinds_5 19 rfl rfl)
theorem dX4_kinds_136 : decode cX4_kinds 136 = .ok (.istore 9, 2) := dk_54 9 (dk_at dksX4_kinds_5 20 rfl rfl)
theorem dX4_kinds_138 : decode cX4_kinds 138 = .ok (.iinc 10 1, 3) := dk_132 10 1 (dk_at dksX4_kinds_6 0 rfl rfl)
theorem dX4_kinds_141 : decode cX4_kinds 141 = .ok (.goto (-58), 3) := dk_167 255 198 (dk_at dksX4_kinds_6 3 rfl rfl)
theorem dX4_kinds_144 : decode cX4_kinds 144 = .ok (.aload_n 0, 1) := dk_42 (dk_at dksX4_kinds_6 6 rfl rfl)
theorem dX4_kinds_145 : decode cX4_kinds 145 = .ok (.getfield 17, 3) := dk_180 0 17 (dk_at dksX4_kinds_6 7 rfl rfl)
theorem dX4_kinds_148 : decode cX4_kinds 148 = .ok (.iload 7, 2) := dk_21 7 (dk_at dksX4_kinds_6 10 rfl rfl)
theorem dX4_kinds_150 : decode cX4_kinds 150 = .ok (.iload 8, 2) := dk_21 8 (dk_at dksX4_kinds_6 12 rfl rfl)
theorem dX4_kinds_152 : decode cX4_kinds 152 = .ok (.iastore, 1) := dk_79 (dk_at dksX4_kinds_6 14 rfl rfl)
theorem dX4_kinds_153 : decode cX4_kinds 153 = .ok (.iload 9, 2) := dk_21 9 (dk_at dksX4_kinds_6 15 rfl rfl)
theorem dX4_kinds_155 : decode cX4_kinds 155 = .ok (.ireturn, 1) := dk_172 (dk_at dksX4_kinds_6 17 rfl rfl)
abbrev cX4_who : ByteArray := prog_16_method_59_code
def yX4_who : MethodName := ⟨RX4, "who", "(III)I"⟩
def dkwX4_who_3 : List UInt8 := [132, 6, 1, 167, 255, 214, 21, 5, 172]
abbrev dktX4_who_3 : List UInt8 := dkwX4_who_3 ++ []
def dkwX4_who_2 : List UInt8 := [21, 5, 42, 180, 0, 33, 3, 46, 29, 160, 0, 10, 4, 21, 6, 120, 167, 0, 4, 3, 128, 54, 5]
abbrev dktX4_who_2 : List UInt8 := dkwX4_who_2 ++ dktX4_who_3
def dkwX4_who_1 : List UInt8 := [172, 3, 54, 5, 3, 54, 6, 21, 6, 42, 182, 0, 84, 162, 0, 39, 42, 21, 6, 28, 182, 0, 223]
abbrev dktX4_who_1 : List UInt8 := dkwX4_who_1 ++ dktX4_who_2
def dkwX4_who_0 : List UInt8 := [42, 42, 29, 182, 0, 104, 27, 28, 182, 0, 219, 54, 4, 21, 4, 156, 0, 10, 42, 21, 4, 182, 0, 101]
abbrev dktX4_who_0 : List UInt8 := dkwX4_who_0 ++ dktX4_who_1
theorem dksX4_who_0 : cX4_who.data.toList.drop 0 = dktX4_who_0 := by decide +kernel
theorem dksX4_who_1 : cX4_who.data.toList.drop 24 = dktX4_who_1 := dk_seg dksX4_who_0 24 rfl rfl
theorem dksX4_who_2 : cX4_who.data.toList.drop 47 = dktX4_who_2 := dk_seg dksX4_who_1 23 rfl rfl
theorem dksX4_who_3 : cX4_who.data.toList.drop 70 = dktX4_who_3 := dk_seg dksX4_who_2 23 rfl rfl
theorem dX4_who_0 : decode cX4_who 0 = .ok (.aload_n 0, 1) := dk_42 (dk_at dksX4_who_0 0 rfl rfl)
theorem dX4_who_1 : decode cX4_who 1 = .ok (.aload_n 0, 1) := dk_42 (dk_at dksX4_who_0 1 rfl rfl)
theorem dX4_who_2 : decode cX4_who 2 = .ok (.iload_n 3, 1) := dk_29 (dk_at dksX4_who_0 2 rfl rfl)
theorem dX4_who_3 : decode cX4_who 3 = .ok (.invokevirtual 104, 3) := dk_182 0 104 (dk_at dksX4_who_0 3 rfl rfl)
theorem dX4_who_6 : decode cX4_who 6 = .ok (.iload_n 1, 1) := dk_27 (dk_at dksX4_who_0 6 rfl rfl)
theorem dX4_who_7 : decode cX4_who 7 = .ok (.iload_n 2, 1) := dk_28 (dk_at dksX4_who_0 7 rfl rfl)
theorem dX4_who_8 : decode cX4_who 8 = .ok (.invokevirtual 219, 3) := dk_182 0 219 (dk_at dksX4_who_0 8 rfl rfl)
theorem dX4_who_11 : decode cX4_who 11 = .ok (.istore 4, 2) := dk_54 4 (dk_at dksX4_who_0 11 rfl rfl)
theorem dX4_who_13 : decode cX4_who 13 = .ok (.iload 4, 2) := dk_21 4 (dk_at dksX4_who_0 13 rfl rfl)
theorem dX4_who_15 : decode cX4_who 15 = .ok (.ifCond .ge 10, 3) := dk_156 0 10 (dk_at dksX4_who_0 15 rfl rfl)
theorem dX4_who_18 : decode cX4_who 18 = .ok (.aload_n 0, 1) := dk_42 (dk_at dksX4_who_0 18 rfl rfl)
theorem dX4_who_19 : decode cX4_who 19 = .ok (.iload 4, 2) := dk_21 4 (dk_at dksX4_who_0 19 rfl rfl)
theorem dX4_who_21 : decode cX4_who 21 = .ok (.invokevirtual 101, 3) := dk_182 0 101 (dk_at dksX4_who_0 21 rfl rfl)
theorem dX4_who_24 : decode cX4_who 24 = .ok (.ireturn, 1) := dk_172 (dk_at dksX4_who_1 0 rfl rfl)
theorem dX4_who_25 : decode cX4_who 25 = .ok (.iconst 0, 1) := dk_3 (dk_at dksX4_who_1 1 rfl rfl)
theorem dX4_who_26 : decode cX4_who 26 = .ok (.istore 5, 2) := dk_54 5 (dk_at dksX4_who_1 2 rfl rfl)
theorem dX4_who_28 : decode cX4_who 28 = .ok (.iconst 0, 1) := dk_3 (dk_at dksX4_who_1 4 rfl rfl)
theorem dX4_who_29 : decode cX4_who 29 = .ok (.istore 6, 2) := dk_54 6 (dk_at dksX4_who_1 5 rfl rfl)
theorem dX4_who_31 : decode cX4_who 31 = .ok (.iload 6, 2) := dk_21 6 (dk_at dksX4_who_1 7 rfl rfl)
theorem dX4_who_33 : decode cX4_who 33 = .ok (.aload_n 0, 1) := dk_42 (dk_at dksX4_who_1 9 rfl rfl)
theorem dX4_who_34 : decode cX4_who 34 = .ok (.invokevirtual 84, 3) := dk_182 0 84 (dk_at dksX4_who_1 10 rfl rfl)
theorem dX4_who_37 : decode cX4_who 37 = .ok (.if_icmp .ge 39, 3) := dk_162 0 39 (dk_at dksX4_who_1 13 rfl rfl)
theorem dX4_who_40 : decode cX4_who 40 = .ok (.aload_n 0, 1) := dk_42 (dk_at dksX4_who_1 16 rfl rfl)
theorem dX4_who_41 : decode cX4_who 41 = .ok (.iload 6, 2) := dk_21 6 (dk_at dksX4_who_1 17 rfl rfl)
theorem dX4_who_43 : decode cX4_who 43 = .ok (.iload_n 2, 1) := dk_28 (dk_at dksX4_who_1 19 rfl rfl)
theorem dX4_who_44 : decode cX4_who 44 = .ok (.invokevirtual 223, 3) := dk_182 0 223 (dk_at dksX4_who_1 20 rfl rfl)
theorem dX4_who_47 : decode cX4_who 47 = .ok (.iload 5, 2) := dk_21 5 (dk_at dksX4_who_2 0 rfl rfl)
theorem dX4_who_49 : decode cX4_who 49 = .ok (.aload_n 0, 1) := dk_42 (dk_at dksX4_who_2 2 rfl rfl)
theorem dX4_who_50 : decode cX4_who 50 = .ok (.getfield 33, 3) := dk_180 0 33 (dk_at dksX4_who_2 3 rfl rfl)
theorem dX4_who_53 : decode cX4_who 53 = .ok (.iconst 0, 1) := dk_3 (dk_at dksX4_who_2 6 rfl rfl)
theorem dX4_who_54 : decode cX4_who 54 = .ok (.iaload, 1) := dk_46 (dk_at dksX4_who_2 7 rfl rfl)
theorem dX4_who_55 : decode cX4_who 55 = .ok (.iload_n 3, 1) := dk_29 (dk_at dksX4_who_2 8 rfl rfl)
theorem dX4_who_56 : decode cX4_who 56 = .ok (.if_icmp .ne 10, 3) := dk_160 0 10 (dk_at dksX4_who_2 9 rfl rfl)
theorem dX4_who_59 : decode cX4_who 59 = .ok (.iconst 1, 1) := dk_4 (dk_at dksX4_who_2 12 rfl rfl)
theorem dX4_who_60 : decode cX4_who 60 = .ok (.iload 6, 2) := dk_21 6 (dk_at dksX4_who_2 13 rfl rfl)
theorem dX4_who_62 : decode cX4_who 62 = .ok (.ishl, 1) := dk_120 (dk_at dksX4_who_2 15 rfl rfl)
theorem dX4_who_63 : decode cX4_who 63 = .ok (.goto 4, 3) := dk_167 0 4 (dk_at dksX4_who_2 16 rfl rfl)
theorem dX4_who_66 : decode cX4_who 66 = .ok (.iconst 0, 1) := dk_3 (dk_at dksX4_who_2 19 rfl rfl)
theorem dX4_who_67 : decode cX4_who 67 = .ok (.ior, 1) := dk_128 (dk_at dksX4_who_2 20 rfl rfl)
theorem dX4_who_68 : decode cX4_who 68 = .ok (.istore 5, 2) := dk_54 5 (dk_at dksX4_who_2 21 rfl rfl)
theorem dX4_who_70 : decode cX4_who 70 = .ok (.iinc 6 1, 3) := dk_132 6 1 (dk_at dksX4_who_3 0 rfl rfl)
theorem dX4_who_73 : decode cX4_who 73 = .ok (.goto (-42), 3) := dk_167 255 214 (dk_at dksX4_who_3 3 rfl rfl)
theorem dX4_who_76 : decode cX4_who 76 = .ok (.iload 5, 2) := dk_21 5 (dk_at dksX4_who_3 6 rfl rfl)
theorem dX4_who_78 : decode cX4_who 78 = .ok (.ireturn, 1) := dk_172 (dk_at dksX4_who_3 8 rfl rfl)
abbrev cX4_crowd : ByteArray := prog_16_method_62_code
def yX4_crowd : MethodName := ⟨RX4, "crowd", "(III)I"⟩
def dkwX4_crowd_4 : List UInt8 := [154, 0, 8, 21, 5, 167, 0, 9, 42, 21, 5, 182, 0, 238, 172]
abbrev dktX4_crowd_4 : List UInt8 := dkwX4_crowd_4 ++ []
def dkwX4_crowd_3 : List UInt8 := [21, 5, 182, 0, 238, 164, 0, 8, 21, 6, 167, 0, 5, 21, 5, 54, 5, 132, 6, 1, 167, 255, 222, 29]
abbrev dktX4_crowd_3 : List UInt8 := dkwX4_crowd_3 ++ dktX4_crowd_4
def dkwX4_crowd_2 : List UInt8 := [182, 0, 234, 3, 54, 5, 4, 54, 6, 21, 6, 16, 67, 162, 0, 33, 42, 21, 6, 182, 0, 238, 42]
abbrev dktX4_crowd_2 : List UInt8 := dkwX4_crowd_2 ++ dktX4_crowd_3
def dkwX4_crowd_1 : List UInt8 := [154, 0, 20, 42, 21, 4, 156, 0, 8, 21, 4, 167, 0, 5, 16, 251, 182, 0, 101, 172, 42, 28]
abbrev dktX4_crowd_1 : List UInt8 := dkwX4_crowd_1 ++ dktX4_crowd_2
def dkwX4_crowd_0 : List UInt8 := [42, 29, 133, 9, 10, 184, 0, 76, 27, 28, 182, 0, 219, 54, 4, 21, 4, 155, 0, 10, 42, 182, 0, 84]
abbrev dktX4_crowd_0 : List UInt8 := dkwX4_crowd_0 ++ dktX4_crowd_1
theorem dksX4_crowd_0 : cX4_crowd.data.toList.drop 0 = dktX4_crowd_0 := by decide +kernel
theorem dksX4_crowd_1 : cX4_crowd.data.toList.drop 24 = dktX4_crowd_1 := dk_seg dksX4_crowd_0 24 rfl rfl
theorem dksX4_crowd_2 : cX4_crowd.data.toList.drop 46 = dktX4_crowd_2 := dk_seg dksX4_crowd_1 22 rfl rfl
theorem dksX4_crowd_3 : cX4_crowd.data.toList.drop 69 = dktX4_crowd_3 := dk_seg dksX4_crowd_2 23 rfl rfl
theorem dksX4_crowd_4 : cX4_crowd.data.toList.drop 93 = dktX4_crowd_4 := dk_seg dksX4_crowd_3 24 rfl rfl
theorem dX4_crowd_0 : decode cX4_crowd 0 = .ok (.aload_n 0, 1) := dk_42 (dk_at dksX4_crowd_0 0 rfl rfl)
theorem dX4_crowd_1 : decode cX4_crowd 1 = .ok (.iload_n 3, 1) := dk_29 (dk_at dksX4_crowd_0 1 rfl rfl)
theorem dX4_crowd_2 : decode cX4_crowd 2 = .ok (.i2l, 1) := dk_133 (dk_at dksX4_crowd_0 2 rfl rfl)
theorem dX4_crowd_3 : decode cX4_crowd 3 = .ok (.lconst 0, 1) := dk_9 (dk_at dksX4_crowd_0 3 rfl rfl)
theorem dX4_crowd_4 : decode cX4_crowd 4 = .ok (.lconst 1, 1) := dk_10 (dk_at dksX4_crowd_0 4 rfl rfl)
theorem dX4_crowd_5 : decode cX4_crowd 5 = .ok (.invokestatic 76, 3) := dk_184 0 76 (dk_at dksX4_crowd_0 5 rfl rfl)
theorem dX4_crowd_8 : decode cX4_crowd 8 = .ok (.iload_n 1, 1) := dk_27 (dk_at dksX4_crowd_0 8 rfl rfl)
theorem dX4_crowd_9 : decode cX4_crowd 9 = .ok (.iload_n 2, 1) := dk_28 (dk_at dksX4_crowd_0 9 rfl rfl)
theorem dX4_crowd_10 : decode cX4_crowd 10 = .ok (.invokevirtual 219, 3) := dk_182 0 219 (dk_at dksX4_crowd_0 10 rfl rfl)
theorem dX4_crowd_13 : decode cX4_crowd 13 = .ok (.istore 4, 2) := dk_54 4 (dk_at dksX4_crowd_0 13 rfl rfl)
theorem dX4_crowd_15 : decode cX4_crowd 15 = .ok (.iload 4, 2) := dk_21 4 (dk_at dksX4_crowd_0 15 rfl rfl)
theorem dX4_crowd_17 : decode cX4_crowd 17 = .ok (.ifCond .lt 10, 3) := dk_155 0 10 (dk_at dksX4_crowd_0 17 rfl rfl)
theorem dX4_crowd_20 : decode cX4_crowd 20 = .ok (.aload_n 0, 1) := dk_42 (dk_at dksX4_crowd_0 20 rfl rfl)
theorem dX4_crowd_21 : decode cX4_crowd 21 = .ok (.invokevirtual 84, 3) := dk_182 0 84 (dk_at dksX4_crowd_0 21 rfl rfl)
theorem dX4_crowd_24 : decode cX4_crowd 24 = .ok (.ifCond .ne 20, 3) := dk_154 0 20 (dk_at dksX4_crowd_1 0 rfl rfl)
theorem dX4_crowd_27 : decode cX4_crowd 27 = .ok (.aload_n 0, 1) := dk_42 (dk_at dksX4_crowd_1 3 rfl rfl)
theorem dX4_crowd_28 : decode cX4_crowd 28 = .ok (.iload 4, 2) := dk_21 4 (dk_at dksX4_crowd_1 4 rfl rfl)
theorem dX4_crowd_30 : decode cX4_crowd 30 = .ok (.ifCond .ge 8, 3) := dk_156 0 8 (dk_at dksX4_crowd_1 6 rfl rfl)
theorem dX4_crowd_33 : decode cX4_crowd 33 = .ok (.iload 4, 2) := dk_21 4 (dk_at dksX4_crowd_1 9 rfl rfl)
theorem dX4_crowd_35 : decode cX4_crowd 35 = .ok (.goto 5, 3) := dk_167 0 5 (dk_at dksX4_crowd_1 11 rfl rfl)
theorem dX4_crowd_38 : decode cX4_crowd 38 = .ok (.bipush (-5), 2) := dk_16 251 (dk_at dksX4_crowd_1 14 rfl rfl)
theorem dX4_crowd_40 : decode cX4_crowd 40 = .ok (.invokevirtual 101, 3) := dk_182 0 101 (dk_at dksX4_crowd_1 16 rfl rfl)
theorem dX4_crowd_43 : decode cX4_crowd 43 = .ok (.ireturn, 1) := dk_172 (dk_at dksX4_crowd_1 19 rfl rfl)
theorem dX4_crowd_44 : decode cX4_crowd 44 = .ok (.aload_n 0, 1) := dk_42 (dk_at dksX4_crowd_1 20 rfl rfl)
theorem dX4_crowd_45 : decode cX4_crowd 45 = .ok (.iload_n 2, 1) := dk_28 (dk_at dksX4_crowd_1 21 rfl rfl)
theorem dX4_crowd_46 : decode cX4_crowd 46 = .ok (.invokevirtual 234, 3) := dk_182 0 234 (dk_at dksX4_crowd_2 0 rfl rfl)
theorem dX4_crowd_49 : decode cX4_crowd 49 = .ok (.iconst 0, 1) := dk_3 (dk_at dksX4_crowd_2 3 rfl rfl)
theorem dX4_crowd_50 : decode cX4_crowd 50 = .ok (.istore 5, 2) := dk_54 5 (dk_at dksX4_crowd_2 4 rfl rfl)
theorem dX4_crowd_52 : decode cX4_crowd 52 = .ok (.iconst 1, 1) := dk_4 (dk_at dksX4_crowd_2 6 rfl rfl)
theorem dX4_crowd_53 : decode cX4_crowd 53 = .ok (.istore 6, 2) := dk_54 6 (dk_at dksX4_crowd_2 7 rfl rfl)
theorem dX4_crowd_55 : decode cX4_crowd 55 = .ok (.iload 6, 2) := dk_21 6 (dk_at dksX4_crowd_2 9 rfl rfl)
theorem dX4_crowd_57 : decode cX4_crowd 57 = .ok (.bipush 67, 2) := dk_16 67 (dk_at dksX4_crowd_2 11 rfl rfl)
theorem dX4_crowd_59 : decode cX4_crowd 59 = .ok (.if_icmp .ge 33, 3) := dk_162 0 33 (dk_at dksX4_crowd_2 13 rfl rfl)
theorem dX4_crowd_62 : decode cX4_crowd 62 = .ok (.aload_n 0, 1) := dk_42 (dk_at dksX4_crowd_2 16 rfl rfl)
theorem dX4_crowd_63 : decode cX4_crowd 63 = .ok (.iload 6, 2) := dk_21 6 (dk_at dksX4_crowd_2 17 rfl rfl)
theorem dX4_crowd_65 : decode cX4_crowd 65 = .ok (.invokevirtual 238, 3) := dk_182 0 238 (dk_at dksX4_crowd_2 19 rfl rfl)
theorem dX4_crowd_68 : decode cX4_crowd 68 = .ok (.aload_n 0, 1) := dk_42 (dk_at dksX4_crowd_2 22 rfl rfl)
theorem dX4_crowd_69 : decode cX4_crowd 69 = .ok (.iload 5, 2) := dk_21 5 (dk_at dksX4_crowd_3 0 rfl rfl)
theorem dX4_crowd_71 : decode cX4_crowd 71 = .ok (.invokevirtual 238, 3) := dk_182 0 238 (dk_at dksX4_crowd_3 2 rfl rfl)
theorem dX4_crowd_74 : decode cX4_crowd 74 = .ok (.if_icmp .le 8, 3) := dk_164 0 8 (dk_at dksX4_crowd_3 5 rfl rfl)
theorem dX4_crowd_77 : decode cX4_crowd 77 = .ok (.iload 6, 2) := dk_21 6 (dk_at dksX4_crowd_3 8 rfl rfl)
theorem dX4_crowd_79 : decode cX4_crowd 79 = .ok (.goto 5, 3) := dk_167 0 5 (dk_at dksX4_crowd_3 10 rfl rfl)
theorem dX4_crowd_82 : decode cX4_crowd 82 = .ok (.iload 5, 2) := dk_21 5 (dk_at dksX4_crowd_3 13 rfl rfl)
theorem dX4_crowd_84 : decode cX4_crowd 84 = .ok (.istore 5, 2) := dk_54 5 (dk_at dksX4_crowd_3 15 rfl rfl)
theorem dX4_crowd_86 : decode cX4_crowd 86 = .ok (.iinc 6 1, 3) := dk_132 6 1 (dk_at dksX4_crowd_3 17 rfl rfl)
theorem dX4_crowd_89 : decode cX4_crowd 89 = .ok (.goto (-34), 3) := dk_167 255 222 (dk_at dksX4_crowd_3 20 rfl rfl)
theorem dX4_crowd_92 : decode cX4_crowd 92 = .ok (.iload_n 3, 1) := dk_29 (dk_at dksX4_crowd_3 23 rfl rfl)
theorem dX4_crowd_93 : decode cX4_crowd 93 = .ok (.ifCond .ne 8, 3) := dk_154 0 8 (dk_at dksX4_crowd_4 0 rfl rfl)
theorem dX4_crowd_96 : decode cX4_crowd 96 = .ok (.iload 5, 2) := dk_21 5 (dk_at dksX4_crowd_4 3 rfl rfl)
theorem dX4_crowd_98 : decode cX4_crowd 98 = .ok (.goto 9, 3) := dk_167 0 9 (dk_at dksX4_crowd_4 5 rfl rfl)
theorem dX4_crowd_101 : decode cX4_crowd 101 = .ok (.aload_n 0, 1) := dk_42 (dk_at dksX4_crowd_4 8 rfl rfl)
theorem dX4_crowd_102 : decode cX4_crowd 102 = .ok (.iload 5, 2) := dk_21 5 (dk_at dksX4_crowd_4 9 rfl rfl)
theorem dX4_crowd_104 : decode cX4_crowd 104 = .ok (.invokevirtual 238, 3) := dk_182 0 238 (dk_at dksX4_crowd_4 11 rfl rfl)
theorem dX4_crowd_107 : decode cX4_crowd 107 = .ok (.ireturn, 1) := dk_172 (dk_at dksX4_crowd_4 14 rfl rfl)
abbrev cX4_comeOut : ByteArray := prog_16_method_60_code
def yX4_comeOut : MethodName := ⟨RX4, "comeOut", "(I)V"⟩
def dkwX4_comeOut_1 : List UInt8 := [180, 0, 33, 3, 46, 79, 132, 2, 1, 167, 255, 227, 177]
abbrev dktX4_comeOut_1 : List UInt8 := dkwX4_comeOut_1 ++ []
def dkwX4_comeOut_0 : List UInt8 := [3, 61, 28, 42, 182, 0, 84, 162, 0, 27, 42, 28, 27, 182, 0, 223, 42, 180, 0, 70, 28, 42]
abbrev dktX4_comeOut_0 : List UInt8 := dkwX4_comeOut_0 ++ dktX4_comeOut_1
theorem dksX4_comeOut_0 : cX4_comeOut.data.toList.drop 0 = dktX4_comeOut_0 := by decide +kernel
theorem dksX4_comeOut_1 : cX4_comeOut.data.toList.drop 22 = dktX4_comeOut_1 := dk_seg dksX4_comeOut_0 22 rfl rfl
theorem dX4_comeOut_0 : decode cX4_comeOut 0 = .ok (.iconst 0, 1) := dk_3 (dk_at dksX4_comeOut_0 0 rfl rfl)
theorem dX4_comeOut_1 : decode cX4_comeOut 1 = .ok (.istore_n 2, 1) := dk_61 (dk_at dksX4_comeOut_0 1 rfl rfl)
theorem dX4_comeOut_2 : decode cX4_comeOut 2 = .ok (.iload_n 2, 1) := dk_28 (dk_at dksX4_comeOut_0 2 rfl rfl)
theorem dX4_comeOut_3 : decode cX4_comeOut 3 = .ok (.aload_n 0, 1) := dk_42 (dk_at dksX4_comeOut_0 3 rfl rfl)
theorem dX4_comeOut_4 : decode cX4_comeOut 4 = .ok (.invokevirtual 84, 3) := dk_182 0 84 (dk_at dksX4_comeOut_0 4 rfl rfl)
theorem dX4_comeOut_7 : decode cX4_comeOut 7 = .ok (.if_icmp .ge 27, 3) := dk_162 0 27 (dk_at dksX4_comeOut_0 7 rfl rfl)
theorem dX4_comeOut_10 : decode cX4_comeOut 10 = .ok (.aload_n 0, 1) := dk_42 (dk_at dksX4_comeOut_0 10 rfl rfl)
theorem dX4_comeOut_11 : decode cX4_comeOut 11 = .ok (.iload_n 2, 1) := dk_28 (dk_at dksX4_comeOut_0 11 rfl rfl)
theorem dX4_comeOut_12 : decode cX4_comeOut 12 = .ok (.iload_n 1, 1) := dk_27 (dk_at dksX4_comeOut_0 12 rfl rfl)
theorem dX4_comeOut_13 : decode cX4_comeOut 13 = .ok (.invokevirtual 223, 3) := dk_182 0 223 (dk_at dksX4_comeOut_0 13 rfl rfl)
theorem dX4_comeOut_16 : decode cX4_comeOut 16 = .ok (.aload_n 0, 1) := dk_42 (dk_at dksX4_comeOut_0 16 rfl rfl)
theorem dX4_comeOut_17 : decode cX4_comeOut 17 = .ok (.getfield 70, 3) := dk_180 0 70 (dk_at dksX4_comeOut_0 17 rfl rfl)
theorem dX4_comeOut_20 : decode cX4_comeOut 20 = .ok (.iload_n 2, 1) := dk_28 (dk_at dksX4_comeOut_0 20 rfl rfl)
theorem dX4_comeOut_21 : decode cX4_comeOut 21 = .ok (.aload_n 0, 1) := dk_42 (dk_at dksX4_comeOut_0 21 rfl rfl)
theorem dX4_comeOut_22 : decode cX4_comeOut 22 = .ok (.getfield 33, 3) := dk_180 0 33 (dk_at dksX4_comeOut_1 0 rfl rfl)
theorem dX4_comeOut_25 : decode cX4_comeOut 25 = .ok (.iconst 0, 1) := dk_3 (dk_at dksX4_comeOut_1 3 rfl rfl)
theorem dX4_comeOut_26 : decode cX4_comeOut 26 = .ok (.iaload, 1) := dk_46 (dk_at dksX4_comeOut_1 4 rfl rfl)
theorem dX4_comeOut_27 : decode cX4_comeOut 27 = .ok (.iastore, 1) := dk_79 (dk_at dksX4_comeOut_1 5 rfl rfl)
theorem dX4_comeOut_28 : decode cX4_comeOut 28 = .ok (.iinc 2 1, 3) := dk_132 2 1 (dk_at dksX4_comeOut_1 6 rfl rfl)
theorem dX4_comeOut_31 : decode cX4_comeOut 31 = .ok (.goto (-29), 3) := dk_167 255 227 (dk_at dksX4_comeOut_1 9 rfl rfl)
theorem dX4_comeOut_34 : decode cX4_comeOut 34 = .ok (.return_, 1) := dk_177 (dk_at dksX4_comeOut_1 12 rfl rfl)
abbrev cX4_outIn : ByteArray := prog_16_method_61_code
def yX4_outIn : MethodName := ⟨RX4, "outIn", "(I)I"⟩
def dkwX4_outIn_1 : List UInt8 := [167, 0, 4, 3, 96, 61, 132, 3, 1, 167, 255, 227, 28, 172]
abbrev dktX4_outIn_1 : List UInt8 := dkwX4_outIn_1 ++ []
def dkwX4_outIn_0 : List UInt8 := [3, 61, 3, 62, 29, 42, 182, 0, 84, 162, 0, 27, 28, 42, 180, 0, 70, 29, 46, 27, 160, 0, 7, 4]
abbrev dktX4_outIn_0 : List UInt8 := dkwX4_outIn_0 ++ dktX4_outIn_1
theorem dksX4_outIn_0 : cX4_outIn.data.toList.drop 0 = dktX4_outIn_0 := by decide +kernel
theorem dksX4_outIn_1 : cX4_outIn.data.toList.drop 24 = dktX4_outIn_1 := dk_seg dksX4_outIn_0 24 rfl rfl
theorem dX4_outIn_0 : decode cX4_outIn 0 = .ok (.iconst 0, 1) := dk_3 (dk_at dksX4_outIn_0 0 rfl rfl)
theorem dX4_outIn_1 : decode cX4_outIn 1 = .ok (.istore_n 2, 1) := dk_61 (dk_at dksX4_outIn_0 1 rfl rfl)
theorem dX4_outIn_2 : decode cX4_outIn 2 = .ok (.iconst 0, 1) := dk_3 (dk_at dksX4_outIn_0 2 rfl rfl)
theorem dX4_outIn_3 : decode cX4_outIn 3 = .ok (.istore_n 3, 1) := dk_62 (dk_at dksX4_outIn_0 3 rfl rfl)
theorem dX4_outIn_4 : decode cX4_outIn 4 = .ok (.iload_n 3, 1) := dk_29 (dk_at dksX4_outIn_0 4 rfl rfl)
theorem dX4_outIn_5 : decode cX4_outIn 5 = .ok (.aload_n 0, 1) := dk_42 (dk_at dksX4_outIn_0 5 rfl rfl)
theorem dX4_outIn_6 : decode cX4_outIn 6 = .ok (.invokevirtual 84, 3) := dk_182 0 84 (dk_at dksX4_outIn_0 6 rfl rfl)
theorem dX4_outIn_9 : decode cX4_outIn 9 = .ok (.if_icmp .ge 27, 3) := dk_162 0 27 (dk_at dksX4_outIn_0 9 rfl rfl)
theorem dX4_outIn_12 : decode cX4_outIn 12 = .ok (.iload_n 2, 1) := dk_28 (dk_at dksX4_outIn_0 12 rfl rfl)
theorem dX4_outIn_13 : decode cX4_outIn 13 = .ok (.aload_n 0, 1) := dk_42 (dk_at dksX4_outIn_0 13 rfl rfl)
theorem dX4_outIn_14 : decode cX4_outIn 14 = .ok (.getfield 70, 3) := dk_180 0 70 (dk_at dksX4_outIn_0 14 rfl rfl)
theorem dX4_outIn_17 : decode cX4_outIn 17 = .ok (.iload_n 3, 1) := dk_29 (dk_at dksX4_outIn_0 17 rfl rfl)
theorem dX4_outIn_18 : decode cX4_outIn 18 = .ok (.iaload, 1) := dk_46 (dk_at dksX4_outIn_0 18 rfl rfl)
theorem dX4_outIn_19 : decode cX4_outIn 19 = .ok (.iload_n 1, 1) := dk_27 (dk_at dksX4_outIn_0 19 rfl rfl)
theorem dX4_outIn_20 : decode cX4_outIn 20 = .ok (.if_icmp .ne 7, 3) := dk_160 0 7 (dk_at dksX4_outIn_0 20 rfl rfl)
theorem dX4_outIn_23 : decode cX4_outIn 23 = .ok (.iconst 1, 1) := dk_4 (dk_at dksX4_outIn_0 23 rfl rfl)
theorem dX4_outIn_24 : decode cX4_outIn 24 = .ok (.goto 4, 3) := dk_167 0 4 (dk_at dksX4_outIn_1 0 rfl rfl)
theorem dX4_outIn_27 : decode cX4_outIn 27 = .ok (.iconst 0, 1) := dk_3 (dk_at dksX4_outIn_1 3 rfl rfl)
theorem dX4_outIn_28 : decode cX4_outIn 28 = .ok (.iadd, 1) := dk_96 (dk_at dksX4_outIn_1 4 rfl rfl)
theorem dX4_outIn_29 : decode cX4_outIn 29 = .ok (.istore_n 2, 1) := dk_61 (dk_at dksX4_outIn_1 5 rfl rfl)
theorem dX4_outIn_30 : decode cX4_outIn 30 = .ok (.iinc 3 1, 3) := dk_132 3 1 (dk_at dksX4_outIn_1 6 rfl rfl)
theorem dX4_outIn_33 : decode cX4_outIn 33 = .ok (.goto (-29), 3) := dk_167 255 227 (dk_at dksX4_outIn_1 9 rfl rfl)
theorem dX4_outIn_36 : decode cX4_outIn 36 = .ok (.iload_n 2, 1) := dk_28 (dk_at dksX4_outIn_1 12 rfl rfl)
theorem dX4_outIn_37 : decode cX4_outIn 37 = .ok (.ireturn, 1) := dk_172 (dk_at dksX4_outIn_1 13 rfl rfl)
abbrev cX4_lonely : ByteArray := prog_16_method_63_code
def yX4_lonely : MethodName := ⟨RX4, "lonely", "(II)I"⟩
def dkwX4_lonely_3 : List UInt8 := [21, 4, 172]
abbrev dktX4_lonely_3 : List UInt8 := dkwX4_lonely_3 ++ []
def dkwX4_lonely_2 : List UInt8 := [182, 0, 238, 4, 160, 0, 10, 4, 21, 5, 120, 167, 0, 4, 3, 128, 54, 4, 132, 5, 1, 167, 255, 216]
abbrev dktX4_lonely_2 : List UInt8 := dkwX4_lonely_2 ++ dktX4_lonely_3
def dkwX4_lonely_1 : List UInt8 := [54, 4, 3, 54, 5, 21, 5, 42, 182, 0, 84, 162, 0, 37, 21, 4, 42, 42, 180, 0, 70, 21, 5, 46]
abbrev dktX4_lonely_1 : List UInt8 := dkwX4_lonely_1 ++ dktX4_lonely_2
def dkwX4_lonely_0 : List UInt8 := [42, 4, 27, 28, 182, 0, 219, 62, 29, 156, 0, 9, 42, 29, 182, 0, 101, 172, 42, 28, 182, 0, 234, 3]
abbrev dktX4_lonely_0 : List UInt8 := dkwX4_lonely_0 ++ dktX4_lonely_1
theorem dksX4_lonely_0 : cX4_lonely.data.toList.drop 0 = dktX4_lonely_0 := by decide +kernel
theorem dksX4_lonely_1 : cX4_lonely.data.toList.drop 24 = dktX4_lonely_1 := dk_seg dksX4_lonely_0 24 rfl rfl
theorem dksX4_lonely_2 : cX4_lonely.data.toList.drop 48 = dktX4_lonely_2 := dk_seg dksX4_lonely_1 24 rfl rfl
theorem dksX4_lonely_3 : cX4_lonely.data.toList.drop 72 = dktX4_lonely_3 := dk_seg dksX4_lonely_2 24 rfl rfl
theorem dX4_lonely_0 : decode cX4_lonely 0 = .ok (.aload_n 0, 1) := dk_42 (dk_at dksX4_lonely_0 0 rfl rfl)
theorem dX4_lonely_1 : decode cX4_lonely 1 = .ok (.iconst 1, 1) := dk_4 (dk_at dksX4_lonely_0 1 rfl rfl)
theorem dX4_lonely_2 : decode cX4_lonely 2 = .ok (.iload_n 1, 1) := dk_27 (dk_at dksX4_lonely_0 2 rfl rfl)
theorem dX4_lonely_3 : decode cX4_lonely 3 = .ok (.iload_n 2, 1) := dk_28 (dk_at dksX4_lonely_0 3 rfl rfl)
theorem dX4_lonely_4 : decode cX4_lonely 4 = .ok (.invokevirtual 219, 3) := dk_182 0 219 (dk_at dksX4_lonely_0 4 rfl rfl)
theorem dX4_lonely_7 : decode cX4_lonely 7 = .ok (.istore_n 3, 1) := dk_62 (dk_at dksX4_lonely_0 7 rfl rfl)
theorem dX4_lonely_8 : decode cX4_lonely 8 = .ok (.iload_n 3, 1) := dk_29 (dk_at dksX4_lonely_0 8 rfl rfl)
theorem dX4_lonely_9 : decode cX4_lonely 9 = .ok (.ifCond .ge 9, 3) := dk_156 0 9 (dk_at dksX4_lonely_0 9 rfl rfl)
theorem dX4_lonely_12 : decode cX4_lonely 12 = .ok (.aload_n 0, 1) := dk_42 (dk_at dksX4_lonely_0 12 rfl rfl)
theorem dX4_lonely_13 : decode cX4_lonely 13 = .ok (.iload_n 3, 1) := dk_29 (dk_at dksX4_lonely_0 13 rfl rfl)
theorem dX4_lonely_14 : decode cX4_lonely 14 = .ok (.invokevirtual 101, 3) := dk_182 0 101 (dk_at dksX4_lonely_0 14 rfl rfl)
theorem dX4_lonely_17 : decode cX4_lonely 17 = .ok (.ireturn, 1) := dk_172 (dk_at dksX4_lonely_0 17 rfl rfl)
theorem dX4_lonely_18 : decode cX4_lonely 18 = .ok (.aload_n 0, 1) := dk_42 (dk_at dksX4_lonely_0 18 rfl rfl)
theorem dX4_lonely_19 : decode cX4_lonely 19 = .ok (.iload_n 2, 1) := dk_28 (dk_at dksX4_lonely_0 19 rfl rfl)
theorem dX4_lonely_20 : decode cX4_lonely 20 = .ok (.invokevirtual 234, 3) := dk_182 0 234 (dk_at dksX4_lonely_0 20 rfl rfl)
theorem dX4_lonely_23 : decode cX4_lonely 23 = .ok (.iconst 0, 1) := dk_3 (dk_at dksX4_lonely_0 23 rfl rfl)
theorem dX4_lonely_24 : decode cX4_lonely 24 = .ok (.istore 4, 2) := dk_54 4 (dk_at dksX4_lonely_1 0 rfl rfl)
theorem dX4_lonely_26 : decode cX4_lonely 26 = .ok (.iconst 0, 1) := dk_3 (dk_at dksX4_lonely_1 2 rfl rfl)
theorem dX4_lonely_27 : decode cX4_lonely 27 = .ok (.istore 5, 2) := dk_54 5 (dk_at dksX4_lonely_1 3 rfl rfl)
theorem dX4_lonely_29 : decode cX4_lonely 29 = .ok (.iload 5, 2) := dk_21 5 (dk_at dksX4_lonely_1 5 rfl rfl)
theorem dX4_lonely_31 : decode cX4_lonely 31 = .ok (.aload_n 0, 1) := dk_42 (dk_at dksX4_lonely_1 7 rfl rfl)
theorem dX4_lonely_32 : decode cX4_lonely 32 = .ok (.invokevirtual 84, 3) := dk_182 0 84 (dk_at dksX4_lonely_1 8 rfl rfl)
theorem dX4_lonely_35 : decode cX4_lonely 35 = .ok (.if_icmp .ge 37, 3) := dk_162 0 37 (dk_at dksX4_lonely_1 11 rfl rfl)
theorem dX4_lonely_38 : decode cX4_lonely 38 = .ok (.iload 4, 2) := dk_21 4 (dk_at dksX4_lonely_1 14 rfl rfl)
theorem dX4_lonely_40 : decode cX4_lonely 40 = .ok (.aload_n 0, 1) := dk_42 (dk_at dksX4_lonely_1 16 rfl rfl)
theorem dX4_lonely_41 : decode cX4_lonely 41 = .ok (.aload_n 0, 1) := dk_42 (dk_at dksX4_lonely_1 17 rfl rfl)
theorem dX4_lonely_42 : decode cX4_lonely 42 = .ok (.getfield 70, 3) := dk_180 0 70 (dk_at dksX4_lonely_1 18 rfl rfl)
theorem dX4_lonely_45 : decode cX4_lonely 45 = .ok (.iload 5, 2) := dk_21 5 (dk_at dksX4_lonely_1 21 rfl rfl)
theorem dX4_lonely_47 : decode cX4_lonely 47 = .ok (.iaload, 1) := dk_46 (dk_at dksX4_lonely_1 23 rfl rfl)
theorem dX4_lonely_48 : decode cX4_lonely 48 = .ok (.invokevirtual 238, 3) := dk_182 0 238 (dk_at dksX4_lonely_2 0 rfl rfl)
theorem dX4_lonely_51 : decode cX4_lonely 51 = .ok (.iconst 1, 1) := dk_4 (dk_at dksX4_lonely_2 3 rfl rfl)
theorem dX4_lonely_52 : decode cX4_lonely 52 = .ok (.if_icmp .ne 10, 3) := dk_160 0 10 (dk_at dksX4_lonely_2 4 rfl rfl)
theorem dX4_lonely_55 : decode cX4_lonely 55 = .ok (.iconst 1, 1) := dk_4 (dk_at dksX4_lonely_2 7 rfl rfl)
theorem dX4_lonely_56 : decode cX4_lonely 56 = .ok (.iload 5, 2) := dk_21 5 (dk_at dksX4_lonely_2 8 rfl rfl)
theorem dX4_lonely_58 : decode cX4_lonely 58 = .ok (.ishl, 1) := dk_120 (dk_at dksX4_lonely_2 10 rfl rfl)
theorem dX4_lonely_59 : decode cX4_lonely 59 = .ok (.goto 4, 3) := dk_167 0 4 (dk_at dksX4_lonely_2 11 rfl rfl)
theorem dX4_lonely_62 : decode cX4_lonely 62 = .ok (.iconst 0, 1) := dk_3 (dk_at dksX4_lonely_2 14 rfl rfl)
theorem dX4_lonely_63 : decode cX4_lonely 63 = .ok (.ior, 1) := dk_128 (dk_at dksX4_lonely_2 15 rfl rfl)
theorem dX4_lonely_64 : decode cX4_lonely 64 = .ok (.istore 4, 2) := dk_54 4 (dk_at dksX4_lonely_2 16 rfl rfl)
theorem dX4_lonely_66 : decode cX4_lonely 66 = .ok (.iinc 5 1, 3) := dk_132 5 1 (dk_at dksX4_lonely_2 18 rfl rfl)
theorem dX4_lonely_69 : decode cX4_lonely 69 = .ok (.goto (-40), 3) := dk_167 255 216 (dk_at dksX4_lonely_2 21 rfl rfl)
theorem dX4_lonely_72 : decode cX4_lonely 72 = .ok (.iload 4, 2) := dk_21 4 (dk_at dksX4_lonely_3 0 rfl rfl)
theorem dX4_lonely_74 : decode cX4_lonely 74 = .ok (.ireturn, 1) := dk_172 (dk_at dksX4_lonely_3 2 rfl rfl)
abbrev cX4_firstFall : ByteArray := prog_16_method_64_code
def yX4_firstFall : MethodName := ⟨RX4, "firstFall", "(II)I"⟩
def dkwX4_firstFall_3 : List UInt8 := [3, 46, 167, 0, 5, 21, 4, 54, 4, 132, 5, 1, 167, 255, 197, 21, 4, 172]
abbrev dktX4_firstFall_3 : List UInt8 := dkwX4_firstFall_3 ++ []
def dkwX4_firstFall_2 : List UInt8 := [159, 0, 29, 21, 4, 2, 159, 0, 14, 42, 180, 0, 48, 3, 46, 21, 4, 162, 0, 12, 42, 180, 0, 48]
abbrev dktX4_firstFall_2 : List UInt8 := dkwX4_firstFall_2 ++ dktX4_firstFall_3
def dkwX4_firstFall_1 : List UInt8 := [21, 5, 42, 182, 0, 84, 162, 0, 56, 42, 21, 5, 28, 182, 0, 223, 42, 180, 0, 48, 3, 46, 2]
abbrev dktX4_firstFall_1 : List UInt8 := dkwX4_firstFall_1 ++ dktX4_firstFall_2
def dkwX4_firstFall_0 : List UInt8 := [42, 4, 27, 28, 182, 0, 219, 62, 29, 156, 0, 9, 42, 29, 182, 0, 101, 172, 2, 54, 4, 3, 54, 5]
abbrev dktX4_firstFall_0 : List UInt8 := dkwX4_firstFall_0 ++ dktX4_firstFall_1
theorem dksX4_firstFall_0 : cX4_firstFall.data.toList.drop 0 = dktX4_firstFall_0 := by decide +kernel
theorem dksX4_firstFall_1 : cX4_firstFall.data.toList.drop 24 = dktX4_firstFall_1 := dk_seg dksX4_firstFall_0 24 rfl rfl
theorem dksX4_firstFall_2 : cX4_firstFall.data.toList.drop 47 = dktX4_firstFall_2 := dk_seg dksX4_firstFall_1 23 rfl rfl
theorem dksX4_firstFall_3 : cX4_firstFall.data.toList.drop 71 = dktX4_firstFall_3 := dk_seg dksX4_firstFall_2 24 rfl rfl
theorem dX4_firstFall_0 : decode cX4_firstFall 0 = .ok (.aload_n 0, 1) := dk_42 (dk_at dksX4_firstFall_0 0 rfl rfl)
theorem dX4_firstFall_1 : decode cX4_firstFall 1 = .ok (.iconst 1, 1) := dk_4 (dk_at dksX4_firstFall_0 1 rfl rfl)
theorem dX4_firstFall_2 : decode cX4_firstFall 2 = .ok (.iload_n 1, 1) := dk_27 (dk_at dksX4_firstFall_0 2 rfl rfl)
theorem dX4_firstFall_3 : decode cX4_firstFall 3 = .ok (.iload_n 2, 1) := dk_28 (dk_at dksX4_firstFall_0 3 rfl rfl)
theorem dX4_firstFall_4 : decode cX4_firstFall 4 = .ok (.invokevirtual 219, 3) := dk_182 0 219 (dk_at dksX4_firstFall_0 4 rfl rfl)
theorem dX4_firstFall_7 : decode cX4_firstFall 7 = .ok (.istore_n 3, 1) := dk_62 (dk_at dksX4_firstFall_0 7 rfl rfl)
theorem dX4_firstFall_8 : decode cX4_firstFall 8 = .ok (.iload_n 3, 1) := dk_29 (dk_at dksX4_firstFall_0 8 rfl rfl)
theorem dX4_firstFall_9 : decode cX4_firstFall 9 = .ok (.ifCond .ge 9, 3) := dk_156 0 9 (dk_at dksX4_firstFall_0 9 rfl rfl)
theorem dX4_firstFall_12 : decode cX4_firstFall 12 = .ok (.aload_n 0, 1) := dk_42 (dk_at dksX4_firstFall_0 12 rfl rfl)
theorem dX4_firstFall_13 : decode cX4_firstFall 13 = .ok (.iload_n 3, 1) := dk_29 (dk_at dksX4_firstFall_0 13 rfl rfl)
theorem dX4_firstFall_14 : decode cX4_firstFall 14 = .ok (.invokevirtual 101, 3) := dk_182 0 101 (dk_at dksX4_firstFall_0 14 rfl rfl)
theorem dX4_firstFall_17 : decode cX4_firstFall 17 = .ok (.ireturn, 1) := dk_172 (dk_at dksX4_firstFall_0 17 rfl rfl)
theorem dX4_firstFall_18 : decode cX4_firstFall 18 = .ok (.iconst (-1), 1) := dk_2 (dk_at dksX4_firstFall_0 18 rfl rfl)
theorem dX4_firstFall_19 : decode cX4_firstFall 19 = .ok (.istore 4, 2) := dk_54 4 (dk_at dksX4_firstFall_0 19 rfl rfl)
theorem dX4_firstFall_21 : decode cX4_firstFall 21 = .ok (.iconst 0, 1) := dk_3 (dk_at dksX4_firstFall_0 21 rfl rfl)
theorem dX4_firstFall_22 : decode cX4_firstFall 22 = .ok (.istore 5, 2) := dk_54 5 (dk_at dksX4_firstFall_0 22 rfl rfl)
theorem dX4_firstFall_24 : decode cX4_firstFall 24 = .ok (.iload 5, 2) := dk_21 5 (dk_at dksX4_firstFall_1 0 rfl rfl)
theorem dX4_firstFall_26 : decode cX4_firstFall 26 = .ok (.aload_n 0, 1) := dk_42 (dk_at dksX4_firstFall_1 2 rfl rfl)
theorem dX4_firstFall_27 : decode cX4_firstFall 27 = .ok (.invokevirtual 84, 3) := dk_182 0 84 (dk_at dksX4_firstFall_1 3 rfl rfl)
theorem dX4_firstFall_30 : decode cX4_firstFall 30 = .ok (.if_icmp .ge 56, 3) := dk_162 0 56 (dk_at dksX4_firstFall_1 6 rfl rfl)
theorem dX4_firstFall_33 : decode cX4_firstFall 33 = .ok (.aload_n 0, 1) := dk_42 (dk_at dksX4_firstFall_1 9 rfl rfl)
theorem dX4_firstFall_34 : decode cX4_firstFall 34 = .ok (.iload 5, 2) := dk_21 5 (dk_at dksX4_firstFall_1 10 rfl rfl)
theorem dX4_firstFall_36 : decode cX4_firstFall 36 = .ok (.iload_n 2, 1) := dk_28 (dk_at dksX4_firstFall_1 12 rfl rfl)
theorem dX4_firstFall_37 : decode cX4_firstFall 37 = .ok (.invokevirtual 223, 3) := dk_182 0 223 (dk_at dksX4_firstFall_1 13 rfl rfl)
theorem dX4_firstFall_40 : decode cX4_firstFall 40 = .ok (.aload_n 0, 1) := dk_42 (dk_at dksX4_firstFall_1 16 rfl rfl)
theorem dX4_firstFall_41 : decode cX4_firstFall 41 = .ok (.getfield 48, 3) := dk_180 0 48 (dk_at dksX4_firstFall_1 17 rfl rfl)
theorem dX4_firstFall_44 : decode cX4_firstFall 44 = .ok (.iconst 0, 1) := dk_3 (dk_at dksX4_firstFall_1 20 rfl rfl)
theorem dX4_firstFall_45 : decode cX4_firstFall 45 = .ok (.iaload, 1) := dk_46 (dk_at dksX4_firstFall_1 21 rfl rfl)
theorem dX4_firstFall_46 : decode cX4_firstFall 46 = .ok (.iconst (-1), 1) := dk_2 (dk_at dksX4_firstFall_1 22 rfl rfl)
theorem dX4_firstFall_47 : decode cX4_firstFall 47 = .ok (.if_icmp .eq 29, 3) := dk_159 0 29 (dk_at dksX4_firstFall_2 0 rfl rfl)
theorem dX4_firstFall_50 : decode cX4_firstFall 50 = .ok (.iload 4, 2) := dk_21 4 (dk_at dksX4_firstFall_2 3 rfl rfl)
theorem dX4_firstFall_52 : decode cX4_firstFall 52 = .ok (.iconst (-1), 1) := dk_2 (dk_at dksX4_firstFall_2 5 rfl rfl)
theorem dX4_firstFall_53 : decode cX4_firstFall 53 = .ok (.if_icmp .eq 14, 3) := dk_159 0 14 (dk_at dksX4_firstFall_2 6 rfl rfl)
theorem dX4_firstFall_56 : decode cX4_firstFall 56 = .ok (.aload_n 0, 1) := dk_42 (dk_at dksX4_firstFall_2 9 rfl rfl)
theorem dX4_firstFall_57 : decode cX4_firstFall 57 = .ok (.getfield 48, 3) := dk_180 0 48 (dk_at dksX4_firstFall_2 10 rfl rfl)
theorem dX4_firstFall_60 : decode cX4_firstFall 60 = .ok (.iconst 0, 1) := dk_3 (dk_at dksX4_firstFall_2 13 rfl rfl)
theorem dX4_firstFall_61 : decode cX4_firstFall 61 = .ok (.iaload, 1) := dk_46 (dk_at dksX4_firstFall_2 14 rfl rfl)
theorem dX4_firstFall_62 : decode cX4_firstFall 62 = .ok (.iload 4, 2) := dk_21 4 (dk_at dksX4_firstFall_2 15 rfl rfl)
theorem dX4_firstFall_64 : decode cX4_firstFall 64 = .ok (.if_icmp .ge 12, 3) := dk_162 0 12 (dk_at dksX4_firstFall_2 17 rfl rfl)
theorem dX4_firstFall_67 : decode cX4_firstFall 67 = .ok (.aload_n 0, 1) := dk_42 (dk_at dksX4_firstFall_2 20 rfl rfl)
theorem dX4_firstFall_68 : decode cX4_firstFall 68 = .ok (.getfield 48, 3) := dk_180 0 48 (dk_at dksX4_firstFall_2 21 rfl rfl)
theorem dX4_firstFall_71 : decode cX4_firstFall 71 = .ok (.iconst 0, 1) := dk_3 (dk_at dksX4_firstFall_3 0 rfl rfl)
theorem dX4_firstFall_72 : decode cX4_firstFall 72 = .ok (.iaload, 1) := dk_46 (dk_at dksX4_firstFall_3 1 rfl rfl)
theorem dX4_firstFall_73 : decode cX4_firstFall 73 = .ok (.goto 5, 3) := dk_167 0 5 (dk_at dksX4_firstFall_3 2 rfl rfl)
theorem dX4_firstFall_76 : decode cX4_firstFall 76 = .ok (.iload 4, 2) := dk_21 4 (dk_at dksX4_firstFall_3 5 rfl rfl)
theorem dX4_firstFall_78 : decode cX4_firstFall 78 = .ok (.istore 4, 2) := dk_54 4 (dk_at dksX4_firstFall_3 7 rfl rfl)
theorem dX4_firstFall_80 : decode cX4_firstFall 80 = .ok (.iinc 5 1, 3) := dk_132 5 1 (dk_at dksX4_firstFall_3 9 rfl rfl)
theorem dX4_firstFall_83 : decode cX4_firstFall 83 = .ok (.goto (-59), 3) := dk_167 255 197 (dk_at dksX4_firstFall_3 12 rfl rfl)
theorem dX4_firstFall_86 : decode cX4_firstFall 86 = .ok (.iload 4, 2) := dk_21 4 (dk_at dksX4_firstFall_3 15 rfl rfl)
theorem dX4_firstFall_88 : decode cX4_firstFall 88 = .ok (.ireturn, 1) := dk_172 (dk_at dksX4_firstFall_3 17 rfl rfl)
abbrev cX4_alike : ByteArray := prog_16_method_65_code
def yX4_alike : MethodName := ⟨RX4, "alike", "(III)I"⟩
def dkwX4_alike_4 : List UInt8 := [160, 0, 18, 42, 180, 0, 36, 3, 46, 21, 7, 160, 0, 7, 4, 167, 0, 4, 3, 172]
abbrev dktX4_alike_4 : List UInt8 := dkwX4_alike_4 ++ []
def dkwX4_alike_3 : List UInt8 := [42, 29, 28, 182, 0, 223, 42, 180, 0, 17, 16, 91, 21, 5, 79, 42, 180, 0, 33, 3, 46, 21, 6]
abbrev dktX4_alike_3 : List UInt8 := dkwX4_alike_3 ++ dktX4_alike_4
def dkwX4_alike_2 : List UInt8 := [42, 180, 0, 33, 3, 46, 54, 6, 42, 180, 0, 36, 3, 46, 54, 7, 42, 180, 0, 17, 16, 91, 4, 79]
abbrev dktX4_alike_2 : List UInt8 := dkwX4_alike_2 ++ dktX4_alike_3
def dkwX4_alike_1 : List UInt8 := [172, 42, 180, 0, 17, 16, 91, 46, 54, 5, 42, 180, 0, 17, 16, 91, 3, 79, 42, 29, 28, 182, 0, 223]
abbrev dktX4_alike_1 : List UInt8 := dkwX4_alike_1 ++ dktX4_alike_2
def dkwX4_alike_0 : List UInt8 := [42, 42, 29, 182, 0, 124, 27, 28, 182, 0, 219, 54, 4, 21, 4, 156, 0, 10, 42, 21, 4, 182, 0, 101]
abbrev dktX4_alike_0 : List UInt8 := dkwX4_alike_0 ++ dktX4_alike_1
theorem dksX4_alike_0 : cX4_alike.data.toList.drop 0 = dktX4_alike_0 := by decide +kernel
theorem dksX4_alike_1 : cX4_alike.data.toList.drop 24 = dktX4_alike_1 := dk_seg dksX4_alike_0 24 rfl rfl
theorem dksX4_alike_2 : cX4_alike.data.toList.drop 48 = dktX4_alike_2 := dk_seg dksX4_alike_1 24 rfl rfl
theorem dksX4_alike_3 : cX4_alike.data.toList.drop 72 = dktX4_alike_3 := dk_seg dksX4_alike_2 24 rfl rfl
theorem dksX4_alike_4 : cX4_alike.data.toList.drop 95 = dktX4_alike_4 := dk_seg dksX4_alike_3 23 rfl rfl
theorem dX4_alike_0 : decode cX4_alike 0 = .ok (.aload_n 0, 1) := dk_42 (dk_at dksX4_alike_0 0 rfl rfl)
theorem dX4_alike_1 : decode cX4_alike 1 = .ok (.aload_n 0, 1) := dk_42 (dk_at dksX4_alike_0 1 rfl rfl)
theorem dX4_alike_2 : decode cX4_alike 2 = .ok (.iload_n 3, 1) := dk_29 (dk_at dksX4_alike_0 2 rfl rfl)
theorem dX4_alike_3 : decode cX4_alike 3 = .ok (.invokevirtual 124, 3) := dk_182 0 124 (dk_at dksX4_alike_0 3 rfl rfl)
theorem dX4_alike_6 : decode cX4_alike 6 = .ok (.iload_n 1, 1) := dk_27 (dk_at dksX4_alike_0 6 rfl rfl)
theorem dX4_alike_7 : decode cX4_alike 7 = .ok (.iload_n 2, 1) := dk_28 (dk_at dksX4_alike_0 7 rfl rfl)
theorem dX4_alike_8 : decode cX4_alike 8 = .ok (.invokevirtual 219, 3) := dk_182 0 219 (dk_at dksX4_alike_0 8 rfl rfl)
theorem dX4_alike_11 : decode cX4_alike 11 = .ok (.istore 4, 2) := dk_54 4 (dk_at dksX4_alike_0 11 rfl rfl)
theorem dX4_alike_13 : decode cX4_alike 13 = .ok (.iload 4, 2) := dk_21 4 (dk_at dksX4_alike_0 13 rfl rfl)
theorem dX4_alike_15 : decode cX4_alike 15 = .ok (.ifCond .ge 10, 3) := dk_156 0 10 (dk_at dksX4_alike_0 15 rfl rfl)
theorem dX4_alike_18 : decode cX4_alike 18 = .ok (.aload_n 0, 1) := dk_42 (dk_at dksX4_alike_0 18 rfl rfl)
theorem dX4_alike_19 : decode cX4_alike 19 = .ok (.iload 4, 2) := dk_21 4 (dk_at dksX4_alike_0 19 rfl rfl)
theorem dX4_alike_21 : decode cX4_alike 21 = .ok (.invokevirtual 101, 3) := dk_182 0 101 (dk_at dksX4_alike_0 21 rfl rfl)
theorem dX4_alike_24 : decode cX4_alike 24 = .ok (.ireturn, 1) := dk_172 (dk_at dksX4_alike_1 0 rfl rfl)
theorem dX4_alike_25 : decode cX4_alike 25 = .ok (.aload_n 0, 1) := dk_42 (dk_at dksX4_alike_1 1 rfl rfl)
theorem dX4_alike_26 : decode cX4_alike 26 = .ok (.getfield 17, 3) := dk_180 0 17 (dk_at dksX4_alike_1 2 rfl rfl)
theorem dX4_alike_29 : decode cX4_alike 29 = .ok (.bipush 91, 2) := dk_16 91 (dk_at dksX4_alike_1 5 rfl rfl)
theorem dX4_alike_31 : decode cX4_alike 31 = .ok (.iaload, 1) := dk_46 (dk_at dksX4_alike_1 7 rfl rfl)
theorem dX4_alike_32 : decode cX4_alike 32 = .ok (.istore 5, 2) := dk_54 5 (dk_at dksX4_alike_1 8 rfl rfl)
theorem dX4_alike_34 : decode cX4_alike 34 = .ok (.aload_n 0, 1) := dk_42 (dk_at dksX4_alike_1 10 rfl rfl)
theorem dX4_alike_35 : decode cX4_alike 35 = .ok (.getfield 17, 3) := dk_180 0 17 (dk_at dksX4_alike_1 11 rfl rfl)
theorem dX4_alike_38 : decode cX4_alike 38 = .ok (.bipush 91, 2) := dk_16 91 (dk_at dksX4_alike_1 14 rfl rfl)
theorem dX4_alike_40 : decode cX4_alike 40 = .ok (.iconst 0, 1) := dk_3 (dk_at dksX4_alike_1 16 rfl rfl)
theorem dX4_alike_41 : decode cX4_alike 41 = .ok (.iastore, 1) := dk_79 (dk_at dksX4_alike_1 17 rfl rfl)
theorem dX4_alike_42 : decode cX4_alike 42 = .ok (.aload_n 0, 1) := dk_42 (dk_at dksX4_alike_1 18 rfl rfl)
theorem dX4_alike_43 : decode cX4_alike 43 = .ok (.iload_n 3, 1) := dk_29 (dk_at dksX4_alike_1 19 rfl rfl)
theorem dX4_alike_44 : decode cX4_alike 44 = .ok (.iload_n 2, 1) := dk_28 (dk_at dksX4_alike_1 20 rfl rfl)
theorem dX4_alike_45 : decode cX4_alike 45 = .ok (.invokevirtual 223, 3) := dk_182 0 223 (dk_at dksX4_alike_1 21 rfl rfl)
theorem dX4_alike_48 : decode cX4_alike 48 = .ok (.aload_n 0, 1) := dk_42 (dk_at dksX4_alike_2 0 rfl rfl)
theorem dX4_alike_49 : decode cX4_alike 49 = .ok (.getfield 33, 3) := dk_180 0 33 (dk_at dksX4_alike_2 1 rfl rfl)
theorem dX4_alike_52 : decode cX4_alike 52 = .ok (.iconst 0, 1) := dk_3 (dk_at dksX4_alike_2 4 rfl rfl)
theorem dX4_alike_53 : decode cX4_alike 53 = .ok (.iaload, 1) := dk_46 (dk_at dksX4_alike_2 5 rfl rfl)
theorem dX4_alike_54 : decode cX4_alike 54 = .ok (.istore 6, 2) := dk_54 6 (dk_at dksX4_alike_2 6 rfl rfl)
theorem dX4_alike_56 : decode cX4_alike 56 = .ok (.aload_n 0, 1) := dk_42 (dk_at dksX4_alike_2 8 rfl rfl)
theorem dX4_alike_57 : decode cX4_alike 57 = .ok (.getfield 36, 3) := dk_180 0 36 (dk_at dksX4_alike_2 9 rfl rfl)
theorem dX4_alike_60 : decode cX4_alike 60 = .ok (.iconst 0, 1) := dk_3 (dk_at dksX4_alike_2 12 rfl rfl)
theorem dX4_alike_61 : decode cX4_alike 61 = .ok (.iaload, 1) := dk_46 (dk_at dksX4_alike_2 13 rfl rfl)
theorem dX4_alike_62 : decode cX4_alike 62 = .ok (.istore 7, 2) := dk_54 7 (dk_at dksX4_alike_2 14 rfl rfl)
theorem dX4_alike_64 : decode cX4_alike 64 = .ok (.aload_n 0, 1) := dk_42 (dk_at dksX4_alike_2 16 rfl rfl)
theorem dX4_alike_65 : decode cX4_alike 65 = .ok (.getfield 17, 3) := dk_180 0 17 (dk_at dksX4_alike_2 17 rfl rfl)
theorem dX4_alike_68 : decode cX4_alike 68 = .ok (.bipush 91, 2) := dk_16 91 (dk_at dksX4_alike_2 20 rfl rfl)
theorem dX4_alike_70 : decode cX4_alike 70 = .ok (.iconst 1, 1) := dk_4 (dk_at dksX4_alike_2 22 rfl rfl)
theorem dX4_alike_71 : decode cX4_alike 71 = .ok (.iastore, 1) := dk_79 (dk_at dksX4_alike_2 23 rfl rfl)
theorem dX4_alike_72 : decode cX4_alike 72 = .ok (.aload_n 0, 1) := dk_42 (dk_at dksX4_alike_3 0 rfl rfl)
theorem dX4_alike_73 : decode cX4_alike 73 = .ok (.iload_n 3, 1) := dk_29 (dk_at dksX4_alike_3 1 rfl rfl)
theorem dX4_alike_74 : decode cX4_alike 74 = .ok (.iload_n 2, 1) := dk_28 (dk_at dksX4_alike_3 2 rfl rfl)
theorem dX4_alike_75 : decode cX4_alike 75 = .ok (.invokevirtual 223, 3) := dk_182 0 223 (dk_at dksX4_alike_3 3 rfl rfl)
theorem dX4_alike_78 : decode cX4_alike 78 = .ok (.aload_n 0, 1) := dk_42 (dk_at dksX4_alike_3 6 rfl rfl)
theorem dX4_alike_79 : decode cX4_alike 79 = .ok (.getfield 17, 3) := dk_180 0 17 (dk_at dksX4_alike_3 7 rfl rfl)
theorem dX4_alike_82 : decode cX4_alike 82 = .ok (.bipush 91, 2) := dk_16 91 (dk_at dksX4_alike_3 10 rfl rfl)
theorem dX4_alike_84 : decode cX4_alike 84 = .ok (.iload 5, 2) := dk_21 5 (dk_at dksX4_alike_3 12 rfl rfl)
theorem dX4_alike_86 : decode cX4_alike 86 = .ok (.iastore, 1) := dk_79 (dk_at dksX4_alike_3 14 rfl rfl)
theorem dX4_alike_87 : decode cX4_alike 87 = .ok (.aload_n 0, 1) := dk_42 (dk_at dksX4_alike_3 15 rfl rfl)
theorem dX4_alike_88 : decode cX4_alike 88 = .ok (.getfield 33, 3) := dk_180 0 33 (dk_at dksX4_alike_3 16 rfl rfl)
theorem dX4_alike_91 : decode cX4_alike 91 = .ok (.iconst 0, 1) := dk_3 (dk_at dksX4_alike_3 19 rfl rfl)
theorem dX4_alike_92 : decode cX4_alike 92 = .ok (.iaload, 1) := dk_46 (dk_at dksX4_alike_3 20 rfl rfl)
theorem dX4_alike_93 : decode cX4_alike 93 = .ok (.iload 6, 2) := dk_21 6 (dk_at dksX4_alike_3 21 rfl rfl)
theorem dX4_alike_95 : decode cX4_alike 95 = .ok (.if_icmp .ne 18, 3) := dk_160 0 18 (dk_at dksX4_alike_4 0 rfl rfl)
theorem dX4_alike_98 : decode cX4_alike 98 = .ok (.aload_n 0, 1) := dk_42 (dk_at dksX4_alike_4 3 rfl rfl)
theorem dX4_alike_99 : decode cX4_alike 99 = .ok (.getfield 36, 3) := dk_180 0 36 (dk_at dksX4_alike_4 4 rfl rfl)
theorem dX4_alike_102 : decode cX4_alike 102 = .ok (.iconst 0, 1) := dk_3 (dk_at dksX4_alike_4 7 rfl rfl)
theorem dX4_alike_103 : decode cX4_alike 103 = .ok (.iaload, 1) := dk_46 (dk_at dksX4_alike_4 8 rfl rfl)
theorem dX4_alike_104 : decode cX4_alike 104 = .ok (.iload 7, 2) := dk_21 7 (dk_at dksX4_alike_4 9 rfl rfl)
theorem dX4_alike_106 : decode cX4_alike 106 = .ok (.if_icmp .ne 7, 3) := dk_160 0 7 (dk_at dksX4_alike_4 11 rfl rfl)
theorem dX4_alike_109 : decode cX4_alike 109 = .ok (.iconst 1, 1) := dk_4 (dk_at dksX4_alike_4 14 rfl rfl)
theorem dX4_alike_110 : decode cX4_alike 110 = .ok (.goto 4, 3) := dk_167 0 4 (dk_at dksX4_alike_4 15 rfl rfl)
theorem dX4_alike_113 : decode cX4_alike 113 = .ok (.iconst 0, 1) := dk_3 (dk_at dksX4_alike_4 18 rfl rfl)
theorem dX4_alike_114 : decode cX4_alike 114 = .ok (.ireturn, 1) := dk_172 (dk_at dksX4_alike_4 19 rfl rfl)
abbrev cX4_differ : ByteArray := prog_16_method_66_code
def yX4_differ : MethodName := ⟨RX4, "differ", "(IIII)I"⟩
def dkwX4_differ_6 : List UInt8 := [4, 46, 159, 0, 8, 21, 6, 4, 96, 172, 132, 6, 1, 167, 255, 181, 2, 172]
abbrev dktX4_differ_6 : List UInt8 := dkwX4_differ_6 ++ []
def dkwX4_differ_5 : List UInt8 := [180, 0, 33, 3, 46, 42, 180, 0, 33, 4, 46, 160, 0, 18, 42, 180, 0, 36, 3, 46, 42, 180, 0, 36]
abbrev dktX4_differ_5 : List UInt8 := dkwX4_differ_5 ++ dktX4_differ_6
def dkwX4_differ_4 : List UInt8 := [46, 21, 6, 182, 0, 199, 42, 4, 21, 4, 42, 180, 0, 51, 21, 6, 46, 21, 6, 182, 0, 199, 42]
abbrev dktX4_differ_4 : List UInt8 := dkwX4_differ_4 ++ dktX4_differ_5
def dkwX4_differ_3 : List UInt8 := [182, 0, 192, 182, 0, 195, 3, 54, 6, 21, 6, 28, 162, 0, 75, 42, 3, 29, 42, 180, 0, 51, 21, 6]
abbrev dktX4_differ_3 : List UInt8 := dkwX4_differ_3 ++ dktX4_differ_4
def dkwX4_differ_2 : List UInt8 := [42, 3, 42, 29, 182, 0, 88, 42, 29, 182, 0, 192, 182, 0, 195, 42, 4, 42, 29, 182, 0, 88, 42, 29]
abbrev dktX4_differ_2 : List UInt8 := dkwX4_differ_2 ++ dktX4_differ_3
def dkwX4_differ_1 : List UInt8 := [4, 167, 0, 4, 3, 27, 28, 182, 0, 219, 54, 5, 21, 5, 156, 0, 10, 42, 21, 5, 182, 0, 101, 172]
abbrev dktX4_differ_1 : List UInt8 := dkwX4_differ_1 ++ dktX4_differ_2
def dkwX4_differ_0 : List UInt8 := [42, 42, 29, 182, 0, 124, 153, 0, 22, 42, 21, 4, 182, 0, 124, 153, 0, 13, 29, 21, 4, 159, 0, 7]
abbrev dktX4_differ_0 : List UInt8 := dkwX4_differ_0 ++ dktX4_differ_1
theorem dksX4_differ_0 : cX4_differ.data.toList.drop 0 = dktX4_differ_0 := by decide +kernel
theorem dksX4_differ_1 : cX4_differ.data.toList.drop 24 = dktX4_differ_1 := dk_seg dksX4_differ_0 24 rfl rfl
theorem dksX4_differ_2 : cX4_differ.data.toList.drop 48 = dktX4_differ_2 := dk_seg dksX4_differ_1 24 rfl rfl
theorem dksX4_differ_3 : cX4_differ.data.toList.drop 72 = dktX4_differ_3 := dk_seg dksX4_differ_2 24 rfl rfl
theorem dksX4_differ_4 : cX4_differ.data.toList.drop 96 = dktX4_differ_4 := dk_seg dksX4_differ_3 24 rfl rfl
theorem dksX4_differ_5 : cX4_differ.data.toList.drop 119 = dktX4_differ_5 := dk_seg dksX4_differ_4 23 rfl rfl
theorem dksX4_differ_6 : cX4_differ.data.toList.drop 143 = dktX4_differ_6 := dk_seg dksX4_differ_5 24 rfl rfl
theorem dX4_differ_0 : decode cX4_differ 0 = .ok (.aload_n 0, 1) := dk_42 (dk_at dksX4_differ_0 0 rfl rfl)
theorem dX4_differ_1 : decode cX4_differ 1 = .ok (.aload_n 0, 1) := dk_42 (dk_at dksX4_differ_0 1 rfl rfl)
theorem dX4_differ_2 : decode cX4_differ 2 = .ok (.iload_n 3, 1) := dk_29 (dk_at dksX4_differ_0 2 rfl rfl)
theorem dX4_differ_3 : decode cX4_differ 3 = .ok (.invokevirtual 124, 3) := dk_182 0 124 (dk_at dksX4_differ_0 3 rfl rfl)
theorem dX4_differ_6 : decode cX4_differ 6 = .ok (.ifCond .eq 22, 3) := dk_153 0 22 (dk_at dksX4_differ_0 6 rfl rfl)
theorem dX4_differ_9 : decode cX4_differ 9 = .ok (.aload_n 0, 1) := dk_42 (dk_at dksX4_differ_0 9 rfl rfl)
theorem dX4_differ_10 : decode cX4_differ 10 = .ok (.iload 4, 2) := dk_21 4 (dk_at dksX4_differ_0 10 rfl rfl)
theorem dX4_differ_12 : decode cX4_differ 12 = .ok (.invokevirtual 124, 3) := dk_182 0 124 (dk_at dksX4_differ_0 12 rfl rfl)
theorem dX4_differ_15 : decode cX4_differ 15 = .ok (.ifCond .eq 13, 3) := dk_153 0 13 (dk_at dksX4_differ_0 15 rfl rfl)
theorem dX4_differ_18 : decode cX4_differ 18 = .ok (.iload_n 3, 1) := dk_29 (dk_at dksX4_differ_0 18 rfl rfl)
theorem dX4_differ_19 : decode cX4_differ 19 = .ok (.iload 4, 2) := dk_21 4 (dk_at dksX4_differ_0 19 rfl rfl)
theorem dX4_differ_21 : decode cX4_differ 21 = .ok (.if_icmp .eq 7, 3) := dk_159 0 7 (dk_at dksX4_differ_0 21 rfl rfl)
theorem dX4_differ_24 : decode cX4_differ 24 = .ok (.iconst 1, 1) := dk_4 (dk_at dksX4_differ_1 0 rfl rfl)
theorem dX4_differ_25 : decode cX4_differ 25 = .ok (.goto 4, 3) := dk_167 0 4 (dk_at dksX4_differ_1 1 rfl rfl)
theorem dX4_differ_28 : decode cX4_differ 28 = .ok (.iconst 0, 1) := dk_3 (dk_at dksX4_differ_1 4 rfl rfl)
theorem dX4_differ_29 : decode cX4_differ 29 = .ok (.iload_n 1, 1) := dk_27 (dk_at dksX4_differ_1 5 rfl rfl)
theorem dX4_differ_30 : decode cX4_differ 30 = .ok (.iload_n 2, 1) := dk_28 (dk_at dksX4_differ_1 6 rfl rfl)
theorem dX4_differ_31 : decode cX4_differ 31 = .ok (.invokevirtual 219, 3) := dk_182 0 219 (dk_at dksX4_differ_1 7 rfl rfl)
theorem dX4_differ_34 : decode cX4_differ 34 = .ok (.istore 5, 2) := dk_54 5 (dk_at dksX4_differ_1 10 rfl rfl)
theorem dX4_differ_36 : decode cX4_differ 36 = .ok (.iload 5, 2) := dk_21 5 (dk_at dksX4_differ_1 12 rfl rfl)
theorem dX4_differ_38 : decode cX4_differ 38 = .ok (.ifCond .ge 10, 3) := dk_156 0 10 (dk_at dksX4_differ_1 14 rfl rfl)
theorem dX4_differ_41 : decode cX4_differ 41 = .ok (.aload_n 0, 1) := dk_42 (dk_at dksX4_differ_1 17 rfl rfl)
theorem dX4_differ_42 : decode cX4_differ 42 = .ok (.iload 5, 2) := dk_21 5 (dk_at dksX4_differ_1 18 rfl rfl)
theorem dX4_differ_44 : decode cX4_differ 44 = .ok (.invokevirtual 101, 3) := dk_182 0 101 (dk_at dksX4_differ_1 20 rfl rfl)
theorem dX4_differ_47 : decode cX4_differ 47 = .ok (.ireturn, 1) := dk_172 (dk_at dksX4_differ_1 23 rfl rfl)
theorem dX4_differ_48 : decode cX4_differ 48 = .ok (.aload_n 0, 1) := dk_42 (dk_at dksX4_differ_2 0 rfl rfl)
theorem dX4_differ_49 : decode cX4_differ 49 = .ok (.iconst 0, 1) := dk_3 (dk_at dksX4_differ_2 1 rfl rfl)
theorem dX4_differ_50 : decode cX4_differ 50 = .ok (.aload_n 0, 1) := dk_42 (dk_at dksX4_differ_2 2 rfl rfl)
theorem dX4_differ_51 : decode cX4_differ 51 = .ok (.iload_n 3, 1) := dk_29 (dk_at dksX4_differ_2 3 rfl rfl)
theorem dX4_differ_52 : decode cX4_differ 52 = .ok (.invokevirtual 88, 3) := dk_182 0 88 (dk_at dksX4_differ_2 4 rfl rfl)
theorem dX4_differ_55 : decode cX4_differ 55 = .ok (.aload_n 0, 1) := dk_42 (dk_at dksX4_differ_2 7 rfl rfl)
theorem dX4_differ_56 : decode cX4_differ 56 = .ok (.iload_n 3, 1) := dk_29 (dk_at dksX4_differ_2 8 rfl rfl)
theorem dX4_differ_57 : decode cX4_differ 57 = .ok (.invokevirtual 192, 3) := dk_182 0 192 (dk_at dksX4_differ_2 9 rfl rfl)
theorem dX4_differ_60 : decode cX4_differ 60 = .ok (.invokevirtual 195, 3) := dk_182 0 195 (dk_at dksX4_differ_2 12 rfl rfl)
theorem dX4_differ_63 : decode cX4_differ 63 = .ok (.aload_n 0, 1) := dk_42 (dk_at dksX4_differ_2 15 rfl rfl)
theorem dX4_differ_64 : decode cX4_differ 64 = .ok (.iconst 1, 1) := dk_4 (dk_at dksX4_differ_2 16 rfl rfl)
theorem dX4_differ_65 : decode cX4_differ 65 = .ok (.aload_n 0, 1) := dk_42 (dk_at dksX4_differ_2 17 rfl rfl)
theorem dX4_differ_66 : decode cX4_differ 66 = .ok (.iload_n 3, 1) := dk_29 (dk_at dksX4_differ_2 18 rfl rfl)
theorem dX4_differ_67 : decode cX4_differ 67 = .ok (.invokevirtual 88, 3) := dk_182 0 88 (dk_at dksX4_differ_2 19 rfl rfl)
theorem dX4_differ_70 : decode cX4_differ 70 = .ok (.aload_n 0, 1) := dk_42 (dk_at dksX4_differ_2 22 rfl rfl)
theorem dX4_differ_71 : decode cX4_differ 71 = .ok (.iload_n 3, 1) := dk_29 (dk_at dksX4_differ_2 23 rfl rfl)
theorem dX4_differ_72 : decode cX4_differ 72 = .ok (.invokevirtual 192, 3) := dk_182 0 192 (dk_at dksX4_differ_3 0 rfl rfl)
theorem dX4_differ_75 : decode cX4_differ 75 = .ok (.invokevirtual 195, 3) := dk_182 0 195 (dk_at dksX4_differ_3 3 rfl rfl)
theorem dX4_differ_78 : decode cX4_differ 78 = .ok (.iconst 0, 1) := dk_3 (dk_at dksX4_differ_3 6 rfl rfl)
theorem dX4_differ_79 : decode cX4_differ 79 = .ok (.istore 6, 2) := dk_54 6 (dk_at dksX4_differ_3 7 rfl rfl)
theorem dX4_differ_81 : decode cX4_differ 81 = .ok (.iload 6, 2) := dk_21 6 (dk_at dksX4_differ_3 9 rfl rfl)
theorem dX4_differ_83 : decode cX4_differ 83 = .ok (.iload_n 2, 1) := dk_28 (dk_at dksX4_differ_3 11 rfl rfl)
theorem dX4_differ_84 : decode cX4_differ 84 = .ok (.if_icmp .ge 75, 3) := dk_162 0 75 (dk_at dksX4_differ_3 12 rfl rfl)
theorem dX4_differ_87 : decode cX4_differ 87 = .ok (.aload_n 0, 1) := dk_42 (dk_at dksX4_differ_3 15 rfl rfl)
theorem dX4_differ_88 : decode cX4_differ 88 = .ok (.iconst 0, 1) := dk_3 (dk_at dksX4_differ_3 16 rfl rfl)
theorem dX4_differ_89 : decode cX4_differ 89 = .ok (.iload_n 3, 1) := dk_29 (dk_at dksX4_differ_3 17 rfl rfl)
theorem dX4_differ_90 : decode cX4_differ 90 = .ok (.aload_n 0, 1) := dk_42 (dk_at dksX4_differ_3 18 rfl rfl)
theorem dX4_differ_91 : decode cX4_differ 91 = .ok (.getfield 51, 3) := dk_180 0 51 (dk_at dksX4_differ_3 19 rfl rfl)
theorem dX4_differ_94 : decode cX4_differ 94 = .ok (.iload 6, 2) := dk_21 6 (dk_at dksX4_differ_3 22 rfl rfl)
theorem dX4_differ_96 : decode cX4_differ 96 = .ok (.iaload, 1) := dk_46 (dk_at dksX4_differ_4 0 rfl rfl)
theorem dX4_differ_97 : decode cX4_differ 97 = .ok (.iload 6, 2) := dk_21 6 (dk_at dksX4_differ_4 1 rfl rfl)
theorem dX4_differ_99 : decode cX4_differ 99 = .ok (.invokevirtual 199, 3) := dk_182 0 199 (dk_at dksX4_differ_4 3 rfl rfl)
theorem dX4_differ_102 : decode cX4_differ 102 = .ok (.aload_n 0, 1) := dk_42 (dk_at dksX4_differ_4 6 rfl rfl)
theorem dX4_differ_103 : decode cX4_differ 103 = .ok (.iconst 1, 1) := dk_4 (dk_at dksX4_differ_4 7 rfl rfl)
theorem dX4_differ_104 : decode cX4_differ 104 = .ok (.iload 4, 2) := dk_21 4 (dk_at dksX4_differ_4 8 rfl rfl)
theorem dX4_differ_106 : decode cX4_differ 106 = .ok (.aload_n 0, 1) := dk_42 (dk_at dksX4_differ_4 10 rfl rfl)
theorem dX4_differ_107 : decode cX4_differ 107 = .ok (.getfield 51, 3) := dk_180 0 51 (dk_at dksX4_differ_4 11 rfl rfl)
theorem dX4_differ_110 : decode cX4_differ 110 = .ok (.iload 6, 2) := dk_21 6 (dk_at dksX4_differ_4 14 rfl rfl)
theorem dX4_differ_112 : decode cX4_differ 112 = .ok (.iaload, 1) := dk_46 (dk_at dksX4_differ_4 16 rfl rfl)
theorem dX4_differ_113 : decode cX4_differ 113 = .ok (.iload 6, 2) := dk_21 6 (dk_at dksX4_differ_4 17 rfl rfl)
theorem dX4_differ_115 : decode cX4_differ 115 = .ok (.invokevirtual 199, 3) := dk_182 0 199 (dk_at dksX4_differ_4 19 rfl rfl)
theorem dX4_differ_118 : decode cX4_differ 118 = .ok (.aload_n 0, 1) := dk_42 (dk_at dksX4_differ_4 22 rfl rfl)
theorem dX4_differ_119 : decode cX4_differ 119 = .ok (.getfield 33, 3) := dk_180 0 33 (dk_at dksX4_differ_5 0 rfl rfl)
theorem dX4_differ_122 : decode cX4_differ 122 = .ok (.iconst 0, 1) := dk_3 (dk_at dksX4_differ_5 3 rfl rfl)
theorem dX4_differ_123 : decode cX4_differ 123 = .ok (.iaload, 1) := dk_46 (dk_at dksX4_differ_5 4 rfl rfl)
theorem dX4_differ_124 : decode cX4_differ 124 = .ok (.aload_n 0, 1) := dk_42 (dk_at dksX4_differ_5 5 rfl rfl)
theorem dX4_differ_125 : decode cX4_differ 125 = .ok (.getfield 33, 3) := dk_180 0 33 (dk_at dksX4_differ_5 6 rfl rfl)
theorem dX4_differ_128 : decode cX4_differ 128 = .ok (.iconst 1, 1) := dk_4 (dk_at dksX4_differ_5 9 rfl rfl)
theorem dX4_differ_129 : decode cX4_differ 129 = .ok (.iaload, 1) := dk_46 (dk_at dksX4_differ_5 10 rfl rfl)
theorem dX4_differ_130 : decode cX4_differ 130 = .ok (.if_icmp .ne 18, 3) := dk_160 0 18 (dk_at dksX4_differ_5 11 rfl rfl)
theorem dX4_differ_133 : decode cX4_differ 133 = .ok (.aload_n 0, 1) := dk_42 (dk_at dksX4_differ_5 14 rfl rfl)
theorem dX4_differ_134 : decode cX4_differ 134 = .ok (.getfield 36, 3) := dk_180 0 36 (dk_at dksX4_differ_5 15 rfl rfl)
theorem dX4_differ_137 : decode cX4_differ 137 = .ok (.iconst 0, 1) := dk_3 (dk_at dksX4_differ_5 18 rfl rfl)
theorem dX4_differ_138 : decode cX4_differ 138 = .ok (.iaload, 1) := dk_46 (dk_at dksX4_differ_5 19 rfl rfl)
theorem dX4_differ_139 : decode cX4_differ 139 = .ok (.aload_n 0, 1) := dk_42 (dk_at dksX4_differ_5 20 rfl rfl)
theorem dX4_differ_140 : decode cX4_differ 140 = .ok (.getfield 36, 3) := dk_180 0 36 (dk_at dksX4_differ_5 21 rfl rfl)
theorem dX4_differ_143 : decode cX4_differ 143 = .ok (.iconst 1, 1) := dk_4 (dk_at dksX4_differ_6 0 rfl rfl)
theorem dX4_differ_144 : decode cX4_differ 144 = .ok (.iaload, 1) := dk_46 (dk_at dksX4_differ_6 1 rfl rfl)
theorem dX4_differ_145 : decode cX4_differ 145 = .ok (.if_icmp .eq 8, 3) := dk_159 0 8 (dk_at dksX4_differ_6 2 rfl rfl)
theorem dX4_differ_148 : decode cX4_differ 148 = .ok (.iload 6, 2) := dk_21 6 (dk_at dksX4_differ_6 5 rfl rfl)
theorem dX4_differ_150 : decode cX4_differ 150 = .ok (.iconst 1, 1) := dk_4 (dk_at dksX4_differ_6 7 rfl rfl)
theorem dX4_differ_151 : decode cX4_differ 151 = .ok (.iadd, 1) := dk_96 (dk_at dksX4_differ_6 8 rfl rfl)
theorem dX4_differ_152 : decode cX4_differ 152 = .ok (.ireturn, 1) := dk_172 (dk_at dksX4_differ_6 9 rfl rfl)
theorem dX4_differ_153 : decode cX4_differ 153 = .ok (.iinc 6 1, 3) := dk_132 6 1 (dk_at dksX4_differ_6 10 rfl rfl)
theorem dX4_differ_156 : decode cX4_differ 156 = .ok (.goto (-75), 3) := dk_167 255 181 (dk_at dksX4_differ_6 13 rfl rfl)
theorem dX4_differ_159 : decode cX4_differ 159 = .ok (.iconst (-1), 1) := dk_2 (dk_at dksX4_differ_6 16 rfl rfl)
theorem dX4_differ_160 : decode cX4_differ 160 = .ok (.ireturn, 1) := dk_172 (dk_at dksX4_differ_6 17 rfl rfl)
abbrev cX4_again : ByteArray := prog_16_method_67_code
def yX4_again : MethodName := ⟨RX4, "again", "(IIII)I"⟩
def dkwX4_again_4 : List UInt8 := [167, 255, 227, 42, 180, 0, 33, 3, 46, 172]
abbrev dktX4_again_4 : List UInt8 := dkwX4_again_4 ++ []
def dkwX4_again_3 : List UInt8 := [162, 0, 26, 42, 3, 29, 42, 180, 0, 51, 21, 6, 28, 112, 46, 21, 6, 182, 0, 199, 132, 6, 1]
abbrev dktX4_again_3 : List UInt8 := dkwX4_again_3 ++ dktX4_again_4
def dkwX4_again_2 : List UInt8 := [3, 42, 29, 182, 0, 88, 42, 29, 182, 0, 192, 182, 0, 195, 3, 54, 6, 21, 6, 28, 21, 4, 104]
abbrev dktX4_again_2 : List UInt8 := dkwX4_again_2 ++ dktX4_again_3
def dkwX4_again_1 : List UInt8 := [167, 0, 4, 3, 27, 28, 182, 0, 219, 54, 5, 21, 5, 156, 0, 10, 42, 21, 5, 182, 0, 101, 172, 42]
abbrev dktX4_again_1 : List UInt8 := dkwX4_again_1 ++ dktX4_again_2
def dkwX4_again_0 : List UInt8 := [42, 42, 29, 182, 0, 124, 153, 0, 20, 21, 4, 133, 9, 20, 0, 241, 184, 0, 76, 153, 0, 7, 4]
abbrev dktX4_again_0 : List UInt8 := dkwX4_again_0 ++ dktX4_again_1
theorem dksX4_again_0 : cX4_again.data.toList.drop 0 = dktX4_again_0 := by decide +kernel
theorem dksX4_again_1 : cX4_again.data.toList.drop 23 = dktX4_again_1 := dk_seg dksX4_again_0 23 rfl rfl
theorem dksX4_again_2 : cX4_again.data.toList.drop 47 = dktX4_again_2 := dk_seg dksX4_again_1 24 rfl rfl
theorem dksX4_again_3 : cX4_again.data.toList.drop 70 = dktX4_again_3 := dk_seg dksX4_again_2 23 rfl rfl
theorem dksX4_again_4 : cX4_again.data.toList.drop 93 = dktX4_again_4 := dk_seg dksX4_again_3 23 rfl rfl
theorem dX4_again_0 : decode cX4_again 0 = .ok (.aload_n 0, 1) := dk_42 (dk_at dksX4_again_0 0 rfl rfl)
theorem dX4_again_1 : decode cX4_again 1 = .ok (.aload_n 0, 1) := dk_42 (dk_at dksX4_again_0 1 rfl rfl)
theorem dX4_again_2 : decode cX4_again 2 = .ok (.iload_n 3, 1) := dk_29 (dk_at dksX4_again_0 2 rfl rfl)
theorem dX4_again_3 : decode cX4_again 3 = .ok (.invokevirtual 124, 3) := dk_182 0 124 (dk_at dksX4_again_0 3 rfl rfl)
theorem dX4_again_6 : decode cX4_again 6 = .ok (.ifCond .eq 20, 3) := dk_153 0 20 (dk_at dksX4_again_0 6 rfl rfl)
theorem dX4_again_9 : decode cX4_again 9 = .ok (.iload 4, 2) := dk_21 4 (dk_at dksX4_again_0 9 rfl rfl)
theorem dX4_again_11 : decode cX4_again 11 = .ok (.i2l, 1) := dk_133 (dk_at dksX4_again_0 11 rfl rfl)
theorem dX4_again_12 : decode cX4_again 12 = .ok (.lconst 0, 1) := dk_9 (dk_at dksX4_again_0 12 rfl rfl)
theorem dX4_again_13 : decode cX4_again 13 = .ok (.ldc2_w 241, 3) := dk_20 0 241 (dk_at dksX4_again_0 13 rfl rfl)
theorem dX4_again_16 : decode cX4_again 16 = .ok (.invokestatic 76, 3) := dk_184 0 76 (dk_at dksX4_again_0 16 rfl rfl)
theorem dX4_again_19 : decode cX4_again 19 = .ok (.ifCond .eq 7, 3) := dk_153 0 7 (dk_at dksX4_again_0 19 rfl rfl)
theorem dX4_again_22 : decode cX4_again 22 = .ok (.iconst 1, 1) := dk_4 (dk_at dksX4_again_0 22 rfl rfl)
theorem dX4_again_23 : decode cX4_again 23 = .ok (.goto 4, 3) := dk_167 0 4 (dk_at dksX4_again_1 0 rfl rfl)
theorem dX4_again_26 : decode cX4_again 26 = .ok (.iconst 0, 1) := dk_3 (dk_at dksX4_again_1 3 rfl rfl)
theorem dX4_again_27 : decode cX4_again 27 = .ok (.iload_n 1, 1) := dk_27 (dk_at dksX4_again_1 4 rfl rfl)
theorem dX4_again_28 : decode cX4_again 28 = .ok (.iload_n 2, 1) := dk_28 (dk_at dksX4_again_1 5 rfl rfl)
theorem dX4_again_29 : decode cX4_again 29 = .ok (.invokevirtual 219, 3) := dk_182 0 219 (dk_at dksX4_again_1 6 rfl rfl)
theorem dX4_again_32 : decode cX4_again 32 = .ok (.istore 5, 2) := dk_54 5 (dk_at dksX4_again_1 9 rfl rfl)
theorem dX4_again_34 : decode cX4_again 34 = .ok (.iload 5, 2) := dk_21 5 (dk_at dksX4_again_1 11 rfl rfl)
theorem dX4_again_36 : decode cX4_again 36 = .ok (.ifCond .ge 10, 3) := dk_156 0 10 (dk_at dksX4_again_1 13 rfl rfl)
theorem dX4_again_39 : decode cX4_again 39 = .ok (.aload_n 0, 1) := dk_42 (dk_at dksX4_again_1 16 rfl rfl)
theorem dX4_again_40 : decode cX4_again 40 = .ok (.iload 5, 2) := dk_21 5 (dk_at dksX4_again_1 17 rfl rfl)
theorem dX4_again_42 : decode cX4_again 42 = .ok (.invokevirtual 101, 3) := dk_182 0 101 (dk_at dksX4_again_1 19 rfl rfl)
theorem dX4_again_45 : decode cX4_again 45 = .ok (.ireturn, 1) := dk_172 (dk_at dksX4_again_1 22 rfl rfl)
theorem dX4_again_46 : decode cX4_again 46 = .ok (.aload_n 0, 1) := dk_42 (dk_at dksX4_again_1 23 rfl rfl)
theorem dX4_again_47 : decode cX4_again 47 = .ok (.iconst 0, 1) := dk_3 (dk_at dksX4_again_2 0 rfl rfl)
theorem dX4_again_48 : decode cX4_again 48 = .ok (.aload_n 0, 1) := dk_42 (dk_at dksX4_again_2 1 rfl rfl)
theorem dX4_again_49 : decode cX4_again 49 = .ok (.iload_n 3, 1) := dk_29 (dk_at dksX4_again_2 2 rfl rfl)
theorem dX4_again_50 : decode cX4_again 50 = .ok (.invokevirtual 88, 3) := dk_182 0 88 (dk_at dksX4_again_2 3 rfl rfl)
theorem dX4_again_53 : decode cX4_again 53 = .ok (.aload_n 0, 1) := dk_42 (dk_at dksX4_again_2 6 rfl rfl)
theorem dX4_again_54 : decode cX4_again 54 = .ok (.iload_n 3, 1) := dk_29 (dk_at dksX4_again_2 7 rfl rfl)
theorem dX4_again_55 : decode cX4_again 55 = .ok (.invokevirtual 192, 3) := dk_182 0 192 (dk_at dksX4_again_2 8 rfl rfl)
theorem dX4_again_58 : decode cX4_again 58 = .ok (.invokevirtual 195, 3) := dk_182 0 195 (dk_at dksX4_again_2 11 rfl rfl)
theorem dX4_again_61 : decode cX4_again 61 = .ok (.iconst 0, 1) := dk_3 (dk_at dksX4_again_2 14 rfl rfl)
theorem dX4_again_62 : decode cX4_again 62 = .ok (.istore 6, 2) := dk_54 6 (dk_at dksX4_again_2 15 rfl rfl)
theorem dX4_again_64 : decode cX4_again 64 = .ok (.iload 6, 2) := dk_21 6 (dk_at dksX4_again_2 17 rfl rfl)
theorem dX4_again_66 : decode cX4_again 66 = .ok (.iload_n 2, 1) := dk_28 (dk_at dksX4_again_2 19 rfl rfl)
theorem dX4_again_67 : decode cX4_again 67 = .ok (.iload 4, 2) := dk_21 4 (dk_at dksX4_again_2 20 rfl rfl)
theorem dX4_again_69 : decode cX4_again 69 = .ok (.imul, 1) := dk_104 (dk_at dksX4_again_2 22 rfl rfl)
theorem dX4_again_70 : decode cX4_again 70 = .ok (.if_icmp .ge 26, 3) := dk_162 0 26 (dk_at dksX4_again_3 0 rfl rfl)
theorem dX4_again_73 : decode cX4_again 73 = .ok (.aload_n 0, 1) := dk_42 (dk_at dksX4_again_3 3 rfl rfl)
theorem dX4_again_74 : decode cX4_again 74 = .ok (.iconst 0, 1) := dk_3 (dk_at dksX4_again_3 4 rfl rfl)
theorem dX4_again_75 : decode cX4_again 75 = .ok (.iload_n 3, 1) := dk_29 (dk_at dksX4_again_3 5 rfl rfl)
theorem dX4_again_76 : decode cX4_again 76 = .ok (.aload_n 0, 1) := dk_42 (dk_at dksX4_again_3 6 rfl rfl)
theorem dX4_again_77 : decode cX4_again 77 = .ok (.getfield 51, 3) := dk_180 0 51 (dk_at dksX4_again_3 7 rfl rfl)
theorem dX4_again_80 : decode cX4_again 80 = .ok (.iload 6, 2) := dk_21 6 (dk_at dksX4_again_3 10 rfl rfl)
theorem dX4_again_82 : decode cX4_again 82 = .ok (.iload_n 2, 1) := dk_28 (dk_at dksX4_again_3 12 rfl rfl)
theorem dX4_again_83 : decode cX4_again 83 = .ok (.irem, 1) := dk_112 (dk_at dksX4_again_3 13 rfl rfl)
theorem dX4_again_84 : decode cX4_again 84 = .ok (.iaload, 1) := dk_46 (dk_at dksX4_again_3 14 rfl rfl)
theorem dX4_again_85 : decode cX4_again 85 = .ok (.iload 6, 2) := dk_21 6 (dk_at dksX4_again_3 15 rfl rfl)
theorem dX4_again_87 : decode cX4_again 87 = .ok (.invokevirtual 199, 3) := dk_182 0 199 (dk_at dksX4_again_3 17 rfl rfl)
theorem dX4_again_90 : decode cX4_again 90 = .ok (.iinc 6 1, 3) := dk_132 6 1 (dk_at dksX4_again_3 20 rfl rfl)
theorem dX4_again_93 : decode cX4_again 93 = .ok (.goto (-29), 3) := dk_167 255 227 (dk_at dksX4_again_4 0 rfl rfl)
theorem dX4_again_96 : decode cX4_again 96 = .ok (.aload_n 0, 1) := dk_42 (dk_at dksX4_again_4 3 rfl rfl)
theorem dX4_again_97 : decode cX4_again 97 = .ok (.getfield 33, 3) := dk_180 0 33 (dk_at dksX4_again_4 4 rfl rfl)
theorem dX4_again_100 : decode cX4_again 100 = .ok (.iconst 0, 1) := dk_3 (dk_at dksX4_again_4 7 rfl rfl)
theorem dX4_again_101 : decode cX4_again 101 = .ok (.iaload, 1) := dk_46 (dk_at dksX4_again_4 8 rfl rfl)
theorem dX4_again_102 : decode cX4_again 102 = .ok (.ireturn, 1) := dk_172 (dk_at dksX4_again_4 9 rfl rfl)
abbrev cX4_ring : ByteArray := prog_16_method_68_code
def yX4_ring : MethodName := ⟨RX4, "ring", "(III)I"⟩
def dkwX4_ring_4 : List UInt8 := [180, 0, 36, 3, 46, 42, 29, 182, 0, 192, 160, 0, 6, 21, 5, 172, 132, 5, 1, 167, 255, 185, 2, 172]
abbrev dktX4_ring_4 : List UInt8 := dkwX4_ring_4 ++ []
def dkwX4_ring_3 : List UInt8 := [182, 0, 199, 132, 6, 1, 167, 255, 232, 42, 180, 0, 33, 3, 46, 42, 29, 182, 0, 88, 160, 0, 20, 42]
abbrev dktX4_ring_3 : List UInt8 := dkwX4_ring_3 ++ dktX4_ring_4
def dkwX4_ring_2 : List UInt8 := [163, 0, 70, 3, 54, 6, 21, 6, 28, 162, 0, 24, 42, 3, 29, 42, 180, 0, 51, 21, 6, 46, 21, 6]
abbrev dktX4_ring_2 : List UInt8 := dkwX4_ring_2 ++ dktX4_ring_3
def dkwX4_ring_1 : List UInt8 := [172, 42, 3, 42, 29, 182, 0, 88, 42, 29, 182, 0, 192, 182, 0, 195, 4, 54, 5, 21, 5, 16, 20]
abbrev dktX4_ring_1 : List UInt8 := dkwX4_ring_1 ++ dktX4_ring_2
def dkwX4_ring_0 : List UInt8 := [42, 42, 29, 182, 0, 124, 27, 28, 182, 0, 219, 54, 4, 21, 4, 156, 0, 10, 42, 21, 4, 182, 0, 101]
abbrev dktX4_ring_0 : List UInt8 := dkwX4_ring_0 ++ dktX4_ring_1
theorem dksX4_ring_0 : cX4_ring.data.toList.drop 0 = dktX4_ring_0 := by decide +kernel
theorem dksX4_ring_1 : cX4_ring.data.toList.drop 24 = dktX4_ring_1 := dk_seg dksX4_ring_0 24 rfl rfl
theorem dksX4_ring_2 : cX4_ring.data.toList.drop 47 = dktX4_ring_2 := dk_seg dksX4_ring_1 23 rfl rfl
theorem dksX4_ring_3 : cX4_ring.data.toList.drop 71 = dktX4_ring_3 := dk_seg dksX4_ring_2 24 rfl rfl
theorem dksX4_ring_4 : cX4_ring.data.toList.drop 95 = dktX4_ring_4 := dk_seg dksX4_ring_3 24 rfl rfl
theorem dX4_ring_0 : decode cX4_ring 0 = .ok (.aload_n 0, 1) := dk_42 (dk_at dksX4_ring_0 0 rfl rfl)
theorem dX4_ring_1 : decode cX4_ring 1 = .ok (.aload_n 0, 1) := dk_42 (dk_at dksX4_ring_0 1 rfl rfl)
theorem dX4_ring_2 : decode cX4_ring 2 = .ok (.iload_n 3, 1) := dk_29 (dk_at dksX4_ring_0 2 rfl rfl)
theorem dX4_ring_3 : decode cX4_ring 3 = .ok (.invokevirtual 124, 3) := dk_182 0 124 (dk_at dksX4_ring_0 3 rfl rfl)
theorem dX4_ring_6 : decode cX4_ring 6 = .ok (.iload_n 1, 1) := dk_27 (dk_at dksX4_ring_0 6 rfl rfl)
theorem dX4_ring_7 : decode cX4_ring 7 = .ok (.iload_n 2, 1) := dk_28 (dk_at dksX4_ring_0 7 rfl rfl)
theorem dX4_ring_8 : decode cX4_ring 8 = .ok (.invokevirtual 219, 3) := dk_182 0 219 (dk_at dksX4_ring_0 8 rfl rfl)
theorem dX4_ring_11 : decode cX4_ring 11 = .ok (.istore 4, 2) := dk_54 4 (dk_at dksX4_ring_0 11 rfl rfl)
theorem dX4_ring_13 : decode cX4_ring 13 = .ok (.iload 4, 2) := dk_21 4 (dk_at dksX4_ring_0 13 rfl rfl)
theorem dX4_ring_15 : decode cX4_ring 15 = .ok (.ifCond .ge 10, 3) := dk_156 0 10 (dk_at dksX4_ring_0 15 rfl rfl)
theorem dX4_ring_18 : decode cX4_ring 18 = .ok (.aload_n 0, 1) := dk_42 (dk_at dksX4_ring_0 18 rfl rfl)
theorem dX4_ring_19 : decode cX4_ring 19 = .ok (.iload 4, 2) := dk_21 4 (dk_at dksX4_ring_0 19 rfl rfl)
theorem dX4_ring_21 : decode cX4_ring 21 = .ok (.invokevirtual 101, 3) := dk_182 0 101 (dk_at dksX4_ring_0 21 rfl rfl)
theorem dX4_ring_24 : decode cX4_ring 24 = .ok (.ireturn, 1) := dk_172 (dk_at dksX4_ring_1 0 rfl rfl)
theorem dX4_ring_25 : decode cX4_ring 25 = .ok (.aload_n 0, 1) := dk_42 (dk_at dksX4_ring_1 1 rfl rfl)
theorem dX4_ring_26 : decode cX4_ring 26 = .ok (.iconst 0, 1) := dk_3 (dk_at dksX4_ring_1 2 rfl rfl)
theorem dX4_ring_27 : decode cX4_ring 27 = .ok (.aload_n 0, 1) := dk_42 (dk_at dksX4_ring_1 3 rfl rfl)
theorem dX4_ring_28 : decode cX4_ring 28 = .ok (.iload_n 3, 1) := dk_29 (dk_at dksX4_ring_1 4 rfl rfl)
theorem dX4_ring_29 : decode cX4_ring 29 = .ok (.invokevirtual 88, 3) := dk_182 0 88 (dk_at dksX4_ring_1 5 rfl rfl)
theorem dX4_ring_32 : decode cX4_ring 32 = .ok (.aload_n 0, 1) := dk_42 (dk_at dksX4_ring_1 8 rfl rfl)
theorem dX4_ring_33 : decode cX4_ring 33 = .ok (.iload_n 3, 1) := dk_29 (dk_at dksX4_ring_1 9 rfl rfl)
theorem dX4_ring_34 : decode cX4_ring 34 = .ok (.invokevirtual 192, 3) := dk_182 0 192 (dk_at dksX4_ring_1 10 rfl rfl)
theorem dX4_ring_37 : decode cX4_ring 37 = .ok (.invokevirtual 195, 3) := dk_182 0 195 (dk_at dksX4_ring_1 13 rfl rfl)
theorem dX4_ring_40 : decode cX4_ring 40 = .ok (.iconst 1, 1) := dk_4 (dk_at dksX4_ring_1 16 rfl rfl)
theorem dX4_ring_41 : decode cX4_ring 41 = .ok (.istore 5, 2) := dk_54 5 (dk_at dksX4_ring_1 17 rfl rfl)
theorem dX4_ring_43 : decode cX4_ring 43 = .ok (.iload 5, 2) := dk_21 5 (dk_at dksX4_ring_1 19 rfl rfl)
theorem dX4_ring_45 : decode cX4_ring 45 = .ok (.bipush 20, 2) := dk_16 20 (dk_at dksX4_ring_1 21 rfl rfl)
theorem dX4_ring_47 : decode cX4_ring 47 = .ok (.if_icmp .gt 70, 3) := dk_163 0 70 (dk_at dksX4_ring_2 0 rfl rfl)
theorem dX4_ring_50 : decode cX4_ring 50 = .ok (.iconst 0, 1) := dk_3 (dk_at dksX4_ring_2 3 rfl rfl)
theorem dX4_ring_51 : decode cX4_ring 51 = .ok (.istore 6, 2) := dk_54 6 (dk_at dksX4_ring_2 4 rfl rfl)
theorem dX4_ring_53 : decode cX4_ring 53 = .ok (.iload 6, 2) := dk_21 6 (dk_at dksX4_ring_2 6 rfl rfl)
theorem dX4_ring_55 : decode cX4_ring 55 = .ok (.iload_n 2, 1) := dk_28 (dk_at dksX4_ring_2 8 rfl rfl)
theorem dX4_ring_56 : decode cX4_ring 56 = .ok (.if_icmp .ge 24, 3) := dk_162 0 24 (dk_at dksX4_ring_2 9 rfl rfl)
theorem dX4_ring_59 : decode cX4_ring 59 = .ok (.aload_n 0, 1) := dk_42 (dk_at dksX4_ring_2 12 rfl rfl)
theorem dX4_ring_60 : decode cX4_ring 60 = .ok (.iconst 0, 1) := dk_3 (dk_at dksX4_ring_2 13 rfl rfl)
theorem dX4_ring_61 : decode cX4_ring 61 = .ok (.iload_n 3, 1) := dk_29 (dk_at dksX4_ring_2 14 rfl rfl)
theorem dX4_ring_62 : decode cX4_ring 62 = .ok (.aload_n 0, 1) := dk_42 (dk_at dksX4_ring_2 15 rfl rfl)
theorem dX4_ring_63 : decode cX4_ring 63 = .ok (.getfield 51, 3) := dk_180 0 51 (dk_at dksX4_ring_2 16 rfl rfl)
theorem dX4_ring_66 : decode cX4_ring 66 = .ok (.iload 6, 2) := dk_21 6 (dk_at dksX4_ring_2 19 rfl rfl)
theorem dX4_ring_68 : decode cX4_ring 68 = .ok (.iaload, 1) := dk_46 (dk_at dksX4_ring_2 21 rfl rfl)
theorem dX4_ring_69 : decode cX4_ring 69 = .ok (.iload 6, 2) := dk_21 6 (dk_at dksX4_ring_2 22 rfl rfl)
theorem dX4_ring_71 : decode cX4_ring 71 = .ok (.invokevirtual 199, 3) := dk_182 0 199 (dk_at dksX4_ring_3 0 rfl rfl)
theorem dX4_ring_74 : decode cX4_ring 74 = .ok (.iinc 6 1, 3) := dk_132 6 1 (dk_at dksX4_ring_3 3 rfl rfl)
theorem dX4_ring_77 : decode cX4_ring 77 = .ok (.goto (-24), 3) := dk_167 255 232 (dk_at dksX4_ring_3 6 rfl rfl)
theorem dX4_ring_80 : decode cX4_ring 80 = .ok (.aload_n 0, 1) := dk_42 (dk_at dksX4_ring_3 9 rfl rfl)
theorem dX4_ring_81 : decode cX4_ring 81 = .ok (.getfield 33, 3) := dk_180 0 33 (dk_at dksX4_ring_3 10 rfl rfl)
theorem dX4_ring_84 : decode cX4_ring 84 = .ok (.iconst 0, 1) := dk_3 (dk_at dksX4_ring_3 13 rfl rfl)
theorem dX4_ring_85 : decode cX4_ring 85 = .ok (.iaload, 1) := dk_46 (dk_at dksX4_ring_3 14 rfl rfl)
theorem dX4_ring_86 : decode cX4_ring 86 = .ok (.aload_n 0, 1) := dk_42 (dk_at dksX4_ring_3 15 rfl rfl)
theorem dX4_ring_87 : decode cX4_ring 87 = .ok (.iload_n 3, 1) := dk_29 (dk_at dksX4_ring_3 16 rfl rfl)
theorem dX4_ring_88 : decode cX4_ring 88 = .ok (.invokevirtual 88, 3) := dk_182 0 88 (dk_at dksX4_ring_3 17 rfl rfl)
theorem dX4_ring_91 : decode cX4_ring 91 = .ok (.if_icmp .ne 20, 3) := dk_160 0 20 (dk_at dksX4_ring_3 20 rfl rfl)
theorem dX4_ring_94 : decode cX4_ring 94 = .ok (.aload_n 0, 1) := dk_42 (dk_at dksX4_ring_3 23 rfl rfl)
theorem dX4_ring_95 : decode cX4_ring 95 = .ok (.getfield 36, 3) := dk_180 0 36 (dk_at dksX4_ring_4 0 rfl rfl)
theorem dX4_ring_98 : decode cX4_ring 98 = .ok (.iconst 0, 1) := dk_3 (dk_at dksX4_ring_4 3 rfl rfl)
theorem dX4_ring_99 : decode cX4_ring 99 = .ok (.iaload, 1) := dk_46 (dk_at dksX4_ring_4 4 rfl rfl)
theorem dX4_ring_100 : decode cX4_ring 100 = .ok (.aload_n 0, 1) := dk_42 (dk_at dksX4_ring_4 5 rfl rfl)
theorem dX4_ring_101 : decode cX4_ring 101 = .ok (.iload_n 3, 1) := dk_29 (dk_at dksX4_ring_4 6 rfl rfl)
theorem dX4_ring_102 : decode cX4_ring 102 = .ok (.invokevirtual 192, 3) := dk_182 0 192 (dk_at dksX4_ring_4 7 rfl rfl)
theorem dX4_ring_105 : decode cX4_ring 105 = .ok (.if_icmp .ne 6, 3) := dk_160 0 6 (dk_at dksX4_ring_4 10 rfl rfl)
theorem dX4_ring_108 : decode cX4_ring 108 = .ok (.iload 5, 2) := dk_21 5 (dk_at dksX4_ring_4 13 rfl rfl)
theorem dX4_ring_110 : decode cX4_ring 110 = .ok (.ireturn, 1) := dk_172 (dk_at dksX4_ring_4 15 rfl rfl)
theorem dX4_ring_111 : decode cX4_ring 111 = .ok (.iinc 5 1, 3) := dk_132 5 1 (dk_at dksX4_ring_4 16 rfl rfl)
theorem dX4_ring_114 : decode cX4_ring 114 = .ok (.goto (-71), 3) := dk_167 255 185 (dk_at dksX4_ring_4 19 rfl rfl)
theorem dX4_ring_117 : decode cX4_ring 117 = .ok (.iconst (-1), 1) := dk_2 (dk_at dksX4_ring_4 22 rfl rfl)
theorem dX4_ring_118 : decode cX4_ring 118 = .ok (.ireturn, 1) := dk_172 (dk_at dksX4_ring_4 23 rfl rfl)
abbrev cX4_idle : ByteArray := prog_16_method_69_code
def yX4_idle : MethodName := ⟨RX4, "idle", "(III)I"⟩
def dkwX4_idle_4 : List UInt8 := [132, 6, 1, 167, 255, 203, 21, 5, 172]
abbrev dktX4_idle_4 : List UInt8 := dkwX4_idle_4 ++ []
def dkwX4_idle_3 : List UInt8 := [182, 0, 199, 21, 5, 42, 180, 0, 33, 3, 46, 21, 7, 160, 0, 7, 4, 167, 0, 4, 3, 96, 54, 5]
abbrev dktX4_idle_3 : List UInt8 := dkwX4_idle_3 ++ dktX4_idle_4
def dkwX4_idle_2 : List UInt8 := [28, 162, 0, 53, 42, 180, 0, 33, 3, 46, 54, 7, 42, 3, 29, 42, 180, 0, 51, 21, 6, 46, 21, 6]
abbrev dktX4_idle_2 : List UInt8 := dkwX4_idle_2 ++ dktX4_idle_3
def dkwX4_idle_1 : List UInt8 := [172, 42, 3, 42, 29, 182, 0, 88, 42, 29, 182, 0, 192, 182, 0, 195, 3, 54, 5, 3, 54, 6, 21, 6]
abbrev dktX4_idle_1 : List UInt8 := dkwX4_idle_1 ++ dktX4_idle_2
def dkwX4_idle_0 : List UInt8 := [42, 42, 29, 182, 0, 124, 27, 28, 182, 0, 219, 54, 4, 21, 4, 156, 0, 10, 42, 21, 4, 182, 0, 101]
abbrev dktX4_idle_0 : List UInt8 := dkwX4_idle_0 ++ dktX4_idle_1
theorem dksX4_idle_0 : cX4_idle.data.toList.drop 0 = dktX4_idle_0 := by decide +kernel
theorem dksX4_idle_1 : cX4_idle.data.toList.drop 24 = dktX4_idle_1 := dk_seg dksX4_idle_0 24 rfl rfl
theorem dksX4_idle_2 : cX4_idle.data.toList.drop 48 = dktX4_idle_2 := dk_seg dksX4_idle_1 24 rfl rfl
theorem dksX4_idle_3 : cX4_idle.data.toList.drop 72 = dktX4_idle_3 := dk_seg dksX4_idle_2 24 rfl rfl
theorem dksX4_idle_4 : cX4_idle.data.toList.drop 96 = dktX4_idle_4 := dk_seg dksX4_idle_3 24 rfl rfl
theorem dX4_idle_0 : decode cX4_idle 0 = .ok (.aload_n 0, 1) := dk_42 (dk_at dksX4_idle_0 0 rfl rfl)
theorem dX4_idle_1 : decode cX4_idle 1 = .ok (.aload_n 0, 1) := dk_42 (dk_at dksX4_idle_0 1 rfl rfl)
theorem dX4_idle_2 : decode cX4_idle 2 = .ok (.iload_n 3, 1) := dk_29 (dk_at dksX4_idle_0 2 rfl rfl)
theorem dX4_idle_3 : decode cX4_idle 3 = .ok (.invokevirtual 124, 3) := dk_182 0 124 (dk_at dksX4_idle_0 3 rfl rfl)
theorem dX4_idle_6 : decode cX4_idle 6 = .ok (.iload_n 1, 1) := dk_27 (dk_at dksX4_idle_0 6 rfl rfl)
theorem dX4_idle_7 : decode cX4_idle 7 = .ok (.iload_n 2, 1) := dk_28 (dk_at dksX4_idle_0 7 rfl rfl)
theorem dX4_idle_8 : decode cX4_idle 8 = .ok (.invokevirtual 219, 3) := dk_182 0 219 (dk_at dksX4_idle_0 8 rfl rfl)
theorem dX4_idle_11 : decode cX4_idle 11 = .ok (.istore 4, 2) := dk_54 4 (dk_at dksX4_idle_0 11 rfl rfl)
theorem dX4_idle_13 : decode cX4_idle 13 = .ok (.iload 4, 2) := dk_21 4 (dk_at dksX4_idle_0 13 rfl rfl)
theorem dX4_idle_15 : decode cX4_idle 15 = .ok (.ifCond .ge 10, 3) := dk_156 0 10 (dk_at dksX4_idle_0 15 rfl rfl)
theorem dX4_idle_18 : decode cX4_idle 18 = .ok (.aload_n 0, 1) := dk_42 (dk_at dksX4_idle_0 18 rfl rfl)
theorem dX4_idle_19 : decode cX4_idle 19 = .ok (.iload 4, 2) := dk_21 4 (dk_at dksX4_idle_0 19 rfl rfl)
theorem dX4_idle_21 : decode cX4_idle 21 = .ok (.invokevirtual 101, 3) := dk_182 0 101 (dk_at dksX4_idle_0 21 rfl rfl)
theorem dX4_idle_24 : decode cX4_idle 24 = .ok (.ireturn, 1) := dk_172 (dk_at dksX4_idle_1 0 rfl rfl)
theorem dX4_idle_25 : decode cX4_idle 25 = .ok (.aload_n 0, 1) := dk_42 (dk_at dksX4_idle_1 1 rfl rfl)
theorem dX4_idle_26 : decode cX4_idle 26 = .ok (.iconst 0, 1) := dk_3 (dk_at dksX4_idle_1 2 rfl rfl)
theorem dX4_idle_27 : decode cX4_idle 27 = .ok (.aload_n 0, 1) := dk_42 (dk_at dksX4_idle_1 3 rfl rfl)
theorem dX4_idle_28 : decode cX4_idle 28 = .ok (.iload_n 3, 1) := dk_29 (dk_at dksX4_idle_1 4 rfl rfl)
theorem dX4_idle_29 : decode cX4_idle 29 = .ok (.invokevirtual 88, 3) := dk_182 0 88 (dk_at dksX4_idle_1 5 rfl rfl)
theorem dX4_idle_32 : decode cX4_idle 32 = .ok (.aload_n 0, 1) := dk_42 (dk_at dksX4_idle_1 8 rfl rfl)
theorem dX4_idle_33 : decode cX4_idle 33 = .ok (.iload_n 3, 1) := dk_29 (dk_at dksX4_idle_1 9 rfl rfl)
theorem dX4_idle_34 : decode cX4_idle 34 = .ok (.invokevirtual 192, 3) := dk_182 0 192 (dk_at dksX4_idle_1 10 rfl rfl)
theorem dX4_idle_37 : decode cX4_idle 37 = .ok (.invokevirtual 195, 3) := dk_182 0 195 (dk_at dksX4_idle_1 13 rfl rfl)
theorem dX4_idle_40 : decode cX4_idle 40 = .ok (.iconst 0, 1) := dk_3 (dk_at dksX4_idle_1 16 rfl rfl)
theorem dX4_idle_41 : decode cX4_idle 41 = .ok (.istore 5, 2) := dk_54 5 (dk_at dksX4_idle_1 17 rfl rfl)
theorem dX4_idle_43 : decode cX4_idle 43 = .ok (.iconst 0, 1) := dk_3 (dk_at dksX4_idle_1 19 rfl rfl)
theorem dX4_idle_44 : decode cX4_idle 44 = .ok (.istore 6, 2) := dk_54 6 (dk_at dksX4_idle_1 20 rfl rfl)
theorem dX4_idle_46 : decode cX4_idle 46 = .ok (.iload 6, 2) := dk_21 6 (dk_at dksX4_idle_1 22 rfl rfl)
theorem dX4_idle_48 : decode cX4_idle 48 = .ok (.iload_n 2, 1) := dk_28 (dk_at dksX4_idle_2 0 rfl rfl)
theorem dX4_idle_49 : decode cX4_idle 49 = .ok (.if_icmp .ge 53, 3) := dk_162 0 53 (dk_at dksX4_idle_2 1 rfl rfl)
theorem dX4_idle_52 : decode cX4_idle 52 = .ok (.aload_n 0, 1) := dk_42 (dk_at dksX4_idle_2 4 rfl rfl)
theorem dX4_idle_53 : decode cX4_idle 53 = .ok (.getfield 33, 3) := dk_180 0 33 (dk_at dksX4_idle_2 5 rfl rfl)
theorem dX4_idle_56 : decode cX4_idle 56 = .ok (.iconst 0, 1) := dk_3 (dk_at dksX4_idle_2 8 rfl rfl)
theorem dX4_idle_57 : decode cX4_idle 57 = .ok (.iaload, 1) := dk_46 (dk_at dksX4_idle_2 9 rfl rfl)
theorem dX4_idle_58 : decode cX4_idle 58 = .ok (.istore 7, 2) := dk_54 7 (dk_at dksX4_idle_2 10 rfl rfl)
theorem dX4_idle_60 : decode cX4_idle 60 = .ok (.aload_n 0, 1) := dk_42 (dk_at dksX4_idle_2 12 rfl rfl)
theorem dX4_idle_61 : decode cX4_idle 61 = .ok (.iconst 0, 1) := dk_3 (dk_at dksX4_idle_2 13 rfl rfl)
theorem dX4_idle_62 : decode cX4_idle 62 = .ok (.iload_n 3, 1) := dk_29 (dk_at dksX4_idle_2 14 rfl rfl)
theorem dX4_idle_63 : decode cX4_idle 63 = .ok (.aload_n 0, 1) := dk_42 (dk_at dksX4_idle_2 15 rfl rfl)
theorem dX4_idle_64 : decode cX4_idle 64 = .ok (.getfield 51, 3) := dk_180 0 51 (dk_at dksX4_idle_2 16 rfl rfl)
theorem dX4_idle_67 : decode cX4_idle 67 = .ok (.iload 6, 2) := dk_21 6 (dk_at dksX4_idle_2 19 rfl rfl)
theorem dX4_idle_69 : decode cX4_idle 69 = .ok (.iaload, 1) := dk_46 (dk_at dksX4_idle_2 21 rfl rfl)
theorem dX4_idle_70 : decode cX4_idle 70 = .ok (.iload 6, 2) := dk_21 6 (dk_at dksX4_idle_2 22 rfl rfl)
theorem dX4_idle_72 : decode cX4_idle 72 = .ok (.invokevirtual 199, 3) := dk_182 0 199 (dk_at dksX4_idle_3 0 rfl rfl)
theorem dX4_idle_75 : decode cX4_idle 75 = .ok (.iload 5, 2) := dk_21 5 (dk_at dksX4_idle_3 3 rfl rfl)
theorem dX4_idle_77 : decode cX4_idle 77 = .ok (.aload_n 0, 1) := dk_42 (dk_at dksX4_idle_3 5 rfl rfl)
theorem dX4_idle_78 : decode cX4_idle 78 = .ok (.getfield 33, 3) := dk_180 0 33 (dk_at dksX4_idle_3 6 rfl rfl)
theorem dX4_idle_81 : decode cX4_idle 81 = .ok (.iconst 0, 1) := dk_3 (dk_at dksX4_idle_3 9 rfl rfl)
theorem dX4_idle_82 : decode cX4_idle 82 = .ok (.iaload, 1) := dk_46 (dk_at dksX4_idle_3 10 rfl rfl)
theorem dX4_idle_83 : decode cX4_idle 83 = .ok (.iload 7, 2) := dk_21 7 (dk_at dksX4_idle_3 11 rfl rfl)
theorem dX4_idle_85 : decode cX4_idle 85 = .ok (.if_icmp .ne 7, 3) := dk_160 0 7 (dk_at dksX4_idle_3 13 rfl rfl)
theorem dX4_idle_88 : decode cX4_idle 88 = .ok (.iconst 1, 1) := dk_4 (dk_at dksX4_idle_3 16 rfl rfl)
theorem dX4_idle_89 : decode cX4_idle 89 = .ok (.goto 4, 3) := dk_167 0 4 (dk_at dksX4_idle_3 17 rfl rfl)
theorem dX4_idle_92 : decode cX4_idle 92 = .ok (.iconst 0, 1) := dk_3 (dk_at dksX4_idle_3 20 rfl rfl)
theorem dX4_idle_93 : decode cX4_idle 93 = .ok (.iadd, 1) := dk_96 (dk_at dksX4_idle_3 21 rfl rfl)
theorem dX4_idle_94 : decode cX4_idle 94 = .ok (.istore 5, 2) := dk_54 5 (dk_at dksX4_idle_3 22 rfl rfl)
theorem dX4_idle_96 : decode cX4_idle 96 = .ok (.iinc 6 1, 3) := dk_132 6 1 (dk_at dksX4_idle_4 0 rfl rfl)
theorem dX4_idle_99 : decode cX4_idle 99 = .ok (.goto (-53), 3) := dk_167 255 203 (dk_at dksX4_idle_4 3 rfl rfl)
theorem dX4_idle_102 : decode cX4_idle 102 = .ok (.iload 5, 2) := dk_21 5 (dk_at dksX4_idle_4 6 rfl rfl)
theorem dX4_idle_104 : decode cX4_idle 104 = .ok (.ireturn, 1) := dk_172 (dk_at dksX4_idle_4 8 rfl rfl)
abbrev cX4_lefts : ByteArray := prog_16_method_70_code
def yX4_lefts : MethodName := ⟨RX4, "lefts", "(II)I"⟩
def dkwX4_lefts_3 : List UInt8 := [132, 3, 1, 167, 255, 229, 29, 16, 20, 164, 0, 7, 2, 167, 0, 4, 29, 172]
abbrev dktX4_lefts_3 : List UInt8 := dkwX4_lefts_3 ++ []
def dkwX4_lefts_2 : List UInt8 := [180, 0, 36, 3, 46, 28, 159, 0, 23, 29, 16, 20, 163, 0, 17, 42, 3, 27, 4, 29, 182, 0, 199]
abbrev dktX4_lefts_2 : List UInt8 := dkwX4_lefts_2 ++ dktX4_lefts_3
def dkwX4_lefts_1 : List UInt8 := [182, 0, 101, 172, 42, 3, 42, 27, 182, 0, 88, 42, 27, 182, 0, 192, 182, 0, 195, 3, 62, 42]
abbrev dktX4_lefts_1 : List UInt8 := dkwX4_lefts_1 ++ dktX4_lefts_2
def dkwX4_lefts_0 : List UInt8 := [42, 27, 182, 0, 124, 153, 0, 15, 28, 133, 9, 20, 0, 114, 184, 0, 76, 154, 0, 10, 42, 16, 254]
abbrev dktX4_lefts_0 : List UInt8 := dkwX4_lefts_0 ++ dktX4_lefts_1
theorem dksX4_lefts_0 : cX4_lefts.data.toList.drop 0 = dktX4_lefts_0 := by decide +kernel
theorem dksX4_lefts_1 : cX4_lefts.data.toList.drop 23 = dktX4_lefts_1 := dk_seg dksX4_lefts_0 23 rfl rfl
theorem dksX4_lefts_2 : cX4_lefts.data.toList.drop 45 = dktX4_lefts_2 := dk_seg dksX4_lefts_1 22 rfl rfl
theorem dksX4_lefts_3 : cX4_lefts.data.toList.drop 68 = dktX4_lefts_3 := dk_seg dksX4_lefts_2 23 rfl rfl
theorem dX4_lefts_0 : decode cX4_lefts 0 = .ok (.aload_n 0, 1) := dk_42 (dk_at dksX4_lefts_0 0 rfl rfl)
theorem dX4_lefts_1 : decode cX4_lefts 1 = .ok (.iload_n 1, 1) := dk_27 (dk_at dksX4_lefts_0 1 rfl rfl)
theorem dX4_lefts_2 : decode cX4_lefts 2 = .ok (.invokevirtual 124, 3) := dk_182 0 124 (dk_at dksX4_lefts_0 2 rfl rfl)
theorem dX4_lefts_5 : decode cX4_lefts 5 = .ok (.ifCond .eq 15, 3) := dk_153 0 15 (dk_at dksX4_lefts_0 5 rfl rfl)
theorem dX4_lefts_8 : decode cX4_lefts 8 = .ok (.iload_n 2, 1) := dk_28 (dk_at dksX4_lefts_0 8 rfl rfl)
theorem dX4_lefts_9 : decode cX4_lefts 9 = .ok (.i2l, 1) := dk_133 (dk_at dksX4_lefts_0 9 rfl rfl)
theorem dX4_lefts_10 : decode cX4_lefts 10 = .ok (.lconst 0, 1) := dk_9 (dk_at dksX4_lefts_0 10 rfl rfl)
theorem dX4_lefts_11 : decode cX4_lefts 11 = .ok (.ldc2_w 114, 3) := dk_20 0 114 (dk_at dksX4_lefts_0 11 rfl rfl)
theorem dX4_lefts_14 : decode cX4_lefts 14 = .ok (.invokestatic 76, 3) := dk_184 0 76 (dk_at dksX4_lefts_0 14 rfl rfl)
theorem dX4_lefts_17 : decode cX4_lefts 17 = .ok (.ifCond .ne 10, 3) := dk_154 0 10 (dk_at dksX4_lefts_0 17 rfl rfl)
theorem dX4_lefts_20 : decode cX4_lefts 20 = .ok (.aload_n 0, 1) := dk_42 (dk_at dksX4_lefts_0 20 rfl rfl)
theorem dX4_lefts_21 : decode cX4_lefts 21 = .ok (.bipush (-2), 2) := dk_16 254 (dk_at dksX4_lefts_0 21 rfl rfl)
theorem dX4_lefts_23 : decode cX4_lefts 23 = .ok (.invokevirtual 101, 3) := dk_182 0 101 (dk_at dksX4_lefts_1 0 rfl rfl)
theorem dX4_lefts_26 : decode cX4_lefts 26 = .ok (.ireturn, 1) := dk_172 (dk_at dksX4_lefts_1 3 rfl rfl)
theorem dX4_lefts_27 : decode cX4_lefts 27 = .ok (.aload_n 0, 1) := dk_42 (dk_at dksX4_lefts_1 4 rfl rfl)
theorem dX4_lefts_28 : decode cX4_lefts 28 = .ok (.iconst 0, 1) := dk_3 (dk_at dksX4_lefts_1 5 rfl rfl)
theorem dX4_lefts_29 : decode cX4_lefts 29 = .ok (.aload_n 0, 1) := dk_42 (dk_at dksX4_lefts_1 6 rfl rfl)
theorem dX4_lefts_30 : decode cX4_lefts 30 = .ok (.iload_n 1, 1) := dk_27 (dk_at dksX4_lefts_1 7 rfl rfl)
theorem dX4_lefts_31 : decode cX4_lefts 31 = .ok (.invokevirtual 88, 3) := dk_182 0 88 (dk_at dksX4_lefts_1 8 rfl rfl)
theorem dX4_lefts_34 : decode cX4_lefts 34 = .ok (.aload_n 0, 1) := dk_42 (dk_at dksX4_lefts_1 11 rfl rfl)
theorem dX4_lefts_35 : decode cX4_lefts 35 = .ok (.iload_n 1, 1) := dk_27 (dk_at dksX4_lefts_1 12 rfl rfl)
theorem dX4_lefts_36 : decode cX4_lefts 36 = .ok (.invokevirtual 192, 3) := dk_182 0 192 (dk_at dksX4_lefts_1 13 rfl rfl)
theorem dX4_lefts_39 : decode cX4_lefts 39 = .ok (.invokevirtual 195, 3) := dk_182 0 195 (dk_at dksX4_lefts_1 16 rfl rfl)
theorem dX4_lefts_42 : decode cX4_lefts 42 = .ok (.iconst 0, 1) := dk_3 (dk_at dksX4_lefts_1 19 rfl rfl)
theorem dX4_lefts_43 : decode cX4_lefts 43 = .ok (.istore_n 3, 1) := dk_62 (dk_at dksX4_lefts_1 20 rfl rfl)
theorem dX4_lefts_44 : decode cX4_lefts 44 = .ok (.aload_n 0, 1) := dk_42 (dk_at dksX4_lefts_1 21 rfl rfl)
theorem dX4_lefts_45 : decode cX4_lefts 45 = .ok (.getfield 36, 3) := dk_180 0 36 (dk_at dksX4_lefts_2 0 rfl rfl)
theorem dX4_lefts_48 : decode cX4_lefts 48 = .ok (.iconst 0, 1) := dk_3 (dk_at dksX4_lefts_2 3 rfl rfl)
theorem dX4_lefts_49 : decode cX4_lefts 49 = .ok (.iaload, 1) := dk_46 (dk_at dksX4_lefts_2 4 rfl rfl)
theorem dX4_lefts_50 : decode cX4_lefts 50 = .ok (.iload_n 2, 1) := dk_28 (dk_at dksX4_lefts_2 5 rfl rfl)
theorem dX4_lefts_51 : decode cX4_lefts 51 = .ok (.if_icmp .eq 23, 3) := dk_159 0 23 (dk_at dksX4_lefts_2 6 rfl rfl)
theorem dX4_lefts_54 : decode cX4_lefts 54 = .ok (.iload_n 3, 1) := dk_29 (dk_at dksX4_lefts_2 9 rfl rfl)
theorem dX4_lefts_55 : decode cX4_lefts 55 = .ok (.bipush 20, 2) := dk_16 20 (dk_at dksX4_lefts_2 10 rfl rfl)
theorem dX4_lefts_57 : decode cX4_lefts 57 = .ok (.if_icmp .gt 17, 3) := dk_163 0 17 (dk_at dksX4_lefts_2 12 rfl rfl)
theorem dX4_lefts_60 : decode cX4_lefts 60 = .ok (.aload_n 0, 1) := dk_42 (dk_at dksX4_lefts_2 15 rfl rfl)
theorem dX4_lefts_61 : decode cX4_lefts 61 = .ok (.iconst 0, 1) := dk_3 (dk_at dksX4_lefts_2 16 rfl rfl)
theorem dX4_lefts_62 : decode cX4_lefts 62 = .ok (.iload_n 1, 1) := dk_27 (dk_at dksX4_lefts_2 17 rfl rfl)
theorem dX4_lefts_63 : decode cX4_lefts 63 = .ok (.iconst 1, 1) := dk_4 (dk_at dksX4_lefts_2 18 rfl rfl)
theorem dX4_lefts_64 : decode cX4_lefts 64 = .ok (.iload_n 3, 1) := dk_29 (dk_at dksX4_lefts_2 19 rfl rfl)
theorem dX4_lefts_65 : decode cX4_lefts 65 = .ok (.invokevirtual 199, 3) := dk_182 0 199 (dk_at dksX4_lefts_2 20 rfl rfl)
theorem dX4_lefts_68 : decode cX4_lefts 68 = .ok (.iinc 3 1, 3) := dk_132 3 1 (dk_at dksX4_lefts_3 0 rfl rfl)
theorem dX4_lefts_71 : decode cX4_lefts 71 = .ok (.goto (-27), 3) := dk_167 255 229 (dk_at dksX4_lefts_3 3 rfl rfl)
theorem dX4_lefts_74 : decode cX4_lefts 74 = .ok (.iload_n 3, 1) := dk_29 (dk_at dksX4_lefts_3 6 rfl rfl)
theorem dX4_lefts_75 : decode cX4_lefts 75 = .ok (.bipush 20, 2) := dk_16 20 (dk_at dksX4_lefts_3 7 rfl rfl)
theorem dX4_lefts_77 : decode cX4_lefts 77 = .ok (.if_icmp .le 7, 3) := dk_164 0 7 (dk_at dksX4_lefts_3 9 rfl rfl)
theorem dX4_lefts_80 : decode cX4_lefts 80 = .ok (.iconst (-1), 1) := dk_2 (dk_at dksX4_lefts_3 12 rfl rfl)
theorem dX4_lefts_81 : decode cX4_lefts 81 = .ok (.goto 4, 3) := dk_167 0 4 (dk_at dksX4_lefts_3 13 rfl rfl)
theorem dX4_lefts_84 : decode cX4_lefts 84 = .ok (.iload_n 3, 1) := dk_29 (dk_at dksX4_lefts_3 16 rfl rfl)
theorem dX4_lefts_85 : decode cX4_lefts 85 = .ok (.ireturn, 1) := dk_172 (dk_at dksX4_lefts_3 17 rfl rfl)
abbrev cX4_reach : ByteArray := prog_16_method_71_code
def yX4_reach : MethodName := ⟨RX4, "reach", "(II)I"⟩
def dkwX4_reach_6 : List UInt8 := [54, 6, 132, 7, 1, 167, 255, 234, 21, 6, 172]
abbrev dktX4_reach_6 : List UInt8 := dkwX4_reach_6 ++ []
def dkwX4_reach_5 : List UInt8 := [3, 54, 6, 3, 54, 7, 21, 7, 16, 49, 162, 0, 21, 21, 6, 33, 21, 7, 123, 10, 127, 136, 96]
abbrev dktX4_reach_5 : List UInt8 := dkwX4_reach_5 ++ dktX4_reach_6
def dkwX4_reach_4 : List UInt8 := [167, 0, 4, 9, 129, 66, 132, 7, 1, 167, 255, 200, 21, 5, 6, 104, 54, 5, 132, 6, 1, 167, 255, 179]
abbrev dktX4_reach_4 : List UInt8 := dkwX4_reach_4 ++ dktX4_reach_5
def dkwX4_reach_3 : List UInt8 := [180, 0, 48, 3, 46, 2, 160, 0, 20, 10, 42, 180, 0, 33, 3, 46, 184, 0, 80, 16, 40, 100, 121]
abbrev dktX4_reach_3 : List UInt8 := dkwX4_reach_3 ++ dktX4_reach_4
def dkwX4_reach_2 : List UInt8 := [21, 5, 162, 0, 55, 42, 21, 7, 21, 6, 182, 0, 227, 42, 27, 21, 6, 182, 0, 223, 33, 42]
abbrev dktX4_reach_2 : List UInt8 := dkwX4_reach_2 ++ dktX4_reach_3
def dkwX4_reach_1 : List UInt8 := [182, 0, 101, 172, 9, 66, 4, 54, 5, 3, 54, 6, 21, 6, 28, 163, 0, 77, 3, 54, 7, 21, 7]
abbrev dktX4_reach_1 : List UInt8 := dkwX4_reach_1 ++ dktX4_reach_2
def dkwX4_reach_0 : List UInt8 := [42, 27, 182, 0, 124, 153, 0, 15, 28, 133, 9, 20, 0, 243, 184, 0, 76, 154, 0, 10, 42, 16, 254]
abbrev dktX4_reach_0 : List UInt8 := dkwX4_reach_0 ++ dktX4_reach_1
theorem dksX4_reach_0 : cX4_reach.data.toList.drop 0 = dktX4_reach_0 := by decide +kernel
theorem dksX4_reach_1 : cX4_reach.data.toList.drop 23 = dktX4_reach_1 := dk_seg dksX4_reach_0 23 rfl rfl
theorem dksX4_reach_2 : cX4_reach.data.toList.drop 46 = dktX4_reach_2 := dk_seg dksX4_reach_1 23 rfl rfl
theorem dksX4_reach_3 : cX4_reach.data.toList.drop 68 = dktX4_reach_3 := dk_seg dksX4_reach_2 22 rfl rfl
theorem dksX4_reach_4 : cX4_reach.data.toList.drop 91 = dktX4_reach_4 := dk_seg dksX4_reach_3 23 rfl rfl
theorem dksX4_reach_5 : cX4_reach.data.toList.drop 115 = dktX4_reach_5 := dk_seg dksX4_reach_4 24 rfl rfl
theorem dksX4_reach_6 : cX4_reach.data.toList.drop 138 = dktX4_reach_6 := dk_seg dksX4_reach_5 23 rfl rfl
theorem dX4_reach_0 : decode cX4_reach 0 = .ok (.aload_n 0, 1) := dk_42 (dk_at dksX4_reach_0 0 rfl rfl)
theorem dX4_reach_1 : decode cX4_reach 1 = .ok (.iload_n 1, 1) := dk_27 (dk_at dksX4_reach_0 1 rfl rfl)
theorem dX4_reach_2 : decode cX4_reach 2 = .ok (.invokevirtual 124, 3) := dk_182 0 124 (dk_at dksX4_reach_0 2 rfl rfl)
theorem dX4_reach_5 : decode cX4_reach 5 = .ok (.ifCond .eq 15, 3) := dk_153 0 15 (dk_at dksX4_reach_0 5 rfl rfl)
theorem dX4_reach_8 : decode cX4_reach 8 = .ok (.iload_n 2, 1) := dk_28 (dk_at dksX4_reach_0 8 rfl rfl)
theorem dX4_reach_9 : decode cX4_reach 9 = .ok (.i2l, 1) := dk_133 (dk_at dksX4_reach_0 9 rfl rfl)
theorem dX4_reach_10 : decode cX4_reach 10 = .ok (.lconst 0, 1) := dk_9 (dk_at dksX4_reach_0 10 rfl rfl)
theorem dX4_reach_11 : decode cX4_reach 11 = .ok (.ldc2_w 243, 3) := dk_20 0 243 (dk_at dksX4_reach_0 11 rfl rfl)
theorem dX4_reach_14 : decode cX4_reach 14 = .ok (.invokestatic 76, 3) := dk_184 0 76 (dk_at dksX4_reach_0 14 rfl rfl)
theorem dX4_reach_17 : decode cX4_reach 17 = .ok (.ifCond .ne 10, 3) := dk_154 0 10 (dk_at dksX4_reach_0 17 rfl rfl)
theorem dX4_reach_20 : decode cX4_reach 20 = .ok (.aload_n 0, 1) := dk_42 (dk_at dksX4_reach_0 20 rfl rfl)
theorem dX4_reach_21 : decode cX4_reach 21 = .ok (.bipush (-2), 2) := dk_16 254 (dk_at dksX4_reach_0 21 rfl rfl)
theorem dX4_reach_23 : decode cX4_reach 23 = .ok (.invokevirtual 101, 3) := dk_182 0 101 (dk_at dksX4_reach_1 0 rfl rfl)
theorem dX4_reach_26 : decode cX4_reach 26 = .ok (.ireturn, 1) := dk_172 (dk_at dksX4_reach_1 3 rfl rfl)
theorem dX4_reach_27 : decode cX4_reach 27 = .ok (.lconst 0, 1) := dk_9 (dk_at dksX4_reach_1 4 rfl rfl)
theorem dX4_reach_28 : decode cX4_reach 28 = .ok (.lstore_n 3, 1) := dk_66 (dk_at dksX4_reach_1 5 rfl rfl)
theorem dX4_reach_29 : decode cX4_reach 29 = .ok (.iconst 1, 1) := dk_4 (dk_at dksX4_reach_1 6 rfl rfl)
theorem dX4_reach_30 : decode cX4_reach 30 = .ok (.istore 5, 2) := dk_54 5 (dk_at dksX4_reach_1 7 rfl rfl)
theorem dX4_reach_32 : decode cX4_reach 32 = .ok (.iconst 0, 1) := dk_3 (dk_at dksX4_reach_1 9 rfl rfl)
theorem dX4_reach_33 : decode cX4_reach 33 = .ok (.istore 6, 2) := dk_54 6 (dk_at dksX4_reach_1 10 rfl rfl)
theorem dX4_reach_35 : decode cX4_reach 35 = .ok (.iload 6, 2) := dk_21 6 (dk_at dksX4_reach_1 12 rfl rfl)
theorem dX4_reach_37 : decode cX4_reach 37 = .ok (.iload_n 2, 1) := dk_28 (dk_at dksX4_reach_1 14 rfl rfl)
theorem dX4_reach_38 : decode cX4_reach 38 = .ok (.if_icmp .gt 77, 3) := dk_163 0 77 (dk_at dksX4_reach_1 15 rfl rfl)
theorem dX4_reach_41 : decode cX4_reach 41 = .ok (.iconst 0, 1) := dk_3 (dk_at dksX4_reach_1 18 rfl rfl)
theorem dX4_reach_42 : decode cX4_reach 42 = .ok (.istore 7, 2) := dk_54 7 (dk_at dksX4_reach_1 19 rfl rfl)
theorem dX4_reach_44 : decode cX4_reach 44 = .ok (.iload 7, 2) := dk_21 7 (dk_at dksX4_reach_1 21 rfl rfl)
theorem dX4_reach_46 : decode cX4_reach 46 = .ok (.iload 5, 2) := dk_21 5 (dk_at dksX4_reach_2 0 rfl rfl)
theorem dX4_reach_48 : decode cX4_reach 48 = .ok (.if_icmp .ge 55, 3) := dk_162 0 55 (dk_at dksX4_reach_2 2 rfl rfl)
theorem dX4_reach_51 : decode cX4_reach 51 = .ok (.aload_n 0, 1) := dk_42 (dk_at dksX4_reach_2 5 rfl rfl)
theorem dX4_reach_52 : decode cX4_reach 52 = .ok (.iload 7, 2) := dk_21 7 (dk_at dksX4_reach_2 6 rfl rfl)
theorem dX4_reach_54 : decode cX4_reach 54 = .ok (.iload 6, 2) := dk_21 6 (dk_at dksX4_reach_2 8 rfl rfl)
theorem dX4_reach_56 : decode cX4_reach 56 = .ok (.invokevirtual 227, 3) := dk_182 0 227 (dk_at dksX4_reach_2 10 rfl rfl)
theorem dX4_reach_59 : decode cX4_reach 59 = .ok (.aload_n 0, 1) := dk_42 (dk_at dksX4_reach_2 13 rfl rfl)
theorem dX4_reach_60 : decode cX4_reach 60 = .ok (.iload_n 1, 1) := dk_27 (dk_at dksX4_reach_2 14 rfl rfl)
theorem dX4_reach_61 : decode cX4_reach 61 = .ok (.iload 6, 2) := dk_21 6 (dk_at dksX4_reach_2 15 rfl rfl)
theorem dX4_reach_63 : decode cX4_reach 63 = .ok (.invokevirtual 223, 3) := dk_182 0 223 (dk_at dksX4_reach_2 17 rfl rfl)
theorem dX4_reach_66 : decode cX4_reach 66 = .ok (.lload_n 3, 1) := dk_33 (dk_at dksX4_reach_2 20 rfl rfl)
theorem dX4_reach_67 : decode cX4_reach 67 = .ok (.aload_n 0, 1) := dk_42 (dk_at dksX4_reach_2 21 rfl rfl)
theorem dX4_reach_68 : decode cX4_reach 68 = .ok (.getfield 48, 3) := dk_180 0 48 (dk_at dksX4_reach_3 0 rfl rfl)
theorem dX4_reach_71 : decode cX4_reach 71 = .ok (.iconst 0, 1) := dk_3 (dk_at dksX4_reach_3 3 rfl rfl)
theorem dX4_reach_72 : decode cX4_reach 72 = .ok (.iaload, 1) := dk_46 (dk_at dksX4_reach_3 4 rfl rfl)
theorem dX4_reach_73 : decode cX4_reach 73 = .ok (.iconst (-1), 1) := dk_2 (dk_at dksX4_reach_3 5 rfl rfl)
theorem dX4_reach_74 : decode cX4_reach 74 = .ok (.if_icmp .ne 20, 3) := dk_160 0 20 (dk_at dksX4_reach_3 6 rfl rfl)
theorem dX4_reach_77 : decode cX4_reach 77 = .ok (.lconst 1, 1) := dk_10 (dk_at dksX4_reach_3 9 rfl rfl)
theorem dX4_reach_78 : decode cX4_reach 78 = .ok (.aload_n 0, 1) := dk_42 (dk_at dksX4_reach_3 10 rfl rfl)
theorem dX4_reach_79 : decode cX4_reach 79 = .ok (.getfield 33, 3) := dk_180 0 33 (dk_at dksX4_reach_3 11 rfl rfl)
theorem dX4_reach_82 : decode cX4_reach 82 = .ok (.iconst 0, 1) := dk_3 (dk_at dksX4_reach_3 14 rfl rfl)
theorem dX4_reach_83 : decode cX4_reach 83 = .ok (.iaload, 1) := dk_46 (dk_at dksX4_reach_3 15 rfl rfl)
theorem dX4_reach_84 : decode cX4_reach 84 = .ok (.invokestatic 80, 3) := dk_184 0 80 (dk_at dksX4_reach_3 16 rfl rfl)
theorem dX4_reach_87 : decode cX4_reach 87 = .ok (.bipush 40, 2) := dk_16 40 (dk_at dksX4_reach_3 19 rfl rfl)
theorem dX4_reach_89 : decode cX4_reach 89 = .ok (.isub, 1) := dk_100 (dk_at dksX4_reach_3 21 rfl rfl)
theorem dX4_reach_90 : decode cX4_reach 90 = .ok (.lshl, 1) := dk_121 (dk_at dksX4_reach_3 22 rfl rfl)
theorem dX4_reach_91 : decode cX4_reach 91 = .ok (.goto 4, 3) := dk_167 0 4 (dk_at dksX4_reach_4 0 rfl rfl)
theorem dX4_reach_94 : decode cX4_reach 94 = .ok (.lconst 0, 1) := dk_9 (dk_at dksX4_reach_4 3 rfl rfl)
theorem dX4_reach_95 : decode cX4_reach 95 = .ok (.lor, 1) := dk_129 (dk_at dksX4_reach_4 4 rfl rfl)
theorem dX4_reach_96 : decode cX4_reach 96 = .ok (.lstore_n 3, 1) := dk_66 (dk_at dksX4_reach_4 5 rfl rfl)
theorem dX4_reach_97 : decode cX4_reach 97 = .ok (.iinc 7 1, 3) := dk_132 7 1 (dk_at dksX4_reach_4 6 rfl rfl)
theorem dX4_reach_100 : decode cX4_reach 100 = .ok (.goto (-56), 3) := dk_167 255 200 (dk_at dksX4_reach_4 9 rfl rfl)
theorem dX4_reach_103 : decode cX4_reach 103 = .ok (.iload 5, 2) := dk_21 5 (dk_at dksX4_reach_4 12 rfl rfl)
theorem dX4_reach_105 : decode cX4_reach 105 = .ok (.iconst 3, 1) := dk_6 (dk_at dksX4_reach_4 14 rfl rfl)
theorem dX4_reach_106 : decode cX4_reach 106 = .ok (.imul, 1) := dk_104 (dk_at dksX4_reach_4 15 rfl rfl)
theorem dX4_reach_107 : decode cX4_reach 107 = .ok (.istore 5, 2) := dk_54 5 (dk_at dksX4_reach_4 16 rfl rfl)
theorem dX4_reach_109 : decode cX4_reach 109 = .ok (.iinc 6 1, 3) := dk_132 6 1 (dk_at dksX4_reach_4 18 rfl rfl)
theorem dX4_reach_112 : decode cX4_reach 112 = .ok (.goto (-77), 3) := dk_167 255 179 (dk_at dksX4_reach_4 21 rfl rfl)
theorem dX4_reach_115 : decode cX4_reach 115 = .ok (.iconst 0, 1) := dk_3 (dk_at dksX4_reach_5 0 rfl rfl)
theorem dX4_reach_116 : decode cX4_reach 116 = .ok (.istore 6, 2) := dk_54 6 (dk_at dksX4_reach_5 1 rfl rfl)
theorem dX4_reach_118 : decode cX4_reach 118 = .ok (.iconst 0, 1) := dk_3 (dk_at dksX4_reach_5 3 rfl rfl)
theorem dX4_reach_119 : decode cX4_reach 119 = .ok (.istore 7, 2) := dk_54 7 (dk_at dksX4_reach_5 4 rfl rfl)
theorem dX4_reach_121 : decode cX4_reach 121 = .ok (.iload 7, 2) := dk_21 7 (dk_at dksX4_reach_5 6 rfl rfl)
theorem dX4_reach_123 : decode cX4_reach 123 = .ok (.bipush 49, 2) := dk_16 49 (dk_at dksX4_reach_5 8 rfl rfl)
theorem dX4_reach_125 : decode cX4_reach 125 = .ok (.if_icmp .ge 21, 3) := dk_162 0 21 (dk_at dksX4_reach_5 10 rfl rfl)
theorem dX4_reach_128 : decode cX4_reach 128 = .ok (.iload 6, 2) := dk_21 6 (dk_at dksX4_reach_5 13 rfl rfl)
theorem dX4_reach_130 : decode cX4_reach 130 = .ok (.lload_n 3, 1) := dk_33 (dk_at dksX4_reach_5 15 rfl rfl)
theorem dX4_reach_131 : decode cX4_reach 131 = .ok (.iload 7, 2) := dk_21 7 (dk_at dksX4_reach_5 16 rfl rfl)
theorem dX4_reach_133 : decode cX4_reach 133 = .ok (.lshr, 1) := dk_123 (dk_at dksX4_reach_5 18 rfl rfl)
theorem dX4_reach_134 : decode cX4_reach 134 = .ok (.lconst 1, 1) := dk_10 (dk_at dksX4_reach_5 19 rfl rfl)
theorem dX4_reach_135 : decode cX4_reach 135 = .ok (.land, 1) := dk_127 (dk_at dksX4_reach_5 20 rfl rfl)
theorem dX4_reach_136 : decode cX4_reach 136 = .ok (.l2i, 1) := dk_136 (dk_at dksX4_reach_5 21 rfl rfl)
theorem dX4_reach_137 : decode cX4_reach 137 = .ok (.iadd, 1) := dk_96 (dk_at dksX4_reach_5 22 rfl rfl)
theorem dX4_reach_138 : decode cX4_reach 138 = .ok (.istore 6, 2) := dk_54 6 (dk_at dksX4_reach_6 0 rfl rfl)
theorem dX4_reach_140 : decode cX4_reach 140 = .ok (.iinc 7 1, 3) := dk_132 7 1 (dk_at dksX4_reach_6 2 rfl rfl)
theorem dX4_reach_143 : decode cX4_reach 143 = .ok (.goto (-22), 3) := dk_167 255 234 (dk_at dksX4_reach_6 5 rfl rfl)
theorem dX4_reach_146 : decode cX4_reach 146 = .ok (.iload 6, 2) := dk_21 6 (dk_at dksX4_reach_6 8 rfl rfl)
theorem dX4_reach_148 : decode cX4_reach 148 = .ok (.ireturn, 1) := dk_172 (dk_at dksX4_reach_6 10 rfl rfl)
abbrev cX4_open : ByteArray := prog_16_method_72_code
def yX4_open : MethodName := ⟨RX4, "open", "(II)I"⟩
def dkwX4_open_2 : List UInt8 := [182, 0, 95, 154, 0, 18, 132, 3, 1, 42, 21, 4, 28, 182, 0, 91, 54, 4, 167, 255, 229, 29, 172]
abbrev dktX4_open_2 : List UInt8 := dkwX4_open_2 ++ []
def dkwX4_open_1 : List UInt8 := [182, 0, 101, 172, 3, 62, 42, 27, 28, 182, 0, 91, 54, 4, 21, 4, 2, 159, 0, 27, 42, 21, 4]
abbrev dktX4_open_1 : List UInt8 := dkwX4_open_1 ++ dktX4_open_2
def dkwX4_open_0 : List UInt8 := [42, 27, 182, 0, 104, 153, 0, 15, 28, 133, 9, 20, 0, 114, 184, 0, 76, 154, 0, 10, 42, 16, 254]
abbrev dktX4_open_0 : List UInt8 := dkwX4_open_0 ++ dktX4_open_1
theorem dksX4_open_0 : cX4_open.data.toList.drop 0 = dktX4_open_0 := by decide +kernel
theorem dksX4_open_1 : cX4_open.data.toList.drop 23 = dktX4_open_1 := dk_seg dksX4_open_0 23 rfl rfl
theorem dksX4_open_2 : cX4_open.data.toList.drop 46 = dktX4_open_2 := dk_seg dksX4_open_1 23 rfl rfl
theorem dX4_open_0 : decode cX4_open 0 = .ok (.aload_n 0, 1) := dk_42 (dk_at dksX4_open_0 0 rfl rfl)
theorem dX4_open_1 : decode cX4_open 1 = .ok (.iload_n 1, 1) := dk_27 (dk_at dksX4_open_0 1 rfl rfl)
theorem dX4_open_2 : decode cX4_open 2 = .ok (.invokevirtual 104, 3) := dk_182 0 104 (dk_at dksX4_open_0 2 rfl rfl)
theorem dX4_open_5 : decode cX4_open 5 = .ok (.ifCond .eq 15, 3) := dk_153 0 15 (dk_at dksX4_open_0 5 rfl rfl)
theorem dX4_open_8 : decode cX4_open 8 = .ok (.iload_n 2, 1) := dk_28 (dk_at dksX4_open_0 8 rfl rfl)
theorem dX4_open_9 : decode cX4_open 9 = .ok (.i2l, 1) := dk_133 (dk_at dksX4_open_0 9 rfl rfl)
theorem dX4_open_10 : decode cX4_open 10 = .ok (.lconst 0, 1) := dk_9 (dk_at dksX4_open_0 10 rfl rfl)
theorem dX4_open_11 : decode cX4_open 11 = .ok (.ldc2_w 114, 3) := dk_20 0 114 (dk_at dksX4_open_0 11 rfl rfl)
theorem dX4_open_14 : decode cX4_open 14 = .ok (.invokestatic 76, 3) := dk_184 0 76 (dk_at dksX4_open_0 14 rfl rfl)
theorem dX4_open_17 : decode cX4_open 17 = .ok (.ifCond .ne 10, 3) := dk_154 0 10 (dk_at dksX4_open_0 17 rfl rfl)
theorem dX4_open_20 : decode cX4_open 20 = .ok (.aload_n 0, 1) := dk_42 (dk_at dksX4_open_0 20 rfl rfl)
theorem dX4_open_21 : decode cX4_open 21 = .ok (.bipush (-2), 2) := dk_16 254 (dk_at dksX4_open_0 21 rfl rfl)
theorem dX4_open_23 : decode cX4_open 23 = .ok (.invokevirtual 101, 3) := dk_182 0 101 (dk_at dksX4_open_1 0 rfl rfl)
theorem dX4_open_26 : decode cX4_open 26 = .ok (.ireturn, 1) := dk_172 (dk_at dksX4_open_1 3 rfl rfl)
theorem dX4_open_27 : decode cX4_open 27 = .ok (.iconst 0, 1) := dk_3 (dk_at dksX4_open_1 4 rfl rfl)
theorem dX4_open_28 : decode cX4_open 28 = .ok (.istore_n 3, 1) := dk_62 (dk_at dksX4_open_1 5 rfl rfl)
theorem dX4_open_29 : decode cX4_open 29 = .ok (.aload_n 0, 1) := dk_42 (dk_at dksX4_open_1 6 rfl rfl)
theorem dX4_open_30 : decode cX4_open 30 = .ok (.iload_n 1, 1) := dk_27 (dk_at dksX4_open_1 7 rfl rfl)
theorem dX4_open_31 : decode cX4_open 31 = .ok (.iload_n 2, 1) := dk_28 (dk_at dksX4_open_1 8 rfl rfl)
theorem dX4_open_32 : decode cX4_open 32 = .ok (.invokevirtual 91, 3) := dk_182 0 91 (dk_at dksX4_open_1 9 rfl rfl)
theorem dX4_open_35 : decode cX4_open 35 = .ok (.istore 4, 2) := dk_54 4 (dk_at dksX4_open_1 12 rfl rfl)
theorem dX4_open_37 : decode cX4_open 37 = .ok (.iload 4, 2) := dk_21 4 (dk_at dksX4_open_1 14 rfl rfl)
theorem dX4_open_39 : decode cX4_open 39 = .ok (.iconst (-1), 1) := dk_2 (dk_at dksX4_open_1 16 rfl rfl)
theorem dX4_open_40 : decode cX4_open 40 = .ok (.if_icmp .eq 27, 3) := dk_159 0 27 (dk_at dksX4_open_1 17 rfl rfl)
theorem dX4_open_43 : decode cX4_open 43 = .ok (.aload_n 0, 1) := dk_42 (dk_at dksX4_open_1 20 rfl rfl)
theorem dX4_open_44 : decode cX4_open 44 = .ok (.iload 4, 2) := dk_21 4 (dk_at dksX4_open_1 21 rfl rfl)
theorem dX4_open_46 : decode cX4_open 46 = .ok (.invokevirtual 95, 3) := dk_182 0 95 (dk_at dksX4_open_2 0 rfl rfl)
theorem dX4_open_49 : decode cX4_open 49 = .ok (.ifCond .ne 18, 3) := dk_154 0 18 (dk_at dksX4_open_2 3 rfl rfl)
theorem dX4_open_52 : decode cX4_open 52 = .ok (.iinc 3 1, 3) := dk_132 3 1 (dk_at dksX4_open_2 6 rfl rfl)
theorem dX4_open_55 : decode cX4_open 55 = .ok (.aload_n 0, 1) := dk_42 (dk_at dksX4_open_2 9 rfl rfl)
theorem dX4_open_56 : decode cX4_open 56 = .ok (.iload 4, 2) := dk_21 4 (dk_at dksX4_open_2 10 rfl rfl)
theorem dX4_open_58 : decode cX4_open 58 = .ok (.iload_n 2, 1) := dk_28 (dk_at dksX4_open_2 12 rfl rfl)
theorem dX4_open_59 : decode cX4_open 59 = .ok (.invokevirtual 91, 3) := dk_182 0 91 (dk_at dksX4_open_2 13 rfl rfl)
theorem dX4_open_62 : decode cX4_open 62 = .ok (.istore 4, 2) := dk_54 4 (dk_at dksX4_open_2 16 rfl rfl)
theorem dX4_open_64 : decode cX4_open 64 = .ok (.goto (-27), 3) := dk_167 255 229 (dk_at dksX4_open_2 18 rfl rfl)
theorem dX4_open_67 : decode cX4_open 67 = .ok (.iload_n 3, 1) := dk_29 (dk_at dksX4_open_2 21 rfl rfl)
theorem dX4_open_68 : decode cX4_open 68 = .ok (.ireturn, 1) := dk_172 (dk_at dksX4_open_2 22 rfl rfl)
abbrev cX4_shore : ByteArray := prog_16_method_73_code
def yX4_shore : MethodName := ⟨RX4, "shore", "()I"⟩
def dkwX4_shore_2 : List UInt8 := [27, 172]
abbrev dktX4_shore_2 : List UInt8 := dkwX4_shore_2 ++ []
def dkwX4_shore_1 : List UInt8 := [154, 0, 15, 42, 28, 182, 0, 182, 153, 0, 7, 4, 167, 0, 4, 3, 96, 60, 132, 2, 1, 167, 255, 215]
abbrev dktX4_shore_1 : List UInt8 := dkwX4_shore_1 ++ dktX4_shore_2
def dkwX4_shore_0 : List UInt8 := [3, 60, 3, 61, 28, 16, 67, 162, 0, 41, 27, 42, 28, 182, 0, 104, 153, 0, 23, 42, 28, 182, 0, 95]
abbrev dktX4_shore_0 : List UInt8 := dkwX4_shore_0 ++ dktX4_shore_1
theorem dksX4_shore_0 : cX4_shore.data.toList.drop 0 = dktX4_shore_0 := by decide +kernel
theorem dksX4_shore_1 : cX4_shore.data.toList.drop 24 = dktX4_shore_1 := dk_seg dksX4_shore_0 24 rfl rfl
theorem dksX4_shore_2 : cX4_shore.data.toList.drop 48 = dktX4_shore_2 := dk_seg dksX4_shore_1 24 rfl rfl
theorem dX4_shore_0 : decode cX4_shore 0 = .ok (.iconst 0, 1) := dk_3 (dk_at dksX4_shore_0 0 rfl rfl)
theorem dX4_shore_1 : decode cX4_shore 1 = .ok (.istore_n 1, 1) := dk_60 (dk_at dksX4_shore_0 1 rfl rfl)
theorem dX4_shore_2 : decode cX4_shore 2 = .ok (.iconst 0, 1) := dk_3 (dk_at dksX4_shore_0 2 rfl rfl)
theorem dX4_shore_3 : decode cX4_shore 3 = .ok (.istore_n 2, 1) := dk_61 (dk_at dksX4_shore_0 3 rfl rfl)
theorem dX4_shore_4 : decode cX4_shore 4 = .ok (.iload_n 2, 1) := dk_28 (dk_at dksX4_shore_0 4 rfl rfl)
theorem dX4_shore_5 : decode cX4_shore 5 = .ok (.bipush 67, 2) := dk_16 67 (dk_at dksX4_shore_0 5 rfl rfl)
theorem dX4_shore_7 : decode cX4_shore 7 = .ok (.if_icmp .ge 41, 3) := dk_162 0 41 (dk_at dksX4_shore_0 7 rfl rfl)
theorem dX4_shore_10 : decode cX4_shore 10 = .ok (.iload_n 1, 1) := dk_27 (dk_at dksX4_shore_0 10 rfl rfl)
theorem dX4_shore_11 : decode cX4_shore 11 = .ok (.aload_n 0, 1) := dk_42 (dk_at dksX4_shore_0 11 rfl rfl)
theorem dX4_shore_12 : decode cX4_shore 12 = .ok (.iload_n 2, 1) := dk_28 (dk_at dksX4_shore_0 12 rfl rfl)
theorem dX4_shore_13 : decode cX4_shore 13 = .ok (.invokevirtual 104, 3) := dk_182 0 104 (dk_at dksX4_shore_0 13 rfl rfl)
theorem dX4_shore_16 : decode cX4_shore 16 = .ok (.ifCond .eq 23, 3) := dk_153 0 23 (dk_at dksX4_shore_0 16 rfl rfl)
theorem dX4_shore_19 : decode cX4_shore 19 = .ok (.aload_n 0, 1) := dk_42 (dk_at dksX4_shore_0 19 rfl rfl)
theorem dX4_shore_20 : decode cX4_shore 20 = .ok (.iload_n 2, 1) := dk_28 (dk_at dksX4_shore_0 20 rfl rfl)
theorem dX4_shore_21 : decode cX4_shore 21 = .ok (.invokevirtual 95, 3) := dk_182 0 95 (dk_at dksX4_shore_0 21 rfl rfl)
theorem dX4_shore_24 : decode cX4_shore 24 = .ok (.ifCond .ne 15, 3) := dk_154 0 15 (dk_at dksX4_shore_1 0 rfl rfl)
theorem dX4_shore_27 : decode cX4_shore 27 = .ok (.aload_n 0, 1) := dk_42 (dk_at dksX4_shore_1 3 rfl rfl)
theorem dX4_shore_28 : decode cX4_shore 28 = .ok (.iload_n 2, 1) := dk_28 (dk_at dksX4_shore_1 4 rfl rfl)
theorem dX4_shore_29 : decode cX4_shore 29 = .ok (.invokevirtual 182, 3) := dk_182 0 182 (dk_at dksX4_shore_1 5 rfl rfl)
theorem dX4_shore_32 : decode cX4_shore 32 = .ok (.ifCond .eq 7, 3) := dk_153 0 7 (dk_at dksX4_shore_1 8 rfl rfl)
theorem dX4_shore_35 : decode cX4_shore 35 = .ok (.iconst 1, 1) := dk_4 (dk_at dksX4_shore_1 11 rfl rfl)
theorem dX4_shore_36 : decode cX4_shore 36 = .ok (.goto 4, 3) := dk_167 0 4 (dk_at dksX4_shore_1 12 rfl rfl)
theorem dX4_shore_39 : decode cX4_shore 39 = .ok (.iconst 0, 1) := dk_3 (dk_at dksX4_shore_1 15 rfl rfl)
theorem dX4_shore_40 : decode cX4_shore 40 = .ok (.iadd, 1) := dk_96 (dk_at dksX4_shore_1 16 rfl rfl)
theorem dX4_shore_41 : decode cX4_shore 41 = .ok (.istore_n 1, 1) := dk_60 (dk_at dksX4_shore_1 17 rfl rfl)
theorem dX4_shore_42 : decode cX4_shore 42 = .ok (.iinc 2 1, 3) := dk_132 2 1 (dk_at dksX4_shore_1 18 rfl rfl)
theorem dX4_shore_45 : decode cX4_shore 45 = .ok (.goto (-41), 3) := dk_167 255 215 (dk_at dksX4_shore_1 21 rfl rfl)
theorem dX4_shore_48 : decode cX4_shore 48 = .ok (.iload_n 1, 1) := dk_27 (dk_at dksX4_shore_2 0 rfl rfl)
theorem dX4_shore_49 : decode cX4_shore 49 = .ok (.ireturn, 1) := dk_172 (dk_at dksX4_shore_2 1 rfl rfl)
abbrev cX4_bloc : ByteArray := prog_16_method_75_code
def yX4_bloc : MethodName := ⟨RX4, "bloc", "(I)I"⟩
def dkwX4_bloc_1 : List UInt8 := [172]
abbrev dktX4_bloc_1 : List UInt8 := dkwX4_bloc_1 ++ []
def dkwX4_bloc_0 : List UInt8 := [27, 133, 9, 10, 184, 0, 76, 153, 0, 11, 42, 27, 182, 0, 245, 167, 0, 9, 42, 16, 254, 182, 0, 101]
abbrev dktX4_bloc_0 : List UInt8 := dkwX4_bloc_0 ++ dktX4_bloc_1
theorem dksX4_bloc_0 : cX4_bloc.data.toList.drop 0 = dktX4_bloc_0 := by decide +kernel
theorem dksX4_bloc_1 : cX4_bloc.data.toList.drop 24 = dktX4_bloc_1 := dk_seg dksX4_bloc_0 24 rfl rfl
theorem dX4_bloc_0 : decode cX4_bloc 0 = .ok (.iload_n 1, 1) := dk_27 (dk_at dksX4_bloc_0 0 rfl rfl)
theorem dX4_bloc_1 : decode cX4_bloc 1 = .ok (.i2l, 1) := dk_133 (dk_at dksX4_bloc_0 1 rfl rfl)
theorem dX4_bloc_2 : decode cX4_bloc 2 = .ok (.lconst 0, 1) := dk_9 (dk_at dksX4_bloc_0 2 rfl rfl)
theorem dX4_bloc_3 : decode cX4_bloc 3 = .ok (.lconst 1, 1) := dk_10 (dk_at dksX4_bloc_0 3 rfl rfl)
theorem dX4_bloc_4 : decode cX4_bloc 4 = .ok (.invokestatic 76, 3) := dk_184 0 76 (dk_at dksX4_bloc_0 4 rfl rfl)
theorem dX4_bloc_7 : decode cX4_bloc 7 = .ok (.ifCond .eq 11, 3) := dk_153 0 11 (dk_at dksX4_bloc_0 7 rfl rfl)
theorem dX4_bloc_10 : decode cX4_bloc 10 = .ok (.aload_n 0, 1) := dk_42 (dk_at dksX4_bloc_0 10 rfl rfl)
theorem dX4_bloc_11 : decode cX4_bloc 11 = .ok (.iload_n 1, 1) := dk_27 (dk_at dksX4_bloc_0 11 rfl rfl)
theorem dX4_bloc_12 : decode cX4_bloc 12 = .ok (.invokevirtual 245, 3) := dk_182 0 245 (dk_at dksX4_bloc_0 12 rfl rfl)
theorem dX4_bloc_15 : decode cX4_bloc 15 = .ok (.goto 9, 3) := dk_167 0 9 (dk_at dksX4_bloc_0 15 rfl rfl)
theorem dX4_bloc_18 : decode cX4_bloc 18 = .ok (.aload_n 0, 1) := dk_42 (dk_at dksX4_bloc_0 18 rfl rfl)
theorem dX4_bloc_19 : decode cX4_bloc 19 = .ok (.bipush (-2), 2) := dk_16 254 (dk_at dksX4_bloc_0 19 rfl rfl)
theorem dX4_bloc_21 : decode cX4_bloc 21 = .ok (.invokevirtual 101, 3) := dk_182 0 101 (dk_at dksX4_bloc_0 21 rfl rfl)
theorem dX4_bloc_24 : decode cX4_bloc 24 = .ok (.ireturn, 1) := dk_172 (dk_at dksX4_bloc_1 0 rfl rfl)
abbrev cX4_weigh : ByteArray := prog_16_method_74_code
def yX4_weigh : MethodName := ⟨RX4, "weigh", "(I)I"⟩
def dkwX4_weigh_1 : List UInt8 := [182, 0, 213, 167, 0, 4, 3, 96, 61, 132, 3, 1, 167, 255, 224, 28, 172]
abbrev dktX4_weigh_1 : List UInt8 := dkwX4_weigh_1 ++ []
def dkwX4_weigh_0 : List UInt8 := [3, 61, 3, 62, 29, 42, 182, 0, 84, 162, 0, 30, 28, 42, 29, 182, 0, 127, 27, 160, 0, 11, 42, 29]
abbrev dktX4_weigh_0 : List UInt8 := dkwX4_weigh_0 ++ dktX4_weigh_1
theorem dksX4_weigh_0 : cX4_weigh.data.toList.drop 0 = dktX4_weigh_0 := by decide +kernel
theorem dksX4_weigh_1 : cX4_weigh.data.toList.drop 24 = dktX4_weigh_1 := dk_seg dksX4_weigh_0 24 rfl rfl
theorem dX4_weigh_0 : decode cX4_weigh 0 = .ok (.iconst 0, 1) := dk_3 (dk_at dksX4_weigh_0 0 rfl rfl)
theorem dX4_weigh_1 : decode cX4_weigh 1 = .ok (.istore_n 2, 1) := dk_61 (dk_at dksX4_weigh_0 1 rfl rfl)
theorem dX4_weigh_2 : decode cX4_weigh 2 = .ok (.iconst 0, 1) := dk_3 (dk_at dksX4_weigh_0 2 rfl rfl)
theorem dX4_weigh_3 : decode cX4_weigh 3 = .ok (.istore_n 3, 1) := dk_62 (dk_at dksX4_weigh_0 3 rfl rfl)
theorem dX4_weigh_4 : decode cX4_weigh 4 = .ok (.iload_n 3, 1) := dk_29 (dk_at dksX4_weigh_0 4 rfl rfl)
theorem dX4_weigh_5 : decode cX4_weigh 5 = .ok (.aload_n 0, 1) := dk_42 (dk_at dksX4_weigh_0 5 rfl rfl)
theorem dX4_weigh_6 : decode cX4_weigh 6 = .ok (.invokevirtual 84, 3) := dk_182 0 84 (dk_at dksX4_weigh_0 6 rfl rfl)
theorem dX4_weigh_9 : decode cX4_weigh 9 = .ok (.if_icmp .ge 30, 3) := dk_162 0 30 (dk_at dksX4_weigh_0 9 rfl rfl)
theorem dX4_weigh_12 : decode cX4_weigh 12 = .ok (.iload_n 2, 1) := dk_28 (dk_at dksX4_weigh_0 12 rfl rfl)
theorem dX4_weigh_13 : decode cX4_weigh 13 = .ok (.aload_n 0, 1) := dk_42 (dk_at dksX4_weigh_0 13 rfl rfl)
theorem dX4_weigh_14 : decode cX4_weigh 14 = .ok (.iload_n 3, 1) := dk_29 (dk_at dksX4_weigh_0 14 rfl rfl)
theorem dX4_weigh_15 : decode cX4_weigh 15 = .ok (.invokevirtual 127, 3) := dk_182 0 127 (dk_at dksX4_weigh_0 15 rfl rfl)
theorem dX4_weigh_18 : decode cX4_weigh 18 = .ok (.iload_n 1, 1) := dk_27 (dk_at dksX4_weigh_0 18 rfl rfl)
theorem dX4_weigh_19 : decode cX4_weigh 19 = .ok (.if_icmp .ne 11, 3) := dk_160 0 11 (dk_at dksX4_weigh_0 19 rfl rfl)
theorem dX4_weigh_22 : decode cX4_weigh 22 = .ok (.aload_n 0, 1) := dk_42 (dk_at dksX4_weigh_0 22 rfl rfl)
theorem dX4_weigh_23 : decode cX4_weigh 23 = .ok (.iload_n 3, 1) := dk_29 (dk_at dksX4_weigh_0 23 rfl rfl)
theorem dX4_weigh_24 : decode cX4_weigh 24 = .ok (.invokevirtual 213, 3) := dk_182 0 213 (dk_at dksX4_weigh_1 0 rfl rfl)
theorem dX4_weigh_27 : decode cX4_weigh 27 = .ok (.goto 4, 3) := dk_167 0 4 (dk_at dksX4_weigh_1 3 rfl rfl)
theorem dX4_weigh_30 : decode cX4_weigh 30 = .ok (.iconst 0, 1) := dk_3 (dk_at dksX4_weigh_1 6 rfl rfl)
theorem dX4_weigh_31 : decode cX4_weigh 31 = .ok (.iadd, 1) := dk_96 (dk_at dksX4_weigh_1 7 rfl rfl)
theorem dX4_weigh_32 : decode cX4_weigh 32 = .ok (.istore_n 2, 1) := dk_61 (dk_at dksX4_weigh_1 8 rfl rfl)
theorem dX4_weigh_33 : decode cX4_weigh 33 = .ok (.iinc 3 1, 3) := dk_132 3 1 (dk_at dksX4_weigh_1 9 rfl rfl)
theorem dX4_weigh_36 : decode cX4_weigh 36 = .ok (.goto (-32), 3) := dk_167 255 224 (dk_at dksX4_weigh_1 12 rfl rfl)
theorem dX4_weigh_39 : decode cX4_weigh 39 = .ok (.iload_n 2, 1) := dk_28 (dk_at dksX4_weigh_1 15 rfl rfl)
theorem dX4_weigh_40 : decode cX4_weigh 40 = .ok (.ireturn, 1) := dk_172 (dk_at dksX4_weigh_1 16 rfl rfl)
abbrev cX4_carries : ByteArray := prog_16_method_76_code
def yX4_carries : MethodName := ⟨RX4, "carries", "()I"⟩
def dkwX4_carries_1 : List UInt8 := [3, 167, 0, 10, 42, 180, 0, 17, 16, 91, 46, 172]
abbrev dktX4_carries_1 : List UInt8 := dkwX4_carries_1 ++ []
def dkwX4_carries_0 : List UInt8 := [42, 4, 182, 0, 245, 42, 3, 182, 0, 245, 100, 60, 27, 158, 0, 7, 4, 167, 0, 18, 27, 156, 0, 7]
abbrev dktX4_carries_0 : List UInt8 := dkwX4_carries_0 ++ dktX4_carries_1
theorem dksX4_carries_0 : cX4_carries.data.toList.drop 0 = dktX4_carries_0 := by decide +kernel
theorem dksX4_carries_1 : cX4_carries.data.toList.drop 24 = dktX4_carries_1 := dk_seg dksX4_carries_0 24 rfl rfl
theorem dX4_carries_0 : decode cX4_carries 0 = .ok (.aload_n 0, 1) := dk_42 (dk_at dksX4_carries_0 0 rfl rfl)
theorem dX4_carries_1 : decode cX4_carries 1 = .ok (.iconst 1, 1) := dk_4 (dk_at dksX4_carries_0 1 rfl rfl)
theorem dX4_carries_2 : decode cX4_carries 2 = .ok (.invokevirtual 245, 3) := dk_182 0 245 (dk_at dksX4_carries_0 2 rfl rfl)
theorem dX4_carries_5 : decode cX4_carries 5 = .ok (.aload_n 0, 1) := dk_42 (dk_at dksX4_carries_0 5 rfl rfl)
theorem dX4_carries_6 : decode cX4_carries 6 = .ok (.iconst 0, 1) := dk_3 (dk_at dksX4_carries_0 6 rfl rfl)
theorem dX4_carries_7 : decode cX4_carries 7 = .ok (.invokevirtual 245, 3) := dk_182 0 245 (dk_at dksX4_carries_0 7 rfl rfl)
theorem dX4_carries_10 : decode cX4_carries 10 = .ok (.isub, 1) := dk_100 (dk_at dksX4_carries_0 10 rfl rfl)
theorem dX4_carries_11 : decode cX4_carries 11 = .ok (.istore_n 1, 1) := dk_60 (dk_at dksX4_carries_0 11 rfl rfl)
theorem dX4_carries_12 : decode cX4_carries 12 = .ok (.iload_n 1, 1) := dk_27 (dk_at dksX4_carries_0 12 rfl rfl)
theorem dX4_carries_13 : decode cX4_carries 13 = .ok (.ifCond .le 7, 3) := dk_158 0 7 (dk_at dksX4_carries_0 13 rfl rfl)
theorem dX4_carries_16 : decode cX4_carries 16 = .ok (.iconst 1, 1) := dk_4 (dk_at dksX4_carries_0 16 rfl rfl)
theorem dX4_carries_17 : decode cX4_carries 17 = .ok (.goto 18, 3) := dk_167 0 18 (dk_at dksX4_carries_0 17 rfl rfl)
theorem dX4_carries_20 : decode cX4_carries 20 = .ok (.iload_n 1, 1) := dk_27 (dk_at dksX4_carries_0 20 rfl rfl)
theorem dX4_carries_21 : decode cX4_carries 21 = .ok (.ifCond .ge 7, 3) := dk_156 0 7 (dk_at dksX4_carries_0 21 rfl rfl)
theorem dX4_carries_24 : decode cX4_carries 24 = .ok (.iconst 0, 1) := dk_3 (dk_at dksX4_carries_1 0 rfl rfl)
theorem dX4_carries_25 : decode cX4_carries 25 = .ok (.goto 10, 3) := dk_167 0 10 (dk_at dksX4_carries_1 1 rfl rfl)
theorem dX4_carries_28 : decode cX4_carries 28 = .ok (.aload_n 0, 1) := dk_42 (dk_at dksX4_carries_1 4 rfl rfl)
theorem dX4_carries_29 : decode cX4_carries 29 = .ok (.getfield 17, 3) := dk_180 0 17 (dk_at dksX4_carries_1 5 rfl rfl)
theorem dX4_carries_32 : decode cX4_carries 32 = .ok (.bipush 91, 2) := dk_16 91 (dk_at dksX4_carries_1 8 rfl rfl)
theorem dX4_carries_34 : decode cX4_carries 34 = .ok (.iaload, 1) := dk_46 (dk_at dksX4_carries_1 10 rfl rfl)
theorem dX4_carries_35 : decode cX4_carries 35 = .ok (.ireturn, 1) := dk_172 (dk_at dksX4_carries_1 11 rfl rfl)
abbrev cX4_personOf : ByteArray := prog_16_method_78_code
def yX4_personOf : MethodName := ⟨RX4, "personOf", "(II)I"⟩
def dkwX4_personOf_2 : List UInt8 := [182, 0, 248, 172]
abbrev dktX4_personOf_2 : List UInt8 := dkwX4_personOf_2 ++ []
def dkwX4_personOf_1 : List UInt8 := [182, 0, 101, 172, 28, 8, 162, 0, 16, 42, 180, 0, 17, 8, 27, 104, 28, 96, 46, 167, 0, 8, 42, 27]
abbrev dktX4_personOf_1 : List UInt8 := dkwX4_personOf_1 ++ dktX4_personOf_2
def dkwX4_personOf_0 : List UInt8 := [42, 27, 182, 0, 124, 153, 0, 15, 28, 133, 9, 20, 0, 110, 184, 0, 76, 154, 0, 10, 42, 16, 254]
abbrev dktX4_personOf_0 : List UInt8 := dkwX4_personOf_0 ++ dktX4_personOf_1
theorem dksX4_personOf_0 : cX4_personOf.data.toList.drop 0 = dktX4_personOf_0 := by decide +kernel
theorem dksX4_personOf_1 : cX4_personOf.data.toList.drop 23 = dktX4_personOf_1 := dk_seg dksX4_personOf_0 23 rfl rfl
theorem dksX4_personOf_2 : cX4_personOf.data.toList.drop 47 = dktX4_personOf_2 := dk_seg dksX4_personOf_1 24 rfl rfl
theorem dX4_personOf_0 : decode cX4_personOf 0 = .ok (.aload_n 0, 1) := dk_42 (dk_at dksX4_personOf_0 0 rfl rfl)
theorem dX4_personOf_1 : decode cX4_personOf 1 = .ok (.iload_n 1, 1) := dk_27 (dk_at dksX4_personOf_0 1 rfl rfl)
theorem dX4_personOf_2 : decode cX4_personOf 2 = .ok (.invokevirtual 124, 3) := dk_182 0 124 (dk_at dksX4_personOf_0 2 rfl rfl)
theorem dX4_personOf_5 : decode cX4_personOf 5 = .ok (.ifCond .eq 15, 3) := dk_153 0 15 (dk_at dksX4_personOf_0 5 rfl rfl)
theorem dX4_personOf_8 : decode cX4_personOf 8 = .ok (.iload_n 2, 1) := dk_28 (dk_at dksX4_personOf_0 8 rfl rfl)
theorem dX4_personOf_9 : decode cX4_personOf 9 = .ok (.i2l, 1) := dk_133 (dk_at dksX4_personOf_0 9 rfl rfl)
theorem dX4_personOf_10 : decode cX4_personOf 10 = .ok (.lconst 0, 1) := dk_9 (dk_at dksX4_personOf_0 10 rfl rfl)
theorem dX4_personOf_11 : decode cX4_personOf 11 = .ok (.ldc2_w 110, 3) := dk_20 0 110 (dk_at dksX4_personOf_0 11 rfl rfl)
theorem dX4_personOf_14 : decode cX4_personOf 14 = .ok (.invokestatic 76, 3) := dk_184 0 76 (dk_at dksX4_personOf_0 14 rfl rfl)
theorem dX4_personOf_17 : decode cX4_personOf 17 = .ok (.ifCond .ne 10, 3) := dk_154 0 10 (dk_at dksX4_personOf_0 17 rfl rfl)
theorem dX4_personOf_20 : decode cX4_personOf 20 = .ok (.aload_n 0, 1) := dk_42 (dk_at dksX4_personOf_0 20 rfl rfl)
theorem dX4_personOf_21 : decode cX4_personOf 21 = .ok (.bipush (-2), 2) := dk_16 254 (dk_at dksX4_personOf_0 21 rfl rfl)
theorem dX4_personOf_23 : decode cX4_personOf 23 = .ok (.invokevirtual 101, 3) := dk_182 0 101 (dk_at dksX4_personOf_1 0 rfl rfl)
theorem dX4_personOf_26 : decode cX4_personOf 26 = .ok (.ireturn, 1) := dk_172 (dk_at dksX4_personOf_1 3 rfl rfl)
theorem dX4_personOf_27 : decode cX4_personOf 27 = .ok (.iload_n 2, 1) := dk_28 (dk_at dksX4_personOf_1 4 rfl rfl)
theorem dX4_personOf_28 : decode cX4_personOf 28 = .ok (.iconst 5, 1) := dk_8 (dk_at dksX4_personOf_1 5 rfl rfl)
theorem dX4_personOf_29 : decode cX4_personOf 29 = .ok (.if_icmp .ge 16, 3) := dk_162 0 16 (dk_at dksX4_personOf_1 6 rfl rfl)
theorem dX4_personOf_32 : decode cX4_personOf 32 = .ok (.aload_n 0, 1) := dk_42 (dk_at dksX4_personOf_1 9 rfl rfl)
theorem dX4_personOf_33 : decode cX4_personOf 33 = .ok (.getfield 17, 3) := dk_180 0 17 (dk_at dksX4_personOf_1 10 rfl rfl)
theorem dX4_personOf_36 : decode cX4_personOf 36 = .ok (.iconst 5, 1) := dk_8 (dk_at dksX4_personOf_1 13 rfl rfl)
theorem dX4_personOf_37 : decode cX4_personOf 37 = .ok (.iload_n 1, 1) := dk_27 (dk_at dksX4_personOf_1 14 rfl rfl)
theorem dX4_personOf_38 : decode cX4_personOf 38 = .ok (.imul, 1) := dk_104 (dk_at dksX4_personOf_1 15 rfl rfl)
theorem dX4_personOf_39 : decode cX4_personOf 39 = .ok (.iload_n 2, 1) := dk_28 (dk_at dksX4_personOf_1 16 rfl rfl)
theorem dX4_personOf_40 : decode cX4_personOf 40 = .ok (.iadd, 1) := dk_96 (dk_at dksX4_personOf_1 17 rfl rfl)
theorem dX4_personOf_41 : decode cX4_personOf 41 = .ok (.iaload, 1) := dk_46 (dk_at dksX4_personOf_1 18 rfl rfl)
theorem dX4_personOf_42 : decode cX4_personOf 42 = .ok (.goto 8, 3) := dk_167 0 8 (dk_at dksX4_personOf_1 19 rfl rfl)
theorem dX4_personOf_45 : decode cX4_personOf 45 = .ok (.aload_n 0, 1) := dk_42 (dk_at dksX4_personOf_1 22 rfl rfl)
theorem dX4_personOf_46 : decode cX4_personOf 46 = .ok (.iload_n 1, 1) := dk_27 (dk_at dksX4_personOf_1 23 rfl rfl)
theorem dX4_personOf_47 : decode cX4_personOf 47 = .ok (.invokevirtual 248, 3) := dk_182 0 248 (dk_at dksX4_personOf_2 0 rfl rfl)
theorem dX4_personOf_50 : decode cX4_personOf 50 = .ok (.ireturn, 1) := dk_172 (dk_at dksX4_personOf_2 3 rfl rfl)
abbrev cX4_power : ByteArray := prog_16_method_77_code
def yX4_power : MethodName := ⟨RX4, "power", "(I)I"⟩
def dkwX4_power_4 : List UInt8 := [182, 0, 213, 96, 104, 28, 164, 0, 7, 4, 167, 0, 4, 3, 96, 62, 132, 4, 1, 167, 255, 163, 29, 172]
abbrev dktX4_power_4 : List UInt8 := dkwX4_power_4 ++ []
def dkwX4_power_3 : List UInt8 := [54, 5, 132, 6, 1, 167, 255, 225, 29, 5, 21, 5, 104, 28, 163, 0, 21, 5, 21, 5, 42, 27]
abbrev dktX4_power_3 : List UInt8 := dkwX4_power_3 ++ dktX4_power_4
def dkwX4_power_2 : List UInt8 := [182, 0, 84, 162, 0, 28, 21, 5, 21, 4, 21, 6, 122, 4, 126, 42, 21, 6, 182, 0, 213, 104, 96]
abbrev dktX4_power_2 : List UInt8 := dkwX4_power_2 ++ dktX4_power_3
def dkwX4_power_1 : List UInt8 := [120, 162, 0, 88, 21, 4, 27, 122, 4, 126, 154, 0, 73, 3, 54, 5, 3, 54, 6, 21, 6, 42]
abbrev dktX4_power_1 : List UInt8 := dkwX4_power_1 ++ dktX4_power_2
def dkwX4_power_0 : List UInt8 := [42, 3, 182, 0, 245, 42, 4, 182, 0, 245, 96, 61, 3, 62, 3, 54, 4, 21, 4, 4, 42, 182, 0, 84]
abbrev dktX4_power_0 : List UInt8 := dkwX4_power_0 ++ dktX4_power_1
theorem dksX4_power_0 : cX4_power.data.toList.drop 0 = dktX4_power_0 := by decide +kernel
theorem dksX4_power_1 : cX4_power.data.toList.drop 24 = dktX4_power_1 := dk_seg dksX4_power_0 24 rfl rfl
theorem dksX4_power_2 : cX4_power.data.toList.drop 46 = dktX4_power_2 := dk_seg dksX4_power_1 22 rfl rfl
theorem dksX4_power_3 : cX4_power.data.toList.drop 69 = dktX4_power_3 := dk_seg dksX4_power_2 23 rfl rfl
theorem dksX4_power_4 : cX4_power.data.toList.drop 91 = dktX4_power_4 := dk_seg dksX4_power_3 22 rfl rfl
theorem dX4_power_0 : decode cX4_power 0 = .ok (.aload_n 0, 1) := dk_42 (dk_at dksX4_power_0 0 rfl rfl)
theorem dX4_power_1 : decode cX4_power 1 = .ok (.iconst 0, 1) := dk_3 (dk_at dksX4_power_0 1 rfl rfl)
theorem dX4_power_2 : decode cX4_power 2 = .ok (.invokevirtual 245, 3) := dk_182 0 245 (dk_at dksX4_power_0 2 rfl rfl)
theorem dX4_power_5 : decode cX4_power 5 = .ok (.aload_n 0, 1) := dk_42 (dk_at dksX4_power_0 5 rfl rfl)
theorem dX4_power_6 : decode cX4_power 6 = .ok (.iconst 1, 1) := dk_4 (dk_at dksX4_power_0 6 rfl rfl)
theorem dX4_power_7 : decode cX4_power 7 = .ok (.invokevirtual 245, 3) := dk_182 0 245 (dk_at dksX4_power_0 7 rfl rfl)
theorem dX4_power_10 : decode cX4_power 10 = .ok (.iadd, 1) := dk_96 (dk_at dksX4_power_0 10 rfl rfl)
theorem dX4_power_11 : decode cX4_power 11 = .ok (.istore_n 2, 1) := dk_61 (dk_at dksX4_power_0 11 rfl rfl)
theorem dX4_power_12 : decode cX4_power 12 = .ok (.iconst 0, 1) := dk_3 (dk_at dksX4_power_0 12 rfl rfl)
theorem dX4_power_13 : decode cX4_power 13 = .ok (.istore_n 3, 1) := dk_62 (dk_at dksX4_power_0 13 rfl rfl)
theorem dX4_power_14 : decode cX4_power 14 = .ok (.iconst 0, 1) := dk_3 (dk_at dksX4_power_0 14 rfl rfl)
theorem dX4_power_15 : decode cX4_power 15 = .ok (.istore 4, 2) := dk_54 4 (dk_at dksX4_power_0 15 rfl rfl)
theorem dX4_power_17 : decode cX4_power 17 = .ok (.iload 4, 2) := dk_21 4 (dk_at dksX4_power_0 17 rfl rfl)
theorem dX4_power_19 : decode cX4_power 19 = .ok (.iconst 1, 1) := dk_4 (dk_at dksX4_power_0 19 rfl rfl)
theorem dX4_power_20 : decode cX4_power 20 = .ok (.aload_n 0, 1) := dk_42 (dk_at dksX4_power_0 20 rfl rfl)
theorem dX4_power_21 : decode cX4_power 21 = .ok (.invokevirtual 84, 3) := dk_182 0 84 (dk_at dksX4_power_0 21 rfl rfl)
theorem dX4_power_24 : decode cX4_power 24 = .ok (.ishl, 1) := dk_120 (dk_at dksX4_power_1 0 rfl rfl)
theorem dX4_power_25 : decode cX4_power 25 = .ok (.if_icmp .ge 88, 3) := dk_162 0 88 (dk_at dksX4_power_1 1 rfl rfl)
theorem dX4_power_28 : decode cX4_power 28 = .ok (.iload 4, 2) := dk_21 4 (dk_at dksX4_power_1 4 rfl rfl)
theorem dX4_power_30 : decode cX4_power 30 = .ok (.iload_n 1, 1) := dk_27 (dk_at dksX4_power_1 6 rfl rfl)
theorem dX4_power_31 : decode cX4_power 31 = .ok (.ishr, 1) := dk_122 (dk_at dksX4_power_1 7 rfl rfl)
theorem dX4_power_32 : decode cX4_power 32 = .ok (.iconst 1, 1) := dk_4 (dk_at dksX4_power_1 8 rfl rfl)
theorem dX4_power_33 : decode cX4_power 33 = .ok (.iand, 1) := dk_126 (dk_at dksX4_power_1 9 rfl rfl)
theorem dX4_power_34 : decode cX4_power 34 = .ok (.ifCond .ne 73, 3) := dk_154 0 73 (dk_at dksX4_power_1 10 rfl rfl)
theorem dX4_power_37 : decode cX4_power 37 = .ok (.iconst 0, 1) := dk_3 (dk_at dksX4_power_1 13 rfl rfl)
theorem dX4_power_38 : decode cX4_power 38 = .ok (.istore 5, 2) := dk_54 5 (dk_at dksX4_power_1 14 rfl rfl)
theorem dX4_power_40 : decode cX4_power 40 = .ok (.iconst 0, 1) := dk_3 (dk_at dksX4_power_1 16 rfl rfl)
theorem dX4_power_41 : decode cX4_power 41 = .ok (.istore 6, 2) := dk_54 6 (dk_at dksX4_power_1 17 rfl rfl)
theorem dX4_power_43 : decode cX4_power 43 = .ok (.iload 6, 2) := dk_21 6 (dk_at dksX4_power_1 19 rfl rfl)
theorem dX4_power_45 : decode cX4_power 45 = .ok (.aload_n 0, 1) := dk_42 (dk_at dksX4_power_1 21 rfl rfl)
theorem dX4_power_46 : decode cX4_power 46 = .ok (.invokevirtual 84, 3) := dk_182 0 84 (dk_at dksX4_power_2 0 rfl rfl)
theorem dX4_power_49 : decode cX4_power 49 = .ok (.if_icmp .ge 28, 3) := dk_162 0 28 (dk_at dksX4_power_2 3 rfl rfl)
theorem dX4_power_52 : decode cX4_power 52 = .ok (.iload 5, 2) := dk_21 5 (dk_at dksX4_power_2 6 rfl rfl)
theorem dX4_power_54 : decode cX4_power 54 = .ok (.iload 4, 2) := dk_21 4 (dk_at dksX4_power_2 8 rfl rfl)
theorem dX4_power_56 : decode cX4_power 56 = .ok (.iload 6, 2) := dk_21 6 (dk_at dksX4_power_2 10 rfl rfl)
theorem dX4_power_58 : decode cX4_power 58 = .ok (.ishr, 1) := dk_122 (dk_at dksX4_power_2 12 rfl rfl)
theorem dX4_power_59 : decode cX4_power 59 = .ok (.iconst 1, 1) := dk_4 (dk_at dksX4_power_2 13 rfl rfl)
theorem dX4_power_60 : decode cX4_power 60 = .ok (.iand, 1) := dk_126 (dk_at dksX4_power_2 14 rfl rfl)
theorem dX4_power_61 : decode cX4_power 61 = .ok (.aload_n 0, 1) := dk_42 (dk_at dksX4_power_2 15 rfl rfl)
theorem dX4_power_62 : decode cX4_power 62 = .ok (.iload 6, 2) := dk_21 6 (dk_at dksX4_power_2 16 rfl rfl)
theorem dX4_power_64 : decode cX4_power 64 = .ok (.invokevirtual 213, 3) := dk_182 0 213 (dk_at dksX4_power_2 18 rfl rfl)
theorem dX4_power_67 : decode cX4_power 67 = .ok (.imul, 1) := dk_104 (dk_at dksX4_power_2 21 rfl rfl)
theorem dX4_power_68 : decode cX4_power 68 = .ok (.iadd, 1) := dk_96 (dk_at dksX4_power_2 22 rfl rfl)
theorem dX4_power_69 : decode cX4_power 69 = .ok (.istore 5, 2) := dk_54 5 (dk_at dksX4_power_3 0 rfl rfl)
theorem dX4_power_71 : decode cX4_power 71 = .ok (.iinc 6 1, 3) := dk_132 6 1 (dk_at dksX4_power_3 2 rfl rfl)
theorem dX4_power_74 : decode cX4_power 74 = .ok (.goto (-31), 3) := dk_167 255 225 (dk_at dksX4_power_3 5 rfl rfl)
theorem dX4_power_77 : decode cX4_power 77 = .ok (.iload_n 3, 1) := dk_29 (dk_at dksX4_power_3 8 rfl rfl)
theorem dX4_power_78 : decode cX4_power 78 = .ok (.iconst 2, 1) := dk_5 (dk_at dksX4_power_3 9 rfl rfl)
theorem dX4_power_79 : decode cX4_power 79 = .ok (.iload 5, 2) := dk_21 5 (dk_at dksX4_power_3 10 rfl rfl)
theorem dX4_power_81 : decode cX4_power 81 = .ok (.imul, 1) := dk_104 (dk_at dksX4_power_3 12 rfl rfl)
theorem dX4_power_82 : decode cX4_power 82 = .ok (.iload_n 2, 1) := dk_28 (dk_at dksX4_power_3 13 rfl rfl)
theorem dX4_power_83 : decode cX4_power 83 = .ok (.if_icmp .gt 21, 3) := dk_163 0 21 (dk_at dksX4_power_3 14 rfl rfl)
theorem dX4_power_86 : decode cX4_power 86 = .ok (.iconst 2, 1) := dk_5 (dk_at dksX4_power_3 17 rfl rfl)
theorem dX4_power_87 : decode cX4_power 87 = .ok (.iload 5, 2) := dk_21 5 (dk_at dksX4_power_3 18 rfl rfl)
theorem dX4_power_89 : decode cX4_power 89 = .ok (.aload_n 0, 1) := dk_42 (dk_at dksX4_power_3 20 rfl rfl)
theorem dX4_power_90 : decode cX4_power 90 = .ok (.iload_n 1, 1) := dk_27 (dk_at dksX4_power_3 21 rfl rfl)
theorem dX4_power_91 : decode cX4_power 91 = .ok (.invokevirtual 213, 3) := dk_182 0 213 (dk_at dksX4_power_4 0 rfl rfl)
theorem dX4_power_94 : decode cX4_power 94 = .ok (.iadd, 1) := dk_96 (dk_at dksX4_power_4 3 rfl rfl)
theorem dX4_power_95 : decode cX4_power 95 = .ok (.imul, 1) := dk_104 (dk_at dksX4_power_4 4 rfl rfl)
theorem dX4_power_96 : decode cX4_power 96 = .ok (.iload_n 2, 1) := dk_28 (dk_at dksX4_power_4 5 rfl rfl)
theorem dX4_power_97 : decode cX4_power 97 = .ok (.if_icmp .le 7, 3) := dk_164 0 7 (dk_at dksX4_power_4 6 rfl rfl)
theorem dX4_power_100 : decode cX4_power 100 = .ok (.iconst 1, 1) := dk_4 (dk_at dksX4_power_4 9 rfl rfl)
theorem dX4_power_101 : decode cX4_power 101 = .ok (.goto 4, 3) := dk_167 0 4 (dk_at dksX4_power_4 10 rfl rfl)
theorem dX4_power_104 : decode cX4_power 104 = .ok (.iconst 0, 1) := dk_3 (dk_at dksX4_power_4 13 rfl rfl)
theorem dX4_power_105 : decode cX4_power 105 = .ok (.iadd, 1) := dk_96 (dk_at dksX4_power_4 14 rfl rfl)
theorem dX4_power_106 : decode cX4_power 106 = .ok (.istore_n 3, 1) := dk_62 (dk_at dksX4_power_4 15 rfl rfl)
theorem dX4_power_107 : decode cX4_power 107 = .ok (.iinc 4 1, 3) := dk_132 4 1 (dk_at dksX4_power_4 16 rfl rfl)
theorem dX4_power_110 : decode cX4_power 110 = .ok (.goto (-93), 3) := dk_167 255 163 (dk_at dksX4_power_4 19 rfl rfl)
theorem dX4_power_113 : decode cX4_power 113 = .ok (.iload_n 3, 1) := dk_29 (dk_at dksX4_power_4 22 rfl rfl)
theorem dX4_power_114 : decode cX4_power 114 = .ok (.ireturn, 1) := dk_172 (dk_at dksX4_power_4 23 rfl rfl)
abbrev cX4_mightiest : ByteArray := prog_16_method_79_code
def yX4_mightiest : MethodName := ⟨RX4, "mightiest", "()I"⟩
def dkwX4_mightiest_2 : List UInt8 := [132, 2, 1, 167, 255, 226, 27, 172]
abbrev dktX4_mightiest_2 : List UInt8 := dkwX4_mightiest_2 ++ []
def dkwX4_mightiest_1 : List UInt8 := [162, 0, 28, 42, 28, 182, 0, 248, 42, 27, 182, 0, 248, 164, 0, 7, 28, 167, 0, 4, 27, 60]
abbrev dktX4_mightiest_1 : List UInt8 := dkwX4_mightiest_1 ++ dktX4_mightiest_2
def dkwX4_mightiest_0 : List UInt8 := [42, 182, 0, 84, 154, 0, 10, 42, 16, 251, 182, 0, 101, 172, 3, 60, 4, 61, 28, 42, 182, 0, 84]
abbrev dktX4_mightiest_0 : List UInt8 := dkwX4_mightiest_0 ++ dktX4_mightiest_1
theorem dksX4_mightiest_0 : cX4_mightiest.data.toList.drop 0 = dktX4_mightiest_0 := by decide +kernel
theorem dksX4_mightiest_1 : cX4_mightiest.data.toList.drop 23 = dktX4_mightiest_1 := dk_seg dksX4_mightiest_0 23 rfl rfl
theorem dksX4_mightiest_2 : cX4_mightiest.data.toList.drop 45 = dktX4_mightiest_2 := dk_seg dksX4_mightiest_1 22 rfl rfl
theorem dX4_mightiest_0 : decode cX4_mightiest 0 = .ok (.aload_n 0, 1) := dk_42 (dk_at dksX4_mightiest_0 0 rfl rfl)
theorem dX4_mightiest_1 : decode cX4_mightiest 1 = .ok (.invokevirtual 84, 3) := dk_182 0 84 (dk_at dksX4_mightiest_0 1 rfl rfl)
theorem dX4_mightiest_4 : decode cX4_mightiest 4 = .ok (.ifCond .ne 10, 3) := dk_154 0 10 (dk_at dksX4_mightiest_0 4 rfl rfl)
theorem dX4_mightiest_7 : decode cX4_mightiest 7 = .ok (.aload_n 0, 1) := dk_42 (dk_at dksX4_mightiest_0 7 rfl rfl)
theorem dX4_mightiest_8 : decode cX4_mightiest 8 = .ok (.bipush (-5), 2) := dk_16 251 (dk_at dksX4_mightiest_0 8 rfl rfl)
theorem dX4_mightiest_10 : decode cX4_mightiest 10 = .ok (.invokevirtual 101, 3) := dk_182 0 101 (dk_at dksX4_mightiest_0 10 rfl rfl)
theorem dX4_mightiest_13 : decode cX4_mightiest 13 = .ok (.ireturn, 1) := dk_172 (dk_at dksX4_mightiest_0 13 rfl rfl)
theorem dX4_mightiest_14 : decode cX4_mightiest 14 = .ok (.iconst 0, 1) := dk_3 (dk_at dksX4_mightiest_0 14 rfl rfl)
theorem dX4_mightiest_15 : decode cX4_mightiest 15 = .ok (.istore_n 1, 1) := dk_60 (dk_at dksX4_mightiest_0 15 rfl rfl)
theorem dX4_mightiest_16 : decode cX4_mightiest 16 = .ok (.iconst 1, 1) := dk_4 (dk_at dksX4_mightiest_0 16 rfl rfl)
theorem dX4_mightiest_17 : decode cX4_mightiest 17 = .ok (.istore_n 2, 1) := dk_61 (dk_at dksX4_mightiest_0 17 rfl rfl)
theorem dX4_mightiest_18 : decode cX4_mightiest 18 = .ok (.iload_n 2, 1) := dk_28 (dk_at dksX4_mightiest_0 18 rfl rfl)
theorem dX4_mightiest_19 : decode cX4_mightiest 19 = .ok (.aload_n 0, 1) := dk_42 (dk_at dksX4_mightiest_0 19 rfl rfl)
theorem dX4_mightiest_20 : decode cX4_mightiest 20 = .ok (.invokevirtual 84, 3) := dk_182 0 84 (dk_at dksX4_mightiest_0 20 rfl rfl)
theorem dX4_mightiest_23 : decode cX4_mightiest 23 = .ok (.if_icmp .ge 28, 3) := dk_162 0 28 (dk_at dksX4_mightiest_1 0 rfl rfl)
theorem dX4_mightiest_26 : decode cX4_mightiest 26 = .ok (.aload_n 0, 1) := dk_42 (dk_at dksX4_mightiest_1 3 rfl rfl)
theorem dX4_mightiest_27 : decode cX4_mightiest 27 = .ok (.iload_n 2, 1) := dk_28 (dk_at dksX4_mightiest_1 4 rfl rfl)
theorem dX4_mightiest_28 : decode cX4_mightiest 28 = .ok (.invokevirtual 248, 3) := dk_182 0 248 (dk_at dksX4_mightiest_1 5 rfl rfl)
theorem dX4_mightiest_31 : decode cX4_mightiest 31 = .ok (.aload_n 0, 1) := dk_42 (dk_at dksX4_mightiest_1 8 rfl rfl)
theorem dX4_mightiest_32 : decode cX4_mightiest 32 = .ok (.iload_n 1, 1) := dk_27 (dk_at dksX4_mightiest_1 9 rfl rfl)
theorem dX4_mightiest_33 : decode cX4_mightiest 33 = .ok (.invokevirtual 248, 3) := dk_182 0 248 (dk_at dksX4_mightiest_1 10 rfl rfl)
theorem dX4_mightiest_36 : decode cX4_mightiest 36 = .ok (.if_icmp .le 7, 3) := dk_164 0 7 (dk_at dksX4_mightiest_1 13 rfl rfl)
theorem dX4_mightiest_39 : decode cX4_mightiest 39 = .ok (.iload_n 2, 1) := dk_28 (dk_at dksX4_mightiest_1 16 rfl rfl)
theorem dX4_mightiest_40 : decode cX4_mightiest 40 = .ok (.goto 4, 3) := dk_167 0 4 (dk_at dksX4_mightiest_1 17 rfl rfl)
theorem dX4_mightiest_43 : decode cX4_mightiest 43 = .ok (.iload_n 1, 1) := dk_27 (dk_at dksX4_mightiest_1 20 rfl rfl)
theorem dX4_mightiest_44 : decode cX4_mightiest 44 = .ok (.istore_n 1, 1) := dk_60 (dk_at dksX4_mightiest_1 21 rfl rfl)
theorem dX4_mightiest_45 : decode cX4_mightiest 45 = .ok (.iinc 2 1, 3) := dk_132 2 1 (dk_at dksX4_mightiest_2 0 rfl rfl)
theorem dX4_mightiest_48 : decode cX4_mightiest 48 = .ok (.goto (-30), 3) := dk_167 255 226 (dk_at dksX4_mightiest_2 3 rfl rfl)
theorem dX4_mightiest_51 : decode cX4_mightiest 51 = .ok (.iload_n 1, 1) := dk_27 (dk_at dksX4_mightiest_2 6 rfl rfl)
theorem dX4_mightiest_52 : decode cX4_mightiest 52 = .ok (.ireturn, 1) := dk_172 (dk_at dksX4_mightiest_2 7 rfl rfl)
abbrev cX4_swing : ByteArray := prog_16_method_81_code
def yX4_swing : MethodName := ⟨RX4, "swing", "(I)I"⟩
def dkwX4_swing_2 : List UInt8 := [4, 172]
abbrev dktX4_swing_2 : List UInt8 := dkwX4_swing_2 ++ []
def dkwX4_swing_1 : List UInt8 := [182, 0, 254, 42, 182, 0, 251, 62, 42, 4, 27, 120, 182, 0, 254, 28, 29, 160, 0, 7, 3, 167, 0, 4]
abbrev dktX4_swing_1 : List UInt8 := dkwX4_swing_1 ++ dktX4_swing_2
def dkwX4_swing_0 : List UInt8 := [42, 27, 182, 0, 124, 154, 0, 10, 42, 16, 254, 182, 0, 101, 172, 42, 182, 0, 251, 61, 42, 4, 27, 120]
abbrev dktX4_swing_0 : List UInt8 := dkwX4_swing_0 ++ dktX4_swing_1
theorem dksX4_swing_0 : cX4_swing.data.toList.drop 0 = dktX4_swing_0 := by decide +kernel
theorem dksX4_swing_1 : cX4_swing.data.toList.drop 24 = dktX4_swing_1 := dk_seg dksX4_swing_0 24 rfl rfl
theorem dksX4_swing_2 : cX4_swing.data.toList.drop 48 = dktX4_swing_2 := dk_seg dksX4_swing_1 24 rfl rfl
theorem dX4_swing_0 : decode cX4_swing 0 = .ok (.aload_n 0, 1) := dk_42 (dk_at dksX4_swing_0 0 rfl rfl)
theorem dX4_swing_1 : decode cX4_swing 1 = .ok (.iload_n 1, 1) := dk_27 (dk_at dksX4_swing_0 1 rfl rfl)
theorem dX4_swing_2 : decode cX4_swing 2 = .ok (.invokevirtual 124, 3) := dk_182 0 124 (dk_at dksX4_swing_0 2 rfl rfl)
theorem dX4_swing_5 : decode cX4_swing 5 = .ok (.ifCond .ne 10, 3) := dk_154 0 10 (dk_at dksX4_swing_0 5 rfl rfl)
theorem dX4_swing_8 : decode cX4_swing 8 = .ok (.aload_n 0, 1) := dk_42 (dk_at dksX4_swing_0 8 rfl rfl)
theorem dX4_swing_9 : decode cX4_swing 9 = .ok (.bipush (-2), 2) := dk_16 254 (dk_at dksX4_swing_0 9 rfl rfl)
theorem dX4_swing_11 : decode cX4_swing 11 = .ok (.invokevirtual 101, 3) := dk_182 0 101 (dk_at dksX4_swing_0 11 rfl rfl)
theorem dX4_swing_14 : decode cX4_swing 14 = .ok (.ireturn, 1) := dk_172 (dk_at dksX4_swing_0 14 rfl rfl)
theorem dX4_swing_15 : decode cX4_swing 15 = .ok (.aload_n 0, 1) := dk_42 (dk_at dksX4_swing_0 15 rfl rfl)
theorem dX4_swing_16 : decode cX4_swing 16 = .ok (.invokevirtual 251, 3) := dk_182 0 251 (dk_at dksX4_swing_0 16 rfl rfl)
theorem dX4_swing_19 : decode cX4_swing 19 = .ok (.istore_n 2, 1) := dk_61 (dk_at dksX4_swing_0 19 rfl rfl)
theorem dX4_swing_20 : decode cX4_swing 20 = .ok (.aload_n 0, 1) := dk_42 (dk_at dksX4_swing_0 20 rfl rfl)
theorem dX4_swing_21 : decode cX4_swing 21 = .ok (.iconst 1, 1) := dk_4 (dk_at dksX4_swing_0 21 rfl rfl)
theorem dX4_swing_22 : decode cX4_swing 22 = .ok (.iload_n 1, 1) := dk_27 (dk_at dksX4_swing_0 22 rfl rfl)
theorem dX4_swing_23 : decode cX4_swing 23 = .ok (.ishl, 1) := dk_120 (dk_at dksX4_swing_0 23 rfl rfl)
theorem dX4_swing_24 : decode cX4_swing 24 = .ok (.invokevirtual 254, 3) := dk_182 0 254 (dk_at dksX4_swing_1 0 rfl rfl)
theorem dX4_swing_27 : decode cX4_swing 27 = .ok (.aload_n 0, 1) := dk_42 (dk_at dksX4_swing_1 3 rfl rfl)
theorem dX4_swing_28 : decode cX4_swing 28 = .ok (.invokevirtual 251, 3) := dk_182 0 251 (dk_at dksX4_swing_1 4 rfl rfl)
theorem dX4_swing_31 : decode cX4_swing 31 = .ok (.istore_n 3, 1) := dk_62 (dk_at dksX4_swing_1 7 rfl rfl)
theorem dX4_swing_32 : decode cX4_swing 32 = .ok (.aload_n 0, 1) := dk_42 (dk_at dksX4_swing_1 8 rfl rfl)
theorem dX4_swing_33 : decode cX4_swing 33 = .ok (.iconst 1, 1) := dk_4 (dk_at dksX4_swing_1 9 rfl rfl)
theorem dX4_swing_34 : decode cX4_swing 34 = .ok (.iload_n 1, 1) := dk_27 (dk_at dksX4_swing_1 10 rfl rfl)
theorem dX4_swing_35 : decode cX4_swing 35 = .ok (.ishl, 1) := dk_120 (dk_at dksX4_swing_1 11 rfl rfl)
theorem dX4_swing_36 : decode cX4_swing 36 = .ok (.invokevirtual 254, 3) := dk_182 0 254 (dk_at dksX4_swing_1 12 rfl rfl)
theorem dX4_swing_39 : decode cX4_swing 39 = .ok (.iload_n 2, 1) := dk_28 (dk_at dksX4_swing_1 15 rfl rfl)
theorem dX4_swing_40 : decode cX4_swing 40 = .ok (.iload_n 3, 1) := dk_29 (dk_at dksX4_swing_1 16 rfl rfl)
theorem dX4_swing_41 : decode cX4_swing 41 = .ok (.if_icmp .ne 7, 3) := dk_160 0 7 (dk_at dksX4_swing_1 17 rfl rfl)
theorem dX4_swing_44 : decode cX4_swing 44 = .ok (.iconst 0, 1) := dk_3 (dk_at dksX4_swing_1 20 rfl rfl)
theorem dX4_swing_45 : decode cX4_swing 45 = .ok (.goto 4, 3) := dk_167 0 4 (dk_at dksX4_swing_1 21 rfl rfl)
theorem dX4_swing_48 : decode cX4_swing 48 = .ok (.iconst 1, 1) := dk_4 (dk_at dksX4_swing_2 0 rfl rfl)
theorem dX4_swing_49 : decode cX4_swing 49 = .ok (.ireturn, 1) := dk_172 (dk_at dksX4_swing_2 1 rfl rfl)
abbrev cX4_change : ByteArray := prog_16_method_80_code
def yX4_change : MethodName := ⟨RX4, "change", "(I)V"⟩
def dkwX4_change_1 : List UInt8 := [4, 126, 130, 79, 132, 2, 1, 167, 255, 227, 177]
abbrev dktX4_change_1 : List UInt8 := dkwX4_change_1 ++ []
def dkwX4_change_0 : List UInt8 := [3, 61, 28, 42, 182, 0, 84, 162, 0, 27, 42, 180, 0, 17, 8, 28, 104, 7, 96, 92, 46, 27, 28, 122]
abbrev dktX4_change_0 : List UInt8 := dkwX4_change_0 ++ dktX4_change_1
theorem dksX4_change_0 : cX4_change.data.toList.drop 0 = dktX4_change_0 := by decide +kernel
theorem dksX4_change_1 : cX4_change.data.toList.drop 24 = dktX4_change_1 := dk_seg dksX4_change_0 24 rfl rfl
theorem dX4_change_0 : decode cX4_change 0 = .ok (.iconst 0, 1) := dk_3 (dk_at dksX4_change_0 0 rfl rfl)
theorem dX4_change_1 : decode cX4_change 1 = .ok (.istore_n 2, 1) := dk_61 (dk_at dksX4_change_0 1 rfl rfl)
theorem dX4_change_2 : decode cX4_change 2 = .ok (.iload_n 2, 1) := dk_28 (dk_at dksX4_change_0 2 rfl rfl)
theorem dX4_change_3 : decode cX4_change 3 = .ok (.aload_n 0, 1) := dk_42 (dk_at dksX4_change_0 3 rfl rfl)
theorem dX4_change_4 : decode cX4_change 4 = .ok (.invokevirtual 84, 3) := dk_182 0 84 (dk_at dksX4_change_0 4 rfl rfl)
theorem dX4_change_7 : decode cX4_change 7 = .ok (.if_icmp .ge 27, 3) := dk_162 0 27 (dk_at dksX4_change_0 7 rfl rfl)
theorem dX4_change_10 : decode cX4_change 10 = .ok (.aload_n 0, 1) := dk_42 (dk_at dksX4_change_0 10 rfl rfl)
theorem dX4_change_11 : decode cX4_change 11 = .ok (.getfield 17, 3) := dk_180 0 17 (dk_at dksX4_change_0 11 rfl rfl)
theorem dX4_change_14 : decode cX4_change 14 = .ok (.iconst 5, 1) := dk_8 (dk_at dksX4_change_0 14 rfl rfl)
theorem dX4_change_15 : decode cX4_change 15 = .ok (.iload_n 2, 1) := dk_28 (dk_at dksX4_change_0 15 rfl rfl)
theorem dX4_change_16 : decode cX4_change 16 = .ok (.imul, 1) := dk_104 (dk_at dksX4_change_0 16 rfl rfl)
theorem dX4_change_17 : decode cX4_change 17 = .ok (.iconst 4, 1) := dk_7 (dk_at dksX4_change_0 17 rfl rfl)
theorem dX4_change_18 : decode cX4_change 18 = .ok (.iadd, 1) := dk_96 (dk_at dksX4_change_0 18 rfl rfl)
theorem dX4_change_19 : decode cX4_change 19 = .ok (.dup2, 1) := dk_92 (dk_at dksX4_change_0 19 rfl rfl)
theorem dX4_change_20 : decode cX4_change 20 = .ok (.iaload, 1) := dk_46 (dk_at dksX4_change_0 20 rfl rfl)
theorem dX4_change_21 : decode cX4_change 21 = .ok (.iload_n 1, 1) := dk_27 (dk_at dksX4_change_0 21 rfl rfl)
theorem dX4_change_22 : decode cX4_change 22 = .ok (.iload_n 2, 1) := dk_28 (dk_at dksX4_change_0 22 rfl rfl)
theorem dX4_change_23 : decode cX4_change 23 = .ok (.ishr, 1) := dk_122 (dk_at dksX4_change_0 23 rfl rfl)
theorem dX4_change_24 : decode cX4_change 24 = .ok (.iconst 1, 1) := dk_4 (dk_at dksX4_change_1 0 rfl rfl)
theorem dX4_change_25 : decode cX4_change 25 = .ok (.iand, 1) := dk_126 (dk_at dksX4_change_1 1 rfl rfl)
theorem dX4_change_26 : decode cX4_change 26 = .ok (.ixor, 1) := dk_130 (dk_at dksX4_change_1 2 rfl rfl)
theorem dX4_change_27 : decode cX4_change 27 = .ok (.iastore, 1) := dk_79 (dk_at dksX4_change_1 3 rfl rfl)
theorem dX4_change_28 : decode cX4_change 28 = .ok (.iinc 2 1, 3) := dk_132 2 1 (dk_at dksX4_change_1 4 rfl rfl)
theorem dX4_change_31 : decode cX4_change 31 = .ok (.goto (-29), 3) := dk_167 255 227 (dk_at dksX4_change_1 7 rfl rfl)
theorem dX4_change_34 : decode cX4_change 34 = .ok (.return_, 1) := dk_177 (dk_at dksX4_change_1 10 rfl rfl)
abbrev cX4_turn : ByteArray := prog_16_method_83_code
def yX4_turn : MethodName := ⟨RX4, "turn", "(I)I"⟩
def dkwX4_turn_5 : List UInt8 := [167, 0, 4, 29, 172]
abbrev dktX4_turn_5 : List UInt8 := dkwX4_turn_5 ++ []
def dkwX4_turn_4 : List UInt8 := [132, 4, 1, 167, 255, 186, 29, 2, 160, 0, 7, 2, 167, 0, 15, 27, 154, 0, 10, 29, 184, 1, 1]
abbrev dktX4_turn_4 : List UInt8 := dkwX4_turn_4 ++ dktX4_turn_5
def dkwX4_turn_3 : List UInt8 := [159, 0, 15, 21, 4, 184, 1, 1, 29, 184, 1, 1, 162, 0, 8, 21, 4, 167, 0, 4, 29, 62]
abbrev dktX4_turn_3 : List UInt8 := dkwX4_turn_3 ++ dktX4_turn_4
def dkwX4_turn_2 : List UInt8 := [28, 159, 0, 7, 4, 167, 0, 4, 3, 54, 5, 42, 21, 4, 182, 0, 254, 21, 5, 153, 0, 25, 29, 2]
abbrev dktX4_turn_2 : List UInt8 := dkwX4_turn_2 ++ dktX4_turn_3
def dkwX4_turn_1 : List UInt8 := [4, 54, 4, 21, 4, 4, 42, 182, 0, 84, 120, 162, 0, 65, 42, 21, 4, 182, 0, 254, 42, 182, 0, 251]
abbrev dktX4_turn_1 : List UInt8 := dkwX4_turn_1 ++ dktX4_turn_2
def dkwX4_turn_0 : List UInt8 := [27, 133, 9, 10, 184, 0, 76, 154, 0, 10, 42, 16, 254, 182, 0, 101, 172, 42, 182, 0, 251, 61, 2, 62]
abbrev dktX4_turn_0 : List UInt8 := dkwX4_turn_0 ++ dktX4_turn_1
theorem dksX4_turn_0 : cX4_turn.data.toList.drop 0 = dktX4_turn_0 := by decide +kernel
theorem dksX4_turn_1 : cX4_turn.data.toList.drop 24 = dktX4_turn_1 := dk_seg dksX4_turn_0 24 rfl rfl
theorem dksX4_turn_2 : cX4_turn.data.toList.drop 48 = dktX4_turn_2 := dk_seg dksX4_turn_1 24 rfl rfl
theorem dksX4_turn_3 : cX4_turn.data.toList.drop 72 = dktX4_turn_3 := dk_seg dksX4_turn_2 24 rfl rfl
theorem dksX4_turn_4 : cX4_turn.data.toList.drop 94 = dktX4_turn_4 := dk_seg dksX4_turn_3 22 rfl rfl
theorem dksX4_turn_5 : cX4_turn.data.toList.drop 117 = dktX4_turn_5 := dk_seg dksX4_turn_4 23 rfl rfl
theorem dX4_turn_0 : decode cX4_turn 0 = .ok (.iload_n 1, 1) := dk_27 (dk_at dksX4_turn_0 0 rfl rfl)
theorem dX4_turn_1 : decode cX4_turn 1 = .ok (.i2l, 1) := dk_133 (dk_at dksX4_turn_0 1 rfl rfl)
theorem dX4_turn_2 : decode cX4_turn 2 = .ok (.lconst 0, 1) := dk_9 (dk_at dksX4_turn_0 2 rfl rfl)
theorem dX4_turn_3 : decode cX4_turn 3 = .ok (.lconst 1, 1) := dk_10 (dk_at dksX4_turn_0 3 rfl rfl)
theorem dX4_turn_4 : decode cX4_turn 4 = .ok (.invokestatic 76, 3) := dk_184 0 76 (dk_at dksX4_turn_0 4 rfl rfl)
theorem dX4_turn_7 : decode cX4_turn 7 = .ok (.ifCond .ne 10, 3) := dk_154 0 10 (dk_at dksX4_turn_0 7 rfl rfl)
theorem dX4_turn_10 : decode cX4_turn 10 = .ok (.aload_n 0, 1) := dk_42 (dk_at dksX4_turn_0 10 rfl rfl)
theorem dX4_turn_11 : decode cX4_turn 11 = .ok (.bipush (-2), 2) := dk_16 254 (dk_at dksX4_turn_0 11 rfl rfl)
theorem dX4_turn_13 : decode cX4_turn 13 = .ok (.invokevirtual 101, 3) := dk_182 0 101 (dk_at dksX4_turn_0 13 rfl rfl)
theorem dX4_turn_16 : decode cX4_turn 16 = .ok (.ireturn, 1) := dk_172 (dk_at dksX4_turn_0 16 rfl rfl)
theorem dX4_turn_17 : decode cX4_turn 17 = .ok (.aload_n 0, 1) := dk_42 (dk_at dksX4_turn_0 17 rfl rfl)
theorem dX4_turn_18 : decode cX4_turn 18 = .ok (.invokevirtual 251, 3) := dk_182 0 251 (dk_at dksX4_turn_0 18 rfl rfl)
theorem dX4_turn_21 : decode cX4_turn 21 = .ok (.istore_n 2, 1) := dk_61 (dk_at dksX4_turn_0 21 rfl rfl)
theorem dX4_turn_22 : decode cX4_turn 22 = .ok (.iconst (-1), 1) := dk_2 (dk_at dksX4_turn_0 22 rfl rfl)
theorem dX4_turn_23 : decode cX4_turn 23 = .ok (.istore_n 3, 1) := dk_62 (dk_at dksX4_turn_0 23 rfl rfl)
theorem dX4_turn_24 : decode cX4_turn 24 = .ok (.iconst 1, 1) := dk_4 (dk_at dksX4_turn_1 0 rfl rfl)
theorem dX4_turn_25 : decode cX4_turn 25 = .ok (.istore 4, 2) := dk_54 4 (dk_at dksX4_turn_1 1 rfl rfl)
theorem dX4_turn_27 : decode cX4_turn 27 = .ok (.iload 4, 2) := dk_21 4 (dk_at dksX4_turn_1 3 rfl rfl)
theorem dX4_turn_29 : decode cX4_turn 29 = .ok (.iconst 1, 1) := dk_4 (dk_at dksX4_turn_1 5 rfl rfl)
theorem dX4_turn_30 : decode cX4_turn 30 = .ok (.aload_n 0, 1) := dk_42 (dk_at dksX4_turn_1 6 rfl rfl)
theorem dX4_turn_31 : decode cX4_turn 31 = .ok (.invokevirtual 84, 3) := dk_182 0 84 (dk_at dksX4_turn_1 7 rfl rfl)
theorem dX4_turn_34 : decode cX4_turn 34 = .ok (.ishl, 1) := dk_120 (dk_at dksX4_turn_1 10 rfl rfl)
theorem dX4_turn_35 : decode cX4_turn 35 = .ok (.if_icmp .ge 65, 3) := dk_162 0 65 (dk_at dksX4_turn_1 11 rfl rfl)
theorem dX4_turn_38 : decode cX4_turn 38 = .ok (.aload_n 0, 1) := dk_42 (dk_at dksX4_turn_1 14 rfl rfl)
theorem dX4_turn_39 : decode cX4_turn 39 = .ok (.iload 4, 2) := dk_21 4 (dk_at dksX4_turn_1 15 rfl rfl)
theorem dX4_turn_41 : decode cX4_turn 41 = .ok (.invokevirtual 254, 3) := dk_182 0 254 (dk_at dksX4_turn_1 17 rfl rfl)
theorem dX4_turn_44 : decode cX4_turn 44 = .ok (.aload_n 0, 1) := dk_42 (dk_at dksX4_turn_1 20 rfl rfl)
theorem dX4_turn_45 : decode cX4_turn 45 = .ok (.invokevirtual 251, 3) := dk_182 0 251 (dk_at dksX4_turn_1 21 rfl rfl)
theorem dX4_turn_48 : decode cX4_turn 48 = .ok (.iload_n 2, 1) := dk_28 (dk_at dksX4_turn_2 0 rfl rfl)
theorem dX4_turn_49 : decode cX4_turn 49 = .ok (.if_icmp .eq 7, 3) := dk_159 0 7 (dk_at dksX4_turn_2 1 rfl rfl)
theorem dX4_turn_52 : decode cX4_turn 52 = .ok (.iconst 1, 1) := dk_4 (dk_at dksX4_turn_2 4 rfl rfl)
theorem dX4_turn_53 : decode cX4_turn 53 = .ok (.goto 4, 3) := dk_167 0 4 (dk_at dksX4_turn_2 5 rfl rfl)
theorem dX4_turn_56 : decode cX4_turn 56 = .ok (.iconst 0, 1) := dk_3 (dk_at dksX4_turn_2 8 rfl rfl)
theorem dX4_turn_57 : decode cX4_turn 57 = .ok (.istore 5, 2) := dk_54 5 (dk_at dksX4_turn_2 9 rfl rfl)
theorem dX4_turn_59 : decode cX4_turn 59 = .ok (.aload_n 0, 1) := dk_42 (dk_at dksX4_turn_2 11 rfl rfl)
theorem dX4_turn_60 : decode cX4_turn 60 = .ok (.iload 4, 2) := dk_21 4 (dk_at dksX4_turn_2 12 rfl rfl)
theorem dX4_turn_62 : decode cX4_turn 62 = .ok (.invokevirtual 254, 3) := dk_182 0 254 (dk_at dksX4_turn_2 14 rfl rfl)
theorem dX4_turn_65 : decode cX4_turn 65 = .ok (.iload 5, 2) := dk_21 5 (dk_at dksX4_turn_2 17 rfl rfl)
theorem dX4_turn_67 : decode cX4_turn 67 = .ok (.ifCond .eq 25, 3) := dk_153 0 25 (dk_at dksX4_turn_2 19 rfl rfl)
theorem dX4_turn_70 : decode cX4_turn 70 = .ok (.iload_n 3, 1) := dk_29 (dk_at dksX4_turn_2 22 rfl rfl)
theorem dX4_turn_71 : decode cX4_turn 71 = .ok (.iconst (-1), 1) := dk_2 (dk_at dksX4_turn_2 23 rfl rfl)
theorem dX4_turn_72 : decode cX4_turn 72 = .ok (.if_icmp .eq 15, 3) := dk_159 0 15 (dk_at dksX4_turn_3 0 rfl rfl)
theorem dX4_turn_75 : decode cX4_turn 75 = .ok (.iload 4, 2) := dk_21 4 (dk_at dksX4_turn_3 3 rfl rfl)
theorem dX4_turn_77 : decode cX4_turn 77 = .ok (.invokestatic 257, 3) := dk_184 1 1 (dk_at dksX4_turn_3 5 rfl rfl)
theorem dX4_turn_80 : decode cX4_turn 80 = .ok (.iload_n 3, 1) := dk_29 (dk_at dksX4_turn_3 8 rfl rfl)
theorem dX4_turn_81 : decode cX4_turn 81 = .ok (.invokestatic 257, 3) := dk_184 1 1 (dk_at dksX4_turn_3 9 rfl rfl)
theorem dX4_turn_84 : decode cX4_turn 84 = .ok (.if_icmp .ge 8, 3) := dk_162 0 8 (dk_at dksX4_turn_3 12 rfl rfl)
theorem dX4_turn_87 : decode cX4_turn 87 = .ok (.iload 4, 2) := dk_21 4 (dk_at dksX4_turn_3 15 rfl rfl)
theorem dX4_turn_89 : decode cX4_turn 89 = .ok (.goto 4, 3) := dk_167 0 4 (dk_at dksX4_turn_3 17 rfl rfl)
theorem dX4_turn_92 : decode cX4_turn 92 = .ok (.iload_n 3, 1) := dk_29 (dk_at dksX4_turn_3 20 rfl rfl)
theorem dX4_turn_93 : decode cX4_turn 93 = .ok (.istore_n 3, 1) := dk_62 (dk_at dksX4_turn_3 21 rfl rfl)
theorem dX4_turn_94 : decode cX4_turn 94 = .ok (.iinc 4 1, 3) := dk_132 4 1 (dk_at dksX4_turn_4 0 rfl rfl)
theorem dX4_turn_97 : decode cX4_turn 97 = .ok (.goto (-70), 3) := dk_167 255 186 (dk_at dksX4_turn_4 3 rfl rfl)
theorem dX4_turn_100 : decode cX4_turn 100 = .ok (.iload_n 3, 1) := dk_29 (dk_at dksX4_turn_4 6 rfl rfl)
theorem dX4_turn_101 : decode cX4_turn 101 = .ok (.iconst (-1), 1) := dk_2 (dk_at dksX4_turn_4 7 rfl rfl)
theorem dX4_turn_102 : decode cX4_turn 102 = .ok (.if_icmp .ne 7, 3) := dk_160 0 7 (dk_at dksX4_turn_4 8 rfl rfl)
theorem dX4_turn_105 : decode cX4_turn 105 = .ok (.iconst (-1), 1) := dk_2 (dk_at dksX4_turn_4 11 rfl rfl)
theorem dX4_turn_106 : decode cX4_turn 106 = .ok (.goto 15, 3) := dk_167 0 15 (dk_at dksX4_turn_4 12 rfl rfl)
theorem dX4_turn_109 : decode cX4_turn 109 = .ok (.iload_n 1, 1) := dk_27 (dk_at dksX4_turn_4 15 rfl rfl)
theorem dX4_turn_110 : decode cX4_turn 110 = .ok (.ifCond .ne 10, 3) := dk_154 0 10 (dk_at dksX4_turn_4 16 rfl rfl)
theorem dX4_turn_113 : decode cX4_turn 113 = .ok (.iload_n 3, 1) := dk_29 (dk_at dksX4_turn_4 19 rfl rfl)
theorem dX4_turn_114 : decode cX4_turn 114 = .ok (.invokestatic 257, 3) := dk_184 1 1 (dk_at dksX4_turn_4 20 rfl rfl)
theorem dX4_turn_117 : decode cX4_turn 117 = .ok (.goto 4, 3) := dk_167 0 4 (dk_at dksX4_turn_5 0 rfl rfl)
theorem dX4_turn_120 : decode cX4_turn 120 = .ok (.iload_n 3, 1) := dk_29 (dk_at dksX4_turn_5 3 rfl rfl)
theorem dX4_turn_121 : decode cX4_turn 121 = .ok (.ireturn, 1) := dk_172 (dk_at dksX4_turn_5 4 rfl rfl)
abbrev cX4_ones : ByteArray := prog_16_method_82_code
def yX4_ones : MethodName := ⟨RX4, "ones", "(I)I"⟩
def dkwX4_ones_1 : List UInt8 := [27, 172]
abbrev dktX4_ones_1 : List UInt8 := dkwX4_ones_1 ++ []
def dkwX4_ones_0 : List UInt8 := [3, 60, 3, 61, 28, 16, 8, 162, 0, 17, 27, 26, 28, 122, 4, 126, 96, 60, 132, 2, 1, 167, 255, 239]
abbrev dktX4_ones_0 : List UInt8 := dkwX4_ones_0 ++ dktX4_ones_1
theorem dksX4_ones_0 : cX4_ones.data.toList.drop 0 = dktX4_ones_0 := by decide +kernel
theorem dksX4_ones_1 : cX4_ones.data.toList.drop 24 = dktX4_ones_1 := dk_seg dksX4_ones_0 24 rfl rfl
theorem dX4_ones_0 : decode cX4_ones 0 = .ok (.iconst 0, 1) := dk_3 (dk_at dksX4_ones_0 0 rfl rfl)
theorem dX4_ones_1 : decode cX4_ones 1 = .ok (.istore_n 1, 1) := dk_60 (dk_at dksX4_ones_0 1 rfl rfl)
theorem dX4_ones_2 : decode cX4_ones 2 = .ok (.iconst 0, 1) := dk_3 (dk_at dksX4_ones_0 2 rfl rfl)
theorem dX4_ones_3 : decode cX4_ones 3 = .ok (.istore_n 2, 1) := dk_61 (dk_at dksX4_ones_0 3 rfl rfl)
theorem dX4_ones_4 : decode cX4_ones 4 = .ok (.iload_n 2, 1) := dk_28 (dk_at dksX4_ones_0 4 rfl rfl)
theorem dX4_ones_5 : decode cX4_ones 5 = .ok (.bipush 8, 2) := dk_16 8 (dk_at dksX4_ones_0 5 rfl rfl)
theorem dX4_ones_7 : decode cX4_ones 7 = .ok (.if_icmp .ge 17, 3) := dk_162 0 17 (dk_at dksX4_ones_0 7 rfl rfl)
theorem dX4_ones_10 : decode cX4_ones 10 = .ok (.iload_n 1, 1) := dk_27 (dk_at dksX4_ones_0 10 rfl rfl)
theorem dX4_ones_11 : decode cX4_ones 11 = .ok (.iload_n 0, 1) := dk_26 (dk_at dksX4_ones_0 11 rfl rfl)
theorem dX4_ones_12 : decode cX4_ones 12 = .ok (.iload_n 2, 1) := dk_28 (dk_at dksX4_ones_0 12 rfl rfl)
theorem dX4_ones_13 : decode cX4_ones 13 = .ok (.ishr, 1) := dk_122 (dk_at dksX4_ones_0 13 rfl rfl)
theorem dX4_ones_14 : decode cX4_ones 14 = .ok (.iconst 1, 1) := dk_4 (dk_at dksX4_ones_0 14 rfl rfl)
theorem dX4_ones_15 : decode cX4_ones 15 = .ok (.iand, 1) := dk_126 (dk_at dksX4_ones_0 15 rfl rfl)
theorem dX4_ones_16 : decode cX4_ones 16 = .ok (.iadd, 1) := dk_96 (dk_at dksX4_ones_0 16 rfl rfl)
theorem dX4_ones_17 : decode cX4_ones 17 = .ok (.istore_n 1, 1) := dk_60 (dk_at dksX4_ones_0 17 rfl rfl)
theorem dX4_ones_18 : decode cX4_ones 18 = .ok (.iinc 2 1, 3) := dk_132 2 1 (dk_at dksX4_ones_0 18 rfl rfl)
theorem dX4_ones_21 : decode cX4_ones 21 = .ok (.goto (-17), 3) := dk_167 255 239 (dk_at dksX4_ones_0 21 rfl rfl)
theorem dX4_ones_24 : decode cX4_ones 24 = .ok (.iload_n 1, 1) := dk_27 (dk_at dksX4_ones_1 0 rfl rfl)
theorem dX4_ones_25 : decode cX4_ones 25 = .ok (.ireturn, 1) := dk_172 (dk_at dksX4_ones_1 1 rfl rfl)
abbrev cX4_agreed : ByteArray := prog_16_method_84_code
def yX4_agreed : MethodName := ⟨RX4, "agreed", "()I"⟩
def dkwX4_agreed_2 : List UInt8 := [167, 0, 4, 3, 128, 60, 132, 2, 1, 167, 255, 203, 27, 172]
abbrev dktX4_agreed_2 : List UInt8 := dkwX4_agreed_2 ++ []
def dkwX4_agreed_1 : List UInt8 := [182, 0, 195, 27, 42, 3, 28, 4, 182, 0, 188, 42, 180, 0, 17, 16, 91, 46, 160, 0, 9, 4, 28, 120]
abbrev dktX4_agreed_1 : List UInt8 := dkwX4_agreed_1 ++ dktX4_agreed_2
def dkwX4_agreed_0 : List UInt8 := [3, 60, 3, 61, 28, 42, 182, 0, 84, 162, 0, 51, 42, 3, 42, 28, 182, 0, 88, 42, 28, 182, 0, 192]
abbrev dktX4_agreed_0 : List UInt8 := dkwX4_agreed_0 ++ dktX4_agreed_1
theorem dksX4_agreed_0 : cX4_agreed.data.toList.drop 0 = dktX4_agreed_0 := by decide +kernel
theorem dksX4_agreed_1 : cX4_agreed.data.toList.drop 24 = dktX4_agreed_1 := dk_seg dksX4_agreed_0 24 rfl rfl
theorem dksX4_agreed_2 : cX4_agreed.data.toList.drop 48 = dktX4_agreed_2 := dk_seg dksX4_agreed_1 24 rfl rfl
theorem dX4_agreed_0 : decode cX4_agreed 0 = .ok (.iconst 0, 1) := dk_3 (dk_at dksX4_agreed_0 0 rfl rfl)
theorem dX4_agreed_1 : decode cX4_agreed 1 = .ok (.istore_n 1, 1) := dk_60 (dk_at dksX4_agreed_0 1 rfl rfl)
theorem dX4_agreed_2 : decode cX4_agreed 2 = .ok (.iconst 0, 1) := dk_3 (dk_at dksX4_agreed_0 2 rfl rfl)
theorem dX4_agreed_3 : decode cX4_agreed 3 = .ok (.istore_n 2, 1) := dk_61 (dk_at dksX4_agreed_0 3 rfl rfl)
theorem dX4_agreed_4 : decode cX4_agreed 4 = .ok (.iload_n 2, 1) := dk_28 (dk_at dksX4_agreed_0 4 rfl rfl)
theorem dX4_agreed_5 : decode cX4_agreed 5 = .ok (.aload_n 0, 1) := dk_42 (dk_at dksX4_agreed_0 5 rfl rfl)
theorem dX4_agreed_6 : decode cX4_agreed 6 = .ok (.invokevirtual 84, 3) := dk_182 0 84 (dk_at dksX4_agreed_0 6 rfl rfl)
theorem dX4_agreed_9 : decode cX4_agreed 9 = .ok (.if_icmp .ge 51, 3) := dk_162 0 51 (dk_at dksX4_agreed_0 9 rfl rfl)
theorem dX4_agreed_12 : decode cX4_agreed 12 = .ok (.aload_n 0, 1) := dk_42 (dk_at dksX4_agreed_0 12 rfl rfl)
theorem dX4_agreed_13 : decode cX4_agreed 13 = .ok (.iconst 0, 1) := dk_3 (dk_at dksX4_agreed_0 13 rfl rfl)
theorem dX4_agreed_14 : decode cX4_agreed 14 = .ok (.aload_n 0, 1) := dk_42 (dk_at dksX4_agreed_0 14 rfl rfl)
theorem dX4_agreed_15 : decode cX4_agreed 15 = .ok (.iload_n 2, 1) := dk_28 (dk_at dksX4_agreed_0 15 rfl rfl)
theorem dX4_agreed_16 : decode cX4_agreed 16 = .ok (.invokevirtual 88, 3) := dk_182 0 88 (dk_at dksX4_agreed_0 16 rfl rfl)
theorem dX4_agreed_19 : decode cX4_agreed 19 = .ok (.aload_n 0, 1) := dk_42 (dk_at dksX4_agreed_0 19 rfl rfl)
theorem dX4_agreed_20 : decode cX4_agreed 20 = .ok (.iload_n 2, 1) := dk_28 (dk_at dksX4_agreed_0 20 rfl rfl)
theorem dX4_agreed_21 : decode cX4_agreed 21 = .ok (.invokevirtual 192, 3) := dk_182 0 192 (dk_at dksX4_agreed_0 21 rfl rfl)
theorem dX4_agreed_24 : decode cX4_agreed 24 = .ok (.invokevirtual 195, 3) := dk_182 0 195 (dk_at dksX4_agreed_1 0 rfl rfl)
theorem dX4_agreed_27 : decode cX4_agreed 27 = .ok (.iload_n 1, 1) := dk_27 (dk_at dksX4_agreed_1 3 rfl rfl)
theorem dX4_agreed_28 : decode cX4_agreed 28 = .ok (.aload_n 0, 1) := dk_42 (dk_at dksX4_agreed_1 4 rfl rfl)
theorem dX4_agreed_29 : decode cX4_agreed 29 = .ok (.iconst 0, 1) := dk_3 (dk_at dksX4_agreed_1 5 rfl rfl)
theorem dX4_agreed_30 : decode cX4_agreed 30 = .ok (.iload_n 2, 1) := dk_28 (dk_at dksX4_agreed_1 6 rfl rfl)
theorem dX4_agreed_31 : decode cX4_agreed 31 = .ok (.iconst 1, 1) := dk_4 (dk_at dksX4_agreed_1 7 rfl rfl)
theorem dX4_agreed_32 : decode cX4_agreed 32 = .ok (.invokevirtual 188, 3) := dk_182 0 188 (dk_at dksX4_agreed_1 8 rfl rfl)
theorem dX4_agreed_35 : decode cX4_agreed 35 = .ok (.aload_n 0, 1) := dk_42 (dk_at dksX4_agreed_1 11 rfl rfl)
theorem dX4_agreed_36 : decode cX4_agreed 36 = .ok (.getfield 17, 3) := dk_180 0 17 (dk_at dksX4_agreed_1 12 rfl rfl)
theorem dX4_agreed_39 : decode cX4_agreed 39 = .ok (.bipush 91, 2) := dk_16 91 (dk_at dksX4_agreed_1 15 rfl rfl)
theorem dX4_agreed_41 : decode cX4_agreed 41 = .ok (.iaload, 1) := dk_46 (dk_at dksX4_agreed_1 17 rfl rfl)
theorem dX4_agreed_42 : decode cX4_agreed 42 = .ok (.if_icmp .ne 9, 3) := dk_160 0 9 (dk_at dksX4_agreed_1 18 rfl rfl)
theorem dX4_agreed_45 : decode cX4_agreed 45 = .ok (.iconst 1, 1) := dk_4 (dk_at dksX4_agreed_1 21 rfl rfl)
theorem dX4_agreed_46 : decode cX4_agreed 46 = .ok (.iload_n 2, 1) := dk_28 (dk_at dksX4_agreed_1 22 rfl rfl)
theorem dX4_agreed_47 : decode cX4_agreed 47 = .ok (.ishl, 1) := dk_120 (dk_at dksX4_agreed_1 23 rfl rfl)
theorem dX4_agreed_48 : decode cX4_agreed 48 = .ok (.goto 4, 3) := dk_167 0 4 (dk_at dksX4_agreed_2 0 rfl rfl)
theorem dX4_agreed_51 : decode cX4_agreed 51 = .ok (.iconst 0, 1) := dk_3 (dk_at dksX4_agreed_2 3 rfl rfl)
theorem dX4_agreed_52 : decode cX4_agreed 52 = .ok (.ior, 1) := dk_128 (dk_at dksX4_agreed_2 4 rfl rfl)
theorem dX4_agreed_53 : decode cX4_agreed 53 = .ok (.istore_n 1, 1) := dk_60 (dk_at dksX4_agreed_2 5 rfl rfl)
theorem dX4_agreed_54 : decode cX4_agreed 54 = .ok (.iinc 2 1, 3) := dk_132 2 1 (dk_at dksX4_agreed_2 6 rfl rfl)
theorem dX4_agreed_57 : decode cX4_agreed 57 = .ok (.goto (-53), 3) := dk_167 255 203 (dk_at dksX4_agreed_2 9 rfl rfl)
theorem dX4_agreed_60 : decode cX4_agreed 60 = .ok (.iload_n 1, 1) := dk_27 (dk_at dksX4_agreed_2 12 rfl rfl)
theorem dX4_agreed_61 : decode cX4_agreed 61 = .ok (.ireturn, 1) := dk_172 (dk_at dksX4_agreed_2 13 rfl rfl)
abbrev cX4_meet : ByteArray := prog_16_method_87_code
def yX4_meet : MethodName := ⟨RX4, "meet", "(IIIIII)I"⟩
def dkwX4_meet_1 : List UInt8 := [182, 0, 101, 167, 0, 14, 42, 28, 29, 21, 5, 21, 6, 3, 182, 1, 13, 172]
abbrev dktX4_meet_1 : List UInt8 := dkwX4_meet_1 ++ []
def dkwX4_meet_0 : List UInt8 := [42, 27, 28, 29, 21, 4, 21, 5, 21, 6, 182, 1, 9, 54, 7, 21, 7, 156, 0, 12, 42, 21, 7]
abbrev dktX4_meet_0 : List UInt8 := dkwX4_meet_0 ++ dktX4_meet_1
theorem dksX4_meet_0 : cX4_meet.data.toList.drop 0 = dktX4_meet_0 := by decide +kernel
theorem dksX4_meet_1 : cX4_meet.data.toList.drop 23 = dktX4_meet_1 := dk_seg dksX4_meet_0 23 rfl rfl
theorem dX4_meet_0 : decode cX4_meet 0 = .ok (.aload_n 0, 1) := dk_42 (dk_at dksX4_meet_0 0 rfl rfl)
theorem dX4_meet_1 : decode cX4_meet 1 = .ok (.iload_n 1, 1) := dk_27 (dk_at dksX4_meet_0 1 rfl rfl)
theorem dX4_meet_2 : decode cX4_meet 2 = .ok (.iload_n 2, 1) := dk_28 (dk_at dksX4_meet_0 2 rfl rfl)
theorem dX4_meet_3 : decode cX4_meet 3 = .ok (.iload_n 3, 1) := dk_29 (dk_at dksX4_meet_0 3 rfl rfl)
theorem dX4_meet_4 : decode cX4_meet 4 = .ok (.iload 4, 2) := dk_21 4 (dk_at dksX4_meet_0 4 rfl rfl)
theorem dX4_meet_6 : decode cX4_meet 6 = .ok (.iload 5, 2) := dk_21 5 (dk_at dksX4_meet_0 6 rfl rfl)
theorem dX4_meet_8 : decode cX4_meet 8 = .ok (.iload 6, 2) := dk_21 6 (dk_at dksX4_meet_0 8 rfl rfl)
theorem dX4_meet_10 : decode cX4_meet 10 = .ok (.invokevirtual 265, 3) := dk_182 1 9 (dk_at dksX4_meet_0 10 rfl rfl)
theorem dX4_meet_13 : decode cX4_meet 13 = .ok (.istore 7, 2) := dk_54 7 (dk_at dksX4_meet_0 13 rfl rfl)
theorem dX4_meet_15 : decode cX4_meet 15 = .ok (.iload 7, 2) := dk_21 7 (dk_at dksX4_meet_0 15 rfl rfl)
theorem dX4_meet_17 : decode cX4_meet 17 = .ok (.ifCond .ge 12, 3) := dk_156 0 12 (dk_at dksX4_meet_0 17 rfl rfl)
theorem dX4_meet_20 : decode cX4_meet 20 = .ok (.aload_n 0, 1) := dk_42 (dk_at dksX4_meet_0 20 rfl rfl)
theorem dX4_meet_21 : decode cX4_meet 21 = .ok (.iload 7, 2) := dk_21 7 (dk_at dksX4_meet_0 21 rfl rfl)
theorem dX4_meet_23 : decode cX4_meet 23 = .ok (.invokevirtual 101, 3) := dk_182 0 101 (dk_at dksX4_meet_1 0 rfl rfl)
theorem dX4_meet_26 : decode cX4_meet 26 = .ok (.goto 14, 3) := dk_167 0 14 (dk_at dksX4_meet_1 3 rfl rfl)
theorem dX4_meet_29 : decode cX4_meet 29 = .ok (.aload_n 0, 1) := dk_42 (dk_at dksX4_meet_1 6 rfl rfl)
theorem dX4_meet_30 : decode cX4_meet 30 = .ok (.iload_n 2, 1) := dk_28 (dk_at dksX4_meet_1 7 rfl rfl)
theorem dX4_meet_31 : decode cX4_meet 31 = .ok (.iload_n 3, 1) := dk_29 (dk_at dksX4_meet_1 8 rfl rfl)
theorem dX4_meet_32 : decode cX4_meet 32 = .ok (.iload 5, 2) := dk_21 5 (dk_at dksX4_meet_1 9 rfl rfl)
theorem dX4_meet_34 : decode cX4_meet 34 = .ok (.iload 6, 2) := dk_21 6 (dk_at dksX4_meet_1 11 rfl rfl)
theorem dX4_meet_36 : decode cX4_meet 36 = .ok (.iconst 0, 1) := dk_3 (dk_at dksX4_meet_1 13 rfl rfl)
theorem dX4_meet_37 : decode cX4_meet 37 = .ok (.invokevirtual 269, 3) := dk_182 1 13 (dk_at dksX4_meet_1 14 rfl rfl)
theorem dX4_meet_40 : decode cX4_meet 40 = .ok (.ireturn, 1) := dk_172 (dk_at dksX4_meet_1 17 rfl rfl)
abbrev cX4_loadBoth : ByteArray := prog_16_method_85_code
def yX4_loadBoth : MethodName := ⟨RX4, "loadBoth", "(IIIIII)I"⟩
def dkwX4_loadBoth_8 : List UInt8 := [160, 0, 14, 42, 21, 4, 21, 5, 182, 0, 216, 167, 0, 5, 21, 7, 172]
abbrev dktX4_loadBoth_8 : List UInt8 := dkwX4_loadBoth_8 ++ []
def dkwX4_loadBoth_7 : List UInt8 := [180, 0, 73, 21, 8, 42, 180, 0, 51, 21, 8, 46, 79, 132, 8, 1, 167, 255, 227, 21, 7, 4]
abbrev dktX4_loadBoth_7 : List UInt8 := dkwX4_loadBoth_7 ++ dktX4_loadBoth_8
def dkwX4_loadBoth_6 : List UInt8 := [27, 28, 182, 0, 216, 54, 7, 3, 54, 8, 21, 8, 28, 162, 0, 29, 21, 7, 4, 160, 0, 23, 42]
abbrev dktX4_loadBoth_6 : List UInt8 := dkwX4_loadBoth_6 ++ dktX4_loadBoth_7
def dkwX4_loadBoth_5 : List UInt8 := [180, 0, 57, 27, 46, 163, 0, 15, 21, 5, 42, 180, 0, 57, 21, 4, 46, 164, 0, 6, 16, 254, 172, 42]
abbrev dktX4_loadBoth_5 : List UInt8 := dkwX4_loadBoth_5 ++ dktX4_loadBoth_6
def dkwX4_loadBoth_4 : List UInt8 := [27, 46, 2, 159, 0, 14, 42, 180, 0, 54, 21, 4, 46, 2, 160, 0, 6, 16, 252, 172, 28, 42]
abbrev dktX4_loadBoth_4 : List UInt8 := dkwX4_loadBoth_4 ++ dktX4_loadBoth_5
def dkwX4_loadBoth_3 : List UInt8 := [16, 10, 162, 0, 15, 42, 180, 0, 54, 21, 4, 46, 16, 10, 161, 0, 6, 16, 253, 172, 42, 180, 0, 54]
abbrev dktX4_loadBoth_3 : List UInt8 := dkwX4_loadBoth_3 ++ dktX4_loadBoth_4
def dkwX4_loadBoth_2 : List UInt8 := [42, 21, 6, 182, 0, 124, 153, 0, 9, 29, 21, 6, 160, 0, 6, 16, 254, 172, 42, 180, 0, 54, 27, 46]
abbrev dktX4_loadBoth_2 : List UInt8 := dkwX4_loadBoth_2 ++ dktX4_loadBoth_3
def dkwX4_loadBoth_1 : List UInt8 := [153, 0, 39, 21, 5, 133, 9, 20, 0, 208, 184, 0, 76, 153, 0, 26, 42, 29, 182, 0, 124, 153, 0, 18]
abbrev dktX4_loadBoth_1 : List UInt8 := dkwX4_loadBoth_1 ++ dktX4_loadBoth_2
def dkwX4_loadBoth_0 : List UInt8 := [27, 184, 0, 203, 153, 0, 59, 21, 4, 184, 0, 203, 153, 0, 51, 28, 133, 9, 20, 0, 208, 184, 0, 76]
abbrev dktX4_loadBoth_0 : List UInt8 := dkwX4_loadBoth_0 ++ dktX4_loadBoth_1
theorem dksX4_loadBoth_0 : cX4_loadBoth.data.toList.drop 0 = dktX4_loadBoth_0 := by decide +kernel
theorem dksX4_loadBoth_1 : cX4_loadBoth.data.toList.drop 24 = dktX4_loadBoth_1 := dk_seg dksX4_loadBoth_0 24 rfl rfl
theorem dksX4_loadBoth_2 : cX4_loadBoth.data.toList.drop 48 = dktX4_loadBoth_2 := dk_seg dksX4_loadBoth_1 24 rfl rfl
theorem dksX4_loadBoth_3 : cX4_loadBoth.data.toList.drop 72 = dktX4_loadBoth_3 := dk_seg dksX4_loadBoth_2 24 rfl rfl
theorem dksX4_loadBoth_4 : cX4_loadBoth.data.toList.drop 96 = dktX4_loadBoth_4 := dk_seg dksX4_loadBoth_3 24 rfl rfl
theorem dksX4_loadBoth_5 : cX4_loadBoth.data.toList.drop 118 = dktX4_loadBoth_5 := dk_seg dksX4_loadBoth_4 22 rfl rfl
theorem dksX4_loadBoth_6 : cX4_loadBoth.data.toList.drop 142 = dktX4_loadBoth_6 := dk_seg dksX4_loadBoth_5 24 rfl rfl
theorem dksX4_loadBoth_7 : cX4_loadBoth.data.toList.drop 165 = dktX4_loadBoth_7 := dk_seg dksX4_loadBoth_6 23 rfl rfl
theorem dksX4_loadBoth_8 : cX4_loadBoth.data.toList.drop 187 = dktX4_loadBoth_8 := dk_seg dksX4_loadBoth_7 22 rfl rfl
theorem dX4_loadBoth_0 : decode cX4_loadBoth 0 = .ok (.iload_n 1, 1) := dk_27 (dk_at dksX4_loadBoth_0 0 rfl rfl)
theorem dX4_loadBoth_1 : decode cX4_loadBoth 1 = .ok (.invokestatic 203, 3) := dk_184 0 203 (dk_at dksX4_loadBoth_0 1 rfl rfl)
theorem dX4_loadBoth_4 : decode cX4_loadBoth 4 = .ok (.ifCond .eq 59, 3) := dk_153 0 59 (dk_at dksX4_loadBoth_0 4 rfl rfl)
theorem dX4_loadBoth_7 : decode cX4_loadBoth 7 = .ok (.iload 4, 2) := dk_21 4 (dk_at dksX4_loadBoth_0 7 rfl rfl)
theorem dX4_loadBoth_9 : decode cX4_loadBoth 9 = .ok (.invokestatic 203, 3) := dk_184 0 203 (dk_at dksX4_loadBoth_0 9 rfl rfl)
theorem dX4_loadBoth_12 : decode cX4_loadBoth 12 = .ok (.ifCond .eq 51, 3) := dk_153 0 51 (dk_at dksX4_loadBoth_0 12 rfl rfl)
theorem dX4_loadBoth_15 : decode cX4_loadBoth 15 = .ok (.iload_n 2, 1) := dk_28 (dk_at dksX4_loadBoth_0 15 rfl rfl)
theorem dX4_loadBoth_16 : decode cX4_loadBoth 16 = .ok (.i2l, 1) := dk_133 (dk_at dksX4_loadBoth_0 16 rfl rfl)
theorem dX4_loadBoth_17 : decode cX4_loadBoth 17 = .ok (.lconst 0, 1) := dk_9 (dk_at dksX4_loadBoth_0 17 rfl rfl)
theorem dX4_loadBoth_18 : decode cX4_loadBoth 18 = .ok (.ldc2_w 208, 3) := dk_20 0 208 (dk_at dksX4_loadBoth_0 18 rfl rfl)
theorem dX4_loadBoth_21 : decode cX4_loadBoth 21 = .ok (.invokestatic 76, 3) := dk_184 0 76 (dk_at dksX4_loadBoth_0 21 rfl rfl)
theorem dX4_loadBoth_24 : decode cX4_loadBoth 24 = .ok (.ifCond .eq 39, 3) := dk_153 0 39 (dk_at dksX4_loadBoth_1 0 rfl rfl)
theorem dX4_loadBoth_27 : decode cX4_loadBoth 27 = .ok (.iload 5, 2) := dk_21 5 (dk_at dksX4_loadBoth_1 3 rfl rfl)
theorem dX4_loadBoth_29 : decode cX4_loadBoth 29 = .ok (.i2l, 1) := dk_133 (dk_at dksX4_loadBoth_1 5 rfl rfl)
theorem dX4_loadBoth_30 : decode cX4_loadBoth 30 = .ok (.lconst 0, 1) := dk_9 (dk_at dksX4_loadBoth_1 6 rfl rfl)
theorem dX4_loadBoth_31 : decode cX4_loadBoth 31 = .ok (.ldc2_w 208, 3) := dk_20 0 208 (dk_at dksX4_loadBoth_1 7 rfl rfl)
theorem dX4_loadBoth_34 : decode cX4_loadBoth 34 = .ok (.invokestatic 76, 3) := dk_184 0 76 (dk_at dksX4_loadBoth_1 10 rfl rfl)
theorem dX4_loadBoth_37 : decode cX4_loadBoth 37 = .ok (.ifCond .eq 26, 3) := dk_153 0 26 (dk_at dksX4_loadBoth_1 13 rfl rfl)
theorem dX4_loadBoth_40 : decode cX4_loadBoth 40 = .ok (.aload_n 0, 1) := dk_42 (dk_at dksX4_loadBoth_1 16 rfl rfl)
theorem dX4_loadBoth_41 : decode cX4_loadBoth 41 = .ok (.iload_n 3, 1) := dk_29 (dk_at dksX4_loadBoth_1 17 rfl rfl)
theorem dX4_loadBoth_42 : decode cX4_loadBoth 42 = .ok (.invokevirtual 124, 3) := dk_182 0 124 (dk_at dksX4_loadBoth_1 18 rfl rfl)
theorem dX4_loadBoth_45 : decode cX4_loadBoth 45 = .ok (.ifCond .eq 18, 3) := dk_153 0 18 (dk_at dksX4_loadBoth_1 21 rfl rfl)
theorem dX4_loadBoth_48 : decode cX4_loadBoth 48 = .ok (.aload_n 0, 1) := dk_42 (dk_at dksX4_loadBoth_2 0 rfl rfl)
theorem dX4_loadBoth_49 : decode cX4_loadBoth 49 = .ok (.iload 6, 2) := dk_21 6 (dk_at dksX4_loadBoth_2 1 rfl rfl)
theorem dX4_loadBoth_51 : decode cX4_loadBoth 51 = .ok (.invokevirtual 124, 3) := dk_182 0 124 (dk_at dksX4_loadBoth_2 3 rfl rfl)
theorem dX4_loadBoth_54 : decode cX4_loadBoth 54 = .ok (.ifCond .eq 9, 3) := dk_153 0 9 (dk_at dksX4_loadBoth_2 6 rfl rfl)
theorem dX4_loadBoth_57 : decode cX4_loadBoth 57 = .ok (.iload_n 3, 1) := dk_29 (dk_at dksX4_loadBoth_2 9 rfl rfl)
theorem dX4_loadBoth_58 : decode cX4_loadBoth 58 = .ok (.iload 6, 2) := dk_21 6 (dk_at dksX4_loadBoth_2 10 rfl rfl)
theorem dX4_loadBoth_60 : decode cX4_loadBoth 60 = .ok (.if_icmp .ne 6, 3) := dk_160 0 6 (dk_at dksX4_loadBoth_2 12 rfl rfl)
theorem dX4_loadBoth_63 : decode cX4_loadBoth 63 = .ok (.bipush (-2), 2) := dk_16 254 (dk_at dksX4_loadBoth_2 15 rfl rfl)
theorem dX4_loadBoth_65 : decode cX4_loadBoth 65 = .ok (.ireturn, 1) := dk_172 (dk_at dksX4_loadBoth_2 17 rfl rfl)
theorem dX4_loadBoth_66 : decode cX4_loadBoth 66 = .ok (.aload_n 0, 1) := dk_42 (dk_at dksX4_loadBoth_2 18 rfl rfl)
theorem dX4_loadBoth_67 : decode cX4_loadBoth 67 = .ok (.getfield 54, 3) := dk_180 0 54 (dk_at dksX4_loadBoth_2 19 rfl rfl)
theorem dX4_loadBoth_70 : decode cX4_loadBoth 70 = .ok (.iload_n 1, 1) := dk_27 (dk_at dksX4_loadBoth_2 22 rfl rfl)
theorem dX4_loadBoth_71 : decode cX4_loadBoth 71 = .ok (.iaload, 1) := dk_46 (dk_at dksX4_loadBoth_2 23 rfl rfl)
theorem dX4_loadBoth_72 : decode cX4_loadBoth 72 = .ok (.bipush 10, 2) := dk_16 10 (dk_at dksX4_loadBoth_3 0 rfl rfl)
theorem dX4_loadBoth_74 : decode cX4_loadBoth 74 = .ok (.if_icmp .ge 15, 3) := dk_162 0 15 (dk_at dksX4_loadBoth_3 2 rfl rfl)
theorem dX4_loadBoth_77 : decode cX4_loadBoth 77 = .ok (.aload_n 0, 1) := dk_42 (dk_at dksX4_loadBoth_3 5 rfl rfl)
theorem dX4_loadBoth_78 : decode cX4_loadBoth 78 = .ok (.getfield 54, 3) := dk_180 0 54 (dk_at dksX4_loadBoth_3 6 rfl rfl)
theorem dX4_loadBoth_81 : decode cX4_loadBoth 81 = .ok (.iload 4, 2) := dk_21 4 (dk_at dksX4_loadBoth_3 9 rfl rfl)
theorem dX4_loadBoth_83 : decode cX4_loadBoth 83 = .ok (.iaload, 1) := dk_46 (dk_at dksX4_loadBoth_3 11 rfl rfl)
theorem dX4_loadBoth_84 : decode cX4_loadBoth 84 = .ok (.bipush 10, 2) := dk_16 10 (dk_at dksX4_loadBoth_3 12 rfl rfl)
theorem dX4_loadBoth_86 : decode cX4_loadBoth 86 = .ok (.if_icmp .lt 6, 3) := dk_161 0 6 (dk_at dksX4_loadBoth_3 14 rfl rfl)
theorem dX4_loadBoth_89 : decode cX4_loadBoth 89 = .ok (.bipush (-3), 2) := dk_16 253 (dk_at dksX4_loadBoth_3 17 rfl rfl)
theorem dX4_loadBoth_91 : decode cX4_loadBoth 91 = .ok (.ireturn, 1) := dk_172 (dk_at dksX4_loadBoth_3 19 rfl rfl)
theorem dX4_loadBoth_92 : decode cX4_loadBoth 92 = .ok (.aload_n 0, 1) := dk_42 (dk_at dksX4_loadBoth_3 20 rfl rfl)
theorem dX4_loadBoth_93 : decode cX4_loadBoth 93 = .ok (.getfield 54, 3) := dk_180 0 54 (dk_at dksX4_loadBoth_3 21 rfl rfl)
theorem dX4_loadBoth_96 : decode cX4_loadBoth 96 = .ok (.iload_n 1, 1) := dk_27 (dk_at dksX4_loadBoth_4 0 rfl rfl)
theorem dX4_loadBoth_97 : decode cX4_loadBoth 97 = .ok (.iaload, 1) := dk_46 (dk_at dksX4_loadBoth_4 1 rfl rfl)
theorem dX4_loadBoth_98 : decode cX4_loadBoth 98 = .ok (.iconst (-1), 1) := dk_2 (dk_at dksX4_loadBoth_4 2 rfl rfl)
theorem dX4_loadBoth_99 : decode cX4_loadBoth 99 = .ok (.if_icmp .eq 14, 3) := dk_159 0 14 (dk_at dksX4_loadBoth_4 3 rfl rfl)
theorem dX4_loadBoth_102 : decode cX4_loadBoth 102 = .ok (.aload_n 0, 1) := dk_42 (dk_at dksX4_loadBoth_4 6 rfl rfl)
theorem dX4_loadBoth_103 : decode cX4_loadBoth 103 = .ok (.getfield 54, 3) := dk_180 0 54 (dk_at dksX4_loadBoth_4 7 rfl rfl)
theorem dX4_loadBoth_106 : decode cX4_loadBoth 106 = .ok (.iload 4, 2) := dk_21 4 (dk_at dksX4_loadBoth_4 10 rfl rfl)
theorem dX4_loadBoth_108 : decode cX4_loadBoth 108 = .ok (.iaload, 1) := dk_46 (dk_at dksX4_loadBoth_4 12 rfl rfl)
theorem dX4_loadBoth_109 : decode cX4_loadBoth 109 = .ok (.iconst (-1), 1) := dk_2 (dk_at dksX4_loadBoth_4 13 rfl rfl)
theorem dX4_loadBoth_110 : decode cX4_loadBoth 110 = .ok (.if_icmp .ne 6, 3) := dk_160 0 6 (dk_at dksX4_loadBoth_4 14 rfl rfl)
theorem dX4_loadBoth_113 : decode cX4_loadBoth 113 = .ok (.bipush (-4), 2) := dk_16 252 (dk_at dksX4_loadBoth_4 17 rfl rfl)
theorem dX4_loadBoth_115 : decode cX4_loadBoth 115 = .ok (.ireturn, 1) := dk_172 (dk_at dksX4_loadBoth_4 19 rfl rfl)
theorem dX4_loadBoth_116 : decode cX4_loadBoth 116 = .ok (.iload_n 2, 1) := dk_28 (dk_at dksX4_loadBoth_4 20 rfl rfl)
theorem dX4_loadBoth_117 : decode cX4_loadBoth 117 = .ok (.aload_n 0, 1) := dk_42 (dk_at dksX4_loadBoth_4 21 rfl rfl)
theorem dX4_loadBoth_118 : decode cX4_loadBoth 118 = .ok (.getfield 57, 3) := dk_180 0 57 (dk_at dksX4_loadBoth_5 0 rfl rfl)
theorem dX4_loadBoth_121 : decode cX4_loadBoth 121 = .ok (.iload_n 1, 1) := dk_27 (dk_at dksX4_loadBoth_5 3 rfl rfl)
theorem dX4_loadBoth_122 : decode cX4_loadBoth 122 = .ok (.iaload, 1) := dk_46 (dk_at dksX4_loadBoth_5 4 rfl rfl)
theorem dX4_loadBoth_123 : decode cX4_loadBoth 123 = .ok (.if_icmp .gt 15, 3) := dk_163 0 15 (dk_at dksX4_loadBoth_5 5 rfl rfl)
theorem dX4_loadBoth_126 : decode cX4_loadBoth 126 = .ok (.iload 5, 2) := dk_21 5 (dk_at dksX4_loadBoth_5 8 rfl rfl)
theorem dX4_loadBoth_128 : decode cX4_loadBoth 128 = .ok (.aload_n 0, 1) := dk_42 (dk_at dksX4_loadBoth_5 10 rfl rfl)
theorem dX4_loadBoth_129 : decode cX4_loadBoth 129 = .ok (.getfield 57, 3) := dk_180 0 57 (dk_at dksX4_loadBoth_5 11 rfl rfl)
theorem dX4_loadBoth_132 : decode cX4_loadBoth 132 = .ok (.iload 4, 2) := dk_21 4 (dk_at dksX4_loadBoth_5 14 rfl rfl)
theorem dX4_loadBoth_134 : decode cX4_loadBoth 134 = .ok (.iaload, 1) := dk_46 (dk_at dksX4_loadBoth_5 16 rfl rfl)
theorem dX4_loadBoth_135 : decode cX4_loadBoth 135 = .ok (.if_icmp .le 6, 3) := dk_164 0 6 (dk_at dksX4_loadBoth_5 17 rfl rfl)
theorem dX4_loadBoth_138 : decode cX4_loadBoth 138 = .ok (.bipush (-2), 2) := dk_16 254 (dk_at dksX4_loadBoth_5 20 rfl rfl)
theorem dX4_loadBoth_140 : decode cX4_loadBoth 140 = .ok (.ireturn, 1) := dk_172 (dk_at dksX4_loadBoth_5 22 rfl rfl)
theorem dX4_loadBoth_141 : decode cX4_loadBoth 141 = .ok (.aload_n 0, 1) := dk_42 (dk_at dksX4_loadBoth_5 23 rfl rfl)
theorem dX4_loadBoth_142 : decode cX4_loadBoth 142 = .ok (.iload_n 1, 1) := dk_27 (dk_at dksX4_loadBoth_6 0 rfl rfl)
theorem dX4_loadBoth_143 : decode cX4_loadBoth 143 = .ok (.iload_n 2, 1) := dk_28 (dk_at dksX4_loadBoth_6 1 rfl rfl)
theorem dX4_loadBoth_144 : decode cX4_loadBoth 144 = .ok (.invokevirtual 216, 3) := dk_182 0 216 (dk_at dksX4_loadBoth_6 2 rfl rfl)
theorem dX4_loadBoth_147 : decode cX4_loadBoth 147 = .ok (.istore 7, 2) := dk_54 7 (dk_at dksX4_loadBoth_6 5 rfl rfl)
theorem dX4_loadBoth_149 : decode cX4_loadBoth 149 = .ok (.iconst 0, 1) := dk_3 (dk_at dksX4_loadBoth_6 7 rfl rfl)
theorem dX4_loadBoth_150 : decode cX4_loadBoth 150 = .ok (.istore 8, 2) := dk_54 8 (dk_at dksX4_loadBoth_6 8 rfl rfl)
theorem dX4_loadBoth_152 : decode cX4_loadBoth 152 = .ok (.iload 8, 2) := dk_21 8 (dk_at dksX4_loadBoth_6 10 rfl rfl)
theorem dX4_loadBoth_154 : decode cX4_loadBoth 154 = .ok (.iload_n 2, 1) := dk_28 (dk_at dksX4_loadBoth_6 12 rfl rfl)
theorem dX4_loadBoth_155 : decode cX4_loadBoth 155 = .ok (.if_icmp .ge 29, 3) := dk_162 0 29 (dk_at dksX4_loadBoth_6 13 rfl rfl)
theorem dX4_loadBoth_158 : decode cX4_loadBoth 158 = .ok (.iload 7, 2) := dk_21 7 (dk_at dksX4_loadBoth_6 16 rfl rfl)
theorem dX4_loadBoth_160 : decode cX4_loadBoth 160 = .ok (.iconst 1, 1) := dk_4 (dk_at dksX4_loadBoth_6 18 rfl rfl)
theorem dX4_loadBoth_161 : decode cX4_loadBoth 161 = .ok (.if_icmp .ne 23, 3) := dk_160 0 23 (dk_at dksX4_loadBoth_6 19 rfl rfl)
theorem dX4_loadBoth_164 : decode cX4_loadBoth 164 = .ok (.aload_n 0, 1) := dk_42 (dk_at dksX4_loadBoth_6 22 rfl rfl)
theorem dX4_loadBoth_165 : decode cX4_loadBoth 165 = .ok (.getfield 73, 3) := dk_180 0 73 (dk_at dksX4_loadBoth_7 0 rfl rfl)
theorem dX4_loadBoth_168 : decode cX4_loadBoth 168 = .ok (.iload 8, 2) := dk_21 8 (dk_at dksX4_loadBoth_7 3 rfl rfl)
theorem dX4_loadBoth_170 : decode cX4_loadBoth 170 = .ok (.aload_n 0, 1) := dk_42 (dk_at dksX4_loadBoth_7 5 rfl rfl)
theorem dX4_loadBoth_171 : decode cX4_loadBoth 171 = .ok (.getfield 51, 3) := dk_180 0 51 (dk_at dksX4_loadBoth_7 6 rfl rfl)
theorem dX4_loadBoth_174 : decode cX4_loadBoth 174 = .ok (.iload 8, 2) := dk_21 8 (dk_at dksX4_loadBoth_7 9 rfl rfl)
theorem dX4_loadBoth_176 : decode cX4_loadBoth 176 = .ok (.iaload, 1) := dk_46 (dk_at dksX4_loadBoth_7 11 rfl rfl)
theorem dX4_loadBoth_177 : decode cX4_loadBoth 177 = .ok (.iastore, 1) := dk_79 (dk_at dksX4_loadBoth_7 12 rfl rfl)
theorem dX4_loadBoth_178 : decode cX4_loadBoth 178 = .ok (.iinc 8 1, 3) := dk_132 8 1 (dk_at dksX4_loadBoth_7 13 rfl rfl)
theorem dX4_loadBoth_181 : decode cX4_loadBoth 181 = .ok (.goto (-29), 3) := dk_167 255 227 (dk_at dksX4_loadBoth_7 16 rfl rfl)
theorem dX4_loadBoth_184 : decode cX4_loadBoth 184 = .ok (.iload 7, 2) := dk_21 7 (dk_at dksX4_loadBoth_7 19 rfl rfl)
theorem dX4_loadBoth_186 : decode cX4_loadBoth 186 = .ok (.iconst 1, 1) := dk_4 (dk_at dksX4_loadBoth_7 21 rfl rfl)
theorem dX4_loadBoth_187 : decode cX4_loadBoth 187 = .ok (.if_icmp .ne 14, 3) := dk_160 0 14 (dk_at dksX4_loadBoth_8 0 rfl rfl)
theorem dX4_loadBoth_190 : decode cX4_loadBoth 190 = .ok (.aload_n 0, 1) := dk_42 (dk_at dksX4_loadBoth_8 3 rfl rfl)
theorem dX4_loadBoth_191 : decode cX4_loadBoth 191 = .ok (.iload 4, 2) := dk_21 4 (dk_at dksX4_loadBoth_8 4 rfl rfl)
theorem dX4_loadBoth_193 : decode cX4_loadBoth 193 = .ok (.iload 5, 2) := dk_21 5 (dk_at dksX4_loadBoth_8 6 rfl rfl)
theorem dX4_loadBoth_195 : decode cX4_loadBoth 195 = .ok (.invokevirtual 216, 3) := dk_182 0 216 (dk_at dksX4_loadBoth_8 8 rfl rfl)
theorem dX4_loadBoth_198 : decode cX4_loadBoth 198 = .ok (.goto 5, 3) := dk_167 0 5 (dk_at dksX4_loadBoth_8 11 rfl rfl)
theorem dX4_loadBoth_201 : decode cX4_loadBoth 201 = .ok (.iload 7, 2) := dk_21 7 (dk_at dksX4_loadBoth_8 14 rfl rfl)
theorem dX4_loadBoth_203 : decode cX4_loadBoth 203 = .ok (.ireturn, 1) := dk_172 (dk_at dksX4_loadBoth_8 16 rfl rfl)
abbrev cX4_met : ByteArray := prog_16_method_86_code
def yX4_met : MethodName := ⟨RX4, "met", "(IIIII)I"⟩
def dkwX4_met_8 : List UInt8 := [4, 96, 172, 132, 6, 1, 167, 255, 115, 2, 172]
abbrev dktX4_met_8 : List UInt8 := dkwX4_met_8 ++ []
def dkwX4_met_7 : List UInt8 := [42, 180, 0, 33, 3, 46, 21, 8, 160, 0, 19, 42, 180, 0, 33, 4, 46, 21, 7, 160, 0, 8, 21, 6]
abbrev dktX4_met_7 : List UInt8 := dkwX4_met_7 ++ dktX4_met_8
def dkwX4_met_6 : List UInt8 := [167, 0, 4, 6, 21, 6, 182, 0, 199, 42, 180, 0, 33, 3, 46, 42, 180, 0, 33, 4, 46, 159, 0, 25]
abbrev dktX4_met_6 : List UInt8 := dkwX4_met_6 ++ dktX4_met_7
def dkwX4_met_5 : List UInt8 := [21, 5, 96, 4, 100, 133, 184, 0, 76, 153, 0, 16, 42, 180, 0, 51, 21, 6, 21, 5, 100, 46]
abbrev dktX4_met_5 : List UInt8 := dkwX4_met_5 ++ dktX4_met_6
def dkwX4_met_4 : List UInt8 := [21, 6, 46, 167, 0, 4, 6, 21, 6, 182, 0, 199, 42, 4, 21, 4, 21, 6, 133, 21, 5, 133, 29]
abbrev dktX4_met_4 : List UInt8 := dkwX4_met_4 ++ dktX4_met_5
def dkwX4_met_3 : List UInt8 := [54, 7, 42, 180, 0, 33, 4, 46, 54, 8, 42, 3, 28, 21, 6, 27, 162, 0, 13, 42, 180, 0, 73]
abbrev dktX4_met_3 : List UInt8 := dkwX4_met_3 ++ dktX4_met_4
def dkwX4_met_2 : List UInt8 := [172, 3, 54, 6, 21, 6, 27, 29, 21, 5, 96, 184, 1, 4, 162, 0, 134, 42, 180, 0, 33, 3, 46]
abbrev dktX4_met_2 : List UInt8 := dkwX4_met_2 ++ dktX4_met_3
def dkwX4_met_1 : List UInt8 := [21, 4, 182, 0, 192, 182, 0, 195, 42, 180, 0, 33, 3, 46, 42, 180, 0, 33, 4, 46, 160, 0, 5, 3]
abbrev dktX4_met_1 : List UInt8 := dkwX4_met_1 ++ dktX4_met_2
def dkwX4_met_0 : List UInt8 := [42, 3, 42, 28, 182, 0, 88, 42, 28, 182, 0, 192, 182, 0, 195, 42, 4, 42, 21, 4, 182, 0, 88, 42]
abbrev dktX4_met_0 : List UInt8 := dkwX4_met_0 ++ dktX4_met_1
theorem dksX4_met_0 : cX4_met.data.toList.drop 0 = dktX4_met_0 := by decide +kernel
theorem dksX4_met_1 : cX4_met.data.toList.drop 24 = dktX4_met_1 := dk_seg dksX4_met_0 24 rfl rfl
theorem dksX4_met_2 : cX4_met.data.toList.drop 48 = dktX4_met_2 := dk_seg dksX4_met_1 24 rfl rfl
theorem dksX4_met_3 : cX4_met.data.toList.drop 71 = dktX4_met_3 := dk_seg dksX4_met_2 23 rfl rfl
theorem dksX4_met_4 : cX4_met.data.toList.drop 94 = dktX4_met_4 := dk_seg dksX4_met_3 23 rfl rfl
theorem dksX4_met_5 : cX4_met.data.toList.drop 117 = dktX4_met_5 := dk_seg dksX4_met_4 23 rfl rfl
theorem dksX4_met_6 : cX4_met.data.toList.drop 139 = dktX4_met_6 := dk_seg dksX4_met_5 22 rfl rfl
theorem dksX4_met_7 : cX4_met.data.toList.drop 163 = dktX4_met_7 := dk_seg dksX4_met_6 24 rfl rfl
theorem dksX4_met_8 : cX4_met.data.toList.drop 187 = dktX4_met_8 := dk_seg dksX4_met_7 24 rfl rfl
theorem dX4_met_0 : decode cX4_met 0 = .ok (.aload_n 0, 1) := dk_42 (dk_at dksX4_met_0 0 rfl rfl)
theorem dX4_met_1 : decode cX4_met 1 = .ok (.iconst 0, 1) := dk_3 (dk_at dksX4_met_0 1 rfl rfl)
theorem dX4_met_2 : decode cX4_met 2 = .ok (.aload_n 0, 1) := dk_42 (dk_at dksX4_met_0 2 rfl rfl)
theorem dX4_met_3 : decode cX4_met 3 = .ok (.iload_n 2, 1) := dk_28 (dk_at dksX4_met_0 3 rfl rfl)
theorem dX4_met_4 : decode cX4_met 4 = .ok (.invokevirtual 88, 3) := dk_182 0 88 (dk_at dksX4_met_0 4 rfl rfl)
theorem dX4_met_7 : decode cX4_met 7 = .ok (.aload_n 0, 1) := dk_42 (dk_at dksX4_met_0 7 rfl rfl)
theorem dX4_met_8 : decode cX4_met 8 = .ok (.iload_n 2, 1) := dk_28 (dk_at dksX4_met_0 8 rfl rfl)
theorem dX4_met_9 : decode cX4_met 9 = .ok (.invokevirtual 192, 3) := dk_182 0 192 (dk_at dksX4_met_0 9 rfl rfl)
theorem dX4_met_12 : decode cX4_met 12 = .ok (.invokevirtual 195, 3) := dk_182 0 195 (dk_at dksX4_met_0 12 rfl rfl)
theorem dX4_met_15 : decode cX4_met 15 = .ok (.aload_n 0, 1) := dk_42 (dk_at dksX4_met_0 15 rfl rfl)
theorem dX4_met_16 : decode cX4_met 16 = .ok (.iconst 1, 1) := dk_4 (dk_at dksX4_met_0 16 rfl rfl)
theorem dX4_met_17 : decode cX4_met 17 = .ok (.aload_n 0, 1) := dk_42 (dk_at dksX4_met_0 17 rfl rfl)
theorem dX4_met_18 : decode cX4_met 18 = .ok (.iload 4, 2) := dk_21 4 (dk_at dksX4_met_0 18 rfl rfl)
theorem dX4_met_20 : decode cX4_met 20 = .ok (.invokevirtual 88, 3) := dk_182 0 88 (dk_at dksX4_met_0 20 rfl rfl)
theorem dX4_met_23 : decode cX4_met 23 = .ok (.aload_n 0, 1) := dk_42 (dk_at dksX4_met_0 23 rfl rfl)
theorem dX4_met_24 : decode cX4_met 24 = .ok (.iload 4, 2) := dk_21 4 (dk_at dksX4_met_1 0 rfl rfl)
theorem dX4_met_26 : decode cX4_met 26 = .ok (.invokevirtual 192, 3) := dk_182 0 192 (dk_at dksX4_met_1 2 rfl rfl)
theorem dX4_met_29 : decode cX4_met 29 = .ok (.invokevirtual 195, 3) := dk_182 0 195 (dk_at dksX4_met_1 5 rfl rfl)
theorem dX4_met_32 : decode cX4_met 32 = .ok (.aload_n 0, 1) := dk_42 (dk_at dksX4_met_1 8 rfl rfl)
theorem dX4_met_33 : decode cX4_met 33 = .ok (.getfield 33, 3) := dk_180 0 33 (dk_at dksX4_met_1 9 rfl rfl)
theorem dX4_met_36 : decode cX4_met 36 = .ok (.iconst 0, 1) := dk_3 (dk_at dksX4_met_1 12 rfl rfl)
theorem dX4_met_37 : decode cX4_met 37 = .ok (.iaload, 1) := dk_46 (dk_at dksX4_met_1 13 rfl rfl)
theorem dX4_met_38 : decode cX4_met 38 = .ok (.aload_n 0, 1) := dk_42 (dk_at dksX4_met_1 14 rfl rfl)
theorem dX4_met_39 : decode cX4_met 39 = .ok (.getfield 33, 3) := dk_180 0 33 (dk_at dksX4_met_1 15 rfl rfl)
theorem dX4_met_42 : decode cX4_met 42 = .ok (.iconst 1, 1) := dk_4 (dk_at dksX4_met_1 18 rfl rfl)
theorem dX4_met_43 : decode cX4_met 43 = .ok (.iaload, 1) := dk_46 (dk_at dksX4_met_1 19 rfl rfl)
theorem dX4_met_44 : decode cX4_met 44 = .ok (.if_icmp .ne 5, 3) := dk_160 0 5 (dk_at dksX4_met_1 20 rfl rfl)
theorem dX4_met_47 : decode cX4_met 47 = .ok (.iconst 0, 1) := dk_3 (dk_at dksX4_met_1 23 rfl rfl)
theorem dX4_met_48 : decode cX4_met 48 = .ok (.ireturn, 1) := dk_172 (dk_at dksX4_met_2 0 rfl rfl)
theorem dX4_met_49 : decode cX4_met 49 = .ok (.iconst 0, 1) := dk_3 (dk_at dksX4_met_2 1 rfl rfl)
theorem dX4_met_50 : decode cX4_met 50 = .ok (.istore 6, 2) := dk_54 6 (dk_at dksX4_met_2 2 rfl rfl)
theorem dX4_met_52 : decode cX4_met 52 = .ok (.iload 6, 2) := dk_21 6 (dk_at dksX4_met_2 4 rfl rfl)
theorem dX4_met_54 : decode cX4_met 54 = .ok (.iload_n 1, 1) := dk_27 (dk_at dksX4_met_2 6 rfl rfl)
theorem dX4_met_55 : decode cX4_met 55 = .ok (.iload_n 3, 1) := dk_29 (dk_at dksX4_met_2 7 rfl rfl)
theorem dX4_met_56 : decode cX4_met 56 = .ok (.iload 5, 2) := dk_21 5 (dk_at dksX4_met_2 8 rfl rfl)
theorem dX4_met_58 : decode cX4_met 58 = .ok (.iadd, 1) := dk_96 (dk_at dksX4_met_2 10 rfl rfl)
theorem dX4_met_59 : decode cX4_met 59 = .ok (.invokestatic 260, 3) := dk_184 1 4 (dk_at dksX4_met_2 11 rfl rfl)
theorem dX4_met_62 : decode cX4_met 62 = .ok (.if_icmp .ge 134, 3) := dk_162 0 134 (dk_at dksX4_met_2 14 rfl rfl)
theorem dX4_met_65 : decode cX4_met 65 = .ok (.aload_n 0, 1) := dk_42 (dk_at dksX4_met_2 17 rfl rfl)
theorem dX4_met_66 : decode cX4_met 66 = .ok (.getfield 33, 3) := dk_180 0 33 (dk_at dksX4_met_2 18 rfl rfl)
theorem dX4_met_69 : decode cX4_met 69 = .ok (.iconst 0, 1) := dk_3 (dk_at dksX4_met_2 21 rfl rfl)
theorem dX4_met_70 : decode cX4_met 70 = .ok (.iaload, 1) := dk_46 (dk_at dksX4_met_2 22 rfl rfl)
theorem dX4_met_71 : decode cX4_met 71 = .ok (.istore 7, 2) := dk_54 7 (dk_at dksX4_met_3 0 rfl rfl)
theorem dX4_met_73 : decode cX4_met 73 = .ok (.aload_n 0, 1) := dk_42 (dk_at dksX4_met_3 2 rfl rfl)
theorem dX4_met_74 : decode cX4_met 74 = .ok (.getfield 33, 3) := dk_180 0 33 (dk_at dksX4_met_3 3 rfl rfl)
theorem dX4_met_77 : decode cX4_met 77 = .ok (.iconst 1, 1) := dk_4 (dk_at dksX4_met_3 6 rfl rfl)
theorem dX4_met_78 : decode cX4_met 78 = .ok (.iaload, 1) := dk_46 (dk_at dksX4_met_3 7 rfl rfl)
theorem dX4_met_79 : decode cX4_met 79 = .ok (.istore 8, 2) := dk_54 8 (dk_at dksX4_met_3 8 rfl rfl)
theorem dX4_met_81 : decode cX4_met 81 = .ok (.aload_n 0, 1) := dk_42 (dk_at dksX4_met_3 10 rfl rfl)
theorem dX4_met_82 : decode cX4_met 82 = .ok (.iconst 0, 1) := dk_3 (dk_at dksX4_met_3 11 rfl rfl)
theorem dX4_met_83 : decode cX4_met 83 = .ok (.iload_n 2, 1) := dk_28 (dk_at dksX4_met_3 12 rfl rfl)
theorem dX4_met_84 : decode cX4_met 84 = .ok (.iload 6, 2) := dk_21 6 (dk_at dksX4_met_3 13 rfl rfl)
theorem dX4_met_86 : decode cX4_met 86 = .ok (.iload_n 1, 1) := dk_27 (dk_at dksX4_met_3 15 rfl rfl)
theorem dX4_met_87 : decode cX4_met 87 = .ok (.if_icmp .ge 13, 3) := dk_162 0 13 (dk_at dksX4_met_3 16 rfl rfl)
theorem dX4_met_90 : decode cX4_met 90 = .ok (.aload_n 0, 1) := dk_42 (dk_at dksX4_met_3 19 rfl rfl)
theorem dX4_met_91 : decode cX4_met 91 = .ok (.getfield 73, 3) := dk_180 0 73 (dk_at dksX4_met_3 20 rfl rfl)
theorem dX4_met_94 : decode cX4_met 94 = .ok (.iload 6, 2) := dk_21 6 (dk_at dksX4_met_4 0 rfl rfl)
theorem dX4_met_96 : decode cX4_met 96 = .ok (.iaload, 1) := dk_46 (dk_at dksX4_met_4 2 rfl rfl)
theorem dX4_met_97 : decode cX4_met 97 = .ok (.goto 4, 3) := dk_167 0 4 (dk_at dksX4_met_4 3 rfl rfl)
theorem dX4_met_100 : decode cX4_met 100 = .ok (.iconst 3, 1) := dk_6 (dk_at dksX4_met_4 6 rfl rfl)
theorem dX4_met_101 : decode cX4_met 101 = .ok (.iload 6, 2) := dk_21 6 (dk_at dksX4_met_4 7 rfl rfl)
theorem dX4_met_103 : decode cX4_met 103 = .ok (.invokevirtual 199, 3) := dk_182 0 199 (dk_at dksX4_met_4 9 rfl rfl)
theorem dX4_met_106 : decode cX4_met 106 = .ok (.aload_n 0, 1) := dk_42 (dk_at dksX4_met_4 12 rfl rfl)
theorem dX4_met_107 : decode cX4_met 107 = .ok (.iconst 1, 1) := dk_4 (dk_at dksX4_met_4 13 rfl rfl)
theorem dX4_met_108 : decode cX4_met 108 = .ok (.iload 4, 2) := dk_21 4 (dk_at dksX4_met_4 14 rfl rfl)
theorem dX4_met_110 : decode cX4_met 110 = .ok (.iload 6, 2) := dk_21 6 (dk_at dksX4_met_4 16 rfl rfl)
theorem dX4_met_112 : decode cX4_met 112 = .ok (.i2l, 1) := dk_133 (dk_at dksX4_met_4 18 rfl rfl)
theorem dX4_met_113 : decode cX4_met 113 = .ok (.iload 5, 2) := dk_21 5 (dk_at dksX4_met_4 19 rfl rfl)
theorem dX4_met_115 : decode cX4_met 115 = .ok (.i2l, 1) := dk_133 (dk_at dksX4_met_4 21 rfl rfl)
theorem dX4_met_116 : decode cX4_met 116 = .ok (.iload_n 3, 1) := dk_29 (dk_at dksX4_met_4 22 rfl rfl)
theorem dX4_met_117 : decode cX4_met 117 = .ok (.iload 5, 2) := dk_21 5 (dk_at dksX4_met_5 0 rfl rfl)
theorem dX4_met_119 : decode cX4_met 119 = .ok (.iadd, 1) := dk_96 (dk_at dksX4_met_5 2 rfl rfl)
theorem dX4_met_120 : decode cX4_met 120 = .ok (.iconst 1, 1) := dk_4 (dk_at dksX4_met_5 3 rfl rfl)
theorem dX4_met_121 : decode cX4_met 121 = .ok (.isub, 1) := dk_100 (dk_at dksX4_met_5 4 rfl rfl)
theorem dX4_met_122 : decode cX4_met 122 = .ok (.i2l, 1) := dk_133 (dk_at dksX4_met_5 5 rfl rfl)
theorem dX4_met_123 : decode cX4_met 123 = .ok (.invokestatic 76, 3) := dk_184 0 76 (dk_at dksX4_met_5 6 rfl rfl)
theorem dX4_met_126 : decode cX4_met 126 = .ok (.ifCond .eq 16, 3) := dk_153 0 16 (dk_at dksX4_met_5 9 rfl rfl)
theorem dX4_met_129 : decode cX4_met 129 = .ok (.aload_n 0, 1) := dk_42 (dk_at dksX4_met_5 12 rfl rfl)
theorem dX4_met_130 : decode cX4_met 130 = .ok (.getfield 51, 3) := dk_180 0 51 (dk_at dksX4_met_5 13 rfl rfl)
theorem dX4_met_133 : decode cX4_met 133 = .ok (.iload 6, 2) := dk_21 6 (dk_at dksX4_met_5 16 rfl rfl)
theorem dX4_met_135 : decode cX4_met 135 = .ok (.iload 5, 2) := dk_21 5 (dk_at dksX4_met_5 18 rfl rfl)
theorem dX4_met_137 : decode cX4_met 137 = .ok (.isub, 1) := dk_100 (dk_at dksX4_met_5 20 rfl rfl)
theorem dX4_met_138 : decode cX4_met 138 = .ok (.iaload, 1) := dk_46 (dk_at dksX4_met_5 21 rfl rfl)
theorem dX4_met_139 : decode cX4_met 139 = .ok (.goto 4, 3) := dk_167 0 4 (dk_at dksX4_met_6 0 rfl rfl)
theorem dX4_met_142 : decode cX4_met 142 = .ok (.iconst 3, 1) := dk_6 (dk_at dksX4_met_6 3 rfl rfl)
theorem dX4_met_143 : decode cX4_met 143 = .ok (.iload 6, 2) := dk_21 6 (dk_at dksX4_met_6 4 rfl rfl)
theorem dX4_met_145 : decode cX4_met 145 = .ok (.invokevirtual 199, 3) := dk_182 0 199 (dk_at dksX4_met_6 6 rfl rfl)
theorem dX4_met_148 : decode cX4_met 148 = .ok (.aload_n 0, 1) := dk_42 (dk_at dksX4_met_6 9 rfl rfl)
theorem dX4_met_149 : decode cX4_met 149 = .ok (.getfield 33, 3) := dk_180 0 33 (dk_at dksX4_met_6 10 rfl rfl)
theorem dX4_met_152 : decode cX4_met 152 = .ok (.iconst 0, 1) := dk_3 (dk_at dksX4_met_6 13 rfl rfl)
theorem dX4_met_153 : decode cX4_met 153 = .ok (.iaload, 1) := dk_46 (dk_at dksX4_met_6 14 rfl rfl)
theorem dX4_met_154 : decode cX4_met 154 = .ok (.aload_n 0, 1) := dk_42 (dk_at dksX4_met_6 15 rfl rfl)
theorem dX4_met_155 : decode cX4_met 155 = .ok (.getfield 33, 3) := dk_180 0 33 (dk_at dksX4_met_6 16 rfl rfl)
theorem dX4_met_158 : decode cX4_met 158 = .ok (.iconst 1, 1) := dk_4 (dk_at dksX4_met_6 19 rfl rfl)
theorem dX4_met_159 : decode cX4_met 159 = .ok (.iaload, 1) := dk_46 (dk_at dksX4_met_6 20 rfl rfl)
theorem dX4_met_160 : decode cX4_met 160 = .ok (.if_icmp .eq 25, 3) := dk_159 0 25 (dk_at dksX4_met_6 21 rfl rfl)
theorem dX4_met_163 : decode cX4_met 163 = .ok (.aload_n 0, 1) := dk_42 (dk_at dksX4_met_7 0 rfl rfl)
theorem dX4_met_164 : decode cX4_met 164 = .ok (.getfield 33, 3) := dk_180 0 33 (dk_at dksX4_met_7 1 rfl rfl)
theorem dX4_met_167 : decode cX4_met 167 = .ok (.iconst 0, 1) := dk_3 (dk_at dksX4_met_7 4 rfl rfl)
theorem dX4_met_168 : decode cX4_met 168 = .ok (.iaload, 1) := dk_46 (dk_at dksX4_met_7 5 rfl rfl)
theorem dX4_met_169 : decode cX4_met 169 = .ok (.iload 8, 2) := dk_21 8 (dk_at dksX4_met_7 6 rfl rfl)
theorem dX4_met_171 : decode cX4_met 171 = .ok (.if_icmp .ne 19, 3) := dk_160 0 19 (dk_at dksX4_met_7 8 rfl rfl)
theorem dX4_met_174 : decode cX4_met 174 = .ok (.aload_n 0, 1) := dk_42 (dk_at dksX4_met_7 11 rfl rfl)
theorem dX4_met_175 : decode cX4_met 175 = .ok (.getfield 33, 3) := dk_180 0 33 (dk_at dksX4_met_7 12 rfl rfl)
theorem dX4_met_178 : decode cX4_met 178 = .ok (.iconst 1, 1) := dk_4 (dk_at dksX4_met_7 15 rfl rfl)
theorem dX4_met_179 : decode cX4_met 179 = .ok (.iaload, 1) := dk_46 (dk_at dksX4_met_7 16 rfl rfl)
theorem dX4_met_180 : decode cX4_met 180 = .ok (.iload 7, 2) := dk_21 7 (dk_at dksX4_met_7 17 rfl rfl)
theorem dX4_met_182 : decode cX4_met 182 = .ok (.if_icmp .ne 8, 3) := dk_160 0 8 (dk_at dksX4_met_7 19 rfl rfl)
theorem dX4_met_185 : decode cX4_met 185 = .ok (.iload 6, 2) := dk_21 6 (dk_at dksX4_met_7 22 rfl rfl)
theorem dX4_met_187 : decode cX4_met 187 = .ok (.iconst 1, 1) := dk_4 (dk_at dksX4_met_8 0 rfl rfl)
theorem dX4_met_188 : decode cX4_met 188 = .ok (.iadd, 1) := dk_96 (dk_at dksX4_met_8 1 rfl rfl)
theorem dX4_met_189 : decode cX4_met 189 = .ok (.ireturn, 1) := dk_172 (dk_at dksX4_met_8 2 rfl rfl)
theorem dX4_met_190 : decode cX4_met 190 = .ok (.iinc 6 1, 3) := dk_132 6 1 (dk_at dksX4_met_8 3 rfl rfl)
theorem dX4_met_193 : decode cX4_met 193 = .ok (.goto (-141), 3) := dk_167 255 115 (dk_at dksX4_met_8 6 rfl rfl)
theorem dX4_met_196 : decode cX4_met 196 = .ok (.iconst (-1), 1) := dk_2 (dk_at dksX4_met_8 9 rfl rfl)
theorem dX4_met_197 : decode cX4_met 197 = .ok (.ireturn, 1) := dk_172 (dk_at dksX4_met_8 10 rfl rfl)
abbrev cX4_waits : ByteArray := prog_16_method_88_code
def yX4_waits : MethodName := ⟨RX4, "waits", "(IIIIII)I"⟩
def dkwX4_waits_2 : List UInt8 := [182, 1, 13, 2, 160, 0, 6, 21, 8, 172, 132, 8, 1, 167, 255, 227, 2, 172]
abbrev dktX4_waits_2 : List UInt8 := dkwX4_waits_2 ++ []
def dkwX4_waits_1 : List UInt8 := [182, 0, 101, 172, 3, 54, 8, 21, 8, 16, 10, 162, 0, 28, 42, 28, 29, 21, 5, 21, 6, 21, 8]
abbrev dktX4_waits_1 : List UInt8 := dkwX4_waits_1 ++ dktX4_waits_2
def dkwX4_waits_0 : List UInt8 := [42, 27, 28, 29, 21, 4, 21, 5, 21, 6, 182, 1, 9, 54, 7, 21, 7, 156, 0, 10, 42, 21, 7]
abbrev dktX4_waits_0 : List UInt8 := dkwX4_waits_0 ++ dktX4_waits_1
theorem dksX4_waits_0 : cX4_waits.data.toList.drop 0 = dktX4_waits_0 := by decide +kernel
theorem dksX4_waits_1 : cX4_waits.data.toList.drop 23 = dktX4_waits_1 := dk_seg dksX4_waits_0 23 rfl rfl
theorem dksX4_waits_2 : cX4_waits.data.toList.drop 46 = dktX4_waits_2 := dk_seg dksX4_waits_1 23 rfl rfl
theorem dX4_waits_0 : decode cX4_waits 0 = .ok (.aload_n 0, 1) := dk_42 (dk_at dksX4_waits_0 0 rfl rfl)
theorem dX4_waits_1 : decode cX4_waits 1 = .ok (.iload_n 1, 1) := dk_27 (dk_at dksX4_waits_0 1 rfl rfl)
theorem dX4_waits_2 : decode cX4_waits 2 = .ok (.iload_n 2, 1) := dk_28 (dk_at dksX4_waits_0 2 rfl rfl)
theorem dX4_waits_3 : decode cX4_waits 3 = .ok (.iload_n 3, 1) := dk_29 (dk_at dksX4_waits_0 3 rfl rfl)
theorem dX4_waits_4 : decode cX4_waits 4 = .ok (.iload 4, 2) := dk_21 4 (dk_at dksX4_waits_0 4 rfl rfl)
theorem dX4_waits_6 : decode cX4_waits 6 = .ok (.iload 5, 2) := dk_21 5 (dk_at dksX4_waits_0 6 rfl rfl)
theorem dX4_waits_8 : decode cX4_waits 8 = .ok (.iload 6, 2) := dk_21 6 (dk_at dksX4_waits_0 8 rfl rfl)
theorem dX4_waits_10 : decode cX4_waits 10 = .ok (.invokevirtual 265, 3) := dk_182 1 9 (dk_at dksX4_waits_0 10 rfl rfl)
theorem dX4_waits_13 : decode cX4_waits 13 = .ok (.istore 7, 2) := dk_54 7 (dk_at dksX4_waits_0 13 rfl rfl)
theorem dX4_waits_15 : decode cX4_waits 15 = .ok (.iload 7, 2) := dk_21 7 (dk_at dksX4_waits_0 15 rfl rfl)
theorem dX4_waits_17 : decode cX4_waits 17 = .ok (.ifCond .ge 10, 3) := dk_156 0 10 (dk_at dksX4_waits_0 17 rfl rfl)
theorem dX4_waits_20 : decode cX4_waits 20 = .ok (.aload_n 0, 1) := dk_42 (dk_at dksX4_waits_0 20 rfl rfl)
theorem dX4_waits_21 : decode cX4_waits 21 = .ok (.iload 7, 2) := dk_21 7 (dk_at dksX4_waits_0 21 rfl rfl)
theorem dX4_waits_23 : decode cX4_waits 23 = .ok (.invokevirtual 101, 3) := dk_182 0 101 (dk_at dksX4_waits_1 0 rfl rfl)
theorem dX4_waits_26 : decode cX4_waits 26 = .ok (.ireturn, 1) := dk_172 (dk_at dksX4_waits_1 3 rfl rfl)
theorem dX4_waits_27 : decode cX4_waits 27 = .ok (.iconst 0, 1) := dk_3 (dk_at dksX4_waits_1 4 rfl rfl)
theorem dX4_waits_28 : decode cX4_waits 28 = .ok (.istore 8, 2) := dk_54 8 (dk_at dksX4_waits_1 5 rfl rfl)
theorem dX4_waits_30 : decode cX4_waits 30 = .ok (.iload 8, 2) := dk_21 8 (dk_at dksX4_waits_1 7 rfl rfl)
theorem dX4_waits_32 : decode cX4_waits 32 = .ok (.bipush 10, 2) := dk_16 10 (dk_at dksX4_waits_1 9 rfl rfl)
theorem dX4_waits_34 : decode cX4_waits 34 = .ok (.if_icmp .ge 28, 3) := dk_162 0 28 (dk_at dksX4_waits_1 11 rfl rfl)
theorem dX4_waits_37 : decode cX4_waits 37 = .ok (.aload_n 0, 1) := dk_42 (dk_at dksX4_waits_1 14 rfl rfl)
theorem dX4_waits_38 : decode cX4_waits 38 = .ok (.iload_n 2, 1) := dk_28 (dk_at dksX4_waits_1 15 rfl rfl)
theorem dX4_waits_39 : decode cX4_waits 39 = .ok (.iload_n 3, 1) := dk_29 (dk_at dksX4_waits_1 16 rfl rfl)
theorem dX4_waits_40 : decode cX4_waits 40 = .ok (.iload 5, 2) := dk_21 5 (dk_at dksX4_waits_1 17 rfl rfl)
theorem dX4_waits_42 : decode cX4_waits 42 = .ok (.iload 6, 2) := dk_21 6 (dk_at dksX4_waits_1 19 rfl rfl)
theorem dX4_waits_44 : decode cX4_waits 44 = .ok (.iload 8, 2) := dk_21 8 (dk_at dksX4_waits_1 21 rfl rfl)
theorem dX4_waits_46 : decode cX4_waits 46 = .ok (.invokevirtual 269, 3) := dk_182 1 13 (dk_at dksX4_waits_2 0 rfl rfl)
theorem dX4_waits_49 : decode cX4_waits 49 = .ok (.iconst (-1), 1) := dk_2 (dk_at dksX4_waits_2 3 rfl rfl)
theorem dX4_waits_50 : decode cX4_waits 50 = .ok (.if_icmp .ne 6, 3) := dk_160 0 6 (dk_at dksX4_waits_2 4 rfl rfl)
theorem dX4_waits_53 : decode cX4_waits 53 = .ok (.iload 8, 2) := dk_21 8 (dk_at dksX4_waits_2 7 rfl rfl)
theorem dX4_waits_55 : decode cX4_waits 55 = .ok (.ireturn, 1) := dk_172 (dk_at dksX4_waits_2 9 rfl rfl)
theorem dX4_waits_56 : decode cX4_waits 56 = .ok (.iinc 8 1, 3) := dk_132 8 1 (dk_at dksX4_waits_2 10 rfl rfl)
theorem dX4_waits_59 : decode cX4_waits 59 = .ok (.goto (-29), 3) := dk_167 255 227 (dk_at dksX4_waits_2 13 rfl rfl)
theorem dX4_waits_62 : decode cX4_waits 62 = .ok (.iconst (-1), 1) := dk_2 (dk_at dksX4_waits_2 16 rfl rfl)
theorem dX4_waits_63 : decode cX4_waits 63 = .ok (.ireturn, 1) := dk_172 (dk_at dksX4_waits_2 17 rfl rfl)
abbrev cX4_judge : ByteArray := prog_16_method_89_code
def yX4_judge : MethodName := ⟨RX4, "judge", "(II)I"⟩
def dkwX4_judge_4 : List UInt8 := [132, 3, 1, 167, 255, 225, 2, 172]
abbrev dktX4_judge_4 : List UInt8 := dkwX4_judge_4 ++ []
def dkwX4_judge_3 : List UInt8 := [180, 0, 60, 16, 40, 27, 104, 29, 96, 47, 9, 20, 0, 114, 184, 0, 76, 154, 0, 5, 29, 172]
abbrev dktX4_judge_3 : List UInt8 := dkwX4_judge_3 ++ dktX4_judge_4
def dkwX4_judge_2 : List UInt8 := [180, 0, 57, 27, 46, 164, 0, 10, 42, 16, 254, 182, 0, 101, 172, 3, 62, 29, 28, 162, 0, 32, 42]
abbrev dktX4_judge_2 : List UInt8 := dkwX4_judge_2 ++ dktX4_judge_3
def dkwX4_judge_1 : List UInt8 := [182, 0, 101, 172, 42, 27, 182, 0, 210, 156, 0, 13, 42, 42, 27, 182, 0, 210, 182, 0, 101, 172, 28, 42]
abbrev dktX4_judge_1 : List UInt8 := dkwX4_judge_1 ++ dktX4_judge_2
def dkwX4_judge_0 : List UInt8 := [27, 184, 0, 203, 153, 0, 15, 28, 133, 9, 20, 0, 208, 184, 0, 76, 154, 0, 10, 42, 16, 254]
abbrev dktX4_judge_0 : List UInt8 := dkwX4_judge_0 ++ dktX4_judge_1
theorem dksX4_judge_0 : cX4_judge.data.toList.drop 0 = dktX4_judge_0 := by decide +kernel
theorem dksX4_judge_1 : cX4_judge.data.toList.drop 22 = dktX4_judge_1 := dk_seg dksX4_judge_0 22 rfl rfl
theorem dksX4_judge_2 : cX4_judge.data.toList.drop 46 = dktX4_judge_2 := dk_seg dksX4_judge_1 24 rfl rfl
theorem dksX4_judge_3 : cX4_judge.data.toList.drop 69 = dktX4_judge_3 := dk_seg dksX4_judge_2 23 rfl rfl
theorem dksX4_judge_4 : cX4_judge.data.toList.drop 91 = dktX4_judge_4 := dk_seg dksX4_judge_3 22 rfl rfl
theorem dX4_judge_0 : decode cX4_judge 0 = .ok (.iload_n 1, 1) := dk_27 (dk_at dksX4_judge_0 0 rfl rfl)
theorem dX4_judge_1 : decode cX4_judge 1 = .ok (.invokestatic 203, 3) := dk_184 0 203 (dk_at dksX4_judge_0 1 rfl rfl)
theorem dX4_judge_4 : decode cX4_judge 4 = .ok (.ifCond .eq 15, 3) := dk_153 0 15 (dk_at dksX4_judge_0 4 rfl rfl)
theorem dX4_judge_7 : decode cX4_judge 7 = .ok (.iload_n 2, 1) := dk_28 (dk_at dksX4_judge_0 7 rfl rfl)
theorem dX4_judge_8 : decode cX4_judge 8 = .ok (.i2l, 1) := dk_133 (dk_at dksX4_judge_0 8 rfl rfl)
theorem dX4_judge_9 : decode cX4_judge 9 = .ok (.lconst 0, 1) := dk_9 (dk_at dksX4_judge_0 9 rfl rfl)
theorem dX4_judge_10 : decode cX4_judge 10 = .ok (.ldc2_w 208, 3) := dk_20 0 208 (dk_at dksX4_judge_0 10 rfl rfl)
theorem dX4_judge_13 : decode cX4_judge 13 = .ok (.invokestatic 76, 3) := dk_184 0 76 (dk_at dksX4_judge_0 13 rfl rfl)
theorem dX4_judge_16 : decode cX4_judge 16 = .ok (.ifCond .ne 10, 3) := dk_154 0 10 (dk_at dksX4_judge_0 16 rfl rfl)
theorem dX4_judge_19 : decode cX4_judge 19 = .ok (.aload_n 0, 1) := dk_42 (dk_at dksX4_judge_0 19 rfl rfl)
theorem dX4_judge_20 : decode cX4_judge 20 = .ok (.bipush (-2), 2) := dk_16 254 (dk_at dksX4_judge_0 20 rfl rfl)
theorem dX4_judge_22 : decode cX4_judge 22 = .ok (.invokevirtual 101, 3) := dk_182 0 101 (dk_at dksX4_judge_1 0 rfl rfl)
theorem dX4_judge_25 : decode cX4_judge 25 = .ok (.ireturn, 1) := dk_172 (dk_at dksX4_judge_1 3 rfl rfl)
theorem dX4_judge_26 : decode cX4_judge 26 = .ok (.aload_n 0, 1) := dk_42 (dk_at dksX4_judge_1 4 rfl rfl)
theorem dX4_judge_27 : decode cX4_judge 27 = .ok (.iload_n 1, 1) := dk_27 (dk_at dksX4_judge_1 5 rfl rfl)
theorem dX4_judge_28 : decode cX4_judge 28 = .ok (.invokevirtual 210, 3) := dk_182 0 210 (dk_at dksX4_judge_1 6 rfl rfl)
theorem dX4_judge_31 : decode cX4_judge 31 = .ok (.ifCond .ge 13, 3) := dk_156 0 13 (dk_at dksX4_judge_1 9 rfl rfl)
theorem dX4_judge_34 : decode cX4_judge 34 = .ok (.aload_n 0, 1) := dk_42 (dk_at dksX4_judge_1 12 rfl rfl)
theorem dX4_judge_35 : decode cX4_judge 35 = .ok (.aload_n 0, 1) := dk_42 (dk_at dksX4_judge_1 13 rfl rfl)
theorem dX4_judge_36 : decode cX4_judge 36 = .ok (.iload_n 1, 1) := dk_27 (dk_at dksX4_judge_1 14 rfl rfl)
theorem dX4_judge_37 : decode cX4_judge 37 = .ok (.invokevirtual 210, 3) := dk_182 0 210 (dk_at dksX4_judge_1 15 rfl rfl)
theorem dX4_judge_40 : decode cX4_judge 40 = .ok (.invokevirtual 101, 3) := dk_182 0 101 (dk_at dksX4_judge_1 18 rfl rfl)
theorem dX4_judge_43 : decode cX4_judge 43 = .ok (.ireturn, 1) := dk_172 (dk_at dksX4_judge_1 21 rfl rfl)
theorem dX4_judge_44 : decode cX4_judge 44 = .ok (.iload_n 2, 1) := dk_28 (dk_at dksX4_judge_1 22 rfl rfl)
theorem dX4_judge_45 : decode cX4_judge 45 = .ok (.aload_n 0, 1) := dk_42 (dk_at dksX4_judge_1 23 rfl rfl)
theorem dX4_judge_46 : decode cX4_judge 46 = .ok (.getfield 57, 3) := dk_180 0 57 (dk_at dksX4_judge_2 0 rfl rfl)
theorem dX4_judge_49 : decode cX4_judge 49 = .ok (.iload_n 1, 1) := dk_27 (dk_at dksX4_judge_2 3 rfl rfl)
theorem dX4_judge_50 : decode cX4_judge 50 = .ok (.iaload, 1) := dk_46 (dk_at dksX4_judge_2 4 rfl rfl)
theorem dX4_judge_51 : decode cX4_judge 51 = .ok (.if_icmp .le 10, 3) := dk_164 0 10 (dk_at dksX4_judge_2 5 rfl rfl)
theorem dX4_judge_54 : decode cX4_judge 54 = .ok (.aload_n 0, 1) := dk_42 (dk_at dksX4_judge_2 8 rfl rfl)
theorem dX4_judge_55 : decode cX4_judge 55 = .ok (.bipush (-2), 2) := dk_16 254 (dk_at dksX4_judge_2 9 rfl rfl)
theorem dX4_judge_57 : decode cX4_judge 57 = .ok (.invokevirtual 101, 3) := dk_182 0 101 (dk_at dksX4_judge_2 11 rfl rfl)
theorem dX4_judge_60 : decode cX4_judge 60 = .ok (.ireturn, 1) := dk_172 (dk_at dksX4_judge_2 14 rfl rfl)
theorem dX4_judge_61 : decode cX4_judge 61 = .ok (.iconst 0, 1) := dk_3 (dk_at dksX4_judge_2 15 rfl rfl)
theorem dX4_judge_62 : decode cX4_judge 62 = .ok (.istore_n 3, 1) := dk_62 (dk_at dksX4_judge_2 16 rfl rfl)
theorem dX4_judge_63 : decode cX4_judge 63 = .ok (.iload_n 3, 1) := dk_29 (dk_at dksX4_judge_2 17 rfl rfl)
theorem dX4_judge_64 : decode cX4_judge 64 = .ok (.iload_n 2, 1) := dk_28 (dk_at dksX4_judge_2 18 rfl rfl)
theorem dX4_judge_65 : decode cX4_judge 65 = .ok (.if_icmp .ge 32, 3) := dk_162 0 32 (dk_at dksX4_judge_2 19 rfl rfl)
theorem dX4_judge_68 : decode cX4_judge 68 = .ok (.aload_n 0, 1) := dk_42 (dk_at dksX4_judge_2 22 rfl rfl)
theorem dX4_judge_69 : decode cX4_judge 69 = .ok (.getfield 60, 3) := dk_180 0 60 (dk_at dksX4_judge_3 0 rfl rfl)
theorem dX4_judge_72 : decode cX4_judge 72 = .ok (.bipush 40, 2) := dk_16 40 (dk_at dksX4_judge_3 3 rfl rfl)
theorem dX4_judge_74 : decode cX4_judge 74 = .ok (.iload_n 1, 1) := dk_27 (dk_at dksX4_judge_3 5 rfl rfl)
theorem dX4_judge_75 : decode cX4_judge 75 = .ok (.imul, 1) := dk_104 (dk_at dksX4_judge_3 6 rfl rfl)
theorem dX4_judge_76 : decode cX4_judge 76 = .ok (.iload_n 3, 1) := dk_29 (dk_at dksX4_judge_3 7 rfl rfl)
theorem dX4_judge_77 : decode cX4_judge 77 = .ok (.iadd, 1) := dk_96 (dk_at dksX4_judge_3 8 rfl rfl)
theorem dX4_judge_78 : decode cX4_judge 78 = .ok (.laload, 1) := dk_47 (dk_at dksX4_judge_3 9 rfl rfl)
theorem dX4_judge_79 : decode cX4_judge 79 = .ok (.lconst 0, 1) := dk_9 (dk_at dksX4_judge_3 10 rfl rfl)
theorem dX4_judge_80 : decode cX4_judge 80 = .ok (.ldc2_w 114, 3) := dk_20 0 114 (dk_at dksX4_judge_3 11 rfl rfl)
theorem dX4_judge_83 : decode cX4_judge 83 = .ok (.invokestatic 76, 3) := dk_184 0 76 (dk_at dksX4_judge_3 14 rfl rfl)
theorem dX4_judge_86 : decode cX4_judge 86 = .ok (.ifCond .ne 5, 3) := dk_154 0 5 (dk_at dksX4_judge_3 17 rfl rfl)
theorem dX4_judge_89 : decode cX4_judge 89 = .ok (.iload_n 3, 1) := dk_29 (dk_at dksX4_judge_3 20 rfl rfl)
theorem dX4_judge_90 : decode cX4_judge 90 = .ok (.ireturn, 1) := dk_172 (dk_at dksX4_judge_3 21 rfl rfl)
theorem dX4_judge_91 : decode cX4_judge 91 = .ok (.iinc 3 1, 3) := dk_132 3 1 (dk_at dksX4_judge_4 0 rfl rfl)
theorem dX4_judge_94 : decode cX4_judge 94 = .ok (.goto (-31), 3) := dk_167 255 225 (dk_at dksX4_judge_4 3 rfl rfl)
theorem dX4_judge_97 : decode cX4_judge 97 = .ok (.iconst (-1), 1) := dk_2 (dk_at dksX4_judge_4 6 rfl rfl)
theorem dX4_judge_98 : decode cX4_judge 98 = .ok (.ireturn, 1) := dk_172 (dk_at dksX4_judge_4 7 rfl rfl)
abbrev cX4_walk : ByteArray := prog_16_method_90_code
def yX4_walk : MethodName := ⟨RX4, "walk", "(III)I"⟩
def dkwX4_walk_5 : List UInt8 := [172]
abbrev dktX4_walk_5 : List UInt8 := dkwX4_walk_5 ++ []
def dkwX4_walk_4 : List UInt8 := [180, 0, 17, 16, 95, 92, 46, 21, 5, 153, 0, 7, 4, 167, 0, 4, 3, 96, 79, 42, 29, 182, 0, 88]
abbrev dktX4_walk_4 : List UInt8 := dkwX4_walk_4 ++ dktX4_walk_5
def dkwX4_walk_3 : List UInt8 := [180, 0, 33, 3, 46, 79, 42, 180, 0, 17, 8, 29, 104, 6, 96, 42, 180, 0, 36, 3, 46, 79, 42]
abbrev dktX4_walk_3 : List UInt8 := dkwX4_walk_3 ++ dktX4_walk_4
def dkwX4_walk_2 : List UInt8 := [42, 180, 0, 17, 8, 29, 104, 5, 96, 21, 5, 153, 0, 10, 42, 180, 0, 185, 167, 0, 9, 42]
abbrev dktX4_walk_2 : List UInt8 := dkwX4_walk_2 ++ dktX4_walk_3
def dkwX4_walk_1 : List UInt8 := [172, 42, 29, 28, 182, 0, 223, 42, 180, 0, 48, 3, 46, 2, 159, 0, 7, 4, 167, 0, 4, 3, 54, 5]
abbrev dktX4_walk_1 : List UInt8 := dkwX4_walk_1 ++ dktX4_walk_2
def dkwX4_walk_0 : List UInt8 := [42, 42, 29, 182, 0, 124, 27, 28, 182, 0, 219, 54, 4, 21, 4, 156, 0, 10, 42, 21, 4, 182, 0, 101]
abbrev dktX4_walk_0 : List UInt8 := dkwX4_walk_0 ++ dktX4_walk_1
theorem dksX4_walk_0 : cX4_walk.data.toList.drop 0 = dktX4_walk_0 := by decide +kernel
theorem dksX4_walk_1 : cX4_walk.data.toList.drop 24 = dktX4_walk_1 := dk_seg dksX4_walk_0 24 rfl rfl
theorem dksX4_walk_2 : cX4_walk.data.toList.drop 48 = dktX4_walk_2 := dk_seg dksX4_walk_1 24 rfl rfl
theorem dksX4_walk_3 : cX4_walk.data.toList.drop 70 = dktX4_walk_3 := dk_seg dksX4_walk_2 22 rfl rfl
theorem dksX4_walk_4 : cX4_walk.data.toList.drop 93 = dktX4_walk_4 := dk_seg dksX4_walk_3 23 rfl rfl
theorem dksX4_walk_5 : cX4_walk.data.toList.drop 117 = dktX4_walk_5 := dk_seg dksX4_walk_4 24 rfl rfl
theorem dX4_walk_0 : decode cX4_walk 0 = .ok (.aload_n 0, 1) := dk_42 (dk_at dksX4_walk_0 0 rfl rfl)
theorem dX4_walk_1 : decode cX4_walk 1 = .ok (.aload_n 0, 1) := dk_42 (dk_at dksX4_walk_0 1 rfl rfl)
theorem dX4_walk_2 : decode cX4_walk 2 = .ok (.iload_n 3, 1) := dk_29 (dk_at dksX4_walk_0 2 rfl rfl)
theorem dX4_walk_3 : decode cX4_walk 3 = .ok (.invokevirtual 124, 3) := dk_182 0 124 (dk_at dksX4_walk_0 3 rfl rfl)
theorem dX4_walk_6 : decode cX4_walk 6 = .ok (.iload_n 1, 1) := dk_27 (dk_at dksX4_walk_0 6 rfl rfl)
theorem dX4_walk_7 : decode cX4_walk 7 = .ok (.iload_n 2, 1) := dk_28 (dk_at dksX4_walk_0 7 rfl rfl)
theorem dX4_walk_8 : decode cX4_walk 8 = .ok (.invokevirtual 219, 3) := dk_182 0 219 (dk_at dksX4_walk_0 8 rfl rfl)
theorem dX4_walk_11 : decode cX4_walk 11 = .ok (.istore 4, 2) := dk_54 4 (dk_at dksX4_walk_0 11 rfl rfl)
theorem dX4_walk_13 : decode cX4_walk 13 = .ok (.iload 4, 2) := dk_21 4 (dk_at dksX4_walk_0 13 rfl rfl)
theorem dX4_walk_15 : decode cX4_walk 15 = .ok (.ifCond .ge 10, 3) := dk_156 0 10 (dk_at dksX4_walk_0 15 rfl rfl)
theorem dX4_walk_18 : decode cX4_walk 18 = .ok (.aload_n 0, 1) := dk_42 (dk_at dksX4_walk_0 18 rfl rfl)
theorem dX4_walk_19 : decode cX4_walk 19 = .ok (.iload 4, 2) := dk_21 4 (dk_at dksX4_walk_0 19 rfl rfl)
theorem dX4_walk_21 : decode cX4_walk 21 = .ok (.invokevirtual 101, 3) := dk_182 0 101 (dk_at dksX4_walk_0 21 rfl rfl)
theorem dX4_walk_24 : decode cX4_walk 24 = .ok (.ireturn, 1) := dk_172 (dk_at dksX4_walk_1 0 rfl rfl)
theorem dX4_walk_25 : decode cX4_walk 25 = .ok (.aload_n 0, 1) := dk_42 (dk_at dksX4_walk_1 1 rfl rfl)
theorem dX4_walk_26 : decode cX4_walk 26 = .ok (.iload_n 3, 1) := dk_29 (dk_at dksX4_walk_1 2 rfl rfl)
theorem dX4_walk_27 : decode cX4_walk 27 = .ok (.iload_n 2, 1) := dk_28 (dk_at dksX4_walk_1 3 rfl rfl)
theorem dX4_walk_28 : decode cX4_walk 28 = .ok (.invokevirtual 223, 3) := dk_182 0 223 (dk_at dksX4_walk_1 4 rfl rfl)
theorem dX4_walk_31 : decode cX4_walk 31 = .ok (.aload_n 0, 1) := dk_42 (dk_at dksX4_walk_1 7 rfl rfl)
theorem dX4_walk_32 : decode cX4_walk 32 = .ok (.getfield 48, 3) := dk_180 0 48 (dk_at dksX4_walk_1 8 rfl rfl)
theorem dX4_walk_35 : decode cX4_walk 35 = .ok (.iconst 0, 1) := dk_3 (dk_at dksX4_walk_1 11 rfl rfl)
theorem dX4_walk_36 : decode cX4_walk 36 = .ok (.iaload, 1) := dk_46 (dk_at dksX4_walk_1 12 rfl rfl)
theorem dX4_walk_37 : decode cX4_walk 37 = .ok (.iconst (-1), 1) := dk_2 (dk_at dksX4_walk_1 13 rfl rfl)
theorem dX4_walk_38 : decode cX4_walk 38 = .ok (.if_icmp .eq 7, 3) := dk_159 0 7 (dk_at dksX4_walk_1 14 rfl rfl)
theorem dX4_walk_41 : decode cX4_walk 41 = .ok (.iconst 1, 1) := dk_4 (dk_at dksX4_walk_1 17 rfl rfl)
theorem dX4_walk_42 : decode cX4_walk 42 = .ok (.goto 4, 3) := dk_167 0 4 (dk_at dksX4_walk_1 18 rfl rfl)
theorem dX4_walk_45 : decode cX4_walk 45 = .ok (.iconst 0, 1) := dk_3 (dk_at dksX4_walk_1 21 rfl rfl)
theorem dX4_walk_46 : decode cX4_walk 46 = .ok (.istore 5, 2) := dk_54 5 (dk_at dksX4_walk_1 22 rfl rfl)
theorem dX4_walk_48 : decode cX4_walk 48 = .ok (.aload_n 0, 1) := dk_42 (dk_at dksX4_walk_2 0 rfl rfl)
theorem dX4_walk_49 : decode cX4_walk 49 = .ok (.getfield 17, 3) := dk_180 0 17 (dk_at dksX4_walk_2 1 rfl rfl)
theorem dX4_walk_52 : decode cX4_walk 52 = .ok (.iconst 5, 1) := dk_8 (dk_at dksX4_walk_2 4 rfl rfl)
theorem dX4_walk_53 : decode cX4_walk 53 = .ok (.iload_n 3, 1) := dk_29 (dk_at dksX4_walk_2 5 rfl rfl)
theorem dX4_walk_54 : decode cX4_walk 54 = .ok (.imul, 1) := dk_104 (dk_at dksX4_walk_2 6 rfl rfl)
theorem dX4_walk_55 : decode cX4_walk 55 = .ok (.iconst 2, 1) := dk_5 (dk_at dksX4_walk_2 7 rfl rfl)
theorem dX4_walk_56 : decode cX4_walk 56 = .ok (.iadd, 1) := dk_96 (dk_at dksX4_walk_2 8 rfl rfl)
theorem dX4_walk_57 : decode cX4_walk 57 = .ok (.iload 5, 2) := dk_21 5 (dk_at dksX4_walk_2 9 rfl rfl)
theorem dX4_walk_59 : decode cX4_walk 59 = .ok (.ifCond .eq 10, 3) := dk_153 0 10 (dk_at dksX4_walk_2 11 rfl rfl)
theorem dX4_walk_62 : decode cX4_walk 62 = .ok (.aload_n 0, 1) := dk_42 (dk_at dksX4_walk_2 14 rfl rfl)
theorem dX4_walk_63 : decode cX4_walk 63 = .ok (.getfield 185, 3) := dk_180 0 185 (dk_at dksX4_walk_2 15 rfl rfl)
theorem dX4_walk_66 : decode cX4_walk 66 = .ok (.goto 9, 3) := dk_167 0 9 (dk_at dksX4_walk_2 18 rfl rfl)
theorem dX4_walk_69 : decode cX4_walk 69 = .ok (.aload_n 0, 1) := dk_42 (dk_at dksX4_walk_2 21 rfl rfl)
theorem dX4_walk_70 : decode cX4_walk 70 = .ok (.getfield 33, 3) := dk_180 0 33 (dk_at dksX4_walk_3 0 rfl rfl)
theorem dX4_walk_73 : decode cX4_walk 73 = .ok (.iconst 0, 1) := dk_3 (dk_at dksX4_walk_3 3 rfl rfl)
theorem dX4_walk_74 : decode cX4_walk 74 = .ok (.iaload, 1) := dk_46 (dk_at dksX4_walk_3 4 rfl rfl)
theorem dX4_walk_75 : decode cX4_walk 75 = .ok (.iastore, 1) := dk_79 (dk_at dksX4_walk_3 5 rfl rfl)
theorem dX4_walk_76 : decode cX4_walk 76 = .ok (.aload_n 0, 1) := dk_42 (dk_at dksX4_walk_3 6 rfl rfl)
theorem dX4_walk_77 : decode cX4_walk 77 = .ok (.getfield 17, 3) := dk_180 0 17 (dk_at dksX4_walk_3 7 rfl rfl)
theorem dX4_walk_80 : decode cX4_walk 80 = .ok (.iconst 5, 1) := dk_8 (dk_at dksX4_walk_3 10 rfl rfl)
theorem dX4_walk_81 : decode cX4_walk 81 = .ok (.iload_n 3, 1) := dk_29 (dk_at dksX4_walk_3 11 rfl rfl)
theorem dX4_walk_82 : decode cX4_walk 82 = .ok (.imul, 1) := dk_104 (dk_at dksX4_walk_3 12 rfl rfl)
theorem dX4_walk_83 : decode cX4_walk 83 = .ok (.iconst 3, 1) := dk_6 (dk_at dksX4_walk_3 13 rfl rfl)
theorem dX4_walk_84 : decode cX4_walk 84 = .ok (.iadd, 1) := dk_96 (dk_at dksX4_walk_3 14 rfl rfl)
theorem dX4_walk_85 : decode cX4_walk 85 = .ok (.aload_n 0, 1) := dk_42 (dk_at dksX4_walk_3 15 rfl rfl)
theorem dX4_walk_86 : decode cX4_walk 86 = .ok (.getfield 36, 3) := dk_180 0 36 (dk_at dksX4_walk_3 16 rfl rfl)
theorem dX4_walk_89 : decode cX4_walk 89 = .ok (.iconst 0, 1) := dk_3 (dk_at dksX4_walk_3 19 rfl rfl)
theorem dX4_walk_90 : decode cX4_walk 90 = .ok (.iaload, 1) := dk_46 (dk_at dksX4_walk_3 20 rfl rfl)
theorem dX4_walk_91 : decode cX4_walk 91 = .ok (.iastore, 1) := dk_79 (dk_at dksX4_walk_3 21 rfl rfl)
theorem dX4_walk_92 : decode cX4_walk 92 = .ok (.aload_n 0, 1) := dk_42 (dk_at dksX4_walk_3 22 rfl rfl)
theorem dX4_walk_93 : decode cX4_walk 93 = .ok (.getfield 17, 3) := dk_180 0 17 (dk_at dksX4_walk_4 0 rfl rfl)
theorem dX4_walk_96 : decode cX4_walk 96 = .ok (.bipush 95, 2) := dk_16 95 (dk_at dksX4_walk_4 3 rfl rfl)
theorem dX4_walk_98 : decode cX4_walk 98 = .ok (.dup2, 1) := dk_92 (dk_at dksX4_walk_4 5 rfl rfl)
theorem dX4_walk_99 : decode cX4_walk 99 = .ok (.iaload, 1) := dk_46 (dk_at dksX4_walk_4 6 rfl rfl)
theorem dX4_walk_100 : decode cX4_walk 100 = .ok (.iload 5, 2) := dk_21 5 (dk_at dksX4_walk_4 7 rfl rfl)
theorem dX4_walk_102 : decode cX4_walk 102 = .ok (.ifCond .eq 7, 3) := dk_153 0 7 (dk_at dksX4_walk_4 9 rfl rfl)
theorem dX4_walk_105 : decode cX4_walk 105 = .ok (.iconst 1, 1) := dk_4 (dk_at dksX4_walk_4 12 rfl rfl)
theorem dX4_walk_106 : decode cX4_walk 106 = .ok (.goto 4, 3) := dk_167 0 4 (dk_at dksX4_walk_4 13 rfl rfl)
theorem dX4_walk_109 : decode cX4_walk 109 = .ok (.iconst 0, 1) := dk_3 (dk_at dksX4_walk_4 16 rfl rfl)
theorem dX4_walk_110 : decode cX4_walk 110 = .ok (.iadd, 1) := dk_96 (dk_at dksX4_walk_4 17 rfl rfl)
theorem dX4_walk_111 : decode cX4_walk 111 = .ok (.iastore, 1) := dk_79 (dk_at dksX4_walk_4 18 rfl rfl)
theorem dX4_walk_112 : decode cX4_walk 112 = .ok (.aload_n 0, 1) := dk_42 (dk_at dksX4_walk_4 19 rfl rfl)
theorem dX4_walk_113 : decode cX4_walk 113 = .ok (.iload_n 3, 1) := dk_29 (dk_at dksX4_walk_4 20 rfl rfl)
theorem dX4_walk_114 : decode cX4_walk 114 = .ok (.invokevirtual 88, 3) := dk_182 0 88 (dk_at dksX4_walk_4 21 rfl rfl)
theorem dX4_walk_117 : decode cX4_walk 117 = .ok (.ireturn, 1) := dk_172 (dk_at dksX4_walk_5 0 rfl rfl)
abbrev cX4_years : ByteArray := prog_16_method_92_code
def yX4_years : MethodName := ⟨RX4, "years", "(I)I"⟩
def dkwX4_years_5 : List UInt8 := [132, 2, 1, 167, 255, 157, 42, 180, 0, 17, 16, 91, 46, 172]
abbrev dktX4_years_5 : List UInt8 := dkwX4_years_5 ++ []
def dkwX4_years_4 : List UInt8 := [167, 0, 4, 3, 130, 79, 132, 4, 1, 167, 255, 209, 42, 180, 0, 17, 16, 94, 92, 46, 4, 96, 79]
abbrev dktX4_years_4 : List UInt8 := dkwX4_years_4 ++ dktX4_years_5
def dkwX4_years_3 : List UInt8 := [21, 4, 104, 7, 96, 92, 46, 42, 16, 12, 182, 1, 20, 42, 180, 0, 17, 16, 93, 46, 162, 0, 7, 4]
abbrev dktX4_years_3 : List UInt8 := dkwX4_years_3 ++ dktX4_years_4
def dkwX4_years_2 : List UInt8 := [180, 0, 17, 16, 91, 29, 79, 3, 54, 4, 21, 4, 42, 182, 0, 84, 162, 0, 44, 42, 180, 0, 17, 8]
abbrev dktX4_years_2 : List UInt8 := dkwX4_years_2 ++ dktX4_years_3
def dkwX4_years_1 : List UInt8 := [162, 0, 100, 42, 182, 0, 251, 62, 42, 180, 0, 17, 16, 92, 42, 180, 0, 17, 16, 91, 46, 79, 42]
abbrev dktX4_years_1 : List UInt8 := dkwX4_years_1 ++ dktX4_years_2
def dkwX4_years_0 : List UInt8 := [27, 133, 10, 20, 1, 18, 184, 0, 76, 154, 0, 10, 42, 16, 254, 182, 0, 101, 172, 3, 61, 28, 27]
abbrev dktX4_years_0 : List UInt8 := dkwX4_years_0 ++ dktX4_years_1
theorem dksX4_years_0 : cX4_years.data.toList.drop 0 = dktX4_years_0 := by decide +kernel
theorem dksX4_years_1 : cX4_years.data.toList.drop 23 = dktX4_years_1 := dk_seg dksX4_years_0 23 rfl rfl
theorem dksX4_years_2 : cX4_years.data.toList.drop 46 = dktX4_years_2 := dk_seg dksX4_years_1 23 rfl rfl
theorem dksX4_years_3 : cX4_years.data.toList.drop 70 = dktX4_years_3 := dk_seg dksX4_years_2 24 rfl rfl
theorem dksX4_years_4 : cX4_years.data.toList.drop 94 = dktX4_years_4 := dk_seg dksX4_years_3 24 rfl rfl
theorem dksX4_years_5 : cX4_years.data.toList.drop 117 = dktX4_years_5 := dk_seg dksX4_years_4 23 rfl rfl
theorem dX4_years_0 : decode cX4_years 0 = .ok (.iload_n 1, 1) := dk_27 (dk_at dksX4_years_0 0 rfl rfl)
theorem dX4_years_1 : decode cX4_years 1 = .ok (.i2l, 1) := dk_133 (dk_at dksX4_years_0 1 rfl rfl)
theorem dX4_years_2 : decode cX4_years 2 = .ok (.lconst 1, 1) := dk_10 (dk_at dksX4_years_0 2 rfl rfl)
theorem dX4_years_3 : decode cX4_years 3 = .ok (.ldc2_w 274, 3) := dk_20 1 18 (dk_at dksX4_years_0 3 rfl rfl)
theorem dX4_years_6 : decode cX4_years 6 = .ok (.invokestatic 76, 3) := dk_184 0 76 (dk_at dksX4_years_0 6 rfl rfl)
theorem dX4_years_9 : decode cX4_years 9 = .ok (.ifCond .ne 10, 3) := dk_154 0 10 (dk_at dksX4_years_0 9 rfl rfl)
theorem dX4_years_12 : decode cX4_years 12 = .ok (.aload_n 0, 1) := dk_42 (dk_at dksX4_years_0 12 rfl rfl)
theorem dX4_years_13 : decode cX4_years 13 = .ok (.bipush (-2), 2) := dk_16 254 (dk_at dksX4_years_0 13 rfl rfl)
theorem dX4_years_15 : decode cX4_years 15 = .ok (.invokevirtual 101, 3) := dk_182 0 101 (dk_at dksX4_years_0 15 rfl rfl)
theorem dX4_years_18 : decode cX4_years 18 = .ok (.ireturn, 1) := dk_172 (dk_at dksX4_years_0 18 rfl rfl)
theorem dX4_years_19 : decode cX4_years 19 = .ok (.iconst 0, 1) := dk_3 (dk_at dksX4_years_0 19 rfl rfl)
theorem dX4_years_20 : decode cX4_years 20 = .ok (.istore_n 2, 1) := dk_61 (dk_at dksX4_years_0 20 rfl rfl)
theorem dX4_years_21 : decode cX4_years 21 = .ok (.iload_n 2, 1) := dk_28 (dk_at dksX4_years_0 21 rfl rfl)
theorem dX4_years_22 : decode cX4_years 22 = .ok (.iload_n 1, 1) := dk_27 (dk_at dksX4_years_0 22 rfl rfl)
theorem dX4_years_23 : decode cX4_years 23 = .ok (.if_icmp .ge 100, 3) := dk_162 0 100 (dk_at dksX4_years_1 0 rfl rfl)
theorem dX4_years_26 : decode cX4_years 26 = .ok (.aload_n 0, 1) := dk_42 (dk_at dksX4_years_1 3 rfl rfl)
theorem dX4_years_27 : decode cX4_years 27 = .ok (.invokevirtual 251, 3) := dk_182 0 251 (dk_at dksX4_years_1 4 rfl rfl)
theorem dX4_years_30 : decode cX4_years 30 = .ok (.istore_n 3, 1) := dk_62 (dk_at dksX4_years_1 7 rfl rfl)
theorem dX4_years_31 : decode cX4_years 31 = .ok (.aload_n 0, 1) := dk_42 (dk_at dksX4_years_1 8 rfl rfl)
theorem dX4_years_32 : decode cX4_years 32 = .ok (.getfield 17, 3) := dk_180 0 17 (dk_at dksX4_years_1 9 rfl rfl)
theorem dX4_years_35 : decode cX4_years 35 = .ok (.bipush 92, 2) := dk_16 92 (dk_at dksX4_years_1 12 rfl rfl)
theorem dX4_years_37 : decode cX4_years 37 = .ok (.aload_n 0, 1) := dk_42 (dk_at dksX4_years_1 14 rfl rfl)
theorem dX4_years_38 : decode cX4_years 38 = .ok (.getfield 17, 3) := dk_180 0 17 (dk_at dksX4_years_1 15 rfl rfl)
theorem dX4_years_41 : decode cX4_years 41 = .ok (.bipush 91, 2) := dk_16 91 (dk_at dksX4_years_1 18 rfl rfl)
theorem dX4_years_43 : decode cX4_years 43 = .ok (.iaload, 1) := dk_46 (dk_at dksX4_years_1 20 rfl rfl)
theorem dX4_years_44 : decode cX4_years 44 = .ok (.iastore, 1) := dk_79 (dk_at dksX4_years_1 21 rfl rfl)
theorem dX4_years_45 : decode cX4_years 45 = .ok (.aload_n 0, 1) := dk_42 (dk_at dksX4_years_1 22 rfl rfl)
theorem dX4_years_46 : decode cX4_years 46 = .ok (.getfield 17, 3) := dk_180 0 17 (dk_at dksX4_years_2 0 rfl rfl)
theorem dX4_years_49 : decode cX4_years 49 = .ok (.bipush 91, 2) := dk_16 91 (dk_at dksX4_years_2 3 rfl rfl)
theorem dX4_years_51 : decode cX4_years 51 = .ok (.iload_n 3, 1) := dk_29 (dk_at dksX4_years_2 5 rfl rfl)
theorem dX4_years_52 : decode cX4_years 52 = .ok (.iastore, 1) := dk_79 (dk_at dksX4_years_2 6 rfl rfl)
theorem dX4_years_53 : decode cX4_years 53 = .ok (.iconst 0, 1) := dk_3 (dk_at dksX4_years_2 7 rfl rfl)
theorem dX4_years_54 : decode cX4_years 54 = .ok (.istore 4, 2) := dk_54 4 (dk_at dksX4_years_2 8 rfl rfl)
theorem dX4_years_56 : decode cX4_years 56 = .ok (.iload 4, 2) := dk_21 4 (dk_at dksX4_years_2 10 rfl rfl)
theorem dX4_years_58 : decode cX4_years 58 = .ok (.aload_n 0, 1) := dk_42 (dk_at dksX4_years_2 12 rfl rfl)
theorem dX4_years_59 : decode cX4_years 59 = .ok (.invokevirtual 84, 3) := dk_182 0 84 (dk_at dksX4_years_2 13 rfl rfl)
theorem dX4_years_62 : decode cX4_years 62 = .ok (.if_icmp .ge 44, 3) := dk_162 0 44 (dk_at dksX4_years_2 16 rfl rfl)
theorem dX4_years_65 : decode cX4_years 65 = .ok (.aload_n 0, 1) := dk_42 (dk_at dksX4_years_2 19 rfl rfl)
theorem dX4_years_66 : decode cX4_years 66 = .ok (.getfield 17, 3) := dk_180 0 17 (dk_at dksX4_years_2 20 rfl rfl)
theorem dX4_years_69 : decode cX4_years 69 = .ok (.iconst 5, 1) := dk_8 (dk_at dksX4_years_2 23 rfl rfl)
theorem dX4_years_70 : decode cX4_years 70 = .ok (.iload 4, 2) := dk_21 4 (dk_at dksX4_years_3 0 rfl rfl)
theorem dX4_years_72 : decode cX4_years 72 = .ok (.imul, 1) := dk_104 (dk_at dksX4_years_3 2 rfl rfl)
theorem dX4_years_73 : decode cX4_years 73 = .ok (.iconst 4, 1) := dk_7 (dk_at dksX4_years_3 3 rfl rfl)
theorem dX4_years_74 : decode cX4_years 74 = .ok (.iadd, 1) := dk_96 (dk_at dksX4_years_3 4 rfl rfl)
theorem dX4_years_75 : decode cX4_years 75 = .ok (.dup2, 1) := dk_92 (dk_at dksX4_years_3 5 rfl rfl)
theorem dX4_years_76 : decode cX4_years 76 = .ok (.iaload, 1) := dk_46 (dk_at dksX4_years_3 6 rfl rfl)
theorem dX4_years_77 : decode cX4_years 77 = .ok (.aload_n 0, 1) := dk_42 (dk_at dksX4_years_3 7 rfl rfl)
theorem dX4_years_78 : decode cX4_years 78 = .ok (.bipush 12, 2) := dk_16 12 (dk_at dksX4_years_3 8 rfl rfl)
theorem dX4_years_80 : decode cX4_years 80 = .ok (.invokevirtual 276, 3) := dk_182 1 20 (dk_at dksX4_years_3 10 rfl rfl)
theorem dX4_years_83 : decode cX4_years 83 = .ok (.aload_n 0, 1) := dk_42 (dk_at dksX4_years_3 13 rfl rfl)
theorem dX4_years_84 : decode cX4_years 84 = .ok (.getfield 17, 3) := dk_180 0 17 (dk_at dksX4_years_3 14 rfl rfl)
theorem dX4_years_87 : decode cX4_years 87 = .ok (.bipush 93, 2) := dk_16 93 (dk_at dksX4_years_3 17 rfl rfl)
theorem dX4_years_89 : decode cX4_years 89 = .ok (.iaload, 1) := dk_46 (dk_at dksX4_years_3 19 rfl rfl)
theorem dX4_years_90 : decode cX4_years 90 = .ok (.if_icmp .ge 7, 3) := dk_162 0 7 (dk_at dksX4_years_3 20 rfl rfl)
theorem dX4_years_93 : decode cX4_years 93 = .ok (.iconst 1, 1) := dk_4 (dk_at dksX4_years_3 23 rfl rfl)
theorem dX4_years_94 : decode cX4_years 94 = .ok (.goto 4, 3) := dk_167 0 4 (dk_at dksX4_years_4 0 rfl rfl)
theorem dX4_years_97 : decode cX4_years 97 = .ok (.iconst 0, 1) := dk_3 (dk_at dksX4_years_4 3 rfl rfl)
theorem dX4_years_98 : decode cX4_years 98 = .ok (.ixor, 1) := dk_130 (dk_at dksX4_years_4 4 rfl rfl)
theorem dX4_years_99 : decode cX4_years 99 = .ok (.iastore, 1) := dk_79 (dk_at dksX4_years_4 5 rfl rfl)
theorem dX4_years_100 : decode cX4_years 100 = .ok (.iinc 4 1, 3) := dk_132 4 1 (dk_at dksX4_years_4 6 rfl rfl)
theorem dX4_years_103 : decode cX4_years 103 = .ok (.goto (-47), 3) := dk_167 255 209 (dk_at dksX4_years_4 9 rfl rfl)
theorem dX4_years_106 : decode cX4_years 106 = .ok (.aload_n 0, 1) := dk_42 (dk_at dksX4_years_4 12 rfl rfl)
theorem dX4_years_107 : decode cX4_years 107 = .ok (.getfield 17, 3) := dk_180 0 17 (dk_at dksX4_years_4 13 rfl rfl)
theorem dX4_years_110 : decode cX4_years 110 = .ok (.bipush 94, 2) := dk_16 94 (dk_at dksX4_years_4 16 rfl rfl)
theorem dX4_years_112 : decode cX4_years 112 = .ok (.dup2, 1) := dk_92 (dk_at dksX4_years_4 18 rfl rfl)
theorem dX4_years_113 : decode cX4_years 113 = .ok (.iaload, 1) := dk_46 (dk_at dksX4_years_4 19 rfl rfl)
theorem dX4_years_114 : decode cX4_years 114 = .ok (.iconst 1, 1) := dk_4 (dk_at dksX4_years_4 20 rfl rfl)
theorem dX4_years_115 : decode cX4_years 115 = .ok (.iadd, 1) := dk_96 (dk_at dksX4_years_4 21 rfl rfl)
theorem dX4_years_116 : decode cX4_years 116 = .ok (.iastore, 1) := dk_79 (dk_at dksX4_years_4 22 rfl rfl)
theorem dX4_years_117 : decode cX4_years 117 = .ok (.iinc 2 1, 3) := dk_132 2 1 (dk_at dksX4_years_5 0 rfl rfl)
theorem dX4_years_120 : decode cX4_years 120 = .ok (.goto (-99), 3) := dk_167 255 157 (dk_at dksX4_years_5 3 rfl rfl)
theorem dX4_years_123 : decode cX4_years 123 = .ok (.aload_n 0, 1) := dk_42 (dk_at dksX4_years_5 6 rfl rfl)
theorem dX4_years_124 : decode cX4_years 124 = .ok (.getfield 17, 3) := dk_180 0 17 (dk_at dksX4_years_5 7 rfl rfl)
theorem dX4_years_127 : decode cX4_years 127 = .ok (.bipush 91, 2) := dk_16 91 (dk_at dksX4_years_5 10 rfl rfl)
theorem dX4_years_129 : decode cX4_years 129 = .ok (.iaload, 1) := dk_46 (dk_at dksX4_years_5 12 rfl rfl)
theorem dX4_years_130 : decode cX4_years 130 = .ok (.ireturn, 1) := dk_172 (dk_at dksX4_years_5 13 rfl rfl)
abbrev cX4_draw : ByteArray := prog_16_method_91_code
def yX4_draw : MethodName := ⟨RX4, "draw", "(I)I"⟩
def dkwX4_draw_1 : List UInt8 := [180, 0, 17, 16, 96, 46, 16, 16, 124, 27, 112, 172]
abbrev dktX4_draw_1 : List UInt8 := dkwX4_draw_1 ++ []
def dkwX4_draw_0 : List UInt8 := [42, 180, 0, 17, 16, 96, 42, 180, 0, 17, 16, 96, 46, 19, 1, 17, 104, 17, 48, 57, 96, 79, 42]
abbrev dktX4_draw_0 : List UInt8 := dkwX4_draw_0 ++ dktX4_draw_1
theorem dksX4_draw_0 : cX4_draw.data.toList.drop 0 = dktX4_draw_0 := by decide +kernel
theorem dksX4_draw_1 : cX4_draw.data.toList.drop 23 = dktX4_draw_1 := dk_seg dksX4_draw_0 23 rfl rfl
theorem dX4_draw_0 : decode cX4_draw 0 = .ok (.aload_n 0, 1) := dk_42 (dk_at dksX4_draw_0 0 rfl rfl)
theorem dX4_draw_1 : decode cX4_draw 1 = .ok (.getfield 17, 3) := dk_180 0 17 (dk_at dksX4_draw_0 1 rfl rfl)
theorem dX4_draw_4 : decode cX4_draw 4 = .ok (.bipush 96, 2) := dk_16 96 (dk_at dksX4_draw_0 4 rfl rfl)
theorem dX4_draw_6 : decode cX4_draw 6 = .ok (.aload_n 0, 1) := dk_42 (dk_at dksX4_draw_0 6 rfl rfl)
theorem dX4_draw_7 : decode cX4_draw 7 = .ok (.getfield 17, 3) := dk_180 0 17 (dk_at dksX4_draw_0 7 rfl rfl)
theorem dX4_draw_10 : decode cX4_draw 10 = .ok (.bipush 96, 2) := dk_16 96 (dk_at dksX4_draw_0 10 rfl rfl)
theorem dX4_draw_12 : decode cX4_draw 12 = .ok (.iaload, 1) := dk_46 (dk_at dksX4_draw_0 12 rfl rfl)
theorem dX4_draw_13 : decode cX4_draw 13 = .ok (.ldc_w 273, 3) := dk_19 1 17 (dk_at dksX4_draw_0 13 rfl rfl)
theorem dX4_draw_16 : decode cX4_draw 16 = .ok (.imul, 1) := dk_104 (dk_at dksX4_draw_0 16 rfl rfl)
theorem dX4_draw_17 : decode cX4_draw 17 = .ok (.sipush 12345, 3) := dk_17 48 57 (dk_at dksX4_draw_0 17 rfl rfl)
theorem dX4_draw_20 : decode cX4_draw 20 = .ok (.iadd, 1) := dk_96 (dk_at dksX4_draw_0 20 rfl rfl)
theorem dX4_draw_21 : decode cX4_draw 21 = .ok (.iastore, 1) := dk_79 (dk_at dksX4_draw_0 21 rfl rfl)
theorem dX4_draw_22 : decode cX4_draw 22 = .ok (.aload_n 0, 1) := dk_42 (dk_at dksX4_draw_0 22 rfl rfl)
theorem dX4_draw_23 : decode cX4_draw 23 = .ok (.getfield 17, 3) := dk_180 0 17 (dk_at dksX4_draw_1 0 rfl rfl)
theorem dX4_draw_26 : decode cX4_draw 26 = .ok (.bipush 96, 2) := dk_16 96 (dk_at dksX4_draw_1 3 rfl rfl)
theorem dX4_draw_28 : decode cX4_draw 28 = .ok (.iaload, 1) := dk_46 (dk_at dksX4_draw_1 5 rfl rfl)
theorem dX4_draw_29 : decode cX4_draw 29 = .ok (.bipush 16, 2) := dk_16 16 (dk_at dksX4_draw_1 6 rfl rfl)
theorem dX4_draw_31 : decode cX4_draw 31 = .ok (.iushr, 1) := dk_124 (dk_at dksX4_draw_1 8 rfl rfl)
theorem dX4_draw_32 : decode cX4_draw 32 = .ok (.iload_n 1, 1) := dk_27 (dk_at dksX4_draw_1 9 rfl rfl)
theorem dX4_draw_33 : decode cX4_draw 33 = .ok (.irem, 1) := dk_112 (dk_at dksX4_draw_1 10 rfl rfl)
theorem dX4_draw_34 : decode cX4_draw 34 = .ok (.ireturn, 1) := dk_172 (dk_at dksX4_draw_1 11 rfl rfl)
abbrev cX4_seed : ByteArray := prog_16_method_93_code
def yX4_seed : MethodName := ⟨RX4, "seed", "(I)I"⟩
def dkwX4_seed_0 : List UInt8 := [42, 180, 0, 17, 16, 96, 46, 61, 42, 180, 0, 17, 16, 96, 27, 79, 28, 172]
abbrev dktX4_seed_0 : List UInt8 := dkwX4_seed_0 ++ []
theorem dksX4_seed_0 : cX4_seed.data.toList.drop 0 = dktX4_seed_0 := by decide +kernel
theorem dX4_seed_0 : decode cX4_seed 0 = .ok (.aload_n 0, 1) := dk_42 (dk_at dksX4_seed_0 0 rfl rfl)
theorem dX4_seed_1 : decode cX4_seed 1 = .ok (.getfield 17, 3) := dk_180 0 17 (dk_at dksX4_seed_0 1 rfl rfl)
theorem dX4_seed_4 : decode cX4_seed 4 = .ok (.bipush 96, 2) := dk_16 96 (dk_at dksX4_seed_0 4 rfl rfl)
theorem dX4_seed_6 : decode cX4_seed 6 = .ok (.iaload, 1) := dk_46 (dk_at dksX4_seed_0 6 rfl rfl)
theorem dX4_seed_7 : decode cX4_seed 7 = .ok (.istore_n 2, 1) := dk_61 (dk_at dksX4_seed_0 7 rfl rfl)
theorem dX4_seed_8 : decode cX4_seed 8 = .ok (.aload_n 0, 1) := dk_42 (dk_at dksX4_seed_0 8 rfl rfl)
theorem dX4_seed_9 : decode cX4_seed 9 = .ok (.getfield 17, 3) := dk_180 0 17 (dk_at dksX4_seed_0 9 rfl rfl)
theorem dX4_seed_12 : decode cX4_seed 12 = .ok (.bipush 96, 2) := dk_16 96 (dk_at dksX4_seed_0 12 rfl rfl)
theorem dX4_seed_14 : decode cX4_seed 14 = .ok (.iload_n 1, 1) := dk_27 (dk_at dksX4_seed_0 14 rfl rfl)
theorem dX4_seed_15 : decode cX4_seed 15 = .ok (.iastore, 1) := dk_79 (dk_at dksX4_seed_0 15 rfl rfl)
theorem dX4_seed_16 : decode cX4_seed 16 = .ok (.iload_n 2, 1) := dk_28 (dk_at dksX4_seed_0 16 rfl rfl)
theorem dX4_seed_17 : decode cX4_seed 17 = .ok (.ireturn, 1) := dk_172 (dk_at dksX4_seed_0 17 rfl rfl)
abbrev cX4_image : ByteArray := prog_16_method_94_code
def yX4_image : MethodName := ⟨RX4, "image", "()I"⟩
def dkwX4_image_0 : List UInt8 := [42, 180, 0, 17, 42, 180, 0, 20, 184, 0, 172, 42, 4, 181, 1, 23, 4, 172]
abbrev dktX4_image_0 : List UInt8 := dkwX4_image_0 ++ []
theorem dksX4_image_0 : cX4_image.data.toList.drop 0 = dktX4_image_0 := by decide +kernel
theorem dX4_image_0 : decode cX4_image 0 = .ok (.aload_n 0, 1) := dk_42 (dk_at dksX4_image_0 0 rfl rfl)
theorem dX4_image_1 : decode cX4_image 1 = .ok (.getfield 17, 3) := dk_180 0 17 (dk_at dksX4_image_0 1 rfl rfl)
theorem dX4_image_4 : decode cX4_image 4 = .ok (.aload_n 0, 1) := dk_42 (dk_at dksX4_image_0 4 rfl rfl)
theorem dX4_image_5 : decode cX4_image 5 = .ok (.getfield 20, 3) := dk_180 0 20 (dk_at dksX4_image_0 5 rfl rfl)
theorem dX4_image_8 : decode cX4_image 8 = .ok (.invokestatic 172, 3) := dk_184 0 172 (dk_at dksX4_image_0 8 rfl rfl)
theorem dX4_image_11 : decode cX4_image 11 = .ok (.aload_n 0, 1) := dk_42 (dk_at dksX4_image_0 11 rfl rfl)
theorem dX4_image_12 : decode cX4_image 12 = .ok (.iconst 1, 1) := dk_4 (dk_at dksX4_image_0 12 rfl rfl)
theorem dX4_image_13 : decode cX4_image 13 = .ok (.putfield 279, 3) := dk_181 1 23 (dk_at dksX4_image_0 13 rfl rfl)
theorem dX4_image_16 : decode cX4_image 16 = .ok (.iconst 1, 1) := dk_4 (dk_at dksX4_image_0 16 rfl rfl)
theorem dX4_image_17 : decode cX4_image 17 = .ok (.ireturn, 1) := dk_172 (dk_at dksX4_image_0 17 rfl rfl)
abbrev cX4_back : ByteArray := prog_16_method_95_code
def yX4_back : MethodName := ⟨RX4, "back", "()I"⟩
def dkwX4_back_3 : List UInt8 := [167, 255, 215, 4, 172]
abbrev dktX4_back_3 : List UInt8 := dkwX4_back_3 ++ []
def dkwX4_back_2 : List UInt8 := [42, 182, 0, 84, 96, 161, 0, 7, 2, 167, 0, 9, 42, 180, 0, 54, 27, 46, 79, 132, 1, 1]
abbrev dktX4_back_2 : List UInt8 := dkwX4_back_2 ++ dktX4_back_3
def dkwX4_back_1 : List UInt8 := [184, 0, 172, 3, 60, 27, 16, 8, 162, 0, 41, 42, 180, 0, 54, 27, 42, 180, 0, 54, 27, 46, 16, 10]
abbrev dktX4_back_1 : List UInt8 := dkwX4_back_1 ++ dktX4_back_2
def dkwX4_back_0 : List UInt8 := [42, 180, 1, 23, 154, 0, 10, 42, 16, 251, 182, 0, 101, 172, 42, 180, 0, 20, 42, 180, 0, 17]
abbrev dktX4_back_0 : List UInt8 := dkwX4_back_0 ++ dktX4_back_1
theorem dksX4_back_0 : cX4_back.data.toList.drop 0 = dktX4_back_0 := by decide +kernel
theorem dksX4_back_1 : cX4_back.data.toList.drop 22 = dktX4_back_1 := dk_seg dksX4_back_0 22 rfl rfl
theorem dksX4_back_2 : cX4_back.data.toList.drop 46 = dktX4_back_2 := dk_seg dksX4_back_1 24 rfl rfl
theorem dksX4_back_3 : cX4_back.data.toList.drop 68 = dktX4_back_3 := dk_seg dksX4_back_2 22 rfl rfl
theorem dX4_back_0 : decode cX4_back 0 = .ok (.aload_n 0, 1) := dk_42 (dk_at dksX4_back_0 0 rfl rfl)
theorem dX4_back_1 : decode cX4_back 1 = .ok (.getfield 279, 3) := dk_180 1 23 (dk_at dksX4_back_0 1 rfl rfl)
theorem dX4_back_4 : decode cX4_back 4 = .ok (.ifCond .ne 10, 3) := dk_154 0 10 (dk_at dksX4_back_0 4 rfl rfl)
theorem dX4_back_7 : decode cX4_back 7 = .ok (.aload_n 0, 1) := dk_42 (dk_at dksX4_back_0 7 rfl rfl)
theorem dX4_back_8 : decode cX4_back 8 = .ok (.bipush (-5), 2) := dk_16 251 (dk_at dksX4_back_0 8 rfl rfl)
theorem dX4_back_10 : decode cX4_back 10 = .ok (.invokevirtual 101, 3) := dk_182 0 101 (dk_at dksX4_back_0 10 rfl rfl)
theorem dX4_back_13 : decode cX4_back 13 = .ok (.ireturn, 1) := dk_172 (dk_at dksX4_back_0 13 rfl rfl)
theorem dX4_back_14 : decode cX4_back 14 = .ok (.aload_n 0, 1) := dk_42 (dk_at dksX4_back_0 14 rfl rfl)
theorem dX4_back_15 : decode cX4_back 15 = .ok (.getfield 20, 3) := dk_180 0 20 (dk_at dksX4_back_0 15 rfl rfl)
theorem dX4_back_18 : decode cX4_back 18 = .ok (.aload_n 0, 1) := dk_42 (dk_at dksX4_back_0 18 rfl rfl)
theorem dX4_back_19 : decode cX4_back 19 = .ok (.getfield 17, 3) := dk_180 0 17 (dk_at dksX4_back_0 19 rfl rfl)
theorem dX4_back_22 : decode cX4_back 22 = .ok (.invokestatic 172, 3) := dk_184 0 172 (dk_at dksX4_back_1 0 rfl rfl)
theorem dX4_back_25 : decode cX4_back 25 = .ok (.iconst 0, 1) := dk_3 (dk_at dksX4_back_1 3 rfl rfl)
theorem dX4_back_26 : decode cX4_back 26 = .ok (.istore_n 1, 1) := dk_60 (dk_at dksX4_back_1 4 rfl rfl)
theorem dX4_back_27 : decode cX4_back 27 = .ok (.iload_n 1, 1) := dk_27 (dk_at dksX4_back_1 5 rfl rfl)
theorem dX4_back_28 : decode cX4_back 28 = .ok (.bipush 8, 2) := dk_16 8 (dk_at dksX4_back_1 6 rfl rfl)
theorem dX4_back_30 : decode cX4_back 30 = .ok (.if_icmp .ge 41, 3) := dk_162 0 41 (dk_at dksX4_back_1 8 rfl rfl)
theorem dX4_back_33 : decode cX4_back 33 = .ok (.aload_n 0, 1) := dk_42 (dk_at dksX4_back_1 11 rfl rfl)
theorem dX4_back_34 : decode cX4_back 34 = .ok (.getfield 54, 3) := dk_180 0 54 (dk_at dksX4_back_1 12 rfl rfl)
theorem dX4_back_37 : decode cX4_back 37 = .ok (.iload_n 1, 1) := dk_27 (dk_at dksX4_back_1 15 rfl rfl)
theorem dX4_back_38 : decode cX4_back 38 = .ok (.aload_n 0, 1) := dk_42 (dk_at dksX4_back_1 16 rfl rfl)
theorem dX4_back_39 : decode cX4_back 39 = .ok (.getfield 54, 3) := dk_180 0 54 (dk_at dksX4_back_1 17 rfl rfl)
theorem dX4_back_42 : decode cX4_back 42 = .ok (.iload_n 1, 1) := dk_27 (dk_at dksX4_back_1 20 rfl rfl)
theorem dX4_back_43 : decode cX4_back 43 = .ok (.iaload, 1) := dk_46 (dk_at dksX4_back_1 21 rfl rfl)
theorem dX4_back_44 : decode cX4_back 44 = .ok (.bipush 10, 2) := dk_16 10 (dk_at dksX4_back_1 22 rfl rfl)
theorem dX4_back_46 : decode cX4_back 46 = .ok (.aload_n 0, 1) := dk_42 (dk_at dksX4_back_2 0 rfl rfl)
theorem dX4_back_47 : decode cX4_back 47 = .ok (.invokevirtual 84, 3) := dk_182 0 84 (dk_at dksX4_back_2 1 rfl rfl)
theorem dX4_back_50 : decode cX4_back 50 = .ok (.iadd, 1) := dk_96 (dk_at dksX4_back_2 4 rfl rfl)
theorem dX4_back_51 : decode cX4_back 51 = .ok (.if_icmp .lt 7, 3) := dk_161 0 7 (dk_at dksX4_back_2 5 rfl rfl)
theorem dX4_back_54 : decode cX4_back 54 = .ok (.iconst (-1), 1) := dk_2 (dk_at dksX4_back_2 8 rfl rfl)
theorem dX4_back_55 : decode cX4_back 55 = .ok (.goto 9, 3) := dk_167 0 9 (dk_at dksX4_back_2 9 rfl rfl)
theorem dX4_back_58 : decode cX4_back 58 = .ok (.aload_n 0, 1) := dk_42 (dk_at dksX4_back_2 12 rfl rfl)
theorem dX4_back_59 : decode cX4_back 59 = .ok (.getfield 54, 3) := dk_180 0 54 (dk_at dksX4_back_2 13 rfl rfl)
theorem dX4_back_62 : decode cX4_back 62 = .ok (.iload_n 1, 1) := dk_27 (dk_at dksX4_back_2 16 rfl rfl)
theorem dX4_back_63 : decode cX4_back 63 = .ok (.iaload, 1) := dk_46 (dk_at dksX4_back_2 17 rfl rfl)
theorem dX4_back_64 : decode cX4_back 64 = .ok (.iastore, 1) := dk_79 (dk_at dksX4_back_2 18 rfl rfl)
theorem dX4_back_65 : decode cX4_back 65 = .ok (.iinc 1 1, 3) := dk_132 1 1 (dk_at dksX4_back_2 19 rfl rfl)
theorem dX4_back_68 : decode cX4_back 68 = .ok (.goto (-41), 3) := dk_167 255 215 (dk_at dksX4_back_3 0 rfl rfl)
theorem dX4_back_71 : decode cX4_back 71 = .ok (.iconst 1, 1) := dk_4 (dk_at dksX4_back_3 3 rfl rfl)
theorem dX4_back_72 : decode cX4_back 72 = .ok (.ireturn, 1) := dk_172 (dk_at dksX4_back_3 4 rfl rfl)
abbrev cX4_status : ByteArray := prog_16_method_96_code
def yX4_status : MethodName := ⟨RX4, "status", "(I)I"⟩
def dkwX4_status_7 : List UInt8 := [4, 96, 61, 132, 3, 1, 167, 255, 229, 28, 172, 2, 172]
abbrev dktX4_status_7 : List UInt8 := dkwX4_status_7 ++ []
def dkwX4_status_6 : List UInt8 := [172, 3, 62, 29, 16, 8, 162, 0, 27, 28, 42, 180, 0, 54, 29, 46, 2, 160, 0, 7, 3, 167, 0, 4]
abbrev dktX4_status_6 : List UInt8 := dkwX4_status_6 ++ dktX4_status_7
def dkwX4_status_5 : List UInt8 := [180, 0, 17, 16, 94, 27, 96, 16, 6, 100, 46, 172, 42, 180, 0, 132, 172, 42, 180, 0, 17, 16, 96, 46]
abbrev dktX4_status_5 : List UInt8 := dkwX4_status_5 ++ dktX4_status_6
def dkwX4_status_4 : List UInt8 := [162, 0, 21, 28, 42, 180, 0, 17, 16, 40, 29, 96, 46, 96, 61, 132, 3, 1, 167, 255, 235, 28, 172, 42]
abbrev dktX4_status_4 : List UInt8 := dkwX4_status_4 ++ dktX4_status_5
def dkwX4_status_3 : List UInt8 := [42, 182, 0, 84, 172, 42, 180, 0, 17, 16, 90, 27, 96, 4, 100, 46, 172, 3, 62, 29, 16, 49]
abbrev dktX4_status_3 : List UInt8 := dkwX4_status_3 ++ dktX4_status_4
def dkwX4_status_2 : List UInt8 := [170, 0, 0, 0, 162, 0, 0, 0, 0, 0, 0, 0, 10, 0, 0, 0, 57, 0, 0, 0, 62, 0, 0, 0, 62, 0, 0, 0, 62, 0, 0, 0, 62, 0, 0, 0, 74, 0, 0, 0, 102, 0, 0, 0, 102, 0, 0, 0, 115, 0, 0, 0, 120, 0, 0, 0, 128]
abbrev dktX4_status_2 : List UInt8 := dkwX4_status_2 ++ dktX4_status_3
def dkwX4_status_1 : List UInt8 := [3, 61, 27]
abbrev dktX4_status_1 : List UInt8 := dkwX4_status_1 ++ dktX4_status_2
def dkwX4_status_0 : List UInt8 := [27, 133, 20, 0, 122, 20, 1, 27, 184, 0, 76, 153, 0, 13, 42, 180, 0, 7, 27, 16, 10, 100, 46, 172]
abbrev dktX4_status_0 : List UInt8 := dkwX4_status_0 ++ dktX4_status_1
theorem dksX4_status_0 : cX4_status.data.toList.drop 0 = dktX4_status_0 := by decide +kernel
theorem dksX4_status_1 : cX4_status.data.toList.drop 24 = dktX4_status_1 := dk_seg dksX4_status_0 24 rfl rfl
theorem dksX4_status_2 : cX4_status.data.toList.drop 27 = dktX4_status_2 := dk_seg dksX4_status_1 3 rfl rfl
theorem dksX4_status_3 : cX4_status.data.toList.drop 84 = dktX4_status_3 := dk_seg dksX4_status_2 57 rfl rfl
theorem dksX4_status_4 : cX4_status.data.toList.drop 106 = dktX4_status_4 := dk_seg dksX4_status_3 22 rfl rfl
theorem dksX4_status_5 : cX4_status.data.toList.drop 130 = dktX4_status_5 := dk_seg dksX4_status_4 24 rfl rfl
theorem dksX4_status_6 : cX4_status.data.toList.drop 154 = dktX4_status_6 := dk_seg dksX4_status_5 24 rfl rfl
theorem dksX4_status_7 : cX4_status.data.toList.drop 178 = dktX4_status_7 := dk_seg dksX4_status_6 24 rfl rfl
theorem dX4_status_0 : decode cX4_status 0 = .ok (.iload_n 1, 1) := dk_27 (dk_at dksX4_status_0 0 rfl rfl)
theorem dX4_status_1 : decode cX4_status 1 = .ok (.i2l, 1) := dk_133 (dk_at dksX4_status_0 1 rfl rfl)
theorem dX4_status_2 : decode cX4_status 2 = .ok (.ldc2_w 122, 3) := dk_20 0 122 (dk_at dksX4_status_0 2 rfl rfl)
theorem dX4_status_5 : decode cX4_status 5 = .ok (.ldc2_w 283, 3) := dk_20 1 27 (dk_at dksX4_status_0 5 rfl rfl)
theorem dX4_status_8 : decode cX4_status 8 = .ok (.invokestatic 76, 3) := dk_184 0 76 (dk_at dksX4_status_0 8 rfl rfl)
theorem dX4_status_11 : decode cX4_status 11 = .ok (.ifCond .eq 13, 3) := dk_153 0 13 (dk_at dksX4_status_0 11 rfl rfl)
theorem dX4_status_14 : decode cX4_status 14 = .ok (.aload_n 0, 1) := dk_42 (dk_at dksX4_status_0 14 rfl rfl)
theorem dX4_status_15 : decode cX4_status 15 = .ok (.getfield 7, 3) := dk_180 0 7 (dk_at dksX4_status_0 15 rfl rfl)
theorem dX4_status_18 : decode cX4_status 18 = .ok (.iload_n 1, 1) := dk_27 (dk_at dksX4_status_0 18 rfl rfl)
theorem dX4_status_19 : decode cX4_status 19 = .ok (.bipush 10, 2) := dk_16 10 (dk_at dksX4_status_0 19 rfl rfl)
theorem dX4_status_21 : decode cX4_status 21 = .ok (.isub, 1) := dk_100 (dk_at dksX4_status_0 21 rfl rfl)
theorem dX4_status_22 : decode cX4_status 22 = .ok (.iaload, 1) := dk_46 (dk_at dksX4_status_0 22 rfl rfl)
theorem dX4_status_23 : decode cX4_status 23 = .ok (.ireturn, 1) := dk_172 (dk_at dksX4_status_0 23 rfl rfl)
theorem dX4_status_24 : decode cX4_status 24 = .ok (.iconst 0, 1) := dk_3 (dk_at dksX4_status_1 0 rfl rfl)
theorem dX4_status_25 : decode cX4_status 25 = .ok (.istore_n 2, 1) := dk_61 (dk_at dksX4_status_1 1 rfl rfl)
theorem dX4_status_26 : decode cX4_status 26 = .ok (.iload_n 1, 1) := dk_27 (dk_at dksX4_status_1 2 rfl rfl)
theorem dX4_status_27 : decode cX4_status 27 = .ok (.tableswitch 162 0 10 #[57, 62, 62, 62, 62, 74, 102, 102, 115, 120, 128], 57) := by decide +kernel
theorem dX4_status_84 : decode cX4_status 84 = .ok (.aload_n 0, 1) := dk_42 (dk_at dksX4_status_3 0 rfl rfl)
theorem dX4_status_85 : decode cX4_status 85 = .ok (.invokevirtual 84, 3) := dk_182 0 84 (dk_at dksX4_status_3 1 rfl rfl)
theorem dX4_status_88 : decode cX4_status 88 = .ok (.ireturn, 1) := dk_172 (dk_at dksX4_status_3 4 rfl rfl)
theorem dX4_status_89 : decode cX4_status 89 = .ok (.aload_n 0, 1) := dk_42 (dk_at dksX4_status_3 5 rfl rfl)
theorem dX4_status_90 : decode cX4_status 90 = .ok (.getfield 17, 3) := dk_180 0 17 (dk_at dksX4_status_3 6 rfl rfl)
theorem dX4_status_93 : decode cX4_status 93 = .ok (.bipush 90, 2) := dk_16 90 (dk_at dksX4_status_3 9 rfl rfl)
theorem dX4_status_95 : decode cX4_status 95 = .ok (.iload_n 1, 1) := dk_27 (dk_at dksX4_status_3 11 rfl rfl)
theorem dX4_status_96 : decode cX4_status 96 = .ok (.iadd, 1) := dk_96 (dk_at dksX4_status_3 12 rfl rfl)
theorem dX4_status_97 : decode cX4_status 97 = .ok (.iconst 1, 1) := dk_4 (dk_at dksX4_status_3 13 rfl rfl)
theorem dX4_status_98 : decode cX4_status 98 = .ok (.isub, 1) := dk_100 (dk_at dksX4_status_3 14 rfl rfl)
theorem dX4_status_99 : decode cX4_status 99 = .ok (.iaload, 1) := dk_46 (dk_at dksX4_status_3 15 rfl rfl)
theorem dX4_status_100 : decode cX4_status 100 = .ok (.ireturn, 1) := dk_172 (dk_at dksX4_status_3 16 rfl rfl)
theorem dX4_status_101 : decode cX4_status 101 = .ok (.iconst 0, 1) := dk_3 (dk_at dksX4_status_3 17 rfl rfl)
theorem dX4_status_102 : decode cX4_status 102 = .ok (.istore_n 3, 1) := dk_62 (dk_at dksX4_status_3 18 rfl rfl)
theorem dX4_status_103 : decode cX4_status 103 = .ok (.iload_n 3, 1) := dk_29 (dk_at dksX4_status_3 19 rfl rfl)
theorem dX4_status_104 : decode cX4_status 104 = .ok (.bipush 49, 2) := dk_16 49 (dk_at dksX4_status_3 20 rfl rfl)
theorem dX4_status_106 : decode cX4_status 106 = .ok (.if_icmp .ge 21, 3) := dk_162 0 21 (dk_at dksX4_status_4 0 rfl rfl)
theorem dX4_status_109 : decode cX4_status 109 = .ok (.iload_n 2, 1) := dk_28 (dk_at dksX4_status_4 3 rfl rfl)
theorem dX4_status_110 : decode cX4_status 110 = .ok (.aload_n 0, 1) := dk_42 (dk_at dksX4_status_4 4 rfl rfl)
theorem dX4_status_111 : decode cX4_status 111 = .ok (.getfield 17, 3) := dk_180 0 17 (dk_at dksX4_status_4 5 rfl rfl)
theorem dX4_status_114 : decode cX4_status 114 = .ok (.bipush 40, 2) := dk_16 40 (dk_at dksX4_status_4 8 rfl rfl)
theorem dX4_status_116 : decode cX4_status 116 = .ok (.iload_n 3, 1) := dk_29 (dk_at dksX4_status_4 10 rfl rfl)
theorem dX4_status_117 : decode cX4_status 117 = .ok (.iadd, 1) := dk_96 (dk_at dksX4_status_4 11 rfl rfl)
theorem dX4_status_118 : decode cX4_status 118 = .ok (.iaload, 1) := dk_46 (dk_at dksX4_status_4 12 rfl rfl)
theorem dX4_status_119 : decode cX4_status 119 = .ok (.iadd, 1) := dk_96 (dk_at dksX4_status_4 13 rfl rfl)
theorem dX4_status_120 : decode cX4_status 120 = .ok (.istore_n 2, 1) := dk_61 (dk_at dksX4_status_4 14 rfl rfl)
theorem dX4_status_121 : decode cX4_status 121 = .ok (.iinc 3 1, 3) := dk_132 3 1 (dk_at dksX4_status_4 15 rfl rfl)
theorem dX4_status_124 : decode cX4_status 124 = .ok (.goto (-21), 3) := dk_167 255 235 (dk_at dksX4_status_4 18 rfl rfl)
theorem dX4_status_127 : decode cX4_status 127 = .ok (.iload_n 2, 1) := dk_28 (dk_at dksX4_status_4 21 rfl rfl)
theorem dX4_status_128 : decode cX4_status 128 = .ok (.ireturn, 1) := dk_172 (dk_at dksX4_status_4 22 rfl rfl)
theorem dX4_status_129 : decode cX4_status 129 = .ok (.aload_n 0, 1) := dk_42 (dk_at dksX4_status_4 23 rfl rfl)
theorem dX4_status_130 : decode cX4_status 130 = .ok (.getfield 17, 3) := dk_180 0 17 (dk_at dksX4_status_5 0 rfl rfl)
theorem dX4_status_133 : decode cX4_status 133 = .ok (.bipush 94, 2) := dk_16 94 (dk_at dksX4_status_5 3 rfl rfl)
theorem dX4_status_135 : decode cX4_status 135 = .ok (.iload_n 1, 1) := dk_27 (dk_at dksX4_status_5 5 rfl rfl)
theorem dX4_status_136 : decode cX4_status 136 = .ok (.iadd, 1) := dk_96 (dk_at dksX4_status_5 6 rfl rfl)
theorem dX4_status_137 : decode cX4_status 137 = .ok (.bipush 6, 2) := dk_16 6 (dk_at dksX4_status_5 7 rfl rfl)
theorem dX4_status_139 : decode cX4_status 139 = .ok (.isub, 1) := dk_100 (dk_at dksX4_status_5 9 rfl rfl)
theorem dX4_status_140 : decode cX4_status 140 = .ok (.iaload, 1) := dk_46 (dk_at dksX4_status_5 10 rfl rfl)
theorem dX4_status_141 : decode cX4_status 141 = .ok (.ireturn, 1) := dk_172 (dk_at dksX4_status_5 11 rfl rfl)
theorem dX4_status_142 : decode cX4_status 142 = .ok (.aload_n 0, 1) := dk_42 (dk_at dksX4_status_5 12 rfl rfl)
theorem dX4_status_143 : decode cX4_status 143 = .ok (.getfield 132, 3) := dk_180 0 132 (dk_at dksX4_status_5 13 rfl rfl)
theorem dX4_status_146 : decode cX4_status 146 = .ok (.ireturn, 1) := dk_172 (dk_at dksX4_status_5 16 rfl rfl)
theorem dX4_status_147 : decode cX4_status 147 = .ok (.aload_n 0, 1) := dk_42 (dk_at dksX4_status_5 17 rfl rfl)
theorem dX4_status_148 : decode cX4_status 148 = .ok (.getfield 17, 3) := dk_180 0 17 (dk_at dksX4_status_5 18 rfl rfl)
theorem dX4_status_151 : decode cX4_status 151 = .ok (.bipush 96, 2) := dk_16 96 (dk_at dksX4_status_5 21 rfl rfl)
theorem dX4_status_153 : decode cX4_status 153 = .ok (.iaload, 1) := dk_46 (dk_at dksX4_status_5 23 rfl rfl)
theorem dX4_status_154 : decode cX4_status 154 = .ok (.ireturn, 1) := dk_172 (dk_at dksX4_status_6 0 rfl rfl)
theorem dX4_status_155 : decode cX4_status 155 = .ok (.iconst 0, 1) := dk_3 (dk_at dksX4_status_6 1 rfl rfl)
theorem dX4_status_156 : decode cX4_status 156 = .ok (.istore_n 3, 1) := dk_62 (dk_at dksX4_status_6 2 rfl rfl)
theorem dX4_status_157 : decode cX4_status 157 = .ok (.iload_n 3, 1) := dk_29 (dk_at dksX4_status_6 3 rfl rfl)
theorem dX4_status_158 : decode cX4_status 158 = .ok (.bipush 8, 2) := dk_16 8 (dk_at dksX4_status_6 4 rfl rfl)
theorem dX4_status_160 : decode cX4_status 160 = .ok (.if_icmp .ge 27, 3) := dk_162 0 27 (dk_at dksX4_status_6 6 rfl rfl)
theorem dX4_status_163 : decode cX4_status 163 = .ok (.iload_n 2, 1) := dk_28 (dk_at dksX4_status_6 9 rfl rfl)
theorem dX4_status_164 : decode cX4_status 164 = .ok (.aload_n 0, 1) := dk_42 (dk_at dksX4_status_6 10 rfl rfl)
theorem dX4_status_165 : decode cX4_status 165 = .ok (.getfield 54, 3) := dk_180 0 54 (dk_at dksX4_status_6 11 rfl rfl)
theorem dX4_status_168 : decode cX4_status 168 = .ok (.iload_n 3, 1) := dk_29 (dk_at dksX4_status_6 14 rfl rfl)
theorem dX4_status_169 : decode cX4_status 169 = .ok (.iaload, 1) := dk_46 (dk_at dksX4_status_6 15 rfl rfl)
theorem dX4_status_170 : decode cX4_status 170 = .ok (.iconst (-1), 1) := dk_2 (dk_at dksX4_status_6 16 rfl rfl)
theorem dX4_status_171 : decode cX4_status 171 = .ok (.if_icmp .ne 7, 3) := dk_160 0 7 (dk_at dksX4_status_6 17 rfl rfl)
theorem dX4_status_174 : decode cX4_status 174 = .ok (.iconst 0, 1) := dk_3 (dk_at dksX4_status_6 20 rfl rfl)
theorem dX4_status_175 : decode cX4_status 175 = .ok (.goto 4, 3) := dk_167 0 4 (dk_at dksX4_status_6 21 rfl rfl)
theorem dX4_status_178 : decode cX4_status 178 = .ok (.iconst 1, 1) := dk_4 (dk_at dksX4_status_7 0 rfl rfl)
theorem dX4_status_179 : decode cX4_status 179 = .ok (.iadd, 1) := dk_96 (dk_at dksX4_status_7 1 rfl rfl)
theorem dX4_status_180 : decode cX4_status 180 = .ok (.istore_n 2, 1) := dk_61 (dk_at dksX4_status_7 2 rfl rfl)
theorem dX4_status_181 : decode cX4_status 181 = .ok (.iinc 3 1, 3) := dk_132 3 1 (dk_at dksX4_status_7 3 rfl rfl)
theorem dX4_status_184 : decode cX4_status 184 = .ok (.goto (-27), 3) := dk_167 255 229 (dk_at dksX4_status_7 6 rfl rfl)
theorem dX4_status_187 : decode cX4_status 187 = .ok (.iload_n 2, 1) := dk_28 (dk_at dksX4_status_7 9 rfl rfl)
theorem dX4_status_188 : decode cX4_status 188 = .ok (.ireturn, 1) := dk_172 (dk_at dksX4_status_7 10 rfl rfl)
theorem dX4_status_189 : decode cX4_status 189 = .ok (.iconst (-1), 1) := dk_2 (dk_at dksX4_status_7 11 rfl rfl)
theorem dX4_status_190 : decode cX4_status 190 = .ok (.ireturn, 1) := dk_172 (dk_at dksX4_status_7 12 rfl rfl)
theorem q71 : (Jvm.Cond.initialized "LeftIsAgreedOnModel") ∈ lw_all := lw_g (lw_at lw_m1 5 rfl) rfl
theorem q1346 : (Jvm.Cond.instantiable "LeftIsAgreedOnModel" (26 : Nat)) ∈ lw_all := lw_g (lw_at lw_m6 80 rfl) rfl
theorem q1348 : (Jvm.Cond.instanceMethod ({ cls := "LeftIsAgreedOnModel", name := "<init>", desc := "()V" } : Jvm.MethodName)) ∈ lw_all := lw_g (lw_at lw_m6 82 rfl) rfl
theorem q1349 : (Jvm.Cond.code ({ cls := "LeftIsAgreedOnModel", name := "<init>", desc := "()V" } : Jvm.MethodName) prog_16_method_1_code (1 : Nat) (Option.none : Option Jvm.ClassFile.FieldType)) ∈ lw_all := lw_g (lw_at lw_m6 83 rfl) rfl
theorem q1350 : (Jvm.Cond.methodLink "LeftIsAgreedOnModel" (1 : Nat) ({ cls := "java/lang/Object", name := "<init>", desc := "()V" } : Jvm.MethodName)) ∈ lw_all := lw_g (lw_at lw_m6 84 rfl) rfl
theorem q1351 : (Jvm.Cond.methodLink "LeftIsAgreedOnModel" (13 : Nat) ({ cls := "LeftIsAgreedOnModel", name := "fresh", desc := "()[I" } : Jvm.MethodName)) ∈ lw_all := lw_g (lw_at lw_m6 85 rfl) rfl
theorem q1352 : (Jvm.Cond.static ({ cls := "LeftIsAgreedOnModel", name := "fresh", desc := "()[I" } : Jvm.MethodName)) ∈ lw_all := lw_g (lw_at lw_m6 86 rfl) rfl
theorem q1353 : (Jvm.Cond.code ({ cls := "LeftIsAgreedOnModel", name := "fresh", desc := "()[I" } : Jvm.MethodName) prog_16_method_4_code (1 : Nat) (Option.some (Jvm.ClassFile.FieldType.array Jvm.ClassFile.FieldType.int))) ∈ lw_all := lw_g (lw_at lw_m6 87 rfl) rfl
theorem q1354 : (Jvm.Cond.fieldLink "LeftIsAgreedOnModel" (7 : Nat) "LeftIsAgreedOnModel" "refused" "[I") ∈ lw_all := lw_g (lw_at lw_m6 88 rfl) rfl
theorem q1355 : (Jvm.Cond.fieldLink "LeftIsAgreedOnModel" (17 : Nat) "LeftIsAgreedOnModel" "now" "[I") ∈ lw_all := lw_g (lw_at lw_m6 89 rfl) rfl
theorem q1356 : (Jvm.Cond.fieldLink "LeftIsAgreedOnModel" (20 : Nat) "LeftIsAgreedOnModel" "kept" "[I") ∈ lw_all := lw_g (lw_at lw_m6 90 rfl) rfl
theorem q1357 : (Jvm.Cond.fieldLink "LeftIsAgreedOnModel" (23 : Nat) "LeftIsAgreedOnModel" "mind" "[I") ∈ lw_all := lw_g (lw_at lw_m6 91 rfl) rfl
theorem q1358 : (Jvm.Cond.fieldLink "LeftIsAgreedOnModel" (279 : Nat) "LeftIsAgreedOnModel" "isKept" "Z") ∈ lw_all := lw_g (lw_at lw_m6 92 rfl) rfl
theorem q1359 : (Jvm.Cond.fieldLink "LeftIsAgreedOnModel" (26 : Nat) "LeftIsAgreedOnModel" "tape" "[I") ∈ lw_all := lw_g (lw_at lw_m6 93 rfl) rfl
theorem q1360 : (Jvm.Cond.fieldLink "LeftIsAgreedOnModel" (132 : Nat) "LeftIsAgreedOnModel" "size" "I") ∈ lw_all := lw_g (lw_at lw_m6 94 rfl) rfl
theorem q1361 : (Jvm.Cond.fieldLink "LeftIsAgreedOnModel" (144 : Nat) "LeftIsAgreedOnModel" "at" "I") ∈ lw_all := lw_g (lw_at lw_m6 95 rfl) rfl
theorem q1362 : (Jvm.Cond.fieldLink "LeftIsAgreedOnModel" (147 : Nat) "LeftIsAgreedOnModel" "from" "I") ∈ lw_all := lw_g (lw_at lw_m6 96 rfl) rfl
theorem q1363 : (Jvm.Cond.fieldLink "LeftIsAgreedOnModel" (153 : Nat) "LeftIsAgreedOnModel" "sort" "I") ∈ lw_all := lw_g (lw_at lw_m6 97 rfl) rfl
theorem q1364 : (Jvm.Cond.fieldLink "LeftIsAgreedOnModel" (29 : Nat) "LeftIsAgreedOnModel" "words" "[C") ∈ lw_all := lw_g (lw_at lw_m6 98 rfl) rfl
theorem q1365 : (Jvm.Cond.fieldLink "LeftIsAgreedOnModel" (33 : Nat) "LeftIsAgreedOnModel" "wCell" "[I") ∈ lw_all := lw_g (lw_at lw_m6 99 rfl) rfl
theorem q1366 : (Jvm.Cond.fieldLink "LeftIsAgreedOnModel" (36 : Nat) "LeftIsAgreedOnModel" "wFaces" "[I") ∈ lw_all := lw_g (lw_at lw_m6 100 rfl) rfl
theorem q1367 : (Jvm.Cond.fieldLink "LeftIsAgreedOnModel" (39 : Nat) "LeftIsAgreedOnModel" "wTurns" "[I") ∈ lw_all := lw_g (lw_at lw_m6 101 rfl) rfl
theorem q1368 : (Jvm.Cond.fieldLink "LeftIsAgreedOnModel" (42 : Nat) "LeftIsAgreedOnModel" "wSign" "[I") ∈ lw_all := lw_g (lw_at lw_m6 102 rfl) rfl
theorem q1369 : (Jvm.Cond.fieldLink "LeftIsAgreedOnModel" (45 : Nat) "LeftIsAgreedOnModel" "wBy" "[I") ∈ lw_all := lw_g (lw_at lw_m6 103 rfl) rfl
theorem q1370 : (Jvm.Cond.fieldLink "LeftIsAgreedOnModel" (48 : Nat) "LeftIsAgreedOnModel" "wFell" "[I") ∈ lw_all := lw_g (lw_at lw_m6 104 rfl) rfl
theorem q1371 : (Jvm.Cond.fieldLink "LeftIsAgreedOnModel" (185 : Nat) "LeftIsAgreedOnModel" "dry" "I") ∈ lw_all := lw_g (lw_at lw_m6 105 rfl) rfl
theorem q1372 : (Jvm.Cond.fieldLink "LeftIsAgreedOnModel" (51 : Nat) "LeftIsAgreedOnModel" "telling" "[I") ∈ lw_all := lw_g (lw_at lw_m6 106 rfl) rfl
theorem q1373 : (Jvm.Cond.fieldLink "LeftIsAgreedOnModel" (54 : Nat) "LeftIsAgreedOnModel" "holds" "[I") ∈ lw_all := lw_g (lw_at lw_m6 107 rfl) rfl
theorem q1374 : (Jvm.Cond.fieldLink "LeftIsAgreedOnModel" (57 : Nat) "LeftIsAgreedOnModel" "sizes" "[I") ∈ lw_all := lw_g (lw_at lw_m6 108 rfl) rfl
theorem q1375 : (Jvm.Cond.fieldLink "LeftIsAgreedOnModel" (60 : Nat) "LeftIsAgreedOnModel" "elements" "[J") ∈ lw_all := lw_g (lw_at lw_m6 109 rfl) rfl
theorem q1376 : (Jvm.Cond.fieldLink "LeftIsAgreedOnModel" (64 : Nat) "LeftIsAgreedOnModel" "moved" "[J") ∈ lw_all := lw_g (lw_at lw_m6 110 rfl) rfl
theorem q1377 : (Jvm.Cond.fieldLink "LeftIsAgreedOnModel" (67 : Nat) "LeftIsAgreedOnModel" "above" "[I") ∈ lw_all := lw_g (lw_at lw_m6 111 rfl) rfl
theorem q1378 : (Jvm.Cond.fieldLink "LeftIsAgreedOnModel" (70 : Nat) "LeftIsAgreedOnModel" "out" "[I") ∈ lw_all := lw_g (lw_at lw_m6 112 rfl) rfl
theorem q1379 : (Jvm.Cond.fieldLink "LeftIsAgreedOnModel" (73 : Nat) "LeftIsAgreedOnModel" "first" "[I") ∈ lw_all := lw_g (lw_at lw_m6 113 rfl) rfl
theorem q1380 : (Jvm.Cond.laysFinal "LeftIsAgreedOnModel" "LeftIsAgreedOnModel" "refused" "[I") ∈ lw_all := lw_g (lw_at lw_m6 114 rfl) rfl
theorem q1381 : (Jvm.Cond.soleField "LeftIsAgreedOnModel" "refused") ∈ lw_all := lw_g (lw_at lw_m6 115 rfl) rfl
theorem q1382 : (Jvm.Cond.laysFinal "LeftIsAgreedOnModel" "LeftIsAgreedOnModel" "now" "[I") ∈ lw_all := lw_g (lw_at lw_m6 116 rfl) rfl
theorem q1383 : (Jvm.Cond.soleField "LeftIsAgreedOnModel" "now") ∈ lw_all := lw_g (lw_at lw_m6 117 rfl) rfl
theorem q1384 : (Jvm.Cond.laysFinal "LeftIsAgreedOnModel" "LeftIsAgreedOnModel" "kept" "[I") ∈ lw_all := lw_g (lw_at lw_m6 118 rfl) rfl
theorem q1385 : (Jvm.Cond.soleField "LeftIsAgreedOnModel" "kept") ∈ lw_all := lw_g (lw_at lw_m6 119 rfl) rfl
theorem q1386 : (Jvm.Cond.laysFinal "LeftIsAgreedOnModel" "LeftIsAgreedOnModel" "mind" "[I") ∈ lw_all := lw_g (lw_at lw_m6 120 rfl) rfl
theorem q1387 : (Jvm.Cond.soleField "LeftIsAgreedOnModel" "mind") ∈ lw_all := lw_g (lw_at lw_m6 121 rfl) rfl
theorem q1388 : (Jvm.Cond.lays "LeftIsAgreedOnModel" "LeftIsAgreedOnModel" "isKept" "Z") ∈ lw_all := lw_g (lw_at lw_m6 122 rfl) rfl
theorem q1389 : (Jvm.Cond.soleField "LeftIsAgreedOnModel" "isKept") ∈ lw_all := lw_g (lw_at lw_m6 123 rfl) rfl
theorem q1390 : (Jvm.Cond.laysFinal "LeftIsAgreedOnModel" "LeftIsAgreedOnModel" "tape" "[I") ∈ lw_all := lw_g (lw_at lw_m6 124 rfl) rfl
theorem q1391 : (Jvm.Cond.soleField "LeftIsAgreedOnModel" "tape") ∈ lw_all := lw_g (lw_at lw_m6 125 rfl) rfl
theorem q1392 : (Jvm.Cond.lays "LeftIsAgreedOnModel" "LeftIsAgreedOnModel" "size" "I") ∈ lw_all := lw_g (lw_at lw_m6 126 rfl) rfl
theorem q1393 : (Jvm.Cond.soleField "LeftIsAgreedOnModel" "size") ∈ lw_all := lw_g (lw_at lw_m6 127 rfl) rfl
theorem q1394 : (Jvm.Cond.lays "LeftIsAgreedOnModel" "LeftIsAgreedOnModel" "at" "I") ∈ lw_all := lw_g (lw_at lw_m6 128 rfl) rfl
theorem q1395 : (Jvm.Cond.soleField "LeftIsAgreedOnModel" "at") ∈ lw_all := lw_g (lw_at lw_m6 129 rfl) rfl
theorem q1396 : (Jvm.Cond.lays "LeftIsAgreedOnModel" "LeftIsAgreedOnModel" "from" "I") ∈ lw_all := lw_g (lw_at lw_m6 130 rfl) rfl
theorem q1397 : (Jvm.Cond.soleField "LeftIsAgreedOnModel" "from") ∈ lw_all := lw_g (lw_at lw_m6 131 rfl) rfl
theorem q1398 : (Jvm.Cond.lays "LeftIsAgreedOnModel" "LeftIsAgreedOnModel" "sort" "I") ∈ lw_all := lw_g (lw_at lw_m6 132 rfl) rfl
theorem q1399 : (Jvm.Cond.soleField "LeftIsAgreedOnModel" "sort") ∈ lw_all := lw_g (lw_at lw_m6 133 rfl) rfl
theorem q1400 : (Jvm.Cond.laysFinal "LeftIsAgreedOnModel" "LeftIsAgreedOnModel" "words" "[C") ∈ lw_all := lw_g (lw_at lw_m6 134 rfl) rfl
theorem q1401 : (Jvm.Cond.soleField "LeftIsAgreedOnModel" "words") ∈ lw_all := lw_g (lw_at lw_m6 135 rfl) rfl
theorem q1402 : (Jvm.Cond.laysFinal "LeftIsAgreedOnModel" "LeftIsAgreedOnModel" "wCell" "[I") ∈ lw_all := lw_g (lw_at lw_m6 136 rfl) rfl
theorem q1403 : (Jvm.Cond.soleField "LeftIsAgreedOnModel" "wCell") ∈ lw_all := lw_g (lw_at lw_m6 137 rfl) rfl
theorem q1404 : (Jvm.Cond.laysFinal "LeftIsAgreedOnModel" "LeftIsAgreedOnModel" "wFaces" "[I") ∈ lw_all := lw_g (lw_at lw_m6 138 rfl) rfl
theorem q1405 : (Jvm.Cond.soleField "LeftIsAgreedOnModel" "wFaces") ∈ lw_all := lw_g (lw_at lw_m6 139 rfl) rfl
theorem q1406 : (Jvm.Cond.laysFinal "LeftIsAgreedOnModel" "LeftIsAgreedOnModel" "wTurns" "[I") ∈ lw_all := lw_g (lw_at lw_m6 140 rfl) rfl
theorem q1407 : (Jvm.Cond.soleField "LeftIsAgreedOnModel" "wTurns") ∈ lw_all := lw_g (lw_at lw_m6 141 rfl) rfl
theorem q1408 : (Jvm.Cond.laysFinal "LeftIsAgreedOnModel" "LeftIsAgreedOnModel" "wSign" "[I") ∈ lw_all := lw_g (lw_at lw_m6 142 rfl) rfl
theorem q1409 : (Jvm.Cond.soleField "LeftIsAgreedOnModel" "wSign") ∈ lw_all := lw_g (lw_at lw_m6 143 rfl) rfl
theorem q1410 : (Jvm.Cond.laysFinal "LeftIsAgreedOnModel" "LeftIsAgreedOnModel" "wBy" "[I") ∈ lw_all := lw_g (lw_at lw_m6 144 rfl) rfl
theorem q1411 : (Jvm.Cond.soleField "LeftIsAgreedOnModel" "wBy") ∈ lw_all := lw_g (lw_at lw_m6 145 rfl) rfl
theorem q1412 : (Jvm.Cond.laysFinal "LeftIsAgreedOnModel" "LeftIsAgreedOnModel" "wFell" "[I") ∈ lw_all := lw_g (lw_at lw_m6 146 rfl) rfl
theorem q1413 : (Jvm.Cond.soleField "LeftIsAgreedOnModel" "wFell") ∈ lw_all := lw_g (lw_at lw_m6 147 rfl) rfl
theorem q1414 : (Jvm.Cond.lays "LeftIsAgreedOnModel" "LeftIsAgreedOnModel" "dry" "I") ∈ lw_all := lw_g (lw_at lw_m6 148 rfl) rfl
theorem q1415 : (Jvm.Cond.soleField "LeftIsAgreedOnModel" "dry") ∈ lw_all := lw_g (lw_at lw_m6 149 rfl) rfl
theorem q1416 : (Jvm.Cond.laysFinal "LeftIsAgreedOnModel" "LeftIsAgreedOnModel" "telling" "[I") ∈ lw_all := lw_g (lw_at lw_m6 150 rfl) rfl
theorem q1417 : (Jvm.Cond.soleField "LeftIsAgreedOnModel" "telling") ∈ lw_all := lw_g (lw_at lw_m6 151 rfl) rfl
theorem q1418 : (Jvm.Cond.laysFinal "LeftIsAgreedOnModel" "LeftIsAgreedOnModel" "holds" "[I") ∈ lw_all := lw_g (lw_at lw_m6 152 rfl) rfl
theorem q1419 : (Jvm.Cond.soleField "LeftIsAgreedOnModel" "holds") ∈ lw_all := lw_g (lw_at lw_m6 153 rfl) rfl
theorem q1420 : (Jvm.Cond.laysFinal "LeftIsAgreedOnModel" "LeftIsAgreedOnModel" "sizes" "[I") ∈ lw_all := lw_g (lw_at lw_m6 154 rfl) rfl
theorem q1421 : (Jvm.Cond.soleField "LeftIsAgreedOnModel" "sizes") ∈ lw_all := lw_g (lw_at lw_m6 155 rfl) rfl
theorem q1422 : (Jvm.Cond.laysFinal "LeftIsAgreedOnModel" "LeftIsAgreedOnModel" "elements" "[J") ∈ lw_all := lw_g (lw_at lw_m6 156 rfl) rfl
theorem q1423 : (Jvm.Cond.soleField "LeftIsAgreedOnModel" "elements") ∈ lw_all := lw_g (lw_at lw_m6 157 rfl) rfl
theorem q1424 : (Jvm.Cond.laysFinal "LeftIsAgreedOnModel" "LeftIsAgreedOnModel" "moved" "[J") ∈ lw_all := lw_g (lw_at lw_m6 158 rfl) rfl
theorem q1425 : (Jvm.Cond.soleField "LeftIsAgreedOnModel" "moved") ∈ lw_all := lw_g (lw_at lw_m6 159 rfl) rfl
theorem q1426 : (Jvm.Cond.laysFinal "LeftIsAgreedOnModel" "LeftIsAgreedOnModel" "above" "[I") ∈ lw_all := lw_g (lw_at lw_m6 160 rfl) rfl
theorem q1427 : (Jvm.Cond.soleField "LeftIsAgreedOnModel" "above") ∈ lw_all := lw_g (lw_at lw_m6 161 rfl) rfl
theorem q1428 : (Jvm.Cond.laysFinal "LeftIsAgreedOnModel" "LeftIsAgreedOnModel" "out" "[I") ∈ lw_all := lw_g (lw_at lw_m6 162 rfl) rfl
theorem q1429 : (Jvm.Cond.soleField "LeftIsAgreedOnModel" "out") ∈ lw_all := lw_g (lw_at lw_m6 163 rfl) rfl
theorem q1430 : (Jvm.Cond.laysFinal "LeftIsAgreedOnModel" "LeftIsAgreedOnModel" "first" "[I") ∈ lw_all := lw_g (lw_at lw_m6 164 rfl) rfl
theorem q1431 : (Jvm.Cond.soleField "LeftIsAgreedOnModel" "first") ∈ lw_all := lw_g (lw_at lw_m6 165 rfl) rfl
theorem q1432 : (Jvm.Cond.superclass "LeftIsAgreedOnModel" "java/lang/Object") ∈ lw_all := lw_g (lw_at lw_m6 166 rfl) rfl
theorem q1435 : (Jvm.Cond.instanceMethod ({ cls := "LeftIsAgreedOnModel", name := "side", desc := "(I)I" } : Jvm.MethodName)) ∈ lw_all := lw_g (lw_at lw_m6 169 rfl) rfl
theorem q1436 : (Jvm.Cond.selects "LeftIsAgreedOnModel" ({ cls := "LeftIsAgreedOnModel", name := "side", desc := "(I)I" } : Jvm.MethodName) ({ cls := "LeftIsAgreedOnModel", name := "side", desc := "(I)I" } : Jvm.MethodName)) ∈ lw_all := lw_g (lw_at lw_m6 170 rfl) rfl
theorem q1437 : (Jvm.Cond.code ({ cls := "LeftIsAgreedOnModel", name := "side", desc := "(I)I" } : Jvm.MethodName) prog_16_method_20_code (3 : Nat) (Option.some Jvm.ClassFile.FieldType.int)) ∈ lw_all := lw_g (lw_at lw_m6 171 rfl) rfl
theorem q1438 : (Jvm.Cond.constantLong "LeftIsAgreedOnModel" (99 : Nat) (7 : Int64)) ∈ lw_all := lw_g (lw_at lw_m6 172 rfl) rfl
theorem q1439 : (Jvm.Cond.methodLink "LeftIsAgreedOnModel" (76 : Nat) ({ cls := "LeftIsAgreedOnModel", name := "isIn", desc := "(JJJ)Z" } : Jvm.MethodName)) ∈ lw_all := lw_g (lw_at lw_m6 173 rfl) rfl
theorem q1440 : (Jvm.Cond.static ({ cls := "LeftIsAgreedOnModel", name := "isIn", desc := "(JJJ)Z" } : Jvm.MethodName)) ∈ lw_all := lw_g (lw_at lw_m6 174 rfl) rfl
theorem q1441 : (Jvm.Cond.code ({ cls := "LeftIsAgreedOnModel", name := "isIn", desc := "(JJJ)Z" } : Jvm.MethodName) prog_16_method_2_code (6 : Nat) (Option.some Jvm.ClassFile.FieldType.boolean)) ∈ lw_all := lw_g (lw_at lw_m6 175 rfl) rfl
theorem q1442 : (Jvm.Cond.methodLink "LeftIsAgreedOnModel" (101 : Nat) ({ cls := "LeftIsAgreedOnModel", name := "refuse", desc := "(I)I" } : Jvm.MethodName)) ∈ lw_all := lw_g (lw_at lw_m6 176 rfl) rfl
theorem q1443 : (Jvm.Cond.privateMethod ({ cls := "LeftIsAgreedOnModel", name := "refuse", desc := "(I)I" } : Jvm.MethodName)) ∈ lw_tbl := lw_at lw_m6 177 rfl
theorem q1444 : (Jvm.Cond.instanceMethod ({ cls := "LeftIsAgreedOnModel", name := "refuse", desc := "(I)I" } : Jvm.MethodName)) ∈ lw_all := lw_g (lw_at lw_m6 178 rfl) rfl
theorem q1445 : (Jvm.Cond.code ({ cls := "LeftIsAgreedOnModel", name := "refuse", desc := "(I)I" } : Jvm.MethodName) prog_16_method_3_code (2 : Nat) (Option.some Jvm.ClassFile.FieldType.int)) ∈ lw_all := lw_g (lw_at lw_m6 179 rfl) rfl
theorem q1447 : (Jvm.Cond.instanceMethod ({ cls := "LeftIsAgreedOnModel", name := "pond", desc := "(IZ)I" } : Jvm.MethodName)) ∈ lw_all := lw_g (lw_at lw_m6 181 rfl) rfl
theorem q1448 : (Jvm.Cond.selects "LeftIsAgreedOnModel" ({ cls := "LeftIsAgreedOnModel", name := "pond", desc := "(IZ)I" } : Jvm.MethodName) ({ cls := "LeftIsAgreedOnModel", name := "pond", desc := "(IZ)I" } : Jvm.MethodName)) ∈ lw_all := lw_g (lw_at lw_m6 182 rfl) rfl
theorem q1449 : (Jvm.Cond.code ({ cls := "LeftIsAgreedOnModel", name := "pond", desc := "(IZ)I" } : Jvm.MethodName) prog_16_method_21_code (4 : Nat) (Option.some Jvm.ClassFile.FieldType.int)) ∈ lw_all := lw_g (lw_at lw_m6 183 rfl) rfl
theorem q1450 : (Jvm.Cond.methodLink "LeftIsAgreedOnModel" (104 : Nat) ({ cls := "LeftIsAgreedOnModel", name := "isCell", desc := "(I)Z" } : Jvm.MethodName)) ∈ lw_all := lw_g (lw_at lw_m6 184 rfl) rfl
theorem q1451 : (Jvm.Cond.privateMethod ({ cls := "LeftIsAgreedOnModel", name := "isCell", desc := "(I)Z" } : Jvm.MethodName)) ∈ lw_tbl := lw_at lw_m6 185 rfl
theorem q1452 : (Jvm.Cond.instanceMethod ({ cls := "LeftIsAgreedOnModel", name := "isCell", desc := "(I)Z" } : Jvm.MethodName)) ∈ lw_all := lw_g (lw_at lw_m6 186 rfl) rfl
theorem q1453 : (Jvm.Cond.code ({ cls := "LeftIsAgreedOnModel", name := "isCell", desc := "(I)Z" } : Jvm.MethodName) prog_16_method_13_code (2 : Nat) (Option.some Jvm.ClassFile.FieldType.boolean)) ∈ lw_all := lw_g (lw_at lw_m6 187 rfl) rfl
theorem q1454 : (Jvm.Cond.methodLink "LeftIsAgreedOnModel" (107 : Nat) ({ cls := "LeftIsAgreedOnModel", name := "isSomebody", desc := "(I)Z" } : Jvm.MethodName)) ∈ lw_all := lw_g (lw_at lw_m6 188 rfl) rfl
theorem q1455 : (Jvm.Cond.privateMethod ({ cls := "LeftIsAgreedOnModel", name := "isSomebody", desc := "(I)Z" } : Jvm.MethodName)) ∈ lw_tbl := lw_at lw_m6 189 rfl
theorem q1456 : (Jvm.Cond.instanceMethod ({ cls := "LeftIsAgreedOnModel", name := "isSomebody", desc := "(I)Z" } : Jvm.MethodName)) ∈ lw_all := lw_g (lw_at lw_m6 190 rfl) rfl
theorem q1457 : (Jvm.Cond.code ({ cls := "LeftIsAgreedOnModel", name := "isSomebody", desc := "(I)Z" } : Jvm.MethodName) prog_16_method_16_code (4 : Nat) (Option.some Jvm.ClassFile.FieldType.boolean)) ∈ lw_all := lw_g (lw_at lw_m6 191 rfl) rfl
theorem q1458 : (Jvm.Cond.methodLink "LeftIsAgreedOnModel" (84 : Nat) ({ cls := "LeftIsAgreedOnModel", name := "many", desc := "()I" } : Jvm.MethodName)) ∈ lw_all := lw_g (lw_at lw_m6 192 rfl) rfl
theorem q1459 : (Jvm.Cond.privateMethod ({ cls := "LeftIsAgreedOnModel", name := "many", desc := "()I" } : Jvm.MethodName)) ∈ lw_tbl := lw_at lw_m6 193 rfl
theorem q1460 : (Jvm.Cond.instanceMethod ({ cls := "LeftIsAgreedOnModel", name := "many", desc := "()I" } : Jvm.MethodName)) ∈ lw_all := lw_g (lw_at lw_m6 194 rfl) rfl
theorem q1461 : (Jvm.Cond.code ({ cls := "LeftIsAgreedOnModel", name := "many", desc := "()I" } : Jvm.MethodName) prog_16_method_6_code (1 : Nat) (Option.some Jvm.ClassFile.FieldType.int)) ∈ lw_all := lw_g (lw_at lw_m6 195 rfl) rfl
theorem q1462 : (Jvm.Cond.methodLink "LeftIsAgreedOnModel" (88 : Nat) ({ cls := "LeftIsAgreedOnModel", name := "cell", desc := "(I)I" } : Jvm.MethodName)) ∈ lw_all := lw_g (lw_at lw_m6 196 rfl) rfl
theorem q1463 : (Jvm.Cond.privateMethod ({ cls := "LeftIsAgreedOnModel", name := "cell", desc := "(I)I" } : Jvm.MethodName)) ∈ lw_tbl := lw_at lw_m6 197 rfl
theorem q1464 : (Jvm.Cond.instanceMethod ({ cls := "LeftIsAgreedOnModel", name := "cell", desc := "(I)I" } : Jvm.MethodName)) ∈ lw_all := lw_g (lw_at lw_m6 198 rfl) rfl
theorem q1465 : (Jvm.Cond.code ({ cls := "LeftIsAgreedOnModel", name := "cell", desc := "(I)I" } : Jvm.MethodName) prog_16_method_10_code (2 : Nat) (Option.some Jvm.ClassFile.FieldType.int)) ∈ lw_all := lw_g (lw_at lw_m6 199 rfl) rfl
theorem q1466 : (Jvm.Cond.methodLink "LeftIsAgreedOnModel" (80 : Nat) ({ cls := "LeftIsAgreedOnModel", name := "pondAt", desc := "(I)I" } : Jvm.MethodName)) ∈ lw_all := lw_g (lw_at lw_m6 200 rfl) rfl
theorem q1467 : (Jvm.Cond.static ({ cls := "LeftIsAgreedOnModel", name := "pondAt", desc := "(I)I" } : Jvm.MethodName)) ∈ lw_all := lw_g (lw_at lw_m6 201 rfl) rfl
theorem q1468 : (Jvm.Cond.code ({ cls := "LeftIsAgreedOnModel", name := "pondAt", desc := "(I)I" } : Jvm.MethodName) prog_16_method_14_code (1 : Nat) (Option.some Jvm.ClassFile.FieldType.int)) ∈ lw_all := lw_g (lw_at lw_m6 202 rfl) rfl
theorem q1470 : (Jvm.Cond.instanceMethod ({ cls := "LeftIsAgreedOnModel", name := "person", desc := "(IIII)I" } : Jvm.MethodName)) ∈ lw_all := lw_g (lw_at lw_m6 204 rfl) rfl
theorem q1471 : (Jvm.Cond.selects "LeftIsAgreedOnModel" ({ cls := "LeftIsAgreedOnModel", name := "person", desc := "(IIII)I" } : Jvm.MethodName) ({ cls := "LeftIsAgreedOnModel", name := "person", desc := "(IIII)I" } : Jvm.MethodName)) ∈ lw_all := lw_g (lw_at lw_m6 205 rfl) rfl
theorem q1472 : (Jvm.Cond.code ({ cls := "LeftIsAgreedOnModel", name := "person", desc := "(IIII)I" } : Jvm.MethodName) prog_16_method_22_code (5 : Nat) (Option.some Jvm.ClassFile.FieldType.int)) ∈ lw_all := lw_g (lw_at lw_m6 206 rfl) rfl
theorem q1473 : (Jvm.Cond.constantLong "LeftIsAgreedOnModel" (110 : Nat) (5 : Int64)) ∈ lw_all := lw_g (lw_at lw_m6 207 rfl) rfl
theorem q1474 : (Jvm.Cond.constantLong "LeftIsAgreedOnModel" (112 : Nat) (9 : Int64)) ∈ lw_all := lw_g (lw_at lw_m6 208 rfl) rfl
theorem q1475 : (Jvm.Cond.constantLong "LeftIsAgreedOnModel" (114 : Nat) (3 : Int64)) ∈ lw_all := lw_g (lw_at lw_m6 209 rfl) rfl
theorem q1476 : (Jvm.Cond.methodLink "LeftIsAgreedOnModel" (95 : Nat) ({ cls := "LeftIsAgreedOnModel", name := "hasPond", desc := "(I)Z" } : Jvm.MethodName)) ∈ lw_all := lw_g (lw_at lw_m6 210 rfl) rfl
theorem q1477 : (Jvm.Cond.privateMethod ({ cls := "LeftIsAgreedOnModel", name := "hasPond", desc := "(I)Z" } : Jvm.MethodName)) ∈ lw_tbl := lw_at lw_m6 211 rfl
theorem q1478 : (Jvm.Cond.instanceMethod ({ cls := "LeftIsAgreedOnModel", name := "hasPond", desc := "(I)Z" } : Jvm.MethodName)) ∈ lw_all := lw_g (lw_at lw_m6 212 rfl) rfl
theorem q1479 : (Jvm.Cond.code ({ cls := "LeftIsAgreedOnModel", name := "hasPond", desc := "(I)Z" } : Jvm.MethodName) prog_16_method_15_code (2 : Nat) (Option.some Jvm.ClassFile.FieldType.boolean)) ∈ lw_all := lw_g (lw_at lw_m6 213 rfl) rfl
theorem q1480 : (Jvm.Cond.methodLink "LeftIsAgreedOnModel" (116 : Nat) ({ cls := "LeftIsAgreedOnModel", name := "add", desc := "(IIII)I" } : Jvm.MethodName)) ∈ lw_all := lw_g (lw_at lw_m6 214 rfl) rfl
theorem q1481 : (Jvm.Cond.privateMethod ({ cls := "LeftIsAgreedOnModel", name := "add", desc := "(IIII)I" } : Jvm.MethodName)) ∈ lw_tbl := lw_at lw_m6 215 rfl
theorem q1482 : (Jvm.Cond.instanceMethod ({ cls := "LeftIsAgreedOnModel", name := "add", desc := "(IIII)I" } : Jvm.MethodName)) ∈ lw_all := lw_g (lw_at lw_m6 216 rfl) rfl
theorem q1483 : (Jvm.Cond.code ({ cls := "LeftIsAgreedOnModel", name := "add", desc := "(IIII)I" } : Jvm.MethodName) prog_16_method_19_code (6 : Nat) (Option.some Jvm.ClassFile.FieldType.int)) ∈ lw_all := lw_g (lw_at lw_m6 217 rfl) rfl
theorem q1485 : (Jvm.Cond.instanceMethod ({ cls := "LeftIsAgreedOnModel", name := "tell", desc := "(II)I" } : Jvm.MethodName)) ∈ lw_all := lw_g (lw_at lw_m6 219 rfl) rfl
theorem q1486 : (Jvm.Cond.selects "LeftIsAgreedOnModel" ({ cls := "LeftIsAgreedOnModel", name := "tell", desc := "(II)I" } : Jvm.MethodName) ({ cls := "LeftIsAgreedOnModel", name := "tell", desc := "(II)I" } : Jvm.MethodName)) ∈ lw_all := lw_g (lw_at lw_m6 220 rfl) rfl
theorem q1487 : (Jvm.Cond.code ({ cls := "LeftIsAgreedOnModel", name := "tell", desc := "(II)I" } : Jvm.MethodName) prog_16_method_23_code (4 : Nat) (Option.some Jvm.ClassFile.FieldType.int)) ∈ lw_all := lw_g (lw_at lw_m6 221 rfl) rfl
theorem q1488 : (Jvm.Cond.constantLong "LeftIsAgreedOnModel" (120 : Nat) (2 : Int64)) ∈ lw_all := lw_g (lw_at lw_m6 222 rfl) rfl
theorem q1489 : (Jvm.Cond.constantLong "LeftIsAgreedOnModel" (122 : Nat) (12 : Int64)) ∈ lw_all := lw_g (lw_at lw_m6 223 rfl) rfl
theorem q1491 : (Jvm.Cond.instanceMethod ({ cls := "LeftIsAgreedOnModel", name := "isFor", desc := "(II)I" } : Jvm.MethodName)) ∈ lw_all := lw_g (lw_at lw_m6 225 rfl) rfl
theorem q1492 : (Jvm.Cond.selects "LeftIsAgreedOnModel" ({ cls := "LeftIsAgreedOnModel", name := "isFor", desc := "(II)I" } : Jvm.MethodName) ({ cls := "LeftIsAgreedOnModel", name := "isFor", desc := "(II)I" } : Jvm.MethodName)) ∈ lw_all := lw_g (lw_at lw_m6 226 rfl) rfl
theorem q1493 : (Jvm.Cond.code ({ cls := "LeftIsAgreedOnModel", name := "isFor", desc := "(II)I" } : Jvm.MethodName) prog_16_method_24_code (4 : Nat) (Option.some Jvm.ClassFile.FieldType.int)) ∈ lw_all := lw_g (lw_at lw_m6 227 rfl) rfl
theorem q1494 : (Jvm.Cond.methodLink "LeftIsAgreedOnModel" (124 : Nat) ({ cls := "LeftIsAgreedOnModel", name := "isPerson", desc := "(I)Z" } : Jvm.MethodName)) ∈ lw_all := lw_g (lw_at lw_m6 228 rfl) rfl
theorem q1495 : (Jvm.Cond.privateMethod ({ cls := "LeftIsAgreedOnModel", name := "isPerson", desc := "(I)Z" } : Jvm.MethodName)) ∈ lw_tbl := lw_at lw_m6 229 rfl
theorem q1496 : (Jvm.Cond.instanceMethod ({ cls := "LeftIsAgreedOnModel", name := "isPerson", desc := "(I)Z" } : Jvm.MethodName)) ∈ lw_all := lw_g (lw_at lw_m6 230 rfl) rfl
theorem q1497 : (Jvm.Cond.code ({ cls := "LeftIsAgreedOnModel", name := "isPerson", desc := "(I)Z" } : Jvm.MethodName) prog_16_method_7_code (2 : Nat) (Option.some Jvm.ClassFile.FieldType.boolean)) ∈ lw_all := lw_g (lw_at lw_m6 231 rfl) rfl
theorem q1498 : (Jvm.Cond.methodLink "LeftIsAgreedOnModel" (127 : Nat) ({ cls := "LeftIsAgreedOnModel", name := "isFor", desc := "(I)I" } : Jvm.MethodName)) ∈ lw_all := lw_g (lw_at lw_m6 232 rfl) rfl
theorem q1499 : (Jvm.Cond.privateMethod ({ cls := "LeftIsAgreedOnModel", name := "isFor", desc := "(I)I" } : Jvm.MethodName)) ∈ lw_tbl := lw_at lw_m6 233 rfl
theorem q1500 : (Jvm.Cond.instanceMethod ({ cls := "LeftIsAgreedOnModel", name := "isFor", desc := "(I)I" } : Jvm.MethodName)) ∈ lw_all := lw_g (lw_at lw_m6 234 rfl) rfl
theorem q1501 : (Jvm.Cond.code ({ cls := "LeftIsAgreedOnModel", name := "isFor", desc := "(I)I" } : Jvm.MethodName) prog_16_method_12_code (2 : Nat) (Option.some Jvm.ClassFile.FieldType.int)) ∈ lw_all := lw_g (lw_at lw_m6 235 rfl) rfl
theorem q1503 : (Jvm.Cond.instanceMethod ({ cls := "LeftIsAgreedOnModel", name := "put", desc := "(III)I" } : Jvm.MethodName)) ∈ lw_all := lw_g (lw_at lw_m6 237 rfl) rfl
theorem q1504 : (Jvm.Cond.selects "LeftIsAgreedOnModel" ({ cls := "LeftIsAgreedOnModel", name := "put", desc := "(III)I" } : Jvm.MethodName) ({ cls := "LeftIsAgreedOnModel", name := "put", desc := "(III)I" } : Jvm.MethodName)) ∈ lw_all := lw_g (lw_at lw_m6 238 rfl) rfl
theorem q1505 : (Jvm.Cond.code ({ cls := "LeftIsAgreedOnModel", name := "put", desc := "(III)I" } : Jvm.MethodName) prog_16_method_25_code (5 : Nat) (Option.some Jvm.ClassFile.FieldType.int)) ∈ lw_all := lw_g (lw_at lw_m6 239 rfl) rfl
theorem q1507 : (Jvm.Cond.instanceMethod ({ cls := "LeftIsAgreedOnModel", name := "isPond", desc := "(I)I" } : Jvm.MethodName)) ∈ lw_all := lw_g (lw_at lw_m7 1 rfl) rfl
theorem q1508 : (Jvm.Cond.selects "LeftIsAgreedOnModel" ({ cls := "LeftIsAgreedOnModel", name := "isPond", desc := "(I)I" } : Jvm.MethodName) ({ cls := "LeftIsAgreedOnModel", name := "isPond", desc := "(I)I" } : Jvm.MethodName)) ∈ lw_all := lw_g (lw_at lw_m7 2 rfl) rfl
theorem q1509 : (Jvm.Cond.code ({ cls := "LeftIsAgreedOnModel", name := "isPond", desc := "(I)I" } : Jvm.MethodName) prog_16_method_26_code (2 : Nat) (Option.some Jvm.ClassFile.FieldType.int)) ∈ lw_all := lw_g (lw_at lw_m7 3 rfl) rfl
theorem q1511 : (Jvm.Cond.instanceMethod ({ cls := "LeftIsAgreedOnModel", name := "feed", desc := "(I)I" } : Jvm.MethodName)) ∈ lw_all := lw_g (lw_at lw_m7 5 rfl) rfl
theorem q1512 : (Jvm.Cond.selects "LeftIsAgreedOnModel" ({ cls := "LeftIsAgreedOnModel", name := "feed", desc := "(I)I" } : Jvm.MethodName) ({ cls := "LeftIsAgreedOnModel", name := "feed", desc := "(I)I" } : Jvm.MethodName)) ∈ lw_all := lw_g (lw_at lw_m7 6 rfl) rfl
theorem q1513 : (Jvm.Cond.code ({ cls := "LeftIsAgreedOnModel", name := "feed", desc := "(I)I" } : Jvm.MethodName) prog_16_method_27_code (2 : Nat) (Option.some Jvm.ClassFile.FieldType.int)) ∈ lw_all := lw_g (lw_at lw_m7 7 rfl) rfl
theorem q1514 : (Jvm.Cond.constantLong "LeftIsAgreedOnModel" (130 : Nat) (255 : Int64)) ∈ lw_all := lw_g (lw_at lw_m7 8 rfl) rfl
theorem q1516 : (Jvm.Cond.instanceMethod ({ cls := "LeftIsAgreedOnModel", name := "wipe", desc := "()I" } : Jvm.MethodName)) ∈ lw_all := lw_g (lw_at lw_m7 10 rfl) rfl
theorem q1517 : (Jvm.Cond.selects "LeftIsAgreedOnModel" ({ cls := "LeftIsAgreedOnModel", name := "wipe", desc := "()I" } : Jvm.MethodName) ({ cls := "LeftIsAgreedOnModel", name := "wipe", desc := "()I" } : Jvm.MethodName)) ∈ lw_all := lw_g (lw_at lw_m7 11 rfl) rfl
theorem q1518 : (Jvm.Cond.code ({ cls := "LeftIsAgreedOnModel", name := "wipe", desc := "()I" } : Jvm.MethodName) prog_16_method_28_code (2 : Nat) (Option.some Jvm.ClassFile.FieldType.int)) ∈ lw_all := lw_g (lw_at lw_m7 12 rfl) rfl
theorem q1520 : (Jvm.Cond.instanceMethod ({ cls := "LeftIsAgreedOnModel", name := "island", desc := "()I" } : Jvm.MethodName)) ∈ lw_all := lw_g (lw_at lw_m7 14 rfl) rfl
theorem q1521 : (Jvm.Cond.selects "LeftIsAgreedOnModel" ({ cls := "LeftIsAgreedOnModel", name := "island", desc := "()I" } : Jvm.MethodName) ({ cls := "LeftIsAgreedOnModel", name := "island", desc := "()I" } : Jvm.MethodName)) ∈ lw_all := lw_g (lw_at lw_m7 15 rfl) rfl
theorem q1522 : (Jvm.Cond.code ({ cls := "LeftIsAgreedOnModel", name := "island", desc := "()I" } : Jvm.MethodName) prog_16_method_36_code (3 : Nat) (Option.some Jvm.ClassFile.FieldType.int)) ∈ lw_all := lw_g (lw_at lw_m7 16 rfl) rfl
theorem q1523 : (Jvm.Cond.methodLink "LeftIsAgreedOnModel" (172 : Nat) ({ cls := "LeftIsAgreedOnModel", name := "move", desc := "([I[I)V" } : Jvm.MethodName)) ∈ lw_all := lw_g (lw_at lw_m7 17 rfl) rfl
theorem q1524 : (Jvm.Cond.static ({ cls := "LeftIsAgreedOnModel", name := "move", desc := "([I[I)V" } : Jvm.MethodName)) ∈ lw_all := lw_g (lw_at lw_m7 18 rfl) rfl
theorem q1525 : (Jvm.Cond.code ({ cls := "LeftIsAgreedOnModel", name := "move", desc := "([I[I)V" } : Jvm.MethodName) prog_16_method_5_code (3 : Nat) (Option.none : Option Jvm.ClassFile.FieldType)) ∈ lw_all := lw_g (lw_at lw_m7 19 rfl) rfl
theorem q1526 : (Jvm.Cond.methodLink "LeftIsAgreedOnModel" (176 : Nat) ({ cls := "LeftIsAgreedOnModel", name := "isStatement", desc := "()Z" } : Jvm.MethodName)) ∈ lw_all := lw_g (lw_at lw_m7 20 rfl) rfl
theorem q1527 : (Jvm.Cond.privateMethod ({ cls := "LeftIsAgreedOnModel", name := "isStatement", desc := "()Z" } : Jvm.MethodName)) ∈ lw_tbl := lw_at lw_m7 21 rfl
theorem q1528 : (Jvm.Cond.instanceMethod ({ cls := "LeftIsAgreedOnModel", name := "isStatement", desc := "()Z" } : Jvm.MethodName)) ∈ lw_all := lw_g (lw_at lw_m7 22 rfl) rfl
theorem q1529 : (Jvm.Cond.code ({ cls := "LeftIsAgreedOnModel", name := "isStatement", desc := "()Z" } : Jvm.MethodName) prog_16_method_35_code (4 : Nat) (Option.some Jvm.ClassFile.FieldType.boolean)) ∈ lw_all := lw_g (lw_at lw_m7 23 rfl) rfl
theorem q1530 : (Jvm.Cond.methodLink "LeftIsAgreedOnModel" (156 : Nat) ({ cls := "LeftIsAgreedOnModel", name := "next", desc := "()V" } : Jvm.MethodName)) ∈ lw_all := lw_g (lw_at lw_m7 24 rfl) rfl
theorem q1531 : (Jvm.Cond.privateMethod ({ cls := "LeftIsAgreedOnModel", name := "next", desc := "()V" } : Jvm.MethodName)) ∈ lw_tbl := lw_at lw_m7 25 rfl
theorem q1532 : (Jvm.Cond.instanceMethod ({ cls := "LeftIsAgreedOnModel", name := "next", desc := "()V" } : Jvm.MethodName)) ∈ lw_all := lw_g (lw_at lw_m7 26 rfl) rfl
theorem q1533 : (Jvm.Cond.code ({ cls := "LeftIsAgreedOnModel", name := "next", desc := "()V" } : Jvm.MethodName) prog_16_method_30_code (1 : Nat) (Option.none : Option Jvm.ClassFile.FieldType)) ∈ lw_all := lw_g (lw_at lw_m7 27 rfl) rfl
theorem q1534 : (Jvm.Cond.methodLink "LeftIsAgreedOnModel" (150 : Nat) ({ cls := "LeftIsAgreedOnModel", name := "sortAt", desc := "(I)I" } : Jvm.MethodName)) ∈ lw_all := lw_g (lw_at lw_m7 28 rfl) rfl
theorem q1535 : (Jvm.Cond.privateMethod ({ cls := "LeftIsAgreedOnModel", name := "sortAt", desc := "(I)I" } : Jvm.MethodName)) ∈ lw_tbl := lw_at lw_m7 29 rfl
theorem q1536 : (Jvm.Cond.instanceMethod ({ cls := "LeftIsAgreedOnModel", name := "sortAt", desc := "(I)I" } : Jvm.MethodName)) ∈ lw_all := lw_g (lw_at lw_m7 30 rfl) rfl
theorem q1537 : (Jvm.Cond.code ({ cls := "LeftIsAgreedOnModel", name := "sortAt", desc := "(I)I" } : Jvm.MethodName) prog_16_method_29_code (2 : Nat) (Option.some Jvm.ClassFile.FieldType.int)) ∈ lw_all := lw_g (lw_at lw_m7 31 rfl) rfl
theorem q1538 : (Jvm.Cond.constantLong "LeftIsAgreedOnModel" (136 : Nat) (97 : Int64)) ∈ lw_all := lw_g (lw_at lw_m7 32 rfl) rfl
theorem q1539 : (Jvm.Cond.constantLong "LeftIsAgreedOnModel" (138 : Nat) (122 : Int64)) ∈ lw_all := lw_g (lw_at lw_m7 33 rfl) rfl
theorem q1540 : (Jvm.Cond.constantLong "LeftIsAgreedOnModel" (140 : Nat) (48 : Int64)) ∈ lw_all := lw_g (lw_at lw_m7 34 rfl) rfl
theorem q1541 : (Jvm.Cond.constantLong "LeftIsAgreedOnModel" (142 : Nat) (57 : Int64)) ∈ lw_all := lw_g (lw_at lw_m7 35 rfl) rfl
theorem q1542 : (Jvm.Cond.methodLink "LeftIsAgreedOnModel" (165 : Nat) ({ cls := "LeftIsAgreedOnModel", name := "word", desc := "()I" } : Jvm.MethodName)) ∈ lw_all := lw_g (lw_at lw_m7 36 rfl) rfl
theorem q1543 : (Jvm.Cond.privateMethod ({ cls := "LeftIsAgreedOnModel", name := "word", desc := "()I" } : Jvm.MethodName)) ∈ lw_tbl := lw_at lw_m7 37 rfl
theorem q1544 : (Jvm.Cond.instanceMethod ({ cls := "LeftIsAgreedOnModel", name := "word", desc := "()I" } : Jvm.MethodName)) ∈ lw_all := lw_g (lw_at lw_m7 38 rfl) rfl
theorem q1545 : (Jvm.Cond.code ({ cls := "LeftIsAgreedOnModel", name := "word", desc := "()I" } : Jvm.MethodName) prog_16_method_31_code (5 : Nat) (Option.some Jvm.ClassFile.FieldType.int)) ∈ lw_all := lw_g (lw_at lw_m7 39 rfl) rfl
theorem q1546 : (Jvm.Cond.methodLink "LeftIsAgreedOnModel" (168 : Nat) ({ cls := "LeftIsAgreedOnModel", name := "isPersonStatement", desc := "()Z" } : Jvm.MethodName)) ∈ lw_all := lw_g (lw_at lw_m7 40 rfl) rfl
theorem q1547 : (Jvm.Cond.privateMethod ({ cls := "LeftIsAgreedOnModel", name := "isPersonStatement", desc := "()Z" } : Jvm.MethodName)) ∈ lw_tbl := lw_at lw_m7 41 rfl
theorem q1548 : (Jvm.Cond.instanceMethod ({ cls := "LeftIsAgreedOnModel", name := "isPersonStatement", desc := "()Z" } : Jvm.MethodName)) ∈ lw_all := lw_g (lw_at lw_m7 42 rfl) rfl
theorem q1549 : (Jvm.Cond.code ({ cls := "LeftIsAgreedOnModel", name := "isPersonStatement", desc := "()Z" } : Jvm.MethodName) prog_16_method_34_code (5 : Nat) (Option.some Jvm.ClassFile.FieldType.boolean)) ∈ lw_all := lw_g (lw_at lw_m7 43 rfl) rfl
theorem q1550 : (Jvm.Cond.methodLink "LeftIsAgreedOnModel" (159 : Nat) ({ cls := "LeftIsAgreedOnModel", name := "number", desc := "(II)I" } : Jvm.MethodName)) ∈ lw_all := lw_g (lw_at lw_m7 44 rfl) rfl
theorem q1551 : (Jvm.Cond.privateMethod ({ cls := "LeftIsAgreedOnModel", name := "number", desc := "(II)I" } : Jvm.MethodName)) ∈ lw_tbl := lw_at lw_m7 45 rfl
theorem q1552 : (Jvm.Cond.instanceMethod ({ cls := "LeftIsAgreedOnModel", name := "number", desc := "(II)I" } : Jvm.MethodName)) ∈ lw_all := lw_g (lw_at lw_m7 46 rfl) rfl
theorem q1553 : (Jvm.Cond.code ({ cls := "LeftIsAgreedOnModel", name := "number", desc := "(II)I" } : Jvm.MethodName) prog_16_method_32_code (5 : Nat) (Option.some Jvm.ClassFile.FieldType.int)) ∈ lw_all := lw_g (lw_at lw_m7 47 rfl) rfl
theorem q1554 : (Jvm.Cond.methodLink "LeftIsAgreedOnModel" (162 : Nat) ({ cls := "LeftIsAgreedOnModel", name := "cellNumber", desc := "()I" } : Jvm.MethodName)) ∈ lw_all := lw_g (lw_at lw_m7 48 rfl) rfl
theorem q1555 : (Jvm.Cond.privateMethod ({ cls := "LeftIsAgreedOnModel", name := "cellNumber", desc := "()I" } : Jvm.MethodName)) ∈ lw_tbl := lw_at lw_m7 49 rfl
theorem q1556 : (Jvm.Cond.instanceMethod ({ cls := "LeftIsAgreedOnModel", name := "cellNumber", desc := "()I" } : Jvm.MethodName)) ∈ lw_all := lw_g (lw_at lw_m7 50 rfl) rfl
theorem q1557 : (Jvm.Cond.code ({ cls := "LeftIsAgreedOnModel", name := "cellNumber", desc := "()I" } : Jvm.MethodName) prog_16_method_33_code (2 : Nat) (Option.some Jvm.ClassFile.FieldType.int)) ∈ lw_all := lw_g (lw_at lw_m7 51 rfl) rfl
theorem q1559 : (Jvm.Cond.instanceMethod ({ cls := "LeftIsAgreedOnModel", name := "row", desc := "(III)I" } : Jvm.MethodName)) ∈ lw_all := lw_g (lw_at lw_m7 53 rfl) rfl
theorem q1560 : (Jvm.Cond.selects "LeftIsAgreedOnModel" ({ cls := "LeftIsAgreedOnModel", name := "row", desc := "(III)I" } : Jvm.MethodName) ({ cls := "LeftIsAgreedOnModel", name := "row", desc := "(III)I" } : Jvm.MethodName)) ∈ lw_all := lw_g (lw_at lw_m7 54 rfl) rfl
theorem q1561 : (Jvm.Cond.code ({ cls := "LeftIsAgreedOnModel", name := "row", desc := "(III)I" } : Jvm.MethodName) prog_16_method_42_code (5 : Nat) (Option.some Jvm.ClassFile.FieldType.int)) ∈ lw_all := lw_g (lw_at lw_m7 55 rfl) rfl
theorem q1562 : (Jvm.Cond.methodLink "LeftIsAgreedOnModel" (203 : Nat) ({ cls := "LeftIsAgreedOnModel", name := "isShelf", desc := "(I)Z" } : Jvm.MethodName)) ∈ lw_all := lw_g (lw_at lw_m7 56 rfl) rfl
theorem q1563 : (Jvm.Cond.static ({ cls := "LeftIsAgreedOnModel", name := "isShelf", desc := "(I)Z" } : Jvm.MethodName)) ∈ lw_all := lw_g (lw_at lw_m7 57 rfl) rfl
theorem q1564 : (Jvm.Cond.code ({ cls := "LeftIsAgreedOnModel", name := "isShelf", desc := "(I)Z" } : Jvm.MethodName) prog_16_method_41_code (1 : Nat) (Option.some Jvm.ClassFile.FieldType.boolean)) ∈ lw_all := lw_g (lw_at lw_m7 58 rfl) rfl
theorem q1565 : (Jvm.Cond.constantLong "LeftIsAgreedOnModel" (206 : Nat) (4 : Int64)) ∈ lw_all := lw_g (lw_at lw_m7 59 rfl) rfl
theorem q1566 : (Jvm.Cond.constantLong "LeftIsAgreedOnModel" (208 : Nat) (40 : Int64)) ∈ lw_all := lw_g (lw_at lw_m7 60 rfl) rfl
theorem q1568 : (Jvm.Cond.instanceMethod ({ cls := "LeftIsAgreedOnModel", name := "set", desc := "(IIJ)I" } : Jvm.MethodName)) ∈ lw_all := lw_g (lw_at lw_m7 62 rfl) rfl
theorem q1569 : (Jvm.Cond.selects "LeftIsAgreedOnModel" ({ cls := "LeftIsAgreedOnModel", name := "set", desc := "(IIJ)I" } : Jvm.MethodName) ({ cls := "LeftIsAgreedOnModel", name := "set", desc := "(IIJ)I" } : Jvm.MethodName)) ∈ lw_all := lw_g (lw_at lw_m7 63 rfl) rfl
theorem q1570 : (Jvm.Cond.code ({ cls := "LeftIsAgreedOnModel", name := "set", desc := "(IIJ)I" } : Jvm.MethodName) prog_16_method_44_code (6 : Nat) (Option.some Jvm.ClassFile.FieldType.int)) ∈ lw_all := lw_g (lw_at lw_m7 64 rfl) rfl
theorem q1571 : (Jvm.Cond.methodLink "LeftIsAgreedOnModel" (210 : Nat) ({ cls := "LeftIsAgreedOnModel", name := "rowIn", desc := "(I)I" } : Jvm.MethodName)) ∈ lw_all := lw_g (lw_at lw_m7 65 rfl) rfl
theorem q1572 : (Jvm.Cond.privateMethod ({ cls := "LeftIsAgreedOnModel", name := "rowIn", desc := "(I)I" } : Jvm.MethodName)) ∈ lw_tbl := lw_at lw_m7 66 rfl
theorem q1573 : (Jvm.Cond.instanceMethod ({ cls := "LeftIsAgreedOnModel", name := "rowIn", desc := "(I)I" } : Jvm.MethodName)) ∈ lw_all := lw_g (lw_at lw_m7 67 rfl) rfl
theorem q1574 : (Jvm.Cond.code ({ cls := "LeftIsAgreedOnModel", name := "rowIn", desc := "(I)I" } : Jvm.MethodName) prog_16_method_43_code (2 : Nat) (Option.some Jvm.ClassFile.FieldType.int)) ∈ lw_all := lw_g (lw_at lw_m7 68 rfl) rfl
theorem q1576 : (Jvm.Cond.instanceMethod ({ cls := "LeftIsAgreedOnModel", name := "copy", desc := "(IIIII)I" } : Jvm.MethodName)) ∈ lw_all := lw_g (lw_at lw_m7 70 rfl) rfl
theorem q1577 : (Jvm.Cond.selects "LeftIsAgreedOnModel" ({ cls := "LeftIsAgreedOnModel", name := "copy", desc := "(IIIII)I" } : Jvm.MethodName) ({ cls := "LeftIsAgreedOnModel", name := "copy", desc := "(IIIII)I" } : Jvm.MethodName)) ∈ lw_all := lw_g (lw_at lw_m7 71 rfl) rfl
theorem q1578 : (Jvm.Cond.code ({ cls := "LeftIsAgreedOnModel", name := "copy", desc := "(IIIII)I" } : Jvm.MethodName) prog_16_method_45_code (8 : Nat) (Option.some Jvm.ClassFile.FieldType.int)) ∈ lw_all := lw_g (lw_at lw_m7 72 rfl) rfl
theorem q1580 : (Jvm.Cond.instanceMethod ({ cls := "LeftIsAgreedOnModel", name := "element", desc := "(II)J" } : Jvm.MethodName)) ∈ lw_all := lw_g (lw_at lw_m7 74 rfl) rfl
theorem q1581 : (Jvm.Cond.selects "LeftIsAgreedOnModel" ({ cls := "LeftIsAgreedOnModel", name := "element", desc := "(II)J" } : Jvm.MethodName) ({ cls := "LeftIsAgreedOnModel", name := "element", desc := "(II)J" } : Jvm.MethodName)) ∈ lw_all := lw_g (lw_at lw_m7 75 rfl) rfl
theorem q1582 : (Jvm.Cond.code ({ cls := "LeftIsAgreedOnModel", name := "element", desc := "(II)J" } : Jvm.MethodName) prog_16_method_46_code (3 : Nat) (Option.some Jvm.ClassFile.FieldType.long)) ∈ lw_all := lw_g (lw_at lw_m7 76 rfl) rfl
theorem q1584 : (Jvm.Cond.instanceMethod ({ cls := "LeftIsAgreedOnModel", name := "holds", desc := "(I)I" } : Jvm.MethodName)) ∈ lw_all := lw_g (lw_at lw_m7 78 rfl) rfl
theorem q1585 : (Jvm.Cond.selects "LeftIsAgreedOnModel" ({ cls := "LeftIsAgreedOnModel", name := "holds", desc := "(I)I" } : Jvm.MethodName) ({ cls := "LeftIsAgreedOnModel", name := "holds", desc := "(I)I" } : Jvm.MethodName)) ∈ lw_all := lw_g (lw_at lw_m7 79 rfl) rfl
theorem q1586 : (Jvm.Cond.code ({ cls := "LeftIsAgreedOnModel", name := "holds", desc := "(I)I" } : Jvm.MethodName) prog_16_method_47_code (2 : Nat) (Option.some Jvm.ClassFile.FieldType.int)) ∈ lw_all := lw_g (lw_at lw_m7 80 rfl) rfl
theorem q1588 : (Jvm.Cond.instanceMethod ({ cls := "LeftIsAgreedOnModel", name := "show", desc := "(II)I" } : Jvm.MethodName)) ∈ lw_all := lw_g (lw_at lw_m7 82 rfl) rfl
theorem q1589 : (Jvm.Cond.selects "LeftIsAgreedOnModel" ({ cls := "LeftIsAgreedOnModel", name := "show", desc := "(II)I" } : Jvm.MethodName) ({ cls := "LeftIsAgreedOnModel", name := "show", desc := "(II)I" } : Jvm.MethodName)) ∈ lw_all := lw_g (lw_at lw_m7 83 rfl) rfl
theorem q1590 : (Jvm.Cond.code ({ cls := "LeftIsAgreedOnModel", name := "show", desc := "(II)I" } : Jvm.MethodName) prog_16_method_48_code (3 : Nat) (Option.some Jvm.ClassFile.FieldType.int)) ∈ lw_all := lw_g (lw_at lw_m7 84 rfl) rfl
theorem q1592 : (Jvm.Cond.instanceMethod ({ cls := "LeftIsAgreedOnModel", name := "says", desc := "(II)I" } : Jvm.MethodName)) ∈ lw_all := lw_g (lw_at lw_m7 86 rfl) rfl
theorem q1593 : (Jvm.Cond.selects "LeftIsAgreedOnModel" ({ cls := "LeftIsAgreedOnModel", name := "says", desc := "(II)I" } : Jvm.MethodName) ({ cls := "LeftIsAgreedOnModel", name := "says", desc := "(II)I" } : Jvm.MethodName)) ∈ lw_all := lw_g (lw_at lw_m7 87 rfl) rfl
theorem q1594 : (Jvm.Cond.code ({ cls := "LeftIsAgreedOnModel", name := "says", desc := "(II)I" } : Jvm.MethodName) prog_16_method_49_code (5 : Nat) (Option.some Jvm.ClassFile.FieldType.int)) ∈ lw_all := lw_g (lw_at lw_m7 88 rfl) rfl
theorem q1595 : (Jvm.Cond.methodLink "LeftIsAgreedOnModel" (179 : Nat) ({ cls := "LeftIsAgreedOnModel", name := "kind", desc := "(I)I" } : Jvm.MethodName)) ∈ lw_all := lw_g (lw_at lw_m7 89 rfl) rfl
theorem q1596 : (Jvm.Cond.privateMethod ({ cls := "LeftIsAgreedOnModel", name := "kind", desc := "(I)I" } : Jvm.MethodName)) ∈ lw_tbl := lw_at lw_m7 90 rfl
theorem q1597 : (Jvm.Cond.instanceMethod ({ cls := "LeftIsAgreedOnModel", name := "kind", desc := "(I)I" } : Jvm.MethodName)) ∈ lw_all := lw_g (lw_at lw_m7 91 rfl) rfl
theorem q1598 : (Jvm.Cond.code ({ cls := "LeftIsAgreedOnModel", name := "kind", desc := "(I)I" } : Jvm.MethodName) prog_16_method_8_code (2 : Nat) (Option.some Jvm.ClassFile.FieldType.int)) ∈ lw_all := lw_g (lw_at lw_m7 92 rfl) rfl
theorem q1599 : (Jvm.Cond.methodLink "LeftIsAgreedOnModel" (213 : Nat) ({ cls := "LeftIsAgreedOnModel", name := "a", desc := "(I)I" } : Jvm.MethodName)) ∈ lw_all := lw_g (lw_at lw_m7 93 rfl) rfl
theorem q1600 : (Jvm.Cond.privateMethod ({ cls := "LeftIsAgreedOnModel", name := "a", desc := "(I)I" } : Jvm.MethodName)) ∈ lw_tbl := lw_at lw_m7 94 rfl
theorem q1601 : (Jvm.Cond.instanceMethod ({ cls := "LeftIsAgreedOnModel", name := "a", desc := "(I)I" } : Jvm.MethodName)) ∈ lw_all := lw_g (lw_at lw_m7 95 rfl) rfl
theorem q1602 : (Jvm.Cond.code ({ cls := "LeftIsAgreedOnModel", name := "a", desc := "(I)I" } : Jvm.MethodName) prog_16_method_9_code (2 : Nat) (Option.some Jvm.ClassFile.FieldType.int)) ∈ lw_all := lw_g (lw_at lw_m7 96 rfl) rfl
theorem q1603 : (Jvm.Cond.methodLink "LeftIsAgreedOnModel" (192 : Nat) ({ cls := "LeftIsAgreedOnModel", name := "faces", desc := "(I)I" } : Jvm.MethodName)) ∈ lw_all := lw_g (lw_at lw_m7 97 rfl) rfl
theorem q1604 : (Jvm.Cond.privateMethod ({ cls := "LeftIsAgreedOnModel", name := "faces", desc := "(I)I" } : Jvm.MethodName)) ∈ lw_tbl := lw_at lw_m7 98 rfl
theorem q1605 : (Jvm.Cond.instanceMethod ({ cls := "LeftIsAgreedOnModel", name := "faces", desc := "(I)I" } : Jvm.MethodName)) ∈ lw_all := lw_g (lw_at lw_m7 99 rfl) rfl
theorem q1606 : (Jvm.Cond.code ({ cls := "LeftIsAgreedOnModel", name := "faces", desc := "(I)I" } : Jvm.MethodName) prog_16_method_11_code (2 : Nat) (Option.some Jvm.ClassFile.FieldType.int)) ∈ lw_all := lw_g (lw_at lw_m7 100 rfl) rfl
theorem q1607 : (Jvm.Cond.methodLink "LeftIsAgreedOnModel" (195 : Nat) ({ cls := "LeftIsAgreedOnModel", name := "start", desc := "(III)V" } : Jvm.MethodName)) ∈ lw_all := lw_g (lw_at lw_m7 101 rfl) rfl
theorem q1608 : (Jvm.Cond.privateMethod ({ cls := "LeftIsAgreedOnModel", name := "start", desc := "(III)V" } : Jvm.MethodName)) ∈ lw_tbl := lw_at lw_m7 102 rfl
theorem q1609 : (Jvm.Cond.instanceMethod ({ cls := "LeftIsAgreedOnModel", name := "start", desc := "(III)V" } : Jvm.MethodName)) ∈ lw_all := lw_g (lw_at lw_m7 103 rfl) rfl
theorem q1610 : (Jvm.Cond.code ({ cls := "LeftIsAgreedOnModel", name := "start", desc := "(III)V" } : Jvm.MethodName) prog_16_method_37_code (4 : Nat) (Option.none : Option Jvm.ClassFile.FieldType)) ∈ lw_all := lw_g (lw_at lw_m7 104 rfl) rfl
theorem q1611 : (Jvm.Cond.methodLink "LeftIsAgreedOnModel" (199 : Nat) ({ cls := "LeftIsAgreedOnModel", name := "step", desc := "(IIII)V" } : Jvm.MethodName)) ∈ lw_all := lw_g (lw_at lw_m7 105 rfl) rfl
theorem q1612 : (Jvm.Cond.privateMethod ({ cls := "LeftIsAgreedOnModel", name := "step", desc := "(IIII)V" } : Jvm.MethodName)) ∈ lw_tbl := lw_at lw_m7 106 rfl
theorem q1613 : (Jvm.Cond.instanceMethod ({ cls := "LeftIsAgreedOnModel", name := "step", desc := "(IIII)V" } : Jvm.MethodName)) ∈ lw_all := lw_g (lw_at lw_m7 107 rfl) rfl
theorem q1614 : (Jvm.Cond.code ({ cls := "LeftIsAgreedOnModel", name := "step", desc := "(IIII)V" } : Jvm.MethodName) prog_16_method_39_code (6 : Nat) (Option.none : Option Jvm.ClassFile.FieldType)) ∈ lw_all := lw_g (lw_at lw_m7 108 rfl) rfl
theorem q1615 : (Jvm.Cond.methodLink "LeftIsAgreedOnModel" (91 : Nat) ({ cls := "LeftIsAgreedOnModel", name := "beside", desc := "(II)I" } : Jvm.MethodName)) ∈ lw_all := lw_g (lw_at lw_m7 109 rfl) rfl
theorem q1616 : (Jvm.Cond.privateMethod ({ cls := "LeftIsAgreedOnModel", name := "beside", desc := "(II)I" } : Jvm.MethodName)) ∈ lw_tbl := lw_at lw_m7 110 rfl
theorem q1617 : (Jvm.Cond.instanceMethod ({ cls := "LeftIsAgreedOnModel", name := "beside", desc := "(II)I" } : Jvm.MethodName)) ∈ lw_all := lw_g (lw_at lw_m7 111 rfl) rfl
theorem q1618 : (Jvm.Cond.code ({ cls := "LeftIsAgreedOnModel", name := "beside", desc := "(II)I" } : Jvm.MethodName) prog_16_method_17_code (5 : Nat) (Option.some Jvm.ClassFile.FieldType.int)) ∈ lw_all := lw_g (lw_at lw_m7 112 rfl) rfl
theorem q1619 : (Jvm.Cond.methodLink "LeftIsAgreedOnModel" (188 : Nat) ({ cls := "LeftIsAgreedOnModel", name := "goesBy", desc := "(III)I" } : Jvm.MethodName)) ∈ lw_all := lw_g (lw_at lw_m7 113 rfl) rfl
theorem q1620 : (Jvm.Cond.privateMethod ({ cls := "LeftIsAgreedOnModel", name := "goesBy", desc := "(III)I" } : Jvm.MethodName)) ∈ lw_tbl := lw_at lw_m7 114 rfl
theorem q1621 : (Jvm.Cond.instanceMethod ({ cls := "LeftIsAgreedOnModel", name := "goesBy", desc := "(III)I" } : Jvm.MethodName)) ∈ lw_all := lw_g (lw_at lw_m7 115 rfl) rfl
theorem q1622 : (Jvm.Cond.code ({ cls := "LeftIsAgreedOnModel", name := "goesBy", desc := "(III)I" } : Jvm.MethodName) prog_16_method_38_code (5 : Nat) (Option.some Jvm.ClassFile.FieldType.int)) ∈ lw_all := lw_g (lw_at lw_m7 116 rfl) rfl
theorem q1623 : (Jvm.Cond.methodLink "LeftIsAgreedOnModel" (182 : Nat) ({ cls := "LeftIsAgreedOnModel", name := "isShore", desc := "(I)Z" } : Jvm.MethodName)) ∈ lw_all := lw_g (lw_at lw_m7 117 rfl) rfl
theorem q1624 : (Jvm.Cond.privateMethod ({ cls := "LeftIsAgreedOnModel", name := "isShore", desc := "(I)Z" } : Jvm.MethodName)) ∈ lw_tbl := lw_at lw_m7 118 rfl
theorem q1625 : (Jvm.Cond.instanceMethod ({ cls := "LeftIsAgreedOnModel", name := "isShore", desc := "(I)Z" } : Jvm.MethodName)) ∈ lw_all := lw_g (lw_at lw_m7 119 rfl) rfl
theorem q1626 : (Jvm.Cond.code ({ cls := "LeftIsAgreedOnModel", name := "isShore", desc := "(I)Z" } : Jvm.MethodName) prog_16_method_18_code (5 : Nat) (Option.some Jvm.ClassFile.FieldType.boolean)) ∈ lw_all := lw_g (lw_at lw_m7 120 rfl) rfl
theorem q1628 : (Jvm.Cond.instanceMethod ({ cls := "LeftIsAgreedOnModel", name := "comes", desc := "(IIII)I" } : Jvm.MethodName)) ∈ lw_all := lw_g (lw_at lw_m7 122 rfl) rfl
theorem q1629 : (Jvm.Cond.selects "LeftIsAgreedOnModel" ({ cls := "LeftIsAgreedOnModel", name := "comes", desc := "(IIII)I" } : Jvm.MethodName) ({ cls := "LeftIsAgreedOnModel", name := "comes", desc := "(IIII)I" } : Jvm.MethodName)) ∈ lw_all := lw_g (lw_at lw_m7 123 rfl) rfl
theorem q1630 : (Jvm.Cond.code ({ cls := "LeftIsAgreedOnModel", name := "comes", desc := "(IIII)I" } : Jvm.MethodName) prog_16_method_52_code (6 : Nat) (Option.some Jvm.ClassFile.FieldType.int)) ∈ lw_all := lw_g (lw_at lw_m7 124 rfl) rfl
theorem q1631 : (Jvm.Cond.methodLink "LeftIsAgreedOnModel" (219 : Nat) ({ cls := "LeftIsAgreedOnModel", name := "loadIf", desc := "(ZII)I" } : Jvm.MethodName)) ∈ lw_all := lw_g (lw_at lw_m7 125 rfl) rfl
theorem q1632 : (Jvm.Cond.privateMethod ({ cls := "LeftIsAgreedOnModel", name := "loadIf", desc := "(ZII)I" } : Jvm.MethodName)) ∈ lw_tbl := lw_at lw_m7 126 rfl
theorem q1633 : (Jvm.Cond.instanceMethod ({ cls := "LeftIsAgreedOnModel", name := "loadIf", desc := "(ZII)I" } : Jvm.MethodName)) ∈ lw_all := lw_g (lw_at lw_m7 127 rfl) rfl
theorem q1634 : (Jvm.Cond.code ({ cls := "LeftIsAgreedOnModel", name := "loadIf", desc := "(ZII)I" } : Jvm.MethodName) prog_16_method_51_code (4 : Nat) (Option.some Jvm.ClassFile.FieldType.int)) ∈ lw_all := lw_g (lw_at lw_m7 128 rfl) rfl
theorem q1635 : (Jvm.Cond.methodLink "LeftIsAgreedOnModel" (216 : Nat) ({ cls := "LeftIsAgreedOnModel", name := "load", desc := "(II)I" } : Jvm.MethodName)) ∈ lw_all := lw_g (lw_at lw_m7 129 rfl) rfl
theorem q1636 : (Jvm.Cond.privateMethod ({ cls := "LeftIsAgreedOnModel", name := "load", desc := "(II)I" } : Jvm.MethodName)) ∈ lw_tbl := lw_at lw_m7 130 rfl
theorem q1637 : (Jvm.Cond.instanceMethod ({ cls := "LeftIsAgreedOnModel", name := "load", desc := "(II)I" } : Jvm.MethodName)) ∈ lw_all := lw_g (lw_at lw_m7 131 rfl) rfl
theorem q1638 : (Jvm.Cond.code ({ cls := "LeftIsAgreedOnModel", name := "load", desc := "(II)I" } : Jvm.MethodName) prog_16_method_50_code (4 : Nat) (Option.some Jvm.ClassFile.FieldType.int)) ∈ lw_all := lw_g (lw_at lw_m7 132 rfl) rfl
theorem q1639 : (Jvm.Cond.methodLink "LeftIsAgreedOnModel" (223 : Nat) ({ cls := "LeftIsAgreedOnModel", name := "go", desc := "(II)V" } : Jvm.MethodName)) ∈ lw_all := lw_g (lw_at lw_m7 133 rfl) rfl
theorem q1640 : (Jvm.Cond.privateMethod ({ cls := "LeftIsAgreedOnModel", name := "go", desc := "(II)V" } : Jvm.MethodName)) ∈ lw_tbl := lw_at lw_m7 134 rfl
theorem q1641 : (Jvm.Cond.instanceMethod ({ cls := "LeftIsAgreedOnModel", name := "go", desc := "(II)V" } : Jvm.MethodName)) ∈ lw_all := lw_g (lw_at lw_m7 135 rfl) rfl
theorem q1642 : (Jvm.Cond.code ({ cls := "LeftIsAgreedOnModel", name := "go", desc := "(II)V" } : Jvm.MethodName) prog_16_method_40_code (4 : Nat) (Option.none : Option Jvm.ClassFile.FieldType)) ∈ lw_all := lw_g (lw_at lw_m7 136 rfl) rfl
theorem q1644 : (Jvm.Cond.instanceMethod ({ cls := "LeftIsAgreedOnModel", name := "fell", desc := "(II)I" } : Jvm.MethodName)) ∈ lw_all := lw_g (lw_at lw_m7 138 rfl) rfl
theorem q1645 : (Jvm.Cond.selects "LeftIsAgreedOnModel" ({ cls := "LeftIsAgreedOnModel", name := "fell", desc := "(II)I" } : Jvm.MethodName) ({ cls := "LeftIsAgreedOnModel", name := "fell", desc := "(II)I" } : Jvm.MethodName)) ∈ lw_all := lw_g (lw_at lw_m7 139 rfl) rfl
theorem q1646 : (Jvm.Cond.code ({ cls := "LeftIsAgreedOnModel", name := "fell", desc := "(II)I" } : Jvm.MethodName) prog_16_method_53_code (6 : Nat) (Option.some Jvm.ClassFile.FieldType.int)) ∈ lw_all := lw_g (lw_at lw_m7 140 rfl) rfl
theorem q1648 : (Jvm.Cond.instanceMethod ({ cls := "LeftIsAgreedOnModel", name := "ponds", desc := "(III)I" } : Jvm.MethodName)) ∈ lw_all := lw_g (lw_at lw_m7 142 rfl) rfl
theorem q1649 : (Jvm.Cond.selects "LeftIsAgreedOnModel" ({ cls := "LeftIsAgreedOnModel", name := "ponds", desc := "(III)I" } : Jvm.MethodName) ({ cls := "LeftIsAgreedOnModel", name := "ponds", desc := "(III)I" } : Jvm.MethodName)) ∈ lw_all := lw_g (lw_at lw_m7 143 rfl) rfl
theorem q1650 : (Jvm.Cond.code ({ cls := "LeftIsAgreedOnModel", name := "ponds", desc := "(III)I" } : Jvm.MethodName) prog_16_method_54_code (8 : Nat) (Option.some Jvm.ClassFile.FieldType.int)) ∈ lw_all := lw_g (lw_at lw_m7 144 rfl) rfl
theorem q1652 : (Jvm.Cond.instanceMethod ({ cls := "LeftIsAgreedOnModel", name := "safe", desc := "(IIII)I" } : Jvm.MethodName)) ∈ lw_all := lw_g (lw_at lw_m7 146 rfl) rfl
theorem q1653 : (Jvm.Cond.selects "LeftIsAgreedOnModel" ({ cls := "LeftIsAgreedOnModel", name := "safe", desc := "(IIII)I" } : Jvm.MethodName) ({ cls := "LeftIsAgreedOnModel", name := "safe", desc := "(IIII)I" } : Jvm.MethodName)) ∈ lw_all := lw_g (lw_at lw_m7 147 rfl) rfl
theorem q1654 : (Jvm.Cond.code ({ cls := "LeftIsAgreedOnModel", name := "safe", desc := "(IIII)I" } : Jvm.MethodName) prog_16_method_57_code (8 : Nat) (Option.some Jvm.ClassFile.FieldType.int)) ∈ lw_all := lw_g (lw_at lw_m7 148 rfl) rfl
theorem q1655 : (Jvm.Cond.methodLink "LeftIsAgreedOnModel" (227 : Nat) ({ cls := "LeftIsAgreedOnModel", name := "spell", desc := "(II)V" } : Jvm.MethodName)) ∈ lw_all := lw_g (lw_at lw_m7 149 rfl) rfl
theorem q1656 : (Jvm.Cond.privateMethod ({ cls := "LeftIsAgreedOnModel", name := "spell", desc := "(II)V" } : Jvm.MethodName)) ∈ lw_tbl := lw_at lw_m7 150 rfl
theorem q1657 : (Jvm.Cond.instanceMethod ({ cls := "LeftIsAgreedOnModel", name := "spell", desc := "(II)V" } : Jvm.MethodName)) ∈ lw_all := lw_g (lw_at lw_m7 151 rfl) rfl
theorem q1658 : (Jvm.Cond.code ({ cls := "LeftIsAgreedOnModel", name := "spell", desc := "(II)V" } : Jvm.MethodName) prog_16_method_56_code (5 : Nat) (Option.none : Option Jvm.ClassFile.FieldType)) ∈ lw_all := lw_g (lw_at lw_m7 152 rfl) rfl
theorem q1659 : (Jvm.Cond.methodLink "LeftIsAgreedOnModel" (230 : Nat) ({ cls := "LeftIsAgreedOnModel", name := "brings", desc := "(IIII)Z" } : Jvm.MethodName)) ∈ lw_all := lw_g (lw_at lw_m7 153 rfl) rfl
theorem q1660 : (Jvm.Cond.privateMethod ({ cls := "LeftIsAgreedOnModel", name := "brings", desc := "(IIII)Z" } : Jvm.MethodName)) ∈ lw_tbl := lw_at lw_m7 154 rfl
theorem q1661 : (Jvm.Cond.instanceMethod ({ cls := "LeftIsAgreedOnModel", name := "brings", desc := "(IIII)Z" } : Jvm.MethodName)) ∈ lw_all := lw_g (lw_at lw_m7 155 rfl) rfl
theorem q1662 : (Jvm.Cond.code ({ cls := "LeftIsAgreedOnModel", name := "brings", desc := "(IIII)Z" } : Jvm.MethodName) prog_16_method_55_code (6 : Nat) (Option.some Jvm.ClassFile.FieldType.boolean)) ∈ lw_all := lw_g (lw_at lw_m7 156 rfl) rfl
theorem q1664 : (Jvm.Cond.instanceMethod ({ cls := "LeftIsAgreedOnModel", name := "kinds", desc := "(IIIII)I" } : Jvm.MethodName)) ∈ lw_all := lw_g (lw_at lw_m7 158 rfl) rfl
theorem q1665 : (Jvm.Cond.selects "LeftIsAgreedOnModel" ({ cls := "LeftIsAgreedOnModel", name := "kinds", desc := "(IIIII)I" } : Jvm.MethodName) ({ cls := "LeftIsAgreedOnModel", name := "kinds", desc := "(IIIII)I" } : Jvm.MethodName)) ∈ lw_all := lw_g (lw_at lw_m7 159 rfl) rfl
theorem q1666 : (Jvm.Cond.code ({ cls := "LeftIsAgreedOnModel", name := "kinds", desc := "(IIIII)I" } : Jvm.MethodName) prog_16_method_58_code (11 : Nat) (Option.some Jvm.ClassFile.FieldType.int)) ∈ lw_all := lw_g (lw_at lw_m7 160 rfl) rfl
theorem q1668 : (Jvm.Cond.instanceMethod ({ cls := "LeftIsAgreedOnModel", name := "who", desc := "(III)I" } : Jvm.MethodName)) ∈ lw_all := lw_g (lw_at lw_m7 162 rfl) rfl
theorem q1669 : (Jvm.Cond.selects "LeftIsAgreedOnModel" ({ cls := "LeftIsAgreedOnModel", name := "who", desc := "(III)I" } : Jvm.MethodName) ({ cls := "LeftIsAgreedOnModel", name := "who", desc := "(III)I" } : Jvm.MethodName)) ∈ lw_all := lw_g (lw_at lw_m7 163 rfl) rfl
theorem q1670 : (Jvm.Cond.code ({ cls := "LeftIsAgreedOnModel", name := "who", desc := "(III)I" } : Jvm.MethodName) prog_16_method_59_code (7 : Nat) (Option.some Jvm.ClassFile.FieldType.int)) ∈ lw_all := lw_g (lw_at lw_m7 164 rfl) rfl
theorem q1672 : (Jvm.Cond.instanceMethod ({ cls := "LeftIsAgreedOnModel", name := "crowd", desc := "(III)I" } : Jvm.MethodName)) ∈ lw_all := lw_g (lw_at lw_m7 166 rfl) rfl
theorem q1673 : (Jvm.Cond.selects "LeftIsAgreedOnModel" ({ cls := "LeftIsAgreedOnModel", name := "crowd", desc := "(III)I" } : Jvm.MethodName) ({ cls := "LeftIsAgreedOnModel", name := "crowd", desc := "(III)I" } : Jvm.MethodName)) ∈ lw_all := lw_g (lw_at lw_m7 167 rfl) rfl
theorem q1674 : (Jvm.Cond.code ({ cls := "LeftIsAgreedOnModel", name := "crowd", desc := "(III)I" } : Jvm.MethodName) prog_16_method_62_code (7 : Nat) (Option.some Jvm.ClassFile.FieldType.int)) ∈ lw_all := lw_g (lw_at lw_m7 168 rfl) rfl
theorem q1675 : (Jvm.Cond.methodLink "LeftIsAgreedOnModel" (234 : Nat) ({ cls := "LeftIsAgreedOnModel", name := "comeOut", desc := "(I)V" } : Jvm.MethodName)) ∈ lw_all := lw_g (lw_at lw_m7 169 rfl) rfl
theorem q1676 : (Jvm.Cond.privateMethod ({ cls := "LeftIsAgreedOnModel", name := "comeOut", desc := "(I)V" } : Jvm.MethodName)) ∈ lw_tbl := lw_at lw_m7 170 rfl
theorem q1677 : (Jvm.Cond.instanceMethod ({ cls := "LeftIsAgreedOnModel", name := "comeOut", desc := "(I)V" } : Jvm.MethodName)) ∈ lw_all := lw_g (lw_at lw_m7 171 rfl) rfl
theorem q1678 : (Jvm.Cond.code ({ cls := "LeftIsAgreedOnModel", name := "comeOut", desc := "(I)V" } : Jvm.MethodName) prog_16_method_60_code (3 : Nat) (Option.none : Option Jvm.ClassFile.FieldType)) ∈ lw_all := lw_g (lw_at lw_m7 172 rfl) rfl
theorem q1679 : (Jvm.Cond.methodLink "LeftIsAgreedOnModel" (238 : Nat) ({ cls := "LeftIsAgreedOnModel", name := "outIn", desc := "(I)I" } : Jvm.MethodName)) ∈ lw_all := lw_g (lw_at lw_m7 173 rfl) rfl
theorem q1680 : (Jvm.Cond.privateMethod ({ cls := "LeftIsAgreedOnModel", name := "outIn", desc := "(I)I" } : Jvm.MethodName)) ∈ lw_tbl := lw_at lw_m7 174 rfl
theorem q1681 : (Jvm.Cond.instanceMethod ({ cls := "LeftIsAgreedOnModel", name := "outIn", desc := "(I)I" } : Jvm.MethodName)) ∈ lw_all := lw_g (lw_at lw_m7 175 rfl) rfl
theorem q1682 : (Jvm.Cond.code ({ cls := "LeftIsAgreedOnModel", name := "outIn", desc := "(I)I" } : Jvm.MethodName) prog_16_method_61_code (4 : Nat) (Option.some Jvm.ClassFile.FieldType.int)) ∈ lw_all := lw_g (lw_at lw_m7 176 rfl) rfl
theorem q1684 : (Jvm.Cond.instanceMethod ({ cls := "LeftIsAgreedOnModel", name := "lonely", desc := "(II)I" } : Jvm.MethodName)) ∈ lw_all := lw_g (lw_at lw_m7 178 rfl) rfl
theorem q1685 : (Jvm.Cond.selects "LeftIsAgreedOnModel" ({ cls := "LeftIsAgreedOnModel", name := "lonely", desc := "(II)I" } : Jvm.MethodName) ({ cls := "LeftIsAgreedOnModel", name := "lonely", desc := "(II)I" } : Jvm.MethodName)) ∈ lw_all := lw_g (lw_at lw_m7 179 rfl) rfl
theorem q1686 : (Jvm.Cond.code ({ cls := "LeftIsAgreedOnModel", name := "lonely", desc := "(II)I" } : Jvm.MethodName) prog_16_method_63_code (6 : Nat) (Option.some Jvm.ClassFile.FieldType.int)) ∈ lw_all := lw_g (lw_at lw_m7 180 rfl) rfl
theorem q1688 : (Jvm.Cond.instanceMethod ({ cls := "LeftIsAgreedOnModel", name := "firstFall", desc := "(II)I" } : Jvm.MethodName)) ∈ lw_all := lw_g (lw_at lw_m7 182 rfl) rfl
theorem q1689 : (Jvm.Cond.selects "LeftIsAgreedOnModel" ({ cls := "LeftIsAgreedOnModel", name := "firstFall", desc := "(II)I" } : Jvm.MethodName) ({ cls := "LeftIsAgreedOnModel", name := "firstFall", desc := "(II)I" } : Jvm.MethodName)) ∈ lw_all := lw_g (lw_at lw_m7 183 rfl) rfl
theorem q1690 : (Jvm.Cond.code ({ cls := "LeftIsAgreedOnModel", name := "firstFall", desc := "(II)I" } : Jvm.MethodName) prog_16_method_64_code (6 : Nat) (Option.some Jvm.ClassFile.FieldType.int)) ∈ lw_all := lw_g (lw_at lw_m7 184 rfl) rfl
theorem q1692 : (Jvm.Cond.instanceMethod ({ cls := "LeftIsAgreedOnModel", name := "alike", desc := "(III)I" } : Jvm.MethodName)) ∈ lw_all := lw_g (lw_at lw_m7 186 rfl) rfl
theorem q1693 : (Jvm.Cond.selects "LeftIsAgreedOnModel" ({ cls := "LeftIsAgreedOnModel", name := "alike", desc := "(III)I" } : Jvm.MethodName) ({ cls := "LeftIsAgreedOnModel", name := "alike", desc := "(III)I" } : Jvm.MethodName)) ∈ lw_all := lw_g (lw_at lw_m7 187 rfl) rfl
theorem q1694 : (Jvm.Cond.code ({ cls := "LeftIsAgreedOnModel", name := "alike", desc := "(III)I" } : Jvm.MethodName) prog_16_method_65_code (8 : Nat) (Option.some Jvm.ClassFile.FieldType.int)) ∈ lw_all := lw_g (lw_at lw_m7 188 rfl) rfl
theorem q1696 : (Jvm.Cond.instanceMethod ({ cls := "LeftIsAgreedOnModel", name := "differ", desc := "(IIII)I" } : Jvm.MethodName)) ∈ lw_all := lw_g (lw_at lw_m7 190 rfl) rfl
theorem q1697 : (Jvm.Cond.selects "LeftIsAgreedOnModel" ({ cls := "LeftIsAgreedOnModel", name := "differ", desc := "(IIII)I" } : Jvm.MethodName) ({ cls := "LeftIsAgreedOnModel", name := "differ", desc := "(IIII)I" } : Jvm.MethodName)) ∈ lw_all := lw_g (lw_at lw_m7 191 rfl) rfl
theorem q1698 : (Jvm.Cond.code ({ cls := "LeftIsAgreedOnModel", name := "differ", desc := "(IIII)I" } : Jvm.MethodName) prog_16_method_66_code (7 : Nat) (Option.some Jvm.ClassFile.FieldType.int)) ∈ lw_all := lw_g (lw_at lw_m7 192 rfl) rfl
theorem q1700 : (Jvm.Cond.instanceMethod ({ cls := "LeftIsAgreedOnModel", name := "again", desc := "(IIII)I" } : Jvm.MethodName)) ∈ lw_all := lw_g (lw_at lw_m7 194 rfl) rfl
theorem q1701 : (Jvm.Cond.selects "LeftIsAgreedOnModel" ({ cls := "LeftIsAgreedOnModel", name := "again", desc := "(IIII)I" } : Jvm.MethodName) ({ cls := "LeftIsAgreedOnModel", name := "again", desc := "(IIII)I" } : Jvm.MethodName)) ∈ lw_all := lw_g (lw_at lw_m7 195 rfl) rfl
theorem q1702 : (Jvm.Cond.code ({ cls := "LeftIsAgreedOnModel", name := "again", desc := "(IIII)I" } : Jvm.MethodName) prog_16_method_67_code (7 : Nat) (Option.some Jvm.ClassFile.FieldType.int)) ∈ lw_all := lw_g (lw_at lw_m7 196 rfl) rfl
theorem q1703 : (Jvm.Cond.constantLong "LeftIsAgreedOnModel" (241 : Nat) (20 : Int64)) ∈ lw_all := lw_g (lw_at lw_m7 197 rfl) rfl
theorem q1705 : (Jvm.Cond.instanceMethod ({ cls := "LeftIsAgreedOnModel", name := "ring", desc := "(III)I" } : Jvm.MethodName)) ∈ lw_all := lw_g (lw_at lw_m7 199 rfl) rfl
theorem q1706 : (Jvm.Cond.selects "LeftIsAgreedOnModel" ({ cls := "LeftIsAgreedOnModel", name := "ring", desc := "(III)I" } : Jvm.MethodName) ({ cls := "LeftIsAgreedOnModel", name := "ring", desc := "(III)I" } : Jvm.MethodName)) ∈ lw_all := lw_g (lw_at lw_m7 200 rfl) rfl
theorem q1707 : (Jvm.Cond.code ({ cls := "LeftIsAgreedOnModel", name := "ring", desc := "(III)I" } : Jvm.MethodName) prog_16_method_68_code (7 : Nat) (Option.some Jvm.ClassFile.FieldType.int)) ∈ lw_all := lw_g (lw_at lw_m7 201 rfl) rfl
theorem q1709 : (Jvm.Cond.instanceMethod ({ cls := "LeftIsAgreedOnModel", name := "idle", desc := "(III)I" } : Jvm.MethodName)) ∈ lw_all := lw_g (lw_at lw_m7 203 rfl) rfl
theorem q1710 : (Jvm.Cond.selects "LeftIsAgreedOnModel" ({ cls := "LeftIsAgreedOnModel", name := "idle", desc := "(III)I" } : Jvm.MethodName) ({ cls := "LeftIsAgreedOnModel", name := "idle", desc := "(III)I" } : Jvm.MethodName)) ∈ lw_all := lw_g (lw_at lw_m7 204 rfl) rfl
theorem q1711 : (Jvm.Cond.code ({ cls := "LeftIsAgreedOnModel", name := "idle", desc := "(III)I" } : Jvm.MethodName) prog_16_method_69_code (8 : Nat) (Option.some Jvm.ClassFile.FieldType.int)) ∈ lw_all := lw_g (lw_at lw_m7 205 rfl) rfl
theorem q1713 : (Jvm.Cond.instanceMethod ({ cls := "LeftIsAgreedOnModel", name := "lefts", desc := "(II)I" } : Jvm.MethodName)) ∈ lw_all := lw_g (lw_at lw_m7 207 rfl) rfl
theorem q1714 : (Jvm.Cond.selects "LeftIsAgreedOnModel" ({ cls := "LeftIsAgreedOnModel", name := "lefts", desc := "(II)I" } : Jvm.MethodName) ({ cls := "LeftIsAgreedOnModel", name := "lefts", desc := "(II)I" } : Jvm.MethodName)) ∈ lw_all := lw_g (lw_at lw_m7 208 rfl) rfl
theorem q1715 : (Jvm.Cond.code ({ cls := "LeftIsAgreedOnModel", name := "lefts", desc := "(II)I" } : Jvm.MethodName) prog_16_method_70_code (4 : Nat) (Option.some Jvm.ClassFile.FieldType.int)) ∈ lw_all := lw_g (lw_at lw_m7 209 rfl) rfl
theorem q1717 : (Jvm.Cond.instanceMethod ({ cls := "LeftIsAgreedOnModel", name := "reach", desc := "(II)I" } : Jvm.MethodName)) ∈ lw_all := lw_g (lw_at lw_m7 211 rfl) rfl
theorem q1718 : (Jvm.Cond.selects "LeftIsAgreedOnModel" ({ cls := "LeftIsAgreedOnModel", name := "reach", desc := "(II)I" } : Jvm.MethodName) ({ cls := "LeftIsAgreedOnModel", name := "reach", desc := "(II)I" } : Jvm.MethodName)) ∈ lw_all := lw_g (lw_at lw_m7 212 rfl) rfl
theorem q1719 : (Jvm.Cond.code ({ cls := "LeftIsAgreedOnModel", name := "reach", desc := "(II)I" } : Jvm.MethodName) prog_16_method_71_code (8 : Nat) (Option.some Jvm.ClassFile.FieldType.int)) ∈ lw_all := lw_g (lw_at lw_m7 213 rfl) rfl
theorem q1720 : (Jvm.Cond.constantLong "LeftIsAgreedOnModel" (243 : Nat) (6 : Int64)) ∈ lw_all := lw_g (lw_at lw_m7 214 rfl) rfl
theorem q1722 : (Jvm.Cond.instanceMethod ({ cls := "LeftIsAgreedOnModel", name := "open", desc := "(II)I" } : Jvm.MethodName)) ∈ lw_all := lw_g (lw_at lw_m7 216 rfl) rfl
theorem q1723 : (Jvm.Cond.selects "LeftIsAgreedOnModel" ({ cls := "LeftIsAgreedOnModel", name := "open", desc := "(II)I" } : Jvm.MethodName) ({ cls := "LeftIsAgreedOnModel", name := "open", desc := "(II)I" } : Jvm.MethodName)) ∈ lw_all := lw_g (lw_at lw_m7 217 rfl) rfl
theorem q1724 : (Jvm.Cond.code ({ cls := "LeftIsAgreedOnModel", name := "open", desc := "(II)I" } : Jvm.MethodName) prog_16_method_72_code (5 : Nat) (Option.some Jvm.ClassFile.FieldType.int)) ∈ lw_all := lw_g (lw_at lw_m7 218 rfl) rfl
theorem q1726 : (Jvm.Cond.instanceMethod ({ cls := "LeftIsAgreedOnModel", name := "shore", desc := "()I" } : Jvm.MethodName)) ∈ lw_all := lw_g (lw_at lw_m7 220 rfl) rfl
theorem q1727 : (Jvm.Cond.selects "LeftIsAgreedOnModel" ({ cls := "LeftIsAgreedOnModel", name := "shore", desc := "()I" } : Jvm.MethodName) ({ cls := "LeftIsAgreedOnModel", name := "shore", desc := "()I" } : Jvm.MethodName)) ∈ lw_all := lw_g (lw_at lw_m7 221 rfl) rfl
theorem q1728 : (Jvm.Cond.code ({ cls := "LeftIsAgreedOnModel", name := "shore", desc := "()I" } : Jvm.MethodName) prog_16_method_73_code (3 : Nat) (Option.some Jvm.ClassFile.FieldType.int)) ∈ lw_all := lw_g (lw_at lw_m7 222 rfl) rfl
theorem q1730 : (Jvm.Cond.instanceMethod ({ cls := "LeftIsAgreedOnModel", name := "bloc", desc := "(I)I" } : Jvm.MethodName)) ∈ lw_all := lw_g (lw_at lw_m7 224 rfl) rfl
theorem q1731 : (Jvm.Cond.selects "LeftIsAgreedOnModel" ({ cls := "LeftIsAgreedOnModel", name := "bloc", desc := "(I)I" } : Jvm.MethodName) ({ cls := "LeftIsAgreedOnModel", name := "bloc", desc := "(I)I" } : Jvm.MethodName)) ∈ lw_all := lw_g (lw_at lw_m7 225 rfl) rfl
theorem q1732 : (Jvm.Cond.code ({ cls := "LeftIsAgreedOnModel", name := "bloc", desc := "(I)I" } : Jvm.MethodName) prog_16_method_75_code (2 : Nat) (Option.some Jvm.ClassFile.FieldType.int)) ∈ lw_all := lw_g (lw_at lw_m7 226 rfl) rfl
theorem q1733 : (Jvm.Cond.methodLink "LeftIsAgreedOnModel" (245 : Nat) ({ cls := "LeftIsAgreedOnModel", name := "weigh", desc := "(I)I" } : Jvm.MethodName)) ∈ lw_all := lw_g (lw_at lw_m7 227 rfl) rfl
theorem q1734 : (Jvm.Cond.privateMethod ({ cls := "LeftIsAgreedOnModel", name := "weigh", desc := "(I)I" } : Jvm.MethodName)) ∈ lw_tbl := lw_at lw_m7 228 rfl
theorem q1735 : (Jvm.Cond.instanceMethod ({ cls := "LeftIsAgreedOnModel", name := "weigh", desc := "(I)I" } : Jvm.MethodName)) ∈ lw_all := lw_g (lw_at lw_m7 229 rfl) rfl
theorem q1736 : (Jvm.Cond.code ({ cls := "LeftIsAgreedOnModel", name := "weigh", desc := "(I)I" } : Jvm.MethodName) prog_16_method_74_code (4 : Nat) (Option.some Jvm.ClassFile.FieldType.int)) ∈ lw_all := lw_g (lw_at lw_m7 230 rfl) rfl
theorem q1738 : (Jvm.Cond.instanceMethod ({ cls := "LeftIsAgreedOnModel", name := "carries", desc := "()I" } : Jvm.MethodName)) ∈ lw_all := lw_g (lw_at lw_m7 232 rfl) rfl
theorem q1739 : (Jvm.Cond.selects "LeftIsAgreedOnModel" ({ cls := "LeftIsAgreedOnModel", name := "carries", desc := "()I" } : Jvm.MethodName) ({ cls := "LeftIsAgreedOnModel", name := "carries", desc := "()I" } : Jvm.MethodName)) ∈ lw_all := lw_g (lw_at lw_m7 233 rfl) rfl
theorem q1740 : (Jvm.Cond.code ({ cls := "LeftIsAgreedOnModel", name := "carries", desc := "()I" } : Jvm.MethodName) prog_16_method_76_code (2 : Nat) (Option.some Jvm.ClassFile.FieldType.int)) ∈ lw_all := lw_g (lw_at lw_m7 234 rfl) rfl
theorem q1742 : (Jvm.Cond.instanceMethod ({ cls := "LeftIsAgreedOnModel", name := "personOf", desc := "(II)I" } : Jvm.MethodName)) ∈ lw_all := lw_g (lw_at lw_m7 236 rfl) rfl
theorem q1743 : (Jvm.Cond.selects "LeftIsAgreedOnModel" ({ cls := "LeftIsAgreedOnModel", name := "personOf", desc := "(II)I" } : Jvm.MethodName) ({ cls := "LeftIsAgreedOnModel", name := "personOf", desc := "(II)I" } : Jvm.MethodName)) ∈ lw_all := lw_g (lw_at lw_m7 237 rfl) rfl
theorem q1744 : (Jvm.Cond.code ({ cls := "LeftIsAgreedOnModel", name := "personOf", desc := "(II)I" } : Jvm.MethodName) prog_16_method_78_code (3 : Nat) (Option.some Jvm.ClassFile.FieldType.int)) ∈ lw_all := lw_g (lw_at lw_m7 238 rfl) rfl
theorem q1745 : (Jvm.Cond.methodLink "LeftIsAgreedOnModel" (248 : Nat) ({ cls := "LeftIsAgreedOnModel", name := "power", desc := "(I)I" } : Jvm.MethodName)) ∈ lw_all := lw_g (lw_at lw_m7 239 rfl) rfl
theorem q1746 : (Jvm.Cond.privateMethod ({ cls := "LeftIsAgreedOnModel", name := "power", desc := "(I)I" } : Jvm.MethodName)) ∈ lw_tbl := lw_at lw_m8 0 rfl
theorem q1747 : (Jvm.Cond.instanceMethod ({ cls := "LeftIsAgreedOnModel", name := "power", desc := "(I)I" } : Jvm.MethodName)) ∈ lw_all := lw_g (lw_at lw_m8 1 rfl) rfl
theorem q1748 : (Jvm.Cond.code ({ cls := "LeftIsAgreedOnModel", name := "power", desc := "(I)I" } : Jvm.MethodName) prog_16_method_77_code (7 : Nat) (Option.some Jvm.ClassFile.FieldType.int)) ∈ lw_all := lw_g (lw_at lw_m8 2 rfl) rfl
theorem q1750 : (Jvm.Cond.instanceMethod ({ cls := "LeftIsAgreedOnModel", name := "mightiest", desc := "()I" } : Jvm.MethodName)) ∈ lw_all := lw_g (lw_at lw_m8 4 rfl) rfl
theorem q1751 : (Jvm.Cond.selects "LeftIsAgreedOnModel" ({ cls := "LeftIsAgreedOnModel", name := "mightiest", desc := "()I" } : Jvm.MethodName) ({ cls := "LeftIsAgreedOnModel", name := "mightiest", desc := "()I" } : Jvm.MethodName)) ∈ lw_all := lw_g (lw_at lw_m8 5 rfl) rfl
theorem q1752 : (Jvm.Cond.code ({ cls := "LeftIsAgreedOnModel", name := "mightiest", desc := "()I" } : Jvm.MethodName) prog_16_method_79_code (3 : Nat) (Option.some Jvm.ClassFile.FieldType.int)) ∈ lw_all := lw_g (lw_at lw_m8 6 rfl) rfl
theorem q1754 : (Jvm.Cond.instanceMethod ({ cls := "LeftIsAgreedOnModel", name := "swing", desc := "(I)I" } : Jvm.MethodName)) ∈ lw_all := lw_g (lw_at lw_m8 8 rfl) rfl
theorem q1755 : (Jvm.Cond.selects "LeftIsAgreedOnModel" ({ cls := "LeftIsAgreedOnModel", name := "swing", desc := "(I)I" } : Jvm.MethodName) ({ cls := "LeftIsAgreedOnModel", name := "swing", desc := "(I)I" } : Jvm.MethodName)) ∈ lw_all := lw_g (lw_at lw_m8 9 rfl) rfl
theorem q1756 : (Jvm.Cond.code ({ cls := "LeftIsAgreedOnModel", name := "swing", desc := "(I)I" } : Jvm.MethodName) prog_16_method_81_code (4 : Nat) (Option.some Jvm.ClassFile.FieldType.int)) ∈ lw_all := lw_g (lw_at lw_m8 10 rfl) rfl
theorem q1757 : (Jvm.Cond.methodLink "LeftIsAgreedOnModel" (251 : Nat) ({ cls := "LeftIsAgreedOnModel", name := "carries", desc := "()I" } : Jvm.MethodName)) ∈ lw_all := lw_g (lw_at lw_m8 11 rfl) rfl
theorem q1758 : (Jvm.Cond.methodLink "LeftIsAgreedOnModel" (254 : Nat) ({ cls := "LeftIsAgreedOnModel", name := "change", desc := "(I)V" } : Jvm.MethodName)) ∈ lw_all := lw_g (lw_at lw_m8 12 rfl) rfl
theorem q1759 : (Jvm.Cond.privateMethod ({ cls := "LeftIsAgreedOnModel", name := "change", desc := "(I)V" } : Jvm.MethodName)) ∈ lw_tbl := lw_at lw_m8 13 rfl
theorem q1760 : (Jvm.Cond.instanceMethod ({ cls := "LeftIsAgreedOnModel", name := "change", desc := "(I)V" } : Jvm.MethodName)) ∈ lw_all := lw_g (lw_at lw_m8 14 rfl) rfl
theorem q1761 : (Jvm.Cond.code ({ cls := "LeftIsAgreedOnModel", name := "change", desc := "(I)V" } : Jvm.MethodName) prog_16_method_80_code (3 : Nat) (Option.none : Option Jvm.ClassFile.FieldType)) ∈ lw_all := lw_g (lw_at lw_m8 15 rfl) rfl
theorem q1763 : (Jvm.Cond.instanceMethod ({ cls := "LeftIsAgreedOnModel", name := "turn", desc := "(I)I" } : Jvm.MethodName)) ∈ lw_all := lw_g (lw_at lw_m8 17 rfl) rfl
theorem q1764 : (Jvm.Cond.selects "LeftIsAgreedOnModel" ({ cls := "LeftIsAgreedOnModel", name := "turn", desc := "(I)I" } : Jvm.MethodName) ({ cls := "LeftIsAgreedOnModel", name := "turn", desc := "(I)I" } : Jvm.MethodName)) ∈ lw_all := lw_g (lw_at lw_m8 18 rfl) rfl
theorem q1765 : (Jvm.Cond.code ({ cls := "LeftIsAgreedOnModel", name := "turn", desc := "(I)I" } : Jvm.MethodName) prog_16_method_83_code (6 : Nat) (Option.some Jvm.ClassFile.FieldType.int)) ∈ lw_all := lw_g (lw_at lw_m8 19 rfl) rfl
theorem q1766 : (Jvm.Cond.methodLink "LeftIsAgreedOnModel" (257 : Nat) ({ cls := "LeftIsAgreedOnModel", name := "ones", desc := "(I)I" } : Jvm.MethodName)) ∈ lw_all := lw_g (lw_at lw_m8 20 rfl) rfl
theorem q1767 : (Jvm.Cond.static ({ cls := "LeftIsAgreedOnModel", name := "ones", desc := "(I)I" } : Jvm.MethodName)) ∈ lw_all := lw_g (lw_at lw_m8 21 rfl) rfl
theorem q1768 : (Jvm.Cond.code ({ cls := "LeftIsAgreedOnModel", name := "ones", desc := "(I)I" } : Jvm.MethodName) prog_16_method_82_code (3 : Nat) (Option.some Jvm.ClassFile.FieldType.int)) ∈ lw_all := lw_g (lw_at lw_m8 22 rfl) rfl
theorem q1770 : (Jvm.Cond.instanceMethod ({ cls := "LeftIsAgreedOnModel", name := "agreed", desc := "()I" } : Jvm.MethodName)) ∈ lw_all := lw_g (lw_at lw_m8 24 rfl) rfl
theorem q1771 : (Jvm.Cond.selects "LeftIsAgreedOnModel" ({ cls := "LeftIsAgreedOnModel", name := "agreed", desc := "()I" } : Jvm.MethodName) ({ cls := "LeftIsAgreedOnModel", name := "agreed", desc := "()I" } : Jvm.MethodName)) ∈ lw_all := lw_g (lw_at lw_m8 25 rfl) rfl
theorem q1772 : (Jvm.Cond.code ({ cls := "LeftIsAgreedOnModel", name := "agreed", desc := "()I" } : Jvm.MethodName) prog_16_method_84_code (3 : Nat) (Option.some Jvm.ClassFile.FieldType.int)) ∈ lw_all := lw_g (lw_at lw_m8 26 rfl) rfl
theorem q1774 : (Jvm.Cond.instanceMethod ({ cls := "LeftIsAgreedOnModel", name := "meet", desc := "(IIIIII)I" } : Jvm.MethodName)) ∈ lw_all := lw_g (lw_at lw_m8 28 rfl) rfl
theorem q1775 : (Jvm.Cond.selects "LeftIsAgreedOnModel" ({ cls := "LeftIsAgreedOnModel", name := "meet", desc := "(IIIIII)I" } : Jvm.MethodName) ({ cls := "LeftIsAgreedOnModel", name := "meet", desc := "(IIIIII)I" } : Jvm.MethodName)) ∈ lw_all := lw_g (lw_at lw_m8 29 rfl) rfl
theorem q1776 : (Jvm.Cond.code ({ cls := "LeftIsAgreedOnModel", name := "meet", desc := "(IIIIII)I" } : Jvm.MethodName) prog_16_method_87_code (8 : Nat) (Option.some Jvm.ClassFile.FieldType.int)) ∈ lw_all := lw_g (lw_at lw_m8 30 rfl) rfl
theorem q1777 : (Jvm.Cond.methodLink "LeftIsAgreedOnModel" (265 : Nat) ({ cls := "LeftIsAgreedOnModel", name := "loadBoth", desc := "(IIIIII)I" } : Jvm.MethodName)) ∈ lw_all := lw_g (lw_at lw_m8 31 rfl) rfl
theorem q1778 : (Jvm.Cond.privateMethod ({ cls := "LeftIsAgreedOnModel", name := "loadBoth", desc := "(IIIIII)I" } : Jvm.MethodName)) ∈ lw_tbl := lw_at lw_m8 32 rfl
theorem q1779 : (Jvm.Cond.instanceMethod ({ cls := "LeftIsAgreedOnModel", name := "loadBoth", desc := "(IIIIII)I" } : Jvm.MethodName)) ∈ lw_all := lw_g (lw_at lw_m8 33 rfl) rfl
theorem q1780 : (Jvm.Cond.code ({ cls := "LeftIsAgreedOnModel", name := "loadBoth", desc := "(IIIIII)I" } : Jvm.MethodName) prog_16_method_85_code (9 : Nat) (Option.some Jvm.ClassFile.FieldType.int)) ∈ lw_all := lw_g (lw_at lw_m8 34 rfl) rfl
theorem q1781 : (Jvm.Cond.methodLink "LeftIsAgreedOnModel" (269 : Nat) ({ cls := "LeftIsAgreedOnModel", name := "met", desc := "(IIIII)I" } : Jvm.MethodName)) ∈ lw_all := lw_g (lw_at lw_m8 35 rfl) rfl
theorem q1782 : (Jvm.Cond.privateMethod ({ cls := "LeftIsAgreedOnModel", name := "met", desc := "(IIIII)I" } : Jvm.MethodName)) ∈ lw_tbl := lw_at lw_m8 36 rfl
theorem q1783 : (Jvm.Cond.instanceMethod ({ cls := "LeftIsAgreedOnModel", name := "met", desc := "(IIIII)I" } : Jvm.MethodName)) ∈ lw_all := lw_g (lw_at lw_m8 37 rfl) rfl
theorem q1784 : (Jvm.Cond.code ({ cls := "LeftIsAgreedOnModel", name := "met", desc := "(IIIII)I" } : Jvm.MethodName) prog_16_method_86_code (9 : Nat) (Option.some Jvm.ClassFile.FieldType.int)) ∈ lw_all := lw_g (lw_at lw_m8 38 rfl) rfl
theorem q1785 : (Jvm.Cond.methodLink "LeftIsAgreedOnModel" (260 : Nat) ({ cls := "java/lang/Math", name := "max", desc := "(II)I" } : Jvm.MethodName)) ∈ lw_all := lw_g (lw_at lw_m8 39 rfl) rfl
theorem q1787 : (Jvm.Cond.instanceMethod ({ cls := "LeftIsAgreedOnModel", name := "waits", desc := "(IIIIII)I" } : Jvm.MethodName)) ∈ lw_all := lw_g (lw_at lw_m8 41 rfl) rfl
theorem q1788 : (Jvm.Cond.selects "LeftIsAgreedOnModel" ({ cls := "LeftIsAgreedOnModel", name := "waits", desc := "(IIIIII)I" } : Jvm.MethodName) ({ cls := "LeftIsAgreedOnModel", name := "waits", desc := "(IIIIII)I" } : Jvm.MethodName)) ∈ lw_all := lw_g (lw_at lw_m8 42 rfl) rfl
theorem q1789 : (Jvm.Cond.code ({ cls := "LeftIsAgreedOnModel", name := "waits", desc := "(IIIIII)I" } : Jvm.MethodName) prog_16_method_88_code (9 : Nat) (Option.some Jvm.ClassFile.FieldType.int)) ∈ lw_all := lw_g (lw_at lw_m8 43 rfl) rfl
theorem q1791 : (Jvm.Cond.instanceMethod ({ cls := "LeftIsAgreedOnModel", name := "judge", desc := "(II)I" } : Jvm.MethodName)) ∈ lw_all := lw_g (lw_at lw_m8 45 rfl) rfl
theorem q1792 : (Jvm.Cond.selects "LeftIsAgreedOnModel" ({ cls := "LeftIsAgreedOnModel", name := "judge", desc := "(II)I" } : Jvm.MethodName) ({ cls := "LeftIsAgreedOnModel", name := "judge", desc := "(II)I" } : Jvm.MethodName)) ∈ lw_all := lw_g (lw_at lw_m8 46 rfl) rfl
theorem q1793 : (Jvm.Cond.code ({ cls := "LeftIsAgreedOnModel", name := "judge", desc := "(II)I" } : Jvm.MethodName) prog_16_method_89_code (4 : Nat) (Option.some Jvm.ClassFile.FieldType.int)) ∈ lw_all := lw_g (lw_at lw_m8 47 rfl) rfl
theorem q1795 : (Jvm.Cond.instanceMethod ({ cls := "LeftIsAgreedOnModel", name := "walk", desc := "(III)I" } : Jvm.MethodName)) ∈ lw_all := lw_g (lw_at lw_m8 49 rfl) rfl
theorem q1796 : (Jvm.Cond.selects "LeftIsAgreedOnModel" ({ cls := "LeftIsAgreedOnModel", name := "walk", desc := "(III)I" } : Jvm.MethodName) ({ cls := "LeftIsAgreedOnModel", name := "walk", desc := "(III)I" } : Jvm.MethodName)) ∈ lw_all := lw_g (lw_at lw_m8 50 rfl) rfl
theorem q1797 : (Jvm.Cond.code ({ cls := "LeftIsAgreedOnModel", name := "walk", desc := "(III)I" } : Jvm.MethodName) prog_16_method_90_code (6 : Nat) (Option.some Jvm.ClassFile.FieldType.int)) ∈ lw_all := lw_g (lw_at lw_m8 51 rfl) rfl
theorem q1799 : (Jvm.Cond.instanceMethod ({ cls := "LeftIsAgreedOnModel", name := "years", desc := "(I)I" } : Jvm.MethodName)) ∈ lw_all := lw_g (lw_at lw_m8 53 rfl) rfl
theorem q1800 : (Jvm.Cond.selects "LeftIsAgreedOnModel" ({ cls := "LeftIsAgreedOnModel", name := "years", desc := "(I)I" } : Jvm.MethodName) ({ cls := "LeftIsAgreedOnModel", name := "years", desc := "(I)I" } : Jvm.MethodName)) ∈ lw_all := lw_g (lw_at lw_m8 54 rfl) rfl
theorem q1801 : (Jvm.Cond.code ({ cls := "LeftIsAgreedOnModel", name := "years", desc := "(I)I" } : Jvm.MethodName) prog_16_method_92_code (5 : Nat) (Option.some Jvm.ClassFile.FieldType.int)) ∈ lw_all := lw_g (lw_at lw_m8 55 rfl) rfl
theorem q1802 : (Jvm.Cond.constantLong "LeftIsAgreedOnModel" (274 : Nat) (60 : Int64)) ∈ lw_all := lw_g (lw_at lw_m8 56 rfl) rfl
theorem q1803 : (Jvm.Cond.methodLink "LeftIsAgreedOnModel" (276 : Nat) ({ cls := "LeftIsAgreedOnModel", name := "draw", desc := "(I)I" } : Jvm.MethodName)) ∈ lw_all := lw_g (lw_at lw_m8 57 rfl) rfl
theorem q1804 : (Jvm.Cond.privateMethod ({ cls := "LeftIsAgreedOnModel", name := "draw", desc := "(I)I" } : Jvm.MethodName)) ∈ lw_tbl := lw_at lw_m8 58 rfl
theorem q1805 : (Jvm.Cond.instanceMethod ({ cls := "LeftIsAgreedOnModel", name := "draw", desc := "(I)I" } : Jvm.MethodName)) ∈ lw_all := lw_g (lw_at lw_m8 59 rfl) rfl
theorem q1806 : (Jvm.Cond.code ({ cls := "LeftIsAgreedOnModel", name := "draw", desc := "(I)I" } : Jvm.MethodName) prog_16_method_91_code (2 : Nat) (Option.some Jvm.ClassFile.FieldType.int)) ∈ lw_all := lw_g (lw_at lw_m8 60 rfl) rfl
theorem q1807 : (Jvm.Cond.constant "LeftIsAgreedOnModel" (273 : Nat) (1103515245 : Int32)) ∈ lw_all := lw_g (lw_at lw_m8 61 rfl) rfl
theorem q1809 : (Jvm.Cond.instanceMethod ({ cls := "LeftIsAgreedOnModel", name := "seed", desc := "(I)I" } : Jvm.MethodName)) ∈ lw_all := lw_g (lw_at lw_m8 63 rfl) rfl
theorem q1810 : (Jvm.Cond.selects "LeftIsAgreedOnModel" ({ cls := "LeftIsAgreedOnModel", name := "seed", desc := "(I)I" } : Jvm.MethodName) ({ cls := "LeftIsAgreedOnModel", name := "seed", desc := "(I)I" } : Jvm.MethodName)) ∈ lw_all := lw_g (lw_at lw_m8 64 rfl) rfl
theorem q1811 : (Jvm.Cond.code ({ cls := "LeftIsAgreedOnModel", name := "seed", desc := "(I)I" } : Jvm.MethodName) prog_16_method_93_code (3 : Nat) (Option.some Jvm.ClassFile.FieldType.int)) ∈ lw_all := lw_g (lw_at lw_m8 65 rfl) rfl
theorem q1813 : (Jvm.Cond.instanceMethod ({ cls := "LeftIsAgreedOnModel", name := "image", desc := "()I" } : Jvm.MethodName)) ∈ lw_all := lw_g (lw_at lw_m8 67 rfl) rfl
theorem q1814 : (Jvm.Cond.selects "LeftIsAgreedOnModel" ({ cls := "LeftIsAgreedOnModel", name := "image", desc := "()I" } : Jvm.MethodName) ({ cls := "LeftIsAgreedOnModel", name := "image", desc := "()I" } : Jvm.MethodName)) ∈ lw_all := lw_g (lw_at lw_m8 68 rfl) rfl
theorem q1815 : (Jvm.Cond.code ({ cls := "LeftIsAgreedOnModel", name := "image", desc := "()I" } : Jvm.MethodName) prog_16_method_94_code (1 : Nat) (Option.some Jvm.ClassFile.FieldType.int)) ∈ lw_all := lw_g (lw_at lw_m8 69 rfl) rfl
theorem q1817 : (Jvm.Cond.instanceMethod ({ cls := "LeftIsAgreedOnModel", name := "back", desc := "()I" } : Jvm.MethodName)) ∈ lw_all := lw_g (lw_at lw_m8 71 rfl) rfl
theorem q1818 : (Jvm.Cond.selects "LeftIsAgreedOnModel" ({ cls := "LeftIsAgreedOnModel", name := "back", desc := "()I" } : Jvm.MethodName) ({ cls := "LeftIsAgreedOnModel", name := "back", desc := "()I" } : Jvm.MethodName)) ∈ lw_all := lw_g (lw_at lw_m8 72 rfl) rfl
theorem q1819 : (Jvm.Cond.code ({ cls := "LeftIsAgreedOnModel", name := "back", desc := "()I" } : Jvm.MethodName) prog_16_method_95_code (2 : Nat) (Option.some Jvm.ClassFile.FieldType.int)) ∈ lw_all := lw_g (lw_at lw_m8 73 rfl) rfl
theorem q1821 : (Jvm.Cond.instanceMethod ({ cls := "LeftIsAgreedOnModel", name := "status", desc := "(I)I" } : Jvm.MethodName)) ∈ lw_all := lw_g (lw_at lw_m8 75 rfl) rfl
theorem q1822 : (Jvm.Cond.selects "LeftIsAgreedOnModel" ({ cls := "LeftIsAgreedOnModel", name := "status", desc := "(I)I" } : Jvm.MethodName) ({ cls := "LeftIsAgreedOnModel", name := "status", desc := "(I)I" } : Jvm.MethodName)) ∈ lw_all := lw_g (lw_at lw_m8 76 rfl) rfl
theorem q1823 : (Jvm.Cond.code ({ cls := "LeftIsAgreedOnModel", name := "status", desc := "(I)I" } : Jvm.MethodName) prog_16_method_96_code (4 : Nat) (Option.some Jvm.ClassFile.FieldType.int)) ∈ lw_all := lw_g (lw_at lw_m8 77 rfl) rfl
theorem q1824 : (Jvm.Cond.constantLong "LeftIsAgreedOnModel" (283 : Nat) (16 : Int64)) ∈ lw_all := lw_g (lw_at lw_m8 78 rfl) rfl
theorem in_X4 : ∀ w ∈ wsX40, w ∈ lw_all := lw_in wsX40 [1380, 1382, 1384, 1386, 1388, 1390, 1392, 1394, 1396, 1398, 1400, 1402, 1404, 1406, 1408, 1410, 1412, 1414, 1416, 1418, 1420, 1422, 1424, 1426, 1428, 1430] (by decide +kernel) (by decide +kernel)
