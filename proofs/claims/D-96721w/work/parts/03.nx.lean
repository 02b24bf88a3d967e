/-! LeftIsAgreedOn$Island -/
set_option maxRecDepth 100000
def RX1 : String := "LeftIsAgreedOn$Island"
def TX1 : u_T := fun k => match k with
  | 0 => ("LeftIsAgreedOn$Island", "ponds", "[I", true)
  | 1 => ("LeftIsAgreedOn$Island", "voter", "[LLeftIsAgreedOn$Voter;", true)
  | 2 => ("LeftIsAgreedOn$Island", "cell", "[I", true)
  | 3 => ("LeftIsAgreedOn$Island", "faces", "[I", true)
  | 4 => ("LeftIsAgreedOn$Island", "wants", "[I", true)
  | 5 => ("LeftIsAgreedOn$Island", "told", "[I", true)
  | 6 => ("LeftIsAgreedOn$Island", "side", "I", false)
  | 7 => ("LeftIsAgreedOn$Island", "people", "I", false)
  | 8 => ("LeftIsAgreedOn$Island", "years", "I", false)
  | 9 => ("LeftIsAgreedOn$Island", "fallen", "I", false)
  | _ => ("LeftIsAgreedOn$Island", "seed", "I", false)
def tyX1 : Nat → FieldType := fun k => match k with
  | 0 => .array .int
  | 1 => .array (.object "LeftIsAgreedOn$Voter")
  | 2 => .array .int
  | 3 => .array .int
  | 4 => .array .int
  | 5 => .array .int
  | 6 => .int
  | 7 => .int
  | 8 => .int
  | 9 => .int
  | _ => .int
abbrev wsX10 : List Cond := u_ws RX1 TX1 11
theorem nmX1 : ∀ a, a < 11 → ∀ b, b < 11 → a ≠ b → (TX1 a).2.1 ≠ (TX1 b).2.1 := by decide +kernel
theorem tyX1_ok : ∀ k, k < 11 → parseFieldDescriptor (TX1 k).2.2.1 = some (tyX1 k) := by decide +kernel
abbrev cX1_init : ByteArray := prog_6_method_1_code
def yX1_init : MethodName := ⟨RX1, "<init>", "()V"⟩
def dkwX1_init_3 : List UInt8 := [181, 0, 37, 177]
abbrev dktX1_init_3 : List UInt8 := dkwX1_init_3 ++ []
def dkwX1_init_2 : List UInt8 := [188, 10, 89, 3, 3, 79, 89, 4, 3, 79, 89, 5, 6, 79, 181, 0, 30, 42, 8, 181, 0, 33, 42, 4]
abbrev dktX1_init_2 : List UInt8 := dkwX1_init_2 ++ dktX1_init_3
def dkwX1_init_1 : List UInt8 := [188, 10, 181, 0, 21, 42, 16, 8, 188, 10, 181, 0, 24, 42, 16, 8, 188, 10, 181, 0, 27, 42, 6]
abbrev dktX1_init_1 : List UInt8 := dkwX1_init_1 ++ dktX1_init_2
def dkwX1_init_0 : List UInt8 := [42, 183, 0, 3, 42, 16, 7, 188, 10, 181, 0, 9, 42, 16, 8, 189, 0, 15, 181, 0, 17, 42, 16, 8]
abbrev dktX1_init_0 : List UInt8 := dkwX1_init_0 ++ dktX1_init_1
theorem dksX1_init_0 : cX1_init.data.toList.drop 0 = dktX1_init_0 := by decide +kernel
theorem dksX1_init_1 : cX1_init.data.toList.drop 24 = dktX1_init_1 := dk_seg dksX1_init_0 24 rfl rfl
theorem dksX1_init_2 : cX1_init.data.toList.drop 47 = dktX1_init_2 := dk_seg dksX1_init_1 23 rfl rfl
theorem dksX1_init_3 : cX1_init.data.toList.drop 71 = dktX1_init_3 := dk_seg dksX1_init_2 24 rfl rfl
theorem dX1_init_0 : decode cX1_init 0 = .ok (.aload_n 0, 1) := dk_42 (dk_at dksX1_init_0 0 rfl rfl)
theorem dX1_init_1 : decode cX1_init 1 = .ok (.invokespecial 3, 3) := dk_183 0 3 (dk_at dksX1_init_0 1 rfl rfl)
theorem dX1_init_4 : decode cX1_init 4 = .ok (.aload_n 0, 1) := dk_42 (dk_at dksX1_init_0 4 rfl rfl)
theorem dX1_init_5 : decode cX1_init 5 = .ok (.bipush 7, 2) := dk_16 7 (dk_at dksX1_init_0 5 rfl rfl)
theorem dX1_init_7 : decode cX1_init 7 = .ok (.newarray .int, 2) := dk_188_10 (dk_at dksX1_init_0 7 rfl rfl)
theorem dX1_init_9 : decode cX1_init 9 = .ok (.putfield 9, 3) := dk_181 0 9 (dk_at dksX1_init_0 9 rfl rfl)
theorem dX1_init_12 : decode cX1_init 12 = .ok (.aload_n 0, 1) := dk_42 (dk_at dksX1_init_0 12 rfl rfl)
theorem dX1_init_13 : decode cX1_init 13 = .ok (.bipush 8, 2) := dk_16 8 (dk_at dksX1_init_0 13 rfl rfl)
theorem dX1_init_15 : decode cX1_init 15 = .ok (.anewarray 15, 3) := dk_189 0 15 (dk_at dksX1_init_0 15 rfl rfl)
theorem dX1_init_18 : decode cX1_init 18 = .ok (.putfield 17, 3) := dk_181 0 17 (dk_at dksX1_init_0 18 rfl rfl)
theorem dX1_init_21 : decode cX1_init 21 = .ok (.aload_n 0, 1) := dk_42 (dk_at dksX1_init_0 21 rfl rfl)
theorem dX1_init_22 : decode cX1_init 22 = .ok (.bipush 8, 2) := dk_16 8 (dk_at dksX1_init_0 22 rfl rfl)
theorem dX1_init_24 : decode cX1_init 24 = .ok (.newarray .int, 2) := dk_188_10 (dk_at dksX1_init_1 0 rfl rfl)
theorem dX1_init_26 : decode cX1_init 26 = .ok (.putfield 21, 3) := dk_181 0 21 (dk_at dksX1_init_1 2 rfl rfl)
theorem dX1_init_29 : decode cX1_init 29 = .ok (.aload_n 0, 1) := dk_42 (dk_at dksX1_init_1 5 rfl rfl)
theorem dX1_init_30 : decode cX1_init 30 = .ok (.bipush 8, 2) := dk_16 8 (dk_at dksX1_init_1 6 rfl rfl)
theorem dX1_init_32 : decode cX1_init 32 = .ok (.newarray .int, 2) := dk_188_10 (dk_at dksX1_init_1 8 rfl rfl)
theorem dX1_init_34 : decode cX1_init 34 = .ok (.putfield 24, 3) := dk_181 0 24 (dk_at dksX1_init_1 10 rfl rfl)
theorem dX1_init_37 : decode cX1_init 37 = .ok (.aload_n 0, 1) := dk_42 (dk_at dksX1_init_1 13 rfl rfl)
theorem dX1_init_38 : decode cX1_init 38 = .ok (.bipush 8, 2) := dk_16 8 (dk_at dksX1_init_1 14 rfl rfl)
theorem dX1_init_40 : decode cX1_init 40 = .ok (.newarray .int, 2) := dk_188_10 (dk_at dksX1_init_1 16 rfl rfl)
theorem dX1_init_42 : decode cX1_init 42 = .ok (.putfield 27, 3) := dk_181 0 27 (dk_at dksX1_init_1 18 rfl rfl)
theorem dX1_init_45 : decode cX1_init 45 = .ok (.aload_n 0, 1) := dk_42 (dk_at dksX1_init_1 21 rfl rfl)
theorem dX1_init_46 : decode cX1_init 46 = .ok (.iconst 3, 1) := dk_6 (dk_at dksX1_init_1 22 rfl rfl)
theorem dX1_init_47 : decode cX1_init 47 = .ok (.newarray .int, 2) := dk_188_10 (dk_at dksX1_init_2 0 rfl rfl)
theorem dX1_init_49 : decode cX1_init 49 = .ok (.dup, 1) := dk_89 (dk_at dksX1_init_2 2 rfl rfl)
theorem dX1_init_50 : decode cX1_init 50 = .ok (.iconst 0, 1) := dk_3 (dk_at dksX1_init_2 3 rfl rfl)
theorem dX1_init_51 : decode cX1_init 51 = .ok (.iconst 0, 1) := dk_3 (dk_at dksX1_init_2 4 rfl rfl)
theorem dX1_init_52 : decode cX1_init 52 = .ok (.iastore, 1) := dk_79 (dk_at dksX1_init_2 5 rfl rfl)
theorem dX1_init_53 : decode cX1_init 53 = .ok (.dup, 1) := dk_89 (dk_at dksX1_init_2 6 rfl rfl)
theorem dX1_init_54 : decode cX1_init 54 = .ok (.iconst 1, 1) := dk_4 (dk_at dksX1_init_2 7 rfl rfl)
theorem dX1_init_55 : decode cX1_init 55 = .ok (.iconst 0, 1) := dk_3 (dk_at dksX1_init_2 8 rfl rfl)
theorem dX1_init_56 : decode cX1_init 56 = .ok (.iastore, 1) := dk_79 (dk_at dksX1_init_2 9 rfl rfl)
theorem dX1_init_57 : decode cX1_init 57 = .ok (.dup, 1) := dk_89 (dk_at dksX1_init_2 10 rfl rfl)
theorem dX1_init_58 : decode cX1_init 58 = .ok (.iconst 2, 1) := dk_5 (dk_at dksX1_init_2 11 rfl rfl)
theorem dX1_init_59 : decode cX1_init 59 = .ok (.iconst 3, 1) := dk_6 (dk_at dksX1_init_2 12 rfl rfl)
theorem dX1_init_60 : decode cX1_init 60 = .ok (.iastore, 1) := dk_79 (dk_at dksX1_init_2 13 rfl rfl)
theorem dX1_init_61 : decode cX1_init 61 = .ok (.putfield 30, 3) := dk_181 0 30 (dk_at dksX1_init_2 14 rfl rfl)
theorem dX1_init_64 : decode cX1_init 64 = .ok (.aload_n 0, 1) := dk_42 (dk_at dksX1_init_2 17 rfl rfl)
theorem dX1_init_65 : decode cX1_init 65 = .ok (.iconst 5, 1) := dk_8 (dk_at dksX1_init_2 18 rfl rfl)
theorem dX1_init_66 : decode cX1_init 66 = .ok (.putfield 33, 3) := dk_181 0 33 (dk_at dksX1_init_2 19 rfl rfl)
theorem dX1_init_69 : decode cX1_init 69 = .ok (.aload_n 0, 1) := dk_42 (dk_at dksX1_init_2 22 rfl rfl)
theorem dX1_init_70 : decode cX1_init 70 = .ok (.iconst 1, 1) := dk_4 (dk_at dksX1_init_2 23 rfl rfl)
theorem dX1_init_71 : decode cX1_init 71 = .ok (.putfield 37, 3) := dk_181 0 37 (dk_at dksX1_init_3 0 rfl rfl)
theorem dX1_init_74 : decode cX1_init 74 = .ok (.return_, 1) := dk_177 (dk_at dksX1_init_3 3 rfl rfl)
abbrev cX1_isPerson : ByteArray := prog_6_method_9_code
def yX1_isPerson : MethodName := ⟨RX1, "isPerson", "(I)Z"⟩
def dkwX1_isPerson_0 : List UInt8 := [27, 3, 42, 180, 0, 47, 4, 100, 184, 0, 70, 172]
abbrev dktX1_isPerson_0 : List UInt8 := dkwX1_isPerson_0 ++ []
theorem dksX1_isPerson_0 : cX1_isPerson.data.toList.drop 0 = dktX1_isPerson_0 := by decide +kernel
theorem dX1_isPerson_0 : decode cX1_isPerson 0 = .ok (.iload_n 1, 1) := dk_27 (dk_at dksX1_isPerson_0 0 rfl rfl)
theorem dX1_isPerson_1 : decode cX1_isPerson 1 = .ok (.iconst 0, 1) := dk_3 (dk_at dksX1_isPerson_0 1 rfl rfl)
theorem dX1_isPerson_2 : decode cX1_isPerson 2 = .ok (.aload_n 0, 1) := dk_42 (dk_at dksX1_isPerson_0 2 rfl rfl)
theorem dX1_isPerson_3 : decode cX1_isPerson 3 = .ok (.getfield 47, 3) := dk_180 0 47 (dk_at dksX1_isPerson_0 3 rfl rfl)
theorem dX1_isPerson_6 : decode cX1_isPerson 6 = .ok (.iconst 1, 1) := dk_4 (dk_at dksX1_isPerson_0 6 rfl rfl)
theorem dX1_isPerson_7 : decode cX1_isPerson 7 = .ok (.isub, 1) := dk_100 (dk_at dksX1_isPerson_0 7 rfl rfl)
theorem dX1_isPerson_8 : decode cX1_isPerson 8 = .ok (.invokestatic 70, 3) := dk_184 0 70 (dk_at dksX1_isPerson_0 8 rfl rfl)
theorem dX1_isPerson_11 : decode cX1_isPerson 11 = .ok (.ireturn, 1) := dk_172 (dk_at dksX1_isPerson_0 11 rfl rfl)
abbrev cX1_ahead : ByteArray := prog_6_method_10_code
def yX1_ahead : MethodName := ⟨RX1, "ahead", "(II)I"⟩
def dkwX1_ahead_2 : List UInt8 := [184, 0, 70, 153, 0, 13, 16, 10, 29, 104, 21, 4, 96, 167, 0, 4, 2, 172]
abbrev dktX1_ahead_2 : List UInt8 := dkwX1_ahead_2 ++ []
def dkwX1_ahead_1 : List UInt8 := [3, 42, 180, 0, 33, 4, 100, 184, 0, 70, 153, 0, 28, 21, 4, 3, 42, 180, 0, 33, 4, 100]
abbrev dktX1_ahead_1 : List UInt8 := dkwX1_ahead_1 ++ dktX1_ahead_2
def dkwX1_ahead_0 : List UInt8 := [27, 16, 10, 108, 178, 0, 74, 28, 46, 96, 62, 27, 16, 10, 112, 178, 0, 77, 28, 46, 96, 54, 4, 29]
abbrev dktX1_ahead_0 : List UInt8 := dkwX1_ahead_0 ++ dktX1_ahead_1
theorem dksX1_ahead_0 : cX1_ahead.data.toList.drop 0 = dktX1_ahead_0 := by decide +kernel
theorem dksX1_ahead_1 : cX1_ahead.data.toList.drop 24 = dktX1_ahead_1 := dk_seg dksX1_ahead_0 24 rfl rfl
theorem dksX1_ahead_2 : cX1_ahead.data.toList.drop 46 = dktX1_ahead_2 := dk_seg dksX1_ahead_1 22 rfl rfl
theorem dX1_ahead_0 : decode cX1_ahead 0 = .ok (.iload_n 1, 1) := dk_27 (dk_at dksX1_ahead_0 0 rfl rfl)
theorem dX1_ahead_1 : decode cX1_ahead 1 = .ok (.bipush 10, 2) := dk_16 10 (dk_at dksX1_ahead_0 1 rfl rfl)
theorem dX1_ahead_3 : decode cX1_ahead 3 = .ok (.idiv, 1) := dk_108 (dk_at dksX1_ahead_0 3 rfl rfl)
theorem dX1_ahead_4 : decode cX1_ahead 4 = .ok (.getstatic 74, 3) := dk_178 0 74 (dk_at dksX1_ahead_0 4 rfl rfl)
theorem dX1_ahead_7 : decode cX1_ahead 7 = .ok (.iload_n 2, 1) := dk_28 (dk_at dksX1_ahead_0 7 rfl rfl)
theorem dX1_ahead_8 : decode cX1_ahead 8 = .ok (.iaload, 1) := dk_46 (dk_at dksX1_ahead_0 8 rfl rfl)
theorem dX1_ahead_9 : decode cX1_ahead 9 = .ok (.iadd, 1) := dk_96 (dk_at dksX1_ahead_0 9 rfl rfl)
theorem dX1_ahead_10 : decode cX1_ahead 10 = .ok (.istore_n 3, 1) := dk_62 (dk_at dksX1_ahead_0 10 rfl rfl)
theorem dX1_ahead_11 : decode cX1_ahead 11 = .ok (.iload_n 1, 1) := dk_27 (dk_at dksX1_ahead_0 11 rfl rfl)
theorem dX1_ahead_12 : decode cX1_ahead 12 = .ok (.bipush 10, 2) := dk_16 10 (dk_at dksX1_ahead_0 12 rfl rfl)
theorem dX1_ahead_14 : decode cX1_ahead 14 = .ok (.irem, 1) := dk_112 (dk_at dksX1_ahead_0 14 rfl rfl)
theorem dX1_ahead_15 : decode cX1_ahead 15 = .ok (.getstatic 77, 3) := dk_178 0 77 (dk_at dksX1_ahead_0 15 rfl rfl)
theorem dX1_ahead_18 : decode cX1_ahead 18 = .ok (.iload_n 2, 1) := dk_28 (dk_at dksX1_ahead_0 18 rfl rfl)
theorem dX1_ahead_19 : decode cX1_ahead 19 = .ok (.iaload, 1) := dk_46 (dk_at dksX1_ahead_0 19 rfl rfl)
theorem dX1_ahead_20 : decode cX1_ahead 20 = .ok (.iadd, 1) := dk_96 (dk_at dksX1_ahead_0 20 rfl rfl)
theorem dX1_ahead_21 : decode cX1_ahead 21 = .ok (.istore 4, 2) := dk_54 4 (dk_at dksX1_ahead_0 21 rfl rfl)
theorem dX1_ahead_23 : decode cX1_ahead 23 = .ok (.iload_n 3, 1) := dk_29 (dk_at dksX1_ahead_0 23 rfl rfl)
theorem dX1_ahead_24 : decode cX1_ahead 24 = .ok (.iconst 0, 1) := dk_3 (dk_at dksX1_ahead_1 0 rfl rfl)
theorem dX1_ahead_25 : decode cX1_ahead 25 = .ok (.aload_n 0, 1) := dk_42 (dk_at dksX1_ahead_1 1 rfl rfl)
theorem dX1_ahead_26 : decode cX1_ahead 26 = .ok (.getfield 33, 3) := dk_180 0 33 (dk_at dksX1_ahead_1 2 rfl rfl)
theorem dX1_ahead_29 : decode cX1_ahead 29 = .ok (.iconst 1, 1) := dk_4 (dk_at dksX1_ahead_1 5 rfl rfl)
theorem dX1_ahead_30 : decode cX1_ahead 30 = .ok (.isub, 1) := dk_100 (dk_at dksX1_ahead_1 6 rfl rfl)
theorem dX1_ahead_31 : decode cX1_ahead 31 = .ok (.invokestatic 70, 3) := dk_184 0 70 (dk_at dksX1_ahead_1 7 rfl rfl)
theorem dX1_ahead_34 : decode cX1_ahead 34 = .ok (.ifCond .eq 28, 3) := dk_153 0 28 (dk_at dksX1_ahead_1 10 rfl rfl)
theorem dX1_ahead_37 : decode cX1_ahead 37 = .ok (.iload 4, 2) := dk_21 4 (dk_at dksX1_ahead_1 13 rfl rfl)
theorem dX1_ahead_39 : decode cX1_ahead 39 = .ok (.iconst 0, 1) := dk_3 (dk_at dksX1_ahead_1 15 rfl rfl)
theorem dX1_ahead_40 : decode cX1_ahead 40 = .ok (.aload_n 0, 1) := dk_42 (dk_at dksX1_ahead_1 16 rfl rfl)
theorem dX1_ahead_41 : decode cX1_ahead 41 = .ok (.getfield 33, 3) := dk_180 0 33 (dk_at dksX1_ahead_1 17 rfl rfl)
theorem dX1_ahead_44 : decode cX1_ahead 44 = .ok (.iconst 1, 1) := dk_4 (dk_at dksX1_ahead_1 20 rfl rfl)
theorem dX1_ahead_45 : decode cX1_ahead 45 = .ok (.isub, 1) := dk_100 (dk_at dksX1_ahead_1 21 rfl rfl)
theorem dX1_ahead_46 : decode cX1_ahead 46 = .ok (.invokestatic 70, 3) := dk_184 0 70 (dk_at dksX1_ahead_2 0 rfl rfl)
theorem dX1_ahead_49 : decode cX1_ahead 49 = .ok (.ifCond .eq 13, 3) := dk_153 0 13 (dk_at dksX1_ahead_2 3 rfl rfl)
theorem dX1_ahead_52 : decode cX1_ahead 52 = .ok (.bipush 10, 2) := dk_16 10 (dk_at dksX1_ahead_2 6 rfl rfl)
theorem dX1_ahead_54 : decode cX1_ahead 54 = .ok (.iload_n 3, 1) := dk_29 (dk_at dksX1_ahead_2 8 rfl rfl)
theorem dX1_ahead_55 : decode cX1_ahead 55 = .ok (.imul, 1) := dk_104 (dk_at dksX1_ahead_2 9 rfl rfl)
theorem dX1_ahead_56 : decode cX1_ahead 56 = .ok (.iload 4, 2) := dk_21 4 (dk_at dksX1_ahead_2 10 rfl rfl)
theorem dX1_ahead_58 : decode cX1_ahead 58 = .ok (.iadd, 1) := dk_96 (dk_at dksX1_ahead_2 12 rfl rfl)
theorem dX1_ahead_59 : decode cX1_ahead 59 = .ok (.goto 4, 3) := dk_167 0 4 (dk_at dksX1_ahead_2 13 rfl rfl)
theorem dX1_ahead_62 : decode cX1_ahead 62 = .ok (.iconst (-1), 1) := dk_2 (dk_at dksX1_ahead_2 16 rfl rfl)
theorem dX1_ahead_63 : decode cX1_ahead 63 = .ok (.ireturn, 1) := dk_172 (dk_at dksX1_ahead_2 17 rfl rfl)
abbrev cX1_isPond : ByteArray := prog_6_method_5_code
def yX1_isPond : MethodName := ⟨RX1, "isPond", "(I)Z"⟩
def dkwX1_isPond_0 : List UInt8 := [42, 180, 0, 9, 27, 16, 10, 108, 46, 27, 16, 10, 112, 184, 0, 60, 172]
abbrev dktX1_isPond_0 : List UInt8 := dkwX1_isPond_0 ++ []
theorem dksX1_isPond_0 : cX1_isPond.data.toList.drop 0 = dktX1_isPond_0 := by decide +kernel
theorem dX1_isPond_0 : decode cX1_isPond 0 = .ok (.aload_n 0, 1) := dk_42 (dk_at dksX1_isPond_0 0 rfl rfl)
theorem dX1_isPond_1 : decode cX1_isPond 1 = .ok (.getfield 9, 3) := dk_180 0 9 (dk_at dksX1_isPond_0 1 rfl rfl)
theorem dX1_isPond_4 : decode cX1_isPond 4 = .ok (.iload_n 1, 1) := dk_27 (dk_at dksX1_isPond_0 4 rfl rfl)
theorem dX1_isPond_5 : decode cX1_isPond 5 = .ok (.bipush 10, 2) := dk_16 10 (dk_at dksX1_isPond_0 5 rfl rfl)
theorem dX1_isPond_7 : decode cX1_isPond 7 = .ok (.idiv, 1) := dk_108 (dk_at dksX1_isPond_0 7 rfl rfl)
theorem dX1_isPond_8 : decode cX1_isPond 8 = .ok (.iaload, 1) := dk_46 (dk_at dksX1_isPond_0 8 rfl rfl)
theorem dX1_isPond_9 : decode cX1_isPond 9 = .ok (.iload_n 1, 1) := dk_27 (dk_at dksX1_isPond_0 9 rfl rfl)
theorem dX1_isPond_10 : decode cX1_isPond 10 = .ok (.bipush 10, 2) := dk_16 10 (dk_at dksX1_isPond_0 10 rfl rfl)
theorem dX1_isPond_12 : decode cX1_isPond 12 = .ok (.irem, 1) := dk_112 (dk_at dksX1_isPond_0 12 rfl rfl)
theorem dX1_isPond_13 : decode cX1_isPond 13 = .ok (.invokestatic 60, 3) := dk_184 0 60 (dk_at dksX1_isPond_0 13 rfl rfl)
theorem dX1_isPond_16 : decode cX1_isPond 16 = .ok (.ireturn, 1) := dk_172 (dk_at dksX1_isPond_0 16 rfl rfl)
abbrev cX1_isByPond : ByteArray := prog_6_method_11_code
def yX1_isByPond : MethodName := ⟨RX1, "isByPond", "(I)Z"⟩
def dkwX1_isByPond_1 : List UInt8 := [42, 21, 4, 182, 0, 84, 153, 0, 7, 4, 167, 0, 4, 3, 128, 61, 132, 3, 1, 167, 255, 217, 28, 172]
abbrev dktX1_isByPond_1 : List UInt8 := dkwX1_isByPond_1 ++ []
def dkwX1_isByPond_0 : List UInt8 := [3, 61, 3, 62, 29, 7, 162, 0, 40, 42, 27, 29, 182, 0, 80, 54, 4, 28, 21, 4, 2, 159, 0, 16]
abbrev dktX1_isByPond_0 : List UInt8 := dkwX1_isByPond_0 ++ dktX1_isByPond_1
theorem dksX1_isByPond_0 : cX1_isByPond.data.toList.drop 0 = dktX1_isByPond_0 := by decide +kernel
theorem dksX1_isByPond_1 : cX1_isByPond.data.toList.drop 24 = dktX1_isByPond_1 := dk_seg dksX1_isByPond_0 24 rfl rfl
theorem dX1_isByPond_0 : decode cX1_isByPond 0 = .ok (.iconst 0, 1) := dk_3 (dk_at dksX1_isByPond_0 0 rfl rfl)
theorem dX1_isByPond_1 : decode cX1_isByPond 1 = .ok (.istore_n 2, 1) := dk_61 (dk_at dksX1_isByPond_0 1 rfl rfl)
theorem dX1_isByPond_2 : decode cX1_isByPond 2 = .ok (.iconst 0, 1) := dk_3 (dk_at dksX1_isByPond_0 2 rfl rfl)
theorem dX1_isByPond_3 : decode cX1_isByPond 3 = .ok (.istore_n 3, 1) := dk_62 (dk_at dksX1_isByPond_0 3 rfl rfl)
theorem dX1_isByPond_4 : decode cX1_isByPond 4 = .ok (.iload_n 3, 1) := dk_29 (dk_at dksX1_isByPond_0 4 rfl rfl)
theorem dX1_isByPond_5 : decode cX1_isByPond 5 = .ok (.iconst 4, 1) := dk_7 (dk_at dksX1_isByPond_0 5 rfl rfl)
theorem dX1_isByPond_6 : decode cX1_isByPond 6 = .ok (.if_icmp .ge 40, 3) := dk_162 0 40 (dk_at dksX1_isByPond_0 6 rfl rfl)
theorem dX1_isByPond_9 : decode cX1_isByPond 9 = .ok (.aload_n 0, 1) := dk_42 (dk_at dksX1_isByPond_0 9 rfl rfl)
theorem dX1_isByPond_10 : decode cX1_isByPond 10 = .ok (.iload_n 1, 1) := dk_27 (dk_at dksX1_isByPond_0 10 rfl rfl)
theorem dX1_isByPond_11 : decode cX1_isByPond 11 = .ok (.iload_n 3, 1) := dk_29 (dk_at dksX1_isByPond_0 11 rfl rfl)
theorem dX1_isByPond_12 : decode cX1_isByPond 12 = .ok (.invokevirtual 80, 3) := dk_182 0 80 (dk_at dksX1_isByPond_0 12 rfl rfl)
theorem dX1_isByPond_15 : decode cX1_isByPond 15 = .ok (.istore 4, 2) := dk_54 4 (dk_at dksX1_isByPond_0 15 rfl rfl)
theorem dX1_isByPond_17 : decode cX1_isByPond 17 = .ok (.iload_n 2, 1) := dk_28 (dk_at dksX1_isByPond_0 17 rfl rfl)
theorem dX1_isByPond_18 : decode cX1_isByPond 18 = .ok (.iload 4, 2) := dk_21 4 (dk_at dksX1_isByPond_0 18 rfl rfl)
theorem dX1_isByPond_20 : decode cX1_isByPond 20 = .ok (.iconst (-1), 1) := dk_2 (dk_at dksX1_isByPond_0 20 rfl rfl)
theorem dX1_isByPond_21 : decode cX1_isByPond 21 = .ok (.if_icmp .eq 16, 3) := dk_159 0 16 (dk_at dksX1_isByPond_0 21 rfl rfl)
theorem dX1_isByPond_24 : decode cX1_isByPond 24 = .ok (.aload_n 0, 1) := dk_42 (dk_at dksX1_isByPond_1 0 rfl rfl)
theorem dX1_isByPond_25 : decode cX1_isByPond 25 = .ok (.iload 4, 2) := dk_21 4 (dk_at dksX1_isByPond_1 1 rfl rfl)
theorem dX1_isByPond_27 : decode cX1_isByPond 27 = .ok (.invokevirtual 84, 3) := dk_182 0 84 (dk_at dksX1_isByPond_1 3 rfl rfl)
theorem dX1_isByPond_30 : decode cX1_isByPond 30 = .ok (.ifCond .eq 7, 3) := dk_153 0 7 (dk_at dksX1_isByPond_1 6 rfl rfl)
theorem dX1_isByPond_33 : decode cX1_isByPond 33 = .ok (.iconst 1, 1) := dk_4 (dk_at dksX1_isByPond_1 9 rfl rfl)
theorem dX1_isByPond_34 : decode cX1_isByPond 34 = .ok (.goto 4, 3) := dk_167 0 4 (dk_at dksX1_isByPond_1 10 rfl rfl)
theorem dX1_isByPond_37 : decode cX1_isByPond 37 = .ok (.iconst 0, 1) := dk_3 (dk_at dksX1_isByPond_1 13 rfl rfl)
theorem dX1_isByPond_38 : decode cX1_isByPond 38 = .ok (.ior, 1) := dk_128 (dk_at dksX1_isByPond_1 14 rfl rfl)
theorem dX1_isByPond_39 : decode cX1_isByPond 39 = .ok (.istore_n 2, 1) := dk_61 (dk_at dksX1_isByPond_1 15 rfl rfl)
theorem dX1_isByPond_40 : decode cX1_isByPond 40 = .ok (.iinc 3 1, 3) := dk_132 3 1 (dk_at dksX1_isByPond_1 16 rfl rfl)
theorem dX1_isByPond_43 : decode cX1_isByPond 43 = .ok (.goto (-39), 3) := dk_167 255 217 (dk_at dksX1_isByPond_1 19 rfl rfl)
theorem dX1_isByPond_46 : decode cX1_isByPond 46 = .ok (.iload_n 2, 1) := dk_28 (dk_at dksX1_isByPond_1 22 rfl rfl)
theorem dX1_isByPond_47 : decode cX1_isByPond 47 = .ok (.ireturn, 1) := dk_172 (dk_at dksX1_isByPond_1 23 rfl rfl)
abbrev cX1_isCell : ByteArray := prog_6_method_4_code
def yX1_isCell : MethodName := ⟨RX1, "isCell", "(I)Z"⟩
def dkwX1_isCell_1 : List UInt8 := [162, 0, 7, 4, 167, 0, 4, 3, 172]
abbrev dktX1_isCell_1 : List UInt8 := dkwX1_isCell_1 ++ []
def dkwX1_isCell_0 : List UInt8 := [27, 155, 0, 29, 27, 16, 10, 108, 42, 180, 0, 33, 162, 0, 18, 27, 16, 10, 112, 42, 180, 0, 33]
abbrev dktX1_isCell_0 : List UInt8 := dkwX1_isCell_0 ++ dktX1_isCell_1
theorem dksX1_isCell_0 : cX1_isCell.data.toList.drop 0 = dktX1_isCell_0 := by decide +kernel
theorem dksX1_isCell_1 : cX1_isCell.data.toList.drop 23 = dktX1_isCell_1 := dk_seg dksX1_isCell_0 23 rfl rfl
theorem dX1_isCell_0 : decode cX1_isCell 0 = .ok (.iload_n 1, 1) := dk_27 (dk_at dksX1_isCell_0 0 rfl rfl)
theorem dX1_isCell_1 : decode cX1_isCell 1 = .ok (.ifCond .lt 29, 3) := dk_155 0 29 (dk_at dksX1_isCell_0 1 rfl rfl)
theorem dX1_isCell_4 : decode cX1_isCell 4 = .ok (.iload_n 1, 1) := dk_27 (dk_at dksX1_isCell_0 4 rfl rfl)
theorem dX1_isCell_5 : decode cX1_isCell 5 = .ok (.bipush 10, 2) := dk_16 10 (dk_at dksX1_isCell_0 5 rfl rfl)
theorem dX1_isCell_7 : decode cX1_isCell 7 = .ok (.idiv, 1) := dk_108 (dk_at dksX1_isCell_0 7 rfl rfl)
theorem dX1_isCell_8 : decode cX1_isCell 8 = .ok (.aload_n 0, 1) := dk_42 (dk_at dksX1_isCell_0 8 rfl rfl)
theorem dX1_isCell_9 : decode cX1_isCell 9 = .ok (.getfield 33, 3) := dk_180 0 33 (dk_at dksX1_isCell_0 9 rfl rfl)
theorem dX1_isCell_12 : decode cX1_isCell 12 = .ok (.if_icmp .ge 18, 3) := dk_162 0 18 (dk_at dksX1_isCell_0 12 rfl rfl)
theorem dX1_isCell_15 : decode cX1_isCell 15 = .ok (.iload_n 1, 1) := dk_27 (dk_at dksX1_isCell_0 15 rfl rfl)
theorem dX1_isCell_16 : decode cX1_isCell 16 = .ok (.bipush 10, 2) := dk_16 10 (dk_at dksX1_isCell_0 16 rfl rfl)
theorem dX1_isCell_18 : decode cX1_isCell 18 = .ok (.irem, 1) := dk_112 (dk_at dksX1_isCell_0 18 rfl rfl)
theorem dX1_isCell_19 : decode cX1_isCell 19 = .ok (.aload_n 0, 1) := dk_42 (dk_at dksX1_isCell_0 19 rfl rfl)
theorem dX1_isCell_20 : decode cX1_isCell 20 = .ok (.getfield 33, 3) := dk_180 0 33 (dk_at dksX1_isCell_0 20 rfl rfl)
theorem dX1_isCell_23 : decode cX1_isCell 23 = .ok (.if_icmp .ge 7, 3) := dk_162 0 7 (dk_at dksX1_isCell_1 0 rfl rfl)
theorem dX1_isCell_26 : decode cX1_isCell 26 = .ok (.iconst 1, 1) := dk_4 (dk_at dksX1_isCell_1 3 rfl rfl)
theorem dX1_isCell_27 : decode cX1_isCell 27 = .ok (.goto 4, 3) := dk_167 0 4 (dk_at dksX1_isCell_1 4 rfl rfl)
theorem dX1_isCell_30 : decode cX1_isCell 30 = .ok (.iconst 0, 1) := dk_3 (dk_at dksX1_isCell_1 7 rfl rfl)
theorem dX1_isCell_31 : decode cX1_isCell 31 = .ok (.ireturn, 1) := dk_172 (dk_at dksX1_isCell_1 8 rfl rfl)
abbrev cX1_mayPond : ByteArray := prog_6_method_7_code
def yX1_mayPond : MethodName := ⟨RX1, "mayPond", "(I)Z"⟩
def dkwX1_mayPond_1 : List UInt8 := [167, 0, 4, 3, 126, 61, 132, 3, 1, 167, 255, 227, 28, 172]
abbrev dktX1_mayPond_1 : List UInt8 := dkwX1_mayPond_1 ++ []
def dkwX1_mayPond_0 : List UInt8 := [4, 61, 3, 62, 29, 42, 180, 0, 47, 162, 0, 27, 28, 42, 180, 0, 21, 29, 46, 27, 159, 0, 7, 4]
abbrev dktX1_mayPond_0 : List UInt8 := dkwX1_mayPond_0 ++ dktX1_mayPond_1
theorem dksX1_mayPond_0 : cX1_mayPond.data.toList.drop 0 = dktX1_mayPond_0 := by decide +kernel
theorem dksX1_mayPond_1 : cX1_mayPond.data.toList.drop 24 = dktX1_mayPond_1 := dk_seg dksX1_mayPond_0 24 rfl rfl
theorem dX1_mayPond_0 : decode cX1_mayPond 0 = .ok (.iconst 1, 1) := dk_4 (dk_at dksX1_mayPond_0 0 rfl rfl)
theorem dX1_mayPond_1 : decode cX1_mayPond 1 = .ok (.istore_n 2, 1) := dk_61 (dk_at dksX1_mayPond_0 1 rfl rfl)
theorem dX1_mayPond_2 : decode cX1_mayPond 2 = .ok (.iconst 0, 1) := dk_3 (dk_at dksX1_mayPond_0 2 rfl rfl)
theorem dX1_mayPond_3 : decode cX1_mayPond 3 = .ok (.istore_n 3, 1) := dk_62 (dk_at dksX1_mayPond_0 3 rfl rfl)
theorem dX1_mayPond_4 : decode cX1_mayPond 4 = .ok (.iload_n 3, 1) := dk_29 (dk_at dksX1_mayPond_0 4 rfl rfl)
theorem dX1_mayPond_5 : decode cX1_mayPond 5 = .ok (.aload_n 0, 1) := dk_42 (dk_at dksX1_mayPond_0 5 rfl rfl)
theorem dX1_mayPond_6 : decode cX1_mayPond 6 = .ok (.getfield 47, 3) := dk_180 0 47 (dk_at dksX1_mayPond_0 6 rfl rfl)
theorem dX1_mayPond_9 : decode cX1_mayPond 9 = .ok (.if_icmp .ge 27, 3) := dk_162 0 27 (dk_at dksX1_mayPond_0 9 rfl rfl)
theorem dX1_mayPond_12 : decode cX1_mayPond 12 = .ok (.iload_n 2, 1) := dk_28 (dk_at dksX1_mayPond_0 12 rfl rfl)
theorem dX1_mayPond_13 : decode cX1_mayPond 13 = .ok (.aload_n 0, 1) := dk_42 (dk_at dksX1_mayPond_0 13 rfl rfl)
theorem dX1_mayPond_14 : decode cX1_mayPond 14 = .ok (.getfield 21, 3) := dk_180 0 21 (dk_at dksX1_mayPond_0 14 rfl rfl)
theorem dX1_mayPond_17 : decode cX1_mayPond 17 = .ok (.iload_n 3, 1) := dk_29 (dk_at dksX1_mayPond_0 17 rfl rfl)
theorem dX1_mayPond_18 : decode cX1_mayPond 18 = .ok (.iaload, 1) := dk_46 (dk_at dksX1_mayPond_0 18 rfl rfl)
theorem dX1_mayPond_19 : decode cX1_mayPond 19 = .ok (.iload_n 1, 1) := dk_27 (dk_at dksX1_mayPond_0 19 rfl rfl)
theorem dX1_mayPond_20 : decode cX1_mayPond 20 = .ok (.if_icmp .eq 7, 3) := dk_159 0 7 (dk_at dksX1_mayPond_0 20 rfl rfl)
theorem dX1_mayPond_23 : decode cX1_mayPond 23 = .ok (.iconst 1, 1) := dk_4 (dk_at dksX1_mayPond_0 23 rfl rfl)
theorem dX1_mayPond_24 : decode cX1_mayPond 24 = .ok (.goto 4, 3) := dk_167 0 4 (dk_at dksX1_mayPond_1 0 rfl rfl)
theorem dX1_mayPond_27 : decode cX1_mayPond 27 = .ok (.iconst 0, 1) := dk_3 (dk_at dksX1_mayPond_1 3 rfl rfl)
theorem dX1_mayPond_28 : decode cX1_mayPond 28 = .ok (.iand, 1) := dk_126 (dk_at dksX1_mayPond_1 4 rfl rfl)
theorem dX1_mayPond_29 : decode cX1_mayPond 29 = .ok (.istore_n 2, 1) := dk_61 (dk_at dksX1_mayPond_1 5 rfl rfl)
theorem dX1_mayPond_30 : decode cX1_mayPond 30 = .ok (.iinc 3 1, 3) := dk_132 3 1 (dk_at dksX1_mayPond_1 6 rfl rfl)
theorem dX1_mayPond_33 : decode cX1_mayPond 33 = .ok (.goto (-29), 3) := dk_167 255 227 (dk_at dksX1_mayPond_1 9 rfl rfl)
theorem dX1_mayPond_36 : decode cX1_mayPond 36 = .ok (.iload_n 2, 1) := dk_28 (dk_at dksX1_mayPond_1 12 rfl rfl)
theorem dX1_mayPond_37 : decode cX1_mayPond 37 = .ok (.ireturn, 1) := dk_172 (dk_at dksX1_mayPond_1 13 rfl rfl)
abbrev cX1_pond : ByteArray := prog_6_method_6_code
def yX1_pond : MethodName := ⟨RX1, "pond", "(IZ)V"⟩
def dkwX1_pond_2 : List UInt8 := [130, 126, 79, 177]
abbrev dktX1_pond_2 : List UInt8 := dkwX1_pond_2 ++ []
def dkwX1_pond_1 : List UInt8 := [16, 10, 112, 120, 128, 167, 0, 21, 42, 180, 0, 9, 27, 16, 10, 108, 46, 4, 27, 16, 10, 112, 120, 2]
abbrev dktX1_pond_1 : List UInt8 := dkwX1_pond_1 ++ dktX1_pond_2
def dkwX1_pond_0 : List UInt8 := [42, 180, 0, 9, 27, 16, 10, 108, 28, 153, 0, 22, 42, 180, 0, 9, 27, 16, 10, 108, 46, 4, 27]
abbrev dktX1_pond_0 : List UInt8 := dkwX1_pond_0 ++ dktX1_pond_1
theorem dksX1_pond_0 : cX1_pond.data.toList.drop 0 = dktX1_pond_0 := by decide +kernel
theorem dksX1_pond_1 : cX1_pond.data.toList.drop 23 = dktX1_pond_1 := dk_seg dksX1_pond_0 23 rfl rfl
theorem dksX1_pond_2 : cX1_pond.data.toList.drop 47 = dktX1_pond_2 := dk_seg dksX1_pond_1 24 rfl rfl
theorem dX1_pond_0 : decode cX1_pond 0 = .ok (.aload_n 0, 1) := dk_42 (dk_at dksX1_pond_0 0 rfl rfl)
theorem dX1_pond_1 : decode cX1_pond 1 = .ok (.getfield 9, 3) := dk_180 0 9 (dk_at dksX1_pond_0 1 rfl rfl)
theorem dX1_pond_4 : decode cX1_pond 4 = .ok (.iload_n 1, 1) := dk_27 (dk_at dksX1_pond_0 4 rfl rfl)
theorem dX1_pond_5 : decode cX1_pond 5 = .ok (.bipush 10, 2) := dk_16 10 (dk_at dksX1_pond_0 5 rfl rfl)
theorem dX1_pond_7 : decode cX1_pond 7 = .ok (.idiv, 1) := dk_108 (dk_at dksX1_pond_0 7 rfl rfl)
theorem dX1_pond_8 : decode cX1_pond 8 = .ok (.iload_n 2, 1) := dk_28 (dk_at dksX1_pond_0 8 rfl rfl)
theorem dX1_pond_9 : decode cX1_pond 9 = .ok (.ifCond .eq 22, 3) := dk_153 0 22 (dk_at dksX1_pond_0 9 rfl rfl)
theorem dX1_pond_12 : decode cX1_pond 12 = .ok (.aload_n 0, 1) := dk_42 (dk_at dksX1_pond_0 12 rfl rfl)
theorem dX1_pond_13 : decode cX1_pond 13 = .ok (.getfield 9, 3) := dk_180 0 9 (dk_at dksX1_pond_0 13 rfl rfl)
theorem dX1_pond_16 : decode cX1_pond 16 = .ok (.iload_n 1, 1) := dk_27 (dk_at dksX1_pond_0 16 rfl rfl)
theorem dX1_pond_17 : decode cX1_pond 17 = .ok (.bipush 10, 2) := dk_16 10 (dk_at dksX1_pond_0 17 rfl rfl)
theorem dX1_pond_19 : decode cX1_pond 19 = .ok (.idiv, 1) := dk_108 (dk_at dksX1_pond_0 19 rfl rfl)
theorem dX1_pond_20 : decode cX1_pond 20 = .ok (.iaload, 1) := dk_46 (dk_at dksX1_pond_0 20 rfl rfl)
theorem dX1_pond_21 : decode cX1_pond 21 = .ok (.iconst 1, 1) := dk_4 (dk_at dksX1_pond_0 21 rfl rfl)
theorem dX1_pond_22 : decode cX1_pond 22 = .ok (.iload_n 1, 1) := dk_27 (dk_at dksX1_pond_0 22 rfl rfl)
theorem dX1_pond_23 : decode cX1_pond 23 = .ok (.bipush 10, 2) := dk_16 10 (dk_at dksX1_pond_1 0 rfl rfl)
theorem dX1_pond_25 : decode cX1_pond 25 = .ok (.irem, 1) := dk_112 (dk_at dksX1_pond_1 2 rfl rfl)
theorem dX1_pond_26 : decode cX1_pond 26 = .ok (.ishl, 1) := dk_120 (dk_at dksX1_pond_1 3 rfl rfl)
theorem dX1_pond_27 : decode cX1_pond 27 = .ok (.ior, 1) := dk_128 (dk_at dksX1_pond_1 4 rfl rfl)
theorem dX1_pond_28 : decode cX1_pond 28 = .ok (.goto 21, 3) := dk_167 0 21 (dk_at dksX1_pond_1 5 rfl rfl)
theorem dX1_pond_31 : decode cX1_pond 31 = .ok (.aload_n 0, 1) := dk_42 (dk_at dksX1_pond_1 8 rfl rfl)
theorem dX1_pond_32 : decode cX1_pond 32 = .ok (.getfield 9, 3) := dk_180 0 9 (dk_at dksX1_pond_1 9 rfl rfl)
theorem dX1_pond_35 : decode cX1_pond 35 = .ok (.iload_n 1, 1) := dk_27 (dk_at dksX1_pond_1 12 rfl rfl)
theorem dX1_pond_36 : decode cX1_pond 36 = .ok (.bipush 10, 2) := dk_16 10 (dk_at dksX1_pond_1 13 rfl rfl)
theorem dX1_pond_38 : decode cX1_pond 38 = .ok (.idiv, 1) := dk_108 (dk_at dksX1_pond_1 15 rfl rfl)
theorem dX1_pond_39 : decode cX1_pond 39 = .ok (.iaload, 1) := dk_46 (dk_at dksX1_pond_1 16 rfl rfl)
theorem dX1_pond_40 : decode cX1_pond 40 = .ok (.iconst 1, 1) := dk_4 (dk_at dksX1_pond_1 17 rfl rfl)
theorem dX1_pond_41 : decode cX1_pond 41 = .ok (.iload_n 1, 1) := dk_27 (dk_at dksX1_pond_1 18 rfl rfl)
theorem dX1_pond_42 : decode cX1_pond 42 = .ok (.bipush 10, 2) := dk_16 10 (dk_at dksX1_pond_1 19 rfl rfl)
theorem dX1_pond_44 : decode cX1_pond 44 = .ok (.irem, 1) := dk_112 (dk_at dksX1_pond_1 21 rfl rfl)
theorem dX1_pond_45 : decode cX1_pond 45 = .ok (.ishl, 1) := dk_120 (dk_at dksX1_pond_1 22 rfl rfl)
theorem dX1_pond_46 : decode cX1_pond 46 = .ok (.iconst (-1), 1) := dk_2 (dk_at dksX1_pond_1 23 rfl rfl)
theorem dX1_pond_47 : decode cX1_pond 47 = .ok (.ixor, 1) := dk_130 (dk_at dksX1_pond_2 0 rfl rfl)
theorem dX1_pond_48 : decode cX1_pond 48 = .ok (.iand, 1) := dk_126 (dk_at dksX1_pond_2 1 rfl rfl)
theorem dX1_pond_49 : decode cX1_pond 49 = .ok (.iastore, 1) := dk_79 (dk_at dksX1_pond_2 2 rfl rfl)
theorem dX1_pond_50 : decode cX1_pond 50 = .ok (.return_, 1) := dk_177 (dk_at dksX1_pond_2 3 rfl rfl)
abbrev cX1_adds : ByteArray := prog_6_method_3_code
def yX1_adds : MethodName := ⟨RX1, "adds", "(IIII)I"⟩
def dkwX1_adds_2 : List UInt8 := [3, 79, 42, 89, 180, 0, 47, 4, 96, 181, 0, 47, 42, 180, 0, 47, 4, 100, 172]
abbrev dktX1_adds_2 : List UInt8 := dkwX1_adds_2 ++ []
def dkwX1_adds_1 : List UInt8 := [180, 0, 47, 29, 79, 42, 180, 0, 24, 42, 180, 0, 47, 21, 4, 79, 42, 180, 0, 27, 42, 180, 0, 47]
abbrev dktX1_adds_1 : List UInt8 := dkwX1_adds_1 ++ dktX1_adds_2
def dkwX1_adds_0 : List UInt8 := [42, 180, 0, 17, 42, 180, 0, 47, 27, 42, 180, 0, 47, 28, 184, 0, 56, 83, 42, 180, 0, 21, 42]
abbrev dktX1_adds_0 : List UInt8 := dkwX1_adds_0 ++ dktX1_adds_1
theorem dksX1_adds_0 : cX1_adds.data.toList.drop 0 = dktX1_adds_0 := by decide +kernel
theorem dksX1_adds_1 : cX1_adds.data.toList.drop 23 = dktX1_adds_1 := dk_seg dksX1_adds_0 23 rfl rfl
theorem dksX1_adds_2 : cX1_adds.data.toList.drop 47 = dktX1_adds_2 := dk_seg dksX1_adds_1 24 rfl rfl
theorem dX1_adds_0 : decode cX1_adds 0 = .ok (.aload_n 0, 1) := dk_42 (dk_at dksX1_adds_0 0 rfl rfl)
theorem dX1_adds_1 : decode cX1_adds 1 = .ok (.getfield 17, 3) := dk_180 0 17 (dk_at dksX1_adds_0 1 rfl rfl)
theorem dX1_adds_4 : decode cX1_adds 4 = .ok (.aload_n 0, 1) := dk_42 (dk_at dksX1_adds_0 4 rfl rfl)
theorem dX1_adds_5 : decode cX1_adds 5 = .ok (.getfield 47, 3) := dk_180 0 47 (dk_at dksX1_adds_0 5 rfl rfl)
theorem dX1_adds_8 : decode cX1_adds 8 = .ok (.iload_n 1, 1) := dk_27 (dk_at dksX1_adds_0 8 rfl rfl)
theorem dX1_adds_9 : decode cX1_adds 9 = .ok (.aload_n 0, 1) := dk_42 (dk_at dksX1_adds_0 9 rfl rfl)
theorem dX1_adds_10 : decode cX1_adds 10 = .ok (.getfield 47, 3) := dk_180 0 47 (dk_at dksX1_adds_0 10 rfl rfl)
theorem dX1_adds_13 : decode cX1_adds 13 = .ok (.iload_n 2, 1) := dk_28 (dk_at dksX1_adds_0 13 rfl rfl)
theorem dX1_adds_14 : decode cX1_adds 14 = .ok (.invokestatic 56, 3) := dk_184 0 56 (dk_at dksX1_adds_0 14 rfl rfl)
theorem dX1_adds_17 : decode cX1_adds 17 = .ok (.aastore, 1) := dk_83 (dk_at dksX1_adds_0 17 rfl rfl)
theorem dX1_adds_18 : decode cX1_adds 18 = .ok (.aload_n 0, 1) := dk_42 (dk_at dksX1_adds_0 18 rfl rfl)
theorem dX1_adds_19 : decode cX1_adds 19 = .ok (.getfield 21, 3) := dk_180 0 21 (dk_at dksX1_adds_0 19 rfl rfl)
theorem dX1_adds_22 : decode cX1_adds 22 = .ok (.aload_n 0, 1) := dk_42 (dk_at dksX1_adds_0 22 rfl rfl)
theorem dX1_adds_23 : decode cX1_adds 23 = .ok (.getfield 47, 3) := dk_180 0 47 (dk_at dksX1_adds_1 0 rfl rfl)
theorem dX1_adds_26 : decode cX1_adds 26 = .ok (.iload_n 3, 1) := dk_29 (dk_at dksX1_adds_1 3 rfl rfl)
theorem dX1_adds_27 : decode cX1_adds 27 = .ok (.iastore, 1) := dk_79 (dk_at dksX1_adds_1 4 rfl rfl)
theorem dX1_adds_28 : decode cX1_adds 28 = .ok (.aload_n 0, 1) := dk_42 (dk_at dksX1_adds_1 5 rfl rfl)
theorem dX1_adds_29 : decode cX1_adds 29 = .ok (.getfield 24, 3) := dk_180 0 24 (dk_at dksX1_adds_1 6 rfl rfl)
theorem dX1_adds_32 : decode cX1_adds 32 = .ok (.aload_n 0, 1) := dk_42 (dk_at dksX1_adds_1 9 rfl rfl)
theorem dX1_adds_33 : decode cX1_adds 33 = .ok (.getfield 47, 3) := dk_180 0 47 (dk_at dksX1_adds_1 10 rfl rfl)
theorem dX1_adds_36 : decode cX1_adds 36 = .ok (.iload 4, 2) := dk_21 4 (dk_at dksX1_adds_1 13 rfl rfl)
theorem dX1_adds_38 : decode cX1_adds 38 = .ok (.iastore, 1) := dk_79 (dk_at dksX1_adds_1 15 rfl rfl)
theorem dX1_adds_39 : decode cX1_adds 39 = .ok (.aload_n 0, 1) := dk_42 (dk_at dksX1_adds_1 16 rfl rfl)
theorem dX1_adds_40 : decode cX1_adds 40 = .ok (.getfield 27, 3) := dk_180 0 27 (dk_at dksX1_adds_1 17 rfl rfl)
theorem dX1_adds_43 : decode cX1_adds 43 = .ok (.aload_n 0, 1) := dk_42 (dk_at dksX1_adds_1 20 rfl rfl)
theorem dX1_adds_44 : decode cX1_adds 44 = .ok (.getfield 47, 3) := dk_180 0 47 (dk_at dksX1_adds_1 21 rfl rfl)
theorem dX1_adds_47 : decode cX1_adds 47 = .ok (.iconst 0, 1) := dk_3 (dk_at dksX1_adds_2 0 rfl rfl)
theorem dX1_adds_48 : decode cX1_adds 48 = .ok (.iastore, 1) := dk_79 (dk_at dksX1_adds_2 1 rfl rfl)
theorem dX1_adds_49 : decode cX1_adds 49 = .ok (.aload_n 0, 1) := dk_42 (dk_at dksX1_adds_2 2 rfl rfl)
theorem dX1_adds_50 : decode cX1_adds 50 = .ok (.dup, 1) := dk_89 (dk_at dksX1_adds_2 3 rfl rfl)
theorem dX1_adds_51 : decode cX1_adds 51 = .ok (.getfield 47, 3) := dk_180 0 47 (dk_at dksX1_adds_2 4 rfl rfl)
theorem dX1_adds_54 : decode cX1_adds 54 = .ok (.iconst 1, 1) := dk_4 (dk_at dksX1_adds_2 7 rfl rfl)
theorem dX1_adds_55 : decode cX1_adds 55 = .ok (.iadd, 1) := dk_96 (dk_at dksX1_adds_2 8 rfl rfl)
theorem dX1_adds_56 : decode cX1_adds 56 = .ok (.putfield 47, 3) := dk_181 0 47 (dk_at dksX1_adds_2 9 rfl rfl)
theorem dX1_adds_59 : decode cX1_adds 59 = .ok (.aload_n 0, 1) := dk_42 (dk_at dksX1_adds_2 12 rfl rfl)
theorem dX1_adds_60 : decode cX1_adds 60 = .ok (.getfield 47, 3) := dk_180 0 47 (dk_at dksX1_adds_2 13 rfl rfl)
theorem dX1_adds_63 : decode cX1_adds 63 = .ok (.iconst 1, 1) := dk_4 (dk_at dksX1_adds_2 16 rfl rfl)
theorem dX1_adds_64 : decode cX1_adds 64 = .ok (.isub, 1) := dk_100 (dk_at dksX1_adds_2 17 rfl rfl)
theorem dX1_adds_65 : decode cX1_adds 65 = .ok (.ireturn, 1) := dk_172 (dk_at dksX1_adds_2 18 rfl rfl)
abbrev cX1_copied : ByteArray := prog_6_method_2_code
def yX1_copied : MethodName := ⟨RX1, "copied", "()LLeftIsAgreedOn$Island;"⟩
def dkwX1_copied_6 : List UInt8 := [176]
abbrev dktX1_copied_6 : List UInt8 := dkwX1_copied_6 ++ []
def dkwX1_copied_5 : List UInt8 := [42, 180, 0, 50, 181, 0, 50, 43, 42, 180, 0, 53, 181, 0, 53, 43, 42, 180, 0, 37, 181, 0, 37, 43]
abbrev dktX1_copied_5 : List UInt8 := dkwX1_copied_5 ++ dktX1_copied_6
def dkwX1_copied_4 : List UInt8 := [180, 0, 30, 190, 184, 0, 41, 43, 42, 180, 0, 33, 181, 0, 33, 43, 42, 180, 0, 47, 181, 0, 47, 43]
abbrev dktX1_copied_4 : List UInt8 := dkwX1_copied_4 ++ dktX1_copied_5
def dkwX1_copied_3 : List UInt8 := [3, 43, 180, 0, 27, 3, 16, 8, 184, 0, 41, 42, 180, 0, 30, 3, 43, 180, 0, 30, 3, 42]
abbrev dktX1_copied_3 : List UInt8 := dkwX1_copied_3 ++ dktX1_copied_4
def dkwX1_copied_2 : List UInt8 := [16, 8, 184, 0, 41, 42, 180, 0, 24, 3, 43, 180, 0, 24, 3, 16, 8, 184, 0, 41, 42, 180, 0, 27]
abbrev dktX1_copied_2 : List UInt8 := dkwX1_copied_2 ++ dktX1_copied_3
def dkwX1_copied_1 : List UInt8 := [180, 0, 17, 3, 43, 180, 0, 17, 3, 16, 8, 184, 0, 41, 42, 180, 0, 21, 3, 43, 180, 0, 21, 3]
abbrev dktX1_copied_1 : List UInt8 := dkwX1_copied_1 ++ dktX1_copied_2
def dkwX1_copied_0 : List UInt8 := [187, 0, 10, 89, 183, 0, 40, 76, 42, 180, 0, 9, 3, 43, 180, 0, 9, 3, 16, 7, 184, 0, 41, 42]
abbrev dktX1_copied_0 : List UInt8 := dkwX1_copied_0 ++ dktX1_copied_1
theorem dksX1_copied_0 : cX1_copied.data.toList.drop 0 = dktX1_copied_0 := by decide +kernel
theorem dksX1_copied_1 : cX1_copied.data.toList.drop 24 = dktX1_copied_1 := dk_seg dksX1_copied_0 24 rfl rfl
theorem dksX1_copied_2 : cX1_copied.data.toList.drop 48 = dktX1_copied_2 := dk_seg dksX1_copied_1 24 rfl rfl
theorem dksX1_copied_3 : cX1_copied.data.toList.drop 72 = dktX1_copied_3 := dk_seg dksX1_copied_2 24 rfl rfl
theorem dksX1_copied_4 : cX1_copied.data.toList.drop 94 = dktX1_copied_4 := dk_seg dksX1_copied_3 22 rfl rfl
theorem dksX1_copied_5 : cX1_copied.data.toList.drop 118 = dktX1_copied_5 := dk_seg dksX1_copied_4 24 rfl rfl
theorem dksX1_copied_6 : cX1_copied.data.toList.drop 142 = dktX1_copied_6 := dk_seg dksX1_copied_5 24 rfl rfl
theorem dX1_copied_0 : decode cX1_copied 0 = .ok (.new 10, 3) := dk_187 0 10 (dk_at dksX1_copied_0 0 rfl rfl)
theorem dX1_copied_3 : decode cX1_copied 3 = .ok (.dup, 1) := dk_89 (dk_at dksX1_copied_0 3 rfl rfl)
theorem dX1_copied_4 : decode cX1_copied 4 = .ok (.invokespecial 40, 3) := dk_183 0 40 (dk_at dksX1_copied_0 4 rfl rfl)
theorem dX1_copied_7 : decode cX1_copied 7 = .ok (.astore_n 1, 1) := dk_76 (dk_at dksX1_copied_0 7 rfl rfl)
theorem dX1_copied_8 : decode cX1_copied 8 = .ok (.aload_n 0, 1) := dk_42 (dk_at dksX1_copied_0 8 rfl rfl)
theorem dX1_copied_9 : decode cX1_copied 9 = .ok (.getfield 9, 3) := dk_180 0 9 (dk_at dksX1_copied_0 9 rfl rfl)
theorem dX1_copied_12 : decode cX1_copied 12 = .ok (.iconst 0, 1) := dk_3 (dk_at dksX1_copied_0 12 rfl rfl)
theorem dX1_copied_13 : decode cX1_copied 13 = .ok (.aload_n 1, 1) := dk_43 (dk_at dksX1_copied_0 13 rfl rfl)
theorem dX1_copied_14 : decode cX1_copied 14 = .ok (.getfield 9, 3) := dk_180 0 9 (dk_at dksX1_copied_0 14 rfl rfl)
theorem dX1_copied_17 : decode cX1_copied 17 = .ok (.iconst 0, 1) := dk_3 (dk_at dksX1_copied_0 17 rfl rfl)
theorem dX1_copied_18 : decode cX1_copied 18 = .ok (.bipush 7, 2) := dk_16 7 (dk_at dksX1_copied_0 18 rfl rfl)
theorem dX1_copied_20 : decode cX1_copied 20 = .ok (.invokestatic 41, 3) := dk_184 0 41 (dk_at dksX1_copied_0 20 rfl rfl)
theorem dX1_copied_23 : decode cX1_copied 23 = .ok (.aload_n 0, 1) := dk_42 (dk_at dksX1_copied_0 23 rfl rfl)
theorem dX1_copied_24 : decode cX1_copied 24 = .ok (.getfield 17, 3) := dk_180 0 17 (dk_at dksX1_copied_1 0 rfl rfl)
theorem dX1_copied_27 : decode cX1_copied 27 = .ok (.iconst 0, 1) := dk_3 (dk_at dksX1_copied_1 3 rfl rfl)
theorem dX1_copied_28 : decode cX1_copied 28 = .ok (.aload_n 1, 1) := dk_43 (dk_at dksX1_copied_1 4 rfl rfl)
theorem dX1_copied_29 : decode cX1_copied 29 = .ok (.getfield 17, 3) := dk_180 0 17 (dk_at dksX1_copied_1 5 rfl rfl)
theorem dX1_copied_32 : decode cX1_copied 32 = .ok (.iconst 0, 1) := dk_3 (dk_at dksX1_copied_1 8 rfl rfl)
theorem dX1_copied_33 : decode cX1_copied 33 = .ok (.bipush 8, 2) := dk_16 8 (dk_at dksX1_copied_1 9 rfl rfl)
theorem dX1_copied_35 : decode cX1_copied 35 = .ok (.invokestatic 41, 3) := dk_184 0 41 (dk_at dksX1_copied_1 11 rfl rfl)
theorem dX1_copied_38 : decode cX1_copied 38 = .ok (.aload_n 0, 1) := dk_42 (dk_at dksX1_copied_1 14 rfl rfl)
theorem dX1_copied_39 : decode cX1_copied 39 = .ok (.getfield 21, 3) := dk_180 0 21 (dk_at dksX1_copied_1 15 rfl rfl)
theorem dX1_copied_42 : decode cX1_copied 42 = .ok (.iconst 0, 1) := dk_3 (dk_at dksX1_copied_1 18 rfl rfl)
theorem dX1_copied_43 : decode cX1_copied 43 = .ok (.aload_n 1, 1) := dk_43 (dk_at dksX1_copied_1 19 rfl rfl)
theorem dX1_copied_44 : decode cX1_copied 44 = .ok (.getfield 21, 3) := dk_180 0 21 (dk_at dksX1_copied_1 20 rfl rfl)
theorem dX1_copied_47 : decode cX1_copied 47 = .ok (.iconst 0, 1) := dk_3 (dk_at dksX1_copied_1 23 rfl rfl)
theorem dX1_copied_48 : decode cX1_copied 48 = .ok (.bipush 8, 2) := dk_16 8 (dk_at dksX1_copied_2 0 rfl rfl)
theorem dX1_copied_50 : decode cX1_copied 50 = .ok (.invokestatic 41, 3) := dk_184 0 41 (dk_at dksX1_copied_2 2 rfl rfl)
theorem dX1_copied_53 : decode cX1_copied 53 = .ok (.aload_n 0, 1) := dk_42 (dk_at dksX1_copied_2 5 rfl rfl)
theorem dX1_copied_54 : decode cX1_copied 54 = .ok (.getfield 24, 3) := dk_180 0 24 (dk_at dksX1_copied_2 6 rfl rfl)
theorem dX1_copied_57 : decode cX1_copied 57 = .ok (.iconst 0, 1) := dk_3 (dk_at dksX1_copied_2 9 rfl rfl)
theorem dX1_copied_58 : decode cX1_copied 58 = .ok (.aload_n 1, 1) := dk_43 (dk_at dksX1_copied_2 10 rfl rfl)
theorem dX1_copied_59 : decode cX1_copied 59 = .ok (.getfield 24, 3) := dk_180 0 24 (dk_at dksX1_copied_2 11 rfl rfl)
theorem dX1_copied_62 : decode cX1_copied 62 = .ok (.iconst 0, 1) := dk_3 (dk_at dksX1_copied_2 14 rfl rfl)
theorem dX1_copied_63 : decode cX1_copied 63 = .ok (.bipush 8, 2) := dk_16 8 (dk_at dksX1_copied_2 15 rfl rfl)
theorem dX1_copied_65 : decode cX1_copied 65 = .ok (.invokestatic 41, 3) := dk_184 0 41 (dk_at dksX1_copied_2 17 rfl rfl)
theorem dX1_copied_68 : decode cX1_copied 68 = .ok (.aload_n 0, 1) := dk_42 (dk_at dksX1_copied_2 20 rfl rfl)
theorem dX1_copied_69 : decode cX1_copied 69 = .ok (.getfield 27, 3) := dk_180 0 27 (dk_at dksX1_copied_2 21 rfl rfl)
theorem dX1_copied_72 : decode cX1_copied 72 = .ok (.iconst 0, 1) := dk_3 (dk_at dksX1_copied_3 0 rfl rfl)
theorem dX1_copied_73 : decode cX1_copied 73 = .ok (.aload_n 1, 1) := dk_43 (dk_at dksX1_copied_3 1 rfl rfl)
theorem dX1_copied_74 : decode cX1_copied 74 = .ok (.getfield 27, 3) := dk_180 0 27 (dk_at dksX1_copied_3 2 rfl rfl)
theorem dX1_copied_77 : decode cX1_copied 77 = .ok (.iconst 0, 1) := dk_3 (dk_at dksX1_copied_3 5 rfl rfl)
theorem dX1_copied_78 : decode cX1_copied 78 = .ok (.bipush 8, 2) := dk_16 8 (dk_at dksX1_copied_3 6 rfl rfl)
theorem dX1_copied_80 : decode cX1_copied 80 = .ok (.invokestatic 41, 3) := dk_184 0 41 (dk_at dksX1_copied_3 8 rfl rfl)
theorem dX1_copied_83 : decode cX1_copied 83 = .ok (.aload_n 0, 1) := dk_42 (dk_at dksX1_copied_3 11 rfl rfl)
theorem dX1_copied_84 : decode cX1_copied 84 = .ok (.getfield 30, 3) := dk_180 0 30 (dk_at dksX1_copied_3 12 rfl rfl)
theorem dX1_copied_87 : decode cX1_copied 87 = .ok (.iconst 0, 1) := dk_3 (dk_at dksX1_copied_3 15 rfl rfl)
theorem dX1_copied_88 : decode cX1_copied 88 = .ok (.aload_n 1, 1) := dk_43 (dk_at dksX1_copied_3 16 rfl rfl)
theorem dX1_copied_89 : decode cX1_copied 89 = .ok (.getfield 30, 3) := dk_180 0 30 (dk_at dksX1_copied_3 17 rfl rfl)
theorem dX1_copied_92 : decode cX1_copied 92 = .ok (.iconst 0, 1) := dk_3 (dk_at dksX1_copied_3 20 rfl rfl)
theorem dX1_copied_93 : decode cX1_copied 93 = .ok (.aload_n 0, 1) := dk_42 (dk_at dksX1_copied_3 21 rfl rfl)
theorem dX1_copied_94 : decode cX1_copied 94 = .ok (.getfield 30, 3) := dk_180 0 30 (dk_at dksX1_copied_4 0 rfl rfl)
theorem dX1_copied_97 : decode cX1_copied 97 = .ok (.arraylength, 1) := dk_190 (dk_at dksX1_copied_4 3 rfl rfl)
theorem dX1_copied_98 : decode cX1_copied 98 = .ok (.invokestatic 41, 3) := dk_184 0 41 (dk_at dksX1_copied_4 4 rfl rfl)
theorem dX1_copied_101 : decode cX1_copied 101 = .ok (.aload_n 1, 1) := dk_43 (dk_at dksX1_copied_4 7 rfl rfl)
theorem dX1_copied_102 : decode cX1_copied 102 = .ok (.aload_n 0, 1) := dk_42 (dk_at dksX1_copied_4 8 rfl rfl)
theorem dX1_copied_103 : decode cX1_copied 103 = .ok (.getfield 33, 3) := dk_180 0 33 (dk_at dksX1_copied_4 9 rfl rfl)
theorem dX1_copied_106 : decode cX1_copied 106 = .ok (.putfield 33, 3) := dk_181 0 33 (dk_at dksX1_copied_4 12 rfl rfl)
theorem dX1_copied_109 : decode cX1_copied 109 = .ok (.aload_n 1, 1) := dk_43 (dk_at dksX1_copied_4 15 rfl rfl)
theorem dX1_copied_110 : decode cX1_copied 110 = .ok (.aload_n 0, 1) := dk_42 (dk_at dksX1_copied_4 16 rfl rfl)
theorem dX1_copied_111 : decode cX1_copied 111 = .ok (.getfield 47, 3) := dk_180 0 47 (dk_at dksX1_copied_4 17 rfl rfl)
theorem dX1_copied_114 : decode cX1_copied 114 = .ok (.putfield 47, 3) := dk_181 0 47 (dk_at dksX1_copied_4 20 rfl rfl)
theorem dX1_copied_117 : decode cX1_copied 117 = .ok (.aload_n 1, 1) := dk_43 (dk_at dksX1_copied_4 23 rfl rfl)
theorem dX1_copied_118 : decode cX1_copied 118 = .ok (.aload_n 0, 1) := dk_42 (dk_at dksX1_copied_5 0 rfl rfl)
theorem dX1_copied_119 : decode cX1_copied 119 = .ok (.getfield 50, 3) := dk_180 0 50 (dk_at dksX1_copied_5 1 rfl rfl)
theorem dX1_copied_122 : decode cX1_copied 122 = .ok (.putfield 50, 3) := dk_181 0 50 (dk_at dksX1_copied_5 4 rfl rfl)
theorem dX1_copied_125 : decode cX1_copied 125 = .ok (.aload_n 1, 1) := dk_43 (dk_at dksX1_copied_5 7 rfl rfl)
theorem dX1_copied_126 : decode cX1_copied 126 = .ok (.aload_n 0, 1) := dk_42 (dk_at dksX1_copied_5 8 rfl rfl)
theorem dX1_copied_127 : decode cX1_copied 127 = .ok (.getfield 53, 3) := dk_180 0 53 (dk_at dksX1_copied_5 9 rfl rfl)
theorem dX1_copied_130 : decode cX1_copied 130 = .ok (.putfield 53, 3) := dk_181 0 53 (dk_at dksX1_copied_5 12 rfl rfl)
theorem dX1_copied_133 : decode cX1_copied 133 = .ok (.aload_n 1, 1) := dk_43 (dk_at dksX1_copied_5 15 rfl rfl)
theorem dX1_copied_134 : decode cX1_copied 134 = .ok (.aload_n 0, 1) := dk_42 (dk_at dksX1_copied_5 16 rfl rfl)
theorem dX1_copied_135 : decode cX1_copied 135 = .ok (.getfield 37, 3) := dk_180 0 37 (dk_at dksX1_copied_5 17 rfl rfl)
theorem dX1_copied_138 : decode cX1_copied 138 = .ok (.putfield 37, 3) := dk_181 0 37 (dk_at dksX1_copied_5 20 rfl rfl)
theorem dX1_copied_141 : decode cX1_copied 141 = .ok (.aload_n 1, 1) := dk_43 (dk_at dksX1_copied_5 23 rfl rfl)
theorem dX1_copied_142 : decode cX1_copied 142 = .ok (.areturn, 1) := dk_176 (dk_at dksX1_copied_6 0 rfl rfl)
abbrev cX1_everybody : ByteArray := prog_6_method_13_code
def yX1_everybody : MethodName := ⟨RX1, "everybody", "()I"⟩
def dkwX1_everybody_0 : List UInt8 := [4, 42, 180, 0, 47, 120, 4, 100, 172]
abbrev dktX1_everybody_0 : List UInt8 := dkwX1_everybody_0 ++ []
theorem dksX1_everybody_0 : cX1_everybody.data.toList.drop 0 = dktX1_everybody_0 := by decide +kernel
theorem dX1_everybody_0 : decode cX1_everybody 0 = .ok (.iconst 1, 1) := dk_4 (dk_at dksX1_everybody_0 0 rfl rfl)
theorem dX1_everybody_1 : decode cX1_everybody 1 = .ok (.aload_n 0, 1) := dk_42 (dk_at dksX1_everybody_0 1 rfl rfl)
theorem dX1_everybody_2 : decode cX1_everybody 2 = .ok (.getfield 47, 3) := dk_180 0 47 (dk_at dksX1_everybody_0 2 rfl rfl)
theorem dX1_everybody_5 : decode cX1_everybody 5 = .ok (.ishl, 1) := dk_120 (dk_at dksX1_everybody_0 5 rfl rfl)
theorem dX1_everybody_6 : decode cX1_everybody 6 = .ok (.iconst 1, 1) := dk_4 (dk_at dksX1_everybody_0 6 rfl rfl)
theorem dX1_everybody_7 : decode cX1_everybody 7 = .ok (.isub, 1) := dk_100 (dk_at dksX1_everybody_0 7 rfl rfl)
theorem dX1_everybody_8 : decode cX1_everybody 8 = .ok (.ireturn, 1) := dk_172 (dk_at dksX1_everybody_0 8 rfl rfl)
abbrev cX1_weight : ByteArray := prog_6_method_12_code
def yX1_weight : MethodName := ⟨RX1, "weight", "(I)I"⟩
def dkwX1_weight_1 : List UInt8 := [180, 0, 17, 29, 50, 180, 0, 88, 167, 0, 4, 3, 96, 61, 132, 3, 1, 167, 255, 221, 28, 172]
abbrev dktX1_weight_1 : List UInt8 := dkwX1_weight_1 ++ []
def dkwX1_weight_0 : List UInt8 := [3, 61, 3, 62, 29, 42, 180, 0, 47, 162, 0, 33, 28, 27, 29, 184, 0, 60, 153, 0, 15, 42]
abbrev dktX1_weight_0 : List UInt8 := dkwX1_weight_0 ++ dktX1_weight_1
theorem dksX1_weight_0 : cX1_weight.data.toList.drop 0 = dktX1_weight_0 := by decide +kernel
theorem dksX1_weight_1 : cX1_weight.data.toList.drop 22 = dktX1_weight_1 := dk_seg dksX1_weight_0 22 rfl rfl
theorem dX1_weight_0 : decode cX1_weight 0 = .ok (.iconst 0, 1) := dk_3 (dk_at dksX1_weight_0 0 rfl rfl)
theorem dX1_weight_1 : decode cX1_weight 1 = .ok (.istore_n 2, 1) := dk_61 (dk_at dksX1_weight_0 1 rfl rfl)
theorem dX1_weight_2 : decode cX1_weight 2 = .ok (.iconst 0, 1) := dk_3 (dk_at dksX1_weight_0 2 rfl rfl)
theorem dX1_weight_3 : decode cX1_weight 3 = .ok (.istore_n 3, 1) := dk_62 (dk_at dksX1_weight_0 3 rfl rfl)
theorem dX1_weight_4 : decode cX1_weight 4 = .ok (.iload_n 3, 1) := dk_29 (dk_at dksX1_weight_0 4 rfl rfl)
theorem dX1_weight_5 : decode cX1_weight 5 = .ok (.aload_n 0, 1) := dk_42 (dk_at dksX1_weight_0 5 rfl rfl)
theorem dX1_weight_6 : decode cX1_weight 6 = .ok (.getfield 47, 3) := dk_180 0 47 (dk_at dksX1_weight_0 6 rfl rfl)
theorem dX1_weight_9 : decode cX1_weight 9 = .ok (.if_icmp .ge 33, 3) := dk_162 0 33 (dk_at dksX1_weight_0 9 rfl rfl)
theorem dX1_weight_12 : decode cX1_weight 12 = .ok (.iload_n 2, 1) := dk_28 (dk_at dksX1_weight_0 12 rfl rfl)
theorem dX1_weight_13 : decode cX1_weight 13 = .ok (.iload_n 1, 1) := dk_27 (dk_at dksX1_weight_0 13 rfl rfl)
theorem dX1_weight_14 : decode cX1_weight 14 = .ok (.iload_n 3, 1) := dk_29 (dk_at dksX1_weight_0 14 rfl rfl)
theorem dX1_weight_15 : decode cX1_weight 15 = .ok (.invokestatic 60, 3) := dk_184 0 60 (dk_at dksX1_weight_0 15 rfl rfl)
theorem dX1_weight_18 : decode cX1_weight 18 = .ok (.ifCond .eq 15, 3) := dk_153 0 15 (dk_at dksX1_weight_0 18 rfl rfl)
theorem dX1_weight_21 : decode cX1_weight 21 = .ok (.aload_n 0, 1) := dk_42 (dk_at dksX1_weight_0 21 rfl rfl)
theorem dX1_weight_22 : decode cX1_weight 22 = .ok (.getfield 17, 3) := dk_180 0 17 (dk_at dksX1_weight_1 0 rfl rfl)
theorem dX1_weight_25 : decode cX1_weight 25 = .ok (.iload_n 3, 1) := dk_29 (dk_at dksX1_weight_1 3 rfl rfl)
theorem dX1_weight_26 : decode cX1_weight 26 = .ok (.aaload, 1) := dk_50 (dk_at dksX1_weight_1 4 rfl rfl)
theorem dX1_weight_27 : decode cX1_weight 27 = .ok (.getfield 88, 3) := dk_180 0 88 (dk_at dksX1_weight_1 5 rfl rfl)
theorem dX1_weight_30 : decode cX1_weight 30 = .ok (.goto 4, 3) := dk_167 0 4 (dk_at dksX1_weight_1 8 rfl rfl)
theorem dX1_weight_33 : decode cX1_weight 33 = .ok (.iconst 0, 1) := dk_3 (dk_at dksX1_weight_1 11 rfl rfl)
theorem dX1_weight_34 : decode cX1_weight 34 = .ok (.iadd, 1) := dk_96 (dk_at dksX1_weight_1 12 rfl rfl)
theorem dX1_weight_35 : decode cX1_weight 35 = .ok (.istore_n 2, 1) := dk_61 (dk_at dksX1_weight_1 13 rfl rfl)
theorem dX1_weight_36 : decode cX1_weight 36 = .ok (.iinc 3 1, 3) := dk_132 3 1 (dk_at dksX1_weight_1 14 rfl rfl)
theorem dX1_weight_39 : decode cX1_weight 39 = .ok (.goto (-35), 3) := dk_167 255 221 (dk_at dksX1_weight_1 17 rfl rfl)
theorem dX1_weight_42 : decode cX1_weight 42 = .ok (.iload_n 2, 1) := dk_28 (dk_at dksX1_weight_1 20 rfl rfl)
theorem dX1_weight_43 : decode cX1_weight 43 = .ok (.ireturn, 1) := dk_172 (dk_at dksX1_weight_1 21 rfl rfl)
abbrev cX1_carries : ByteArray := prog_6_method_15_code
def yX1_carries : MethodName := ⟨RX1, "carries", "(I)I"⟩
def dkwX1_carries_1 : List UInt8 := [158, 0, 7, 4, 167, 0, 17, 28, 156, 0, 7, 3, 167, 0, 9, 42, 180, 0, 30, 3, 46, 172]
abbrev dktX1_carries_1 : List UInt8 := dkwX1_carries_1 ++ []
def dkwX1_carries_0 : List UInt8 := [5, 42, 42, 27, 182, 0, 91, 182, 0, 94, 104, 42, 42, 182, 0, 97, 182, 0, 94, 100, 61, 28]
abbrev dktX1_carries_0 : List UInt8 := dkwX1_carries_0 ++ dktX1_carries_1
theorem dksX1_carries_0 : cX1_carries.data.toList.drop 0 = dktX1_carries_0 := by decide +kernel
theorem dksX1_carries_1 : cX1_carries.data.toList.drop 22 = dktX1_carries_1 := dk_seg dksX1_carries_0 22 rfl rfl
theorem dX1_carries_0 : decode cX1_carries 0 = .ok (.iconst 2, 1) := dk_5 (dk_at dksX1_carries_0 0 rfl rfl)
theorem dX1_carries_1 : decode cX1_carries 1 = .ok (.aload_n 0, 1) := dk_42 (dk_at dksX1_carries_0 1 rfl rfl)
theorem dX1_carries_2 : decode cX1_carries 2 = .ok (.aload_n 0, 1) := dk_42 (dk_at dksX1_carries_0 2 rfl rfl)
theorem dX1_carries_3 : decode cX1_carries 3 = .ok (.iload_n 1, 1) := dk_27 (dk_at dksX1_carries_0 3 rfl rfl)
theorem dX1_carries_4 : decode cX1_carries 4 = .ok (.invokevirtual 91, 3) := dk_182 0 91 (dk_at dksX1_carries_0 4 rfl rfl)
theorem dX1_carries_7 : decode cX1_carries 7 = .ok (.invokevirtual 94, 3) := dk_182 0 94 (dk_at dksX1_carries_0 7 rfl rfl)
theorem dX1_carries_10 : decode cX1_carries 10 = .ok (.imul, 1) := dk_104 (dk_at dksX1_carries_0 10 rfl rfl)
theorem dX1_carries_11 : decode cX1_carries 11 = .ok (.aload_n 0, 1) := dk_42 (dk_at dksX1_carries_0 11 rfl rfl)
theorem dX1_carries_12 : decode cX1_carries 12 = .ok (.aload_n 0, 1) := dk_42 (dk_at dksX1_carries_0 12 rfl rfl)
theorem dX1_carries_13 : decode cX1_carries 13 = .ok (.invokevirtual 97, 3) := dk_182 0 97 (dk_at dksX1_carries_0 13 rfl rfl)
theorem dX1_carries_16 : decode cX1_carries 16 = .ok (.invokevirtual 94, 3) := dk_182 0 94 (dk_at dksX1_carries_0 16 rfl rfl)
theorem dX1_carries_19 : decode cX1_carries 19 = .ok (.isub, 1) := dk_100 (dk_at dksX1_carries_0 19 rfl rfl)
theorem dX1_carries_20 : decode cX1_carries 20 = .ok (.istore_n 2, 1) := dk_61 (dk_at dksX1_carries_0 20 rfl rfl)
theorem dX1_carries_21 : decode cX1_carries 21 = .ok (.iload_n 2, 1) := dk_28 (dk_at dksX1_carries_0 21 rfl rfl)
theorem dX1_carries_22 : decode cX1_carries 22 = .ok (.ifCond .le 7, 3) := dk_158 0 7 (dk_at dksX1_carries_1 0 rfl rfl)
theorem dX1_carries_25 : decode cX1_carries 25 = .ok (.iconst 1, 1) := dk_4 (dk_at dksX1_carries_1 3 rfl rfl)
theorem dX1_carries_26 : decode cX1_carries 26 = .ok (.goto 17, 3) := dk_167 0 17 (dk_at dksX1_carries_1 4 rfl rfl)
theorem dX1_carries_29 : decode cX1_carries 29 = .ok (.iload_n 2, 1) := dk_28 (dk_at dksX1_carries_1 7 rfl rfl)
theorem dX1_carries_30 : decode cX1_carries 30 = .ok (.ifCond .ge 7, 3) := dk_156 0 7 (dk_at dksX1_carries_1 8 rfl rfl)
theorem dX1_carries_33 : decode cX1_carries 33 = .ok (.iconst 0, 1) := dk_3 (dk_at dksX1_carries_1 11 rfl rfl)
theorem dX1_carries_34 : decode cX1_carries 34 = .ok (.goto 9, 3) := dk_167 0 9 (dk_at dksX1_carries_1 12 rfl rfl)
theorem dX1_carries_37 : decode cX1_carries 37 = .ok (.aload_n 0, 1) := dk_42 (dk_at dksX1_carries_1 15 rfl rfl)
theorem dX1_carries_38 : decode cX1_carries 38 = .ok (.getfield 30, 3) := dk_180 0 30 (dk_at dksX1_carries_1 16 rfl rfl)
theorem dX1_carries_41 : decode cX1_carries 41 = .ok (.iconst 0, 1) := dk_3 (dk_at dksX1_carries_1 19 rfl rfl)
theorem dX1_carries_42 : decode cX1_carries 42 = .ok (.iaload, 1) := dk_46 (dk_at dksX1_carries_1 20 rfl rfl)
theorem dX1_carries_43 : decode cX1_carries 43 = .ok (.ireturn, 1) := dk_172 (dk_at dksX1_carries_1 21 rfl rfl)
abbrev cX1_forOne : ByteArray := prog_6_method_14_code
def yX1_forOne : MethodName := ⟨RX1, "forOne", "(I)I"⟩
def dkwX1_forOne_1 : List UInt8 := [29, 120, 167, 0, 4, 3, 128, 61, 132, 3, 1, 167, 255, 225, 28, 27, 130, 172]
abbrev dktX1_forOne_1 : List UInt8 := dkwX1_forOne_1 ++ []
def dkwX1_forOne_0 : List UInt8 := [3, 61, 3, 62, 29, 42, 180, 0, 47, 162, 0, 29, 28, 42, 180, 0, 27, 29, 46, 4, 160, 0, 9, 4]
abbrev dktX1_forOne_0 : List UInt8 := dkwX1_forOne_0 ++ dktX1_forOne_1
theorem dksX1_forOne_0 : cX1_forOne.data.toList.drop 0 = dktX1_forOne_0 := by decide +kernel
theorem dksX1_forOne_1 : cX1_forOne.data.toList.drop 24 = dktX1_forOne_1 := dk_seg dksX1_forOne_0 24 rfl rfl
theorem dX1_forOne_0 : decode cX1_forOne 0 = .ok (.iconst 0, 1) := dk_3 (dk_at dksX1_forOne_0 0 rfl rfl)
theorem dX1_forOne_1 : decode cX1_forOne 1 = .ok (.istore_n 2, 1) := dk_61 (dk_at dksX1_forOne_0 1 rfl rfl)
theorem dX1_forOne_2 : decode cX1_forOne 2 = .ok (.iconst 0, 1) := dk_3 (dk_at dksX1_forOne_0 2 rfl rfl)
theorem dX1_forOne_3 : decode cX1_forOne 3 = .ok (.istore_n 3, 1) := dk_62 (dk_at dksX1_forOne_0 3 rfl rfl)
theorem dX1_forOne_4 : decode cX1_forOne 4 = .ok (.iload_n 3, 1) := dk_29 (dk_at dksX1_forOne_0 4 rfl rfl)
theorem dX1_forOne_5 : decode cX1_forOne 5 = .ok (.aload_n 0, 1) := dk_42 (dk_at dksX1_forOne_0 5 rfl rfl)
theorem dX1_forOne_6 : decode cX1_forOne 6 = .ok (.getfield 47, 3) := dk_180 0 47 (dk_at dksX1_forOne_0 6 rfl rfl)
theorem dX1_forOne_9 : decode cX1_forOne 9 = .ok (.if_icmp .ge 29, 3) := dk_162 0 29 (dk_at dksX1_forOne_0 9 rfl rfl)
theorem dX1_forOne_12 : decode cX1_forOne 12 = .ok (.iload_n 2, 1) := dk_28 (dk_at dksX1_forOne_0 12 rfl rfl)
theorem dX1_forOne_13 : decode cX1_forOne 13 = .ok (.aload_n 0, 1) := dk_42 (dk_at dksX1_forOne_0 13 rfl rfl)
theorem dX1_forOne_14 : decode cX1_forOne 14 = .ok (.getfield 27, 3) := dk_180 0 27 (dk_at dksX1_forOne_0 14 rfl rfl)
theorem dX1_forOne_17 : decode cX1_forOne 17 = .ok (.iload_n 3, 1) := dk_29 (dk_at dksX1_forOne_0 17 rfl rfl)
theorem dX1_forOne_18 : decode cX1_forOne 18 = .ok (.iaload, 1) := dk_46 (dk_at dksX1_forOne_0 18 rfl rfl)
theorem dX1_forOne_19 : decode cX1_forOne 19 = .ok (.iconst 1, 1) := dk_4 (dk_at dksX1_forOne_0 19 rfl rfl)
theorem dX1_forOne_20 : decode cX1_forOne 20 = .ok (.if_icmp .ne 9, 3) := dk_160 0 9 (dk_at dksX1_forOne_0 20 rfl rfl)
theorem dX1_forOne_23 : decode cX1_forOne 23 = .ok (.iconst 1, 1) := dk_4 (dk_at dksX1_forOne_0 23 rfl rfl)
theorem dX1_forOne_24 : decode cX1_forOne 24 = .ok (.iload_n 3, 1) := dk_29 (dk_at dksX1_forOne_1 0 rfl rfl)
theorem dX1_forOne_25 : decode cX1_forOne 25 = .ok (.ishl, 1) := dk_120 (dk_at dksX1_forOne_1 1 rfl rfl)
theorem dX1_forOne_26 : decode cX1_forOne 26 = .ok (.goto 4, 3) := dk_167 0 4 (dk_at dksX1_forOne_1 2 rfl rfl)
theorem dX1_forOne_29 : decode cX1_forOne 29 = .ok (.iconst 0, 1) := dk_3 (dk_at dksX1_forOne_1 5 rfl rfl)
theorem dX1_forOne_30 : decode cX1_forOne 30 = .ok (.ior, 1) := dk_128 (dk_at dksX1_forOne_1 6 rfl rfl)
theorem dX1_forOne_31 : decode cX1_forOne 31 = .ok (.istore_n 2, 1) := dk_61 (dk_at dksX1_forOne_1 7 rfl rfl)
theorem dX1_forOne_32 : decode cX1_forOne 32 = .ok (.iinc 3 1, 3) := dk_132 3 1 (dk_at dksX1_forOne_1 8 rfl rfl)
theorem dX1_forOne_35 : decode cX1_forOne 35 = .ok (.goto (-31), 3) := dk_167 255 225 (dk_at dksX1_forOne_1 11 rfl rfl)
theorem dX1_forOne_38 : decode cX1_forOne 38 = .ok (.iload_n 2, 1) := dk_28 (dk_at dksX1_forOne_1 14 rfl rfl)
theorem dX1_forOne_39 : decode cX1_forOne 39 = .ok (.iload_n 1, 1) := dk_27 (dk_at dksX1_forOne_1 15 rfl rfl)
theorem dX1_forOne_40 : decode cX1_forOne 40 = .ok (.ixor, 1) := dk_130 (dk_at dksX1_forOne_1 16 rfl rfl)
theorem dX1_forOne_41 : decode cX1_forOne 41 = .ok (.ireturn, 1) := dk_172 (dk_at dksX1_forOne_1 17 rfl rfl)
abbrev cX1_year : ByteArray := prog_6_method_16_code
def yX1_year : MethodName := ⟨RX1, "year", "()V"⟩
def dkwX1_year_3 : List UInt8 := [46, 79, 132, 2, 1, 167, 255, 207, 42, 89, 180, 0, 50, 4, 96, 181, 0, 50, 177]
abbrev dktX1_year_3 : List UInt8 := dkwX1_year_3 ++ []
def dkwX1_year_2 : List UInt8 := [180, 0, 30, 5, 46, 162, 0, 14, 4, 42, 180, 0, 27, 28, 46, 100, 167, 0, 9, 42, 180, 0, 27, 28]
abbrev dktX1_year_2 : List UInt8 := dkwX1_year_2 ++ dktX1_year_3
def dkwX1_year_1 : List UInt8 := [79, 3, 61, 28, 42, 180, 0, 47, 162, 0, 47, 42, 180, 0, 27, 28, 42, 16, 12, 182, 0, 104, 42]
abbrev dktX1_year_1 : List UInt8 := dkwX1_year_1 ++ dktX1_year_2
def dkwX1_year_0 : List UInt8 := [42, 3, 182, 0, 101, 60, 42, 180, 0, 30, 4, 42, 180, 0, 30, 3, 46, 79, 42, 180, 0, 30, 3, 27]
abbrev dktX1_year_0 : List UInt8 := dkwX1_year_0 ++ dktX1_year_1
theorem dksX1_year_0 : cX1_year.data.toList.drop 0 = dktX1_year_0 := by decide +kernel
theorem dksX1_year_1 : cX1_year.data.toList.drop 24 = dktX1_year_1 := dk_seg dksX1_year_0 24 rfl rfl
theorem dksX1_year_2 : cX1_year.data.toList.drop 47 = dktX1_year_2 := dk_seg dksX1_year_1 23 rfl rfl
theorem dksX1_year_3 : cX1_year.data.toList.drop 71 = dktX1_year_3 := dk_seg dksX1_year_2 24 rfl rfl
theorem dX1_year_0 : decode cX1_year 0 = .ok (.aload_n 0, 1) := dk_42 (dk_at dksX1_year_0 0 rfl rfl)
theorem dX1_year_1 : decode cX1_year 1 = .ok (.iconst 0, 1) := dk_3 (dk_at dksX1_year_0 1 rfl rfl)
theorem dX1_year_2 : decode cX1_year 2 = .ok (.invokevirtual 101, 3) := dk_182 0 101 (dk_at dksX1_year_0 2 rfl rfl)
theorem dX1_year_5 : decode cX1_year 5 = .ok (.istore_n 1, 1) := dk_60 (dk_at dksX1_year_0 5 rfl rfl)
theorem dX1_year_6 : decode cX1_year 6 = .ok (.aload_n 0, 1) := dk_42 (dk_at dksX1_year_0 6 rfl rfl)
theorem dX1_year_7 : decode cX1_year 7 = .ok (.getfield 30, 3) := dk_180 0 30 (dk_at dksX1_year_0 7 rfl rfl)
theorem dX1_year_10 : decode cX1_year 10 = .ok (.iconst 1, 1) := dk_4 (dk_at dksX1_year_0 10 rfl rfl)
theorem dX1_year_11 : decode cX1_year 11 = .ok (.aload_n 0, 1) := dk_42 (dk_at dksX1_year_0 11 rfl rfl)
theorem dX1_year_12 : decode cX1_year 12 = .ok (.getfield 30, 3) := dk_180 0 30 (dk_at dksX1_year_0 12 rfl rfl)
theorem dX1_year_15 : decode cX1_year 15 = .ok (.iconst 0, 1) := dk_3 (dk_at dksX1_year_0 15 rfl rfl)
theorem dX1_year_16 : decode cX1_year 16 = .ok (.iaload, 1) := dk_46 (dk_at dksX1_year_0 16 rfl rfl)
theorem dX1_year_17 : decode cX1_year 17 = .ok (.iastore, 1) := dk_79 (dk_at dksX1_year_0 17 rfl rfl)
theorem dX1_year_18 : decode cX1_year 18 = .ok (.aload_n 0, 1) := dk_42 (dk_at dksX1_year_0 18 rfl rfl)
theorem dX1_year_19 : decode cX1_year 19 = .ok (.getfield 30, 3) := dk_180 0 30 (dk_at dksX1_year_0 19 rfl rfl)
theorem dX1_year_22 : decode cX1_year 22 = .ok (.iconst 0, 1) := dk_3 (dk_at dksX1_year_0 22 rfl rfl)
theorem dX1_year_23 : decode cX1_year 23 = .ok (.iload_n 1, 1) := dk_27 (dk_at dksX1_year_0 23 rfl rfl)
theorem dX1_year_24 : decode cX1_year 24 = .ok (.iastore, 1) := dk_79 (dk_at dksX1_year_1 0 rfl rfl)
theorem dX1_year_25 : decode cX1_year 25 = .ok (.iconst 0, 1) := dk_3 (dk_at dksX1_year_1 1 rfl rfl)
theorem dX1_year_26 : decode cX1_year 26 = .ok (.istore_n 2, 1) := dk_61 (dk_at dksX1_year_1 2 rfl rfl)
theorem dX1_year_27 : decode cX1_year 27 = .ok (.iload_n 2, 1) := dk_28 (dk_at dksX1_year_1 3 rfl rfl)
theorem dX1_year_28 : decode cX1_year 28 = .ok (.aload_n 0, 1) := dk_42 (dk_at dksX1_year_1 4 rfl rfl)
theorem dX1_year_29 : decode cX1_year 29 = .ok (.getfield 47, 3) := dk_180 0 47 (dk_at dksX1_year_1 5 rfl rfl)
theorem dX1_year_32 : decode cX1_year 32 = .ok (.if_icmp .ge 47, 3) := dk_162 0 47 (dk_at dksX1_year_1 8 rfl rfl)
theorem dX1_year_35 : decode cX1_year 35 = .ok (.aload_n 0, 1) := dk_42 (dk_at dksX1_year_1 11 rfl rfl)
theorem dX1_year_36 : decode cX1_year 36 = .ok (.getfield 27, 3) := dk_180 0 27 (dk_at dksX1_year_1 12 rfl rfl)
theorem dX1_year_39 : decode cX1_year 39 = .ok (.iload_n 2, 1) := dk_28 (dk_at dksX1_year_1 15 rfl rfl)
theorem dX1_year_40 : decode cX1_year 40 = .ok (.aload_n 0, 1) := dk_42 (dk_at dksX1_year_1 16 rfl rfl)
theorem dX1_year_41 : decode cX1_year 41 = .ok (.bipush 12, 2) := dk_16 12 (dk_at dksX1_year_1 17 rfl rfl)
theorem dX1_year_43 : decode cX1_year 43 = .ok (.invokevirtual 104, 3) := dk_182 0 104 (dk_at dksX1_year_1 19 rfl rfl)
theorem dX1_year_46 : decode cX1_year 46 = .ok (.aload_n 0, 1) := dk_42 (dk_at dksX1_year_1 22 rfl rfl)
theorem dX1_year_47 : decode cX1_year 47 = .ok (.getfield 30, 3) := dk_180 0 30 (dk_at dksX1_year_2 0 rfl rfl)
theorem dX1_year_50 : decode cX1_year 50 = .ok (.iconst 2, 1) := dk_5 (dk_at dksX1_year_2 3 rfl rfl)
theorem dX1_year_51 : decode cX1_year 51 = .ok (.iaload, 1) := dk_46 (dk_at dksX1_year_2 4 rfl rfl)
theorem dX1_year_52 : decode cX1_year 52 = .ok (.if_icmp .ge 14, 3) := dk_162 0 14 (dk_at dksX1_year_2 5 rfl rfl)
theorem dX1_year_55 : decode cX1_year 55 = .ok (.iconst 1, 1) := dk_4 (dk_at dksX1_year_2 8 rfl rfl)
theorem dX1_year_56 : decode cX1_year 56 = .ok (.aload_n 0, 1) := dk_42 (dk_at dksX1_year_2 9 rfl rfl)
theorem dX1_year_57 : decode cX1_year 57 = .ok (.getfield 27, 3) := dk_180 0 27 (dk_at dksX1_year_2 10 rfl rfl)
theorem dX1_year_60 : decode cX1_year 60 = .ok (.iload_n 2, 1) := dk_28 (dk_at dksX1_year_2 13 rfl rfl)
theorem dX1_year_61 : decode cX1_year 61 = .ok (.iaload, 1) := dk_46 (dk_at dksX1_year_2 14 rfl rfl)
theorem dX1_year_62 : decode cX1_year 62 = .ok (.isub, 1) := dk_100 (dk_at dksX1_year_2 15 rfl rfl)
theorem dX1_year_63 : decode cX1_year 63 = .ok (.goto 9, 3) := dk_167 0 9 (dk_at dksX1_year_2 16 rfl rfl)
theorem dX1_year_66 : decode cX1_year 66 = .ok (.aload_n 0, 1) := dk_42 (dk_at dksX1_year_2 19 rfl rfl)
theorem dX1_year_67 : decode cX1_year 67 = .ok (.getfield 27, 3) := dk_180 0 27 (dk_at dksX1_year_2 20 rfl rfl)
theorem dX1_year_70 : decode cX1_year 70 = .ok (.iload_n 2, 1) := dk_28 (dk_at dksX1_year_2 23 rfl rfl)
theorem dX1_year_71 : decode cX1_year 71 = .ok (.iaload, 1) := dk_46 (dk_at dksX1_year_3 0 rfl rfl)
theorem dX1_year_72 : decode cX1_year 72 = .ok (.iastore, 1) := dk_79 (dk_at dksX1_year_3 1 rfl rfl)
theorem dX1_year_73 : decode cX1_year 73 = .ok (.iinc 2 1, 3) := dk_132 2 1 (dk_at dksX1_year_3 2 rfl rfl)
theorem dX1_year_76 : decode cX1_year 76 = .ok (.goto (-49), 3) := dk_167 255 207 (dk_at dksX1_year_3 5 rfl rfl)
theorem dX1_year_79 : decode cX1_year 79 = .ok (.aload_n 0, 1) := dk_42 (dk_at dksX1_year_3 8 rfl rfl)
theorem dX1_year_80 : decode cX1_year 80 = .ok (.dup, 1) := dk_89 (dk_at dksX1_year_3 9 rfl rfl)
theorem dX1_year_81 : decode cX1_year 81 = .ok (.getfield 50, 3) := dk_180 0 50 (dk_at dksX1_year_3 10 rfl rfl)
theorem dX1_year_84 : decode cX1_year 84 = .ok (.iconst 1, 1) := dk_4 (dk_at dksX1_year_3 13 rfl rfl)
theorem dX1_year_85 : decode cX1_year 85 = .ok (.iadd, 1) := dk_96 (dk_at dksX1_year_3 14 rfl rfl)
theorem dX1_year_86 : decode cX1_year 86 = .ok (.putfield 50, 3) := dk_181 0 50 (dk_at dksX1_year_3 15 rfl rfl)
theorem dX1_year_89 : decode cX1_year 89 = .ok (.return_, 1) := dk_177 (dk_at dksX1_year_3 18 rfl rfl)
abbrev cX1_draw : ByteArray := prog_6_method_17_code
def yX1_draw : MethodName := ⟨RX1, "draw", "(I)I"⟩
def dkwX1_draw_1 : List UInt8 := [172]
abbrev dktX1_draw_1 : List UInt8 := dkwX1_draw_1 ++ []
def dkwX1_draw_0 : List UInt8 := [42, 42, 180, 0, 37, 18, 107, 104, 17, 48, 57, 96, 181, 0, 37, 42, 180, 0, 37, 16, 16, 124, 27, 112]
abbrev dktX1_draw_0 : List UInt8 := dkwX1_draw_0 ++ dktX1_draw_1
theorem dksX1_draw_0 : cX1_draw.data.toList.drop 0 = dktX1_draw_0 := by decide +kernel
theorem dksX1_draw_1 : cX1_draw.data.toList.drop 24 = dktX1_draw_1 := dk_seg dksX1_draw_0 24 rfl rfl
theorem dX1_draw_0 : decode cX1_draw 0 = .ok (.aload_n 0, 1) := dk_42 (dk_at dksX1_draw_0 0 rfl rfl)
theorem dX1_draw_1 : decode cX1_draw 1 = .ok (.aload_n 0, 1) := dk_42 (dk_at dksX1_draw_0 1 rfl rfl)
theorem dX1_draw_2 : decode cX1_draw 2 = .ok (.getfield 37, 3) := dk_180 0 37 (dk_at dksX1_draw_0 2 rfl rfl)
theorem dX1_draw_5 : decode cX1_draw 5 = .ok (.ldc 107, 2) := dk_18 107 (dk_at dksX1_draw_0 5 rfl rfl)
theorem dX1_draw_7 : decode cX1_draw 7 = .ok (.imul, 1) := dk_104 (dk_at dksX1_draw_0 7 rfl rfl)
theorem dX1_draw_8 : decode cX1_draw 8 = .ok (.sipush 12345, 3) := dk_17 48 57 (dk_at dksX1_draw_0 8 rfl rfl)
theorem dX1_draw_11 : decode cX1_draw 11 = .ok (.iadd, 1) := dk_96 (dk_at dksX1_draw_0 11 rfl rfl)
theorem dX1_draw_12 : decode cX1_draw 12 = .ok (.putfield 37, 3) := dk_181 0 37 (dk_at dksX1_draw_0 12 rfl rfl)
theorem dX1_draw_15 : decode cX1_draw 15 = .ok (.aload_n 0, 1) := dk_42 (dk_at dksX1_draw_0 15 rfl rfl)
theorem dX1_draw_16 : decode cX1_draw 16 = .ok (.getfield 37, 3) := dk_180 0 37 (dk_at dksX1_draw_0 16 rfl rfl)
theorem dX1_draw_19 : decode cX1_draw 19 = .ok (.bipush 16, 2) := dk_16 16 (dk_at dksX1_draw_0 19 rfl rfl)
theorem dX1_draw_21 : decode cX1_draw 21 = .ok (.iushr, 1) := dk_124 (dk_at dksX1_draw_0 21 rfl rfl)
theorem dX1_draw_22 : decode cX1_draw 22 = .ok (.iload_n 1, 1) := dk_27 (dk_at dksX1_draw_0 22 rfl rfl)
theorem dX1_draw_23 : decode cX1_draw 23 = .ok (.irem, 1) := dk_112 (dk_at dksX1_draw_0 23 rfl rfl)
theorem dX1_draw_24 : decode cX1_draw 24 = .ok (.ireturn, 1) := dk_172 (dk_at dksX1_draw_1 0 rfl rfl)
abbrev cX1_manyPonds : ByteArray := prog_6_method_8_code
def yX1_manyPonds : MethodName := ⟨RX1, "manyPonds", "()I"⟩
def dkwX1_manyPonds_1 : List UInt8 := [54, 5, 27, 21, 5, 184, 0, 64, 96, 60, 132, 4, 1, 167, 255, 233, 27, 172]
abbrev dktX1_manyPonds_1 : List UInt8 := dkwX1_manyPonds_1 ++ []
def dkwX1_manyPonds_0 : List UInt8 := [3, 60, 42, 180, 0, 9, 77, 44, 190, 62, 3, 54, 4, 21, 4, 29, 162, 0, 23, 44, 21, 4, 46]
abbrev dktX1_manyPonds_0 : List UInt8 := dkwX1_manyPonds_0 ++ dktX1_manyPonds_1
theorem dksX1_manyPonds_0 : cX1_manyPonds.data.toList.drop 0 = dktX1_manyPonds_0 := by decide +kernel
theorem dksX1_manyPonds_1 : cX1_manyPonds.data.toList.drop 23 = dktX1_manyPonds_1 := dk_seg dksX1_manyPonds_0 23 rfl rfl
theorem dX1_manyPonds_0 : decode cX1_manyPonds 0 = .ok (.iconst 0, 1) := dk_3 (dk_at dksX1_manyPonds_0 0 rfl rfl)
theorem dX1_manyPonds_1 : decode cX1_manyPonds 1 = .ok (.istore_n 1, 1) := dk_60 (dk_at dksX1_manyPonds_0 1 rfl rfl)
theorem dX1_manyPonds_2 : decode cX1_manyPonds 2 = .ok (.aload_n 0, 1) := dk_42 (dk_at dksX1_manyPonds_0 2 rfl rfl)
theorem dX1_manyPonds_3 : decode cX1_manyPonds 3 = .ok (.getfield 9, 3) := dk_180 0 9 (dk_at dksX1_manyPonds_0 3 rfl rfl)
theorem dX1_manyPonds_6 : decode cX1_manyPonds 6 = .ok (.astore_n 2, 1) := dk_77 (dk_at dksX1_manyPonds_0 6 rfl rfl)
theorem dX1_manyPonds_7 : decode cX1_manyPonds 7 = .ok (.aload_n 2, 1) := dk_44 (dk_at dksX1_manyPonds_0 7 rfl rfl)
theorem dX1_manyPonds_8 : decode cX1_manyPonds 8 = .ok (.arraylength, 1) := dk_190 (dk_at dksX1_manyPonds_0 8 rfl rfl)
theorem dX1_manyPonds_9 : decode cX1_manyPonds 9 = .ok (.istore_n 3, 1) := dk_62 (dk_at dksX1_manyPonds_0 9 rfl rfl)
theorem dX1_manyPonds_10 : decode cX1_manyPonds 10 = .ok (.iconst 0, 1) := dk_3 (dk_at dksX1_manyPonds_0 10 rfl rfl)
theorem dX1_manyPonds_11 : decode cX1_manyPonds 11 = .ok (.istore 4, 2) := dk_54 4 (dk_at dksX1_manyPonds_0 11 rfl rfl)
theorem dX1_manyPonds_13 : decode cX1_manyPonds 13 = .ok (.iload 4, 2) := dk_21 4 (dk_at dksX1_manyPonds_0 13 rfl rfl)
theorem dX1_manyPonds_15 : decode cX1_manyPonds 15 = .ok (.iload_n 3, 1) := dk_29 (dk_at dksX1_manyPonds_0 15 rfl rfl)
theorem dX1_manyPonds_16 : decode cX1_manyPonds 16 = .ok (.if_icmp .ge 23, 3) := dk_162 0 23 (dk_at dksX1_manyPonds_0 16 rfl rfl)
theorem dX1_manyPonds_19 : decode cX1_manyPonds 19 = .ok (.aload_n 2, 1) := dk_44 (dk_at dksX1_manyPonds_0 19 rfl rfl)
theorem dX1_manyPonds_20 : decode cX1_manyPonds 20 = .ok (.iload 4, 2) := dk_21 4 (dk_at dksX1_manyPonds_0 20 rfl rfl)
theorem dX1_manyPonds_22 : decode cX1_manyPonds 22 = .ok (.iaload, 1) := dk_46 (dk_at dksX1_manyPonds_0 22 rfl rfl)
theorem dX1_manyPonds_23 : decode cX1_manyPonds 23 = .ok (.istore 5, 2) := dk_54 5 (dk_at dksX1_manyPonds_1 0 rfl rfl)
theorem dX1_manyPonds_25 : decode cX1_manyPonds 25 = .ok (.iload_n 1, 1) := dk_27 (dk_at dksX1_manyPonds_1 2 rfl rfl)
theorem dX1_manyPonds_26 : decode cX1_manyPonds 26 = .ok (.iload 5, 2) := dk_21 5 (dk_at dksX1_manyPonds_1 3 rfl rfl)
theorem dX1_manyPonds_28 : decode cX1_manyPonds 28 = .ok (.invokestatic 64, 3) := dk_184 0 64 (dk_at dksX1_manyPonds_1 5 rfl rfl)
theorem dX1_manyPonds_31 : decode cX1_manyPonds 31 = .ok (.iadd, 1) := dk_96 (dk_at dksX1_manyPonds_1 8 rfl rfl)
theorem dX1_manyPonds_32 : decode cX1_manyPonds 32 = .ok (.istore_n 1, 1) := dk_60 (dk_at dksX1_manyPonds_1 9 rfl rfl)
theorem dX1_manyPonds_33 : decode cX1_manyPonds 33 = .ok (.iinc 4 1, 3) := dk_132 4 1 (dk_at dksX1_manyPonds_1 10 rfl rfl)
theorem dX1_manyPonds_36 : decode cX1_manyPonds 36 = .ok (.goto (-23), 3) := dk_167 255 233 (dk_at dksX1_manyPonds_1 13 rfl rfl)
theorem dX1_manyPonds_39 : decode cX1_manyPonds 39 = .ok (.iload_n 1, 1) := dk_27 (dk_at dksX1_manyPonds_1 16 rfl rfl)
theorem dX1_manyPonds_40 : decode cX1_manyPonds 40 = .ok (.ireturn, 1) := dk_172 (dk_at dksX1_manyPonds_1 17 rfl rfl)
theorem q68 : (Jvm.Cond.initialized "LeftIsAgreedOn$Island") ∈ lw_all := lw_g (lw_at lw_m1 2 rfl) rfl
theorem q110 : (Jvm.Cond.instantiable "LeftIsAgreedOn$Island" (11 : Nat)) ∈ lw_all := lw_g (lw_at lw_m1 44 rfl) rfl
theorem q112 : (Jvm.Cond.instanceMethod ({ cls := "LeftIsAgreedOn$Island", name := "<init>", desc := "()V" } : Jvm.MethodName)) ∈ lw_all := lw_g (lw_at lw_m1 46 rfl) rfl
theorem q113 : (Jvm.Cond.code ({ cls := "LeftIsAgreedOn$Island", name := "<init>", desc := "()V" } : Jvm.MethodName) prog_6_method_1_code (1 : Nat) (Option.none : Option Jvm.ClassFile.FieldType)) ∈ lw_all := lw_g (lw_at lw_m1 47 rfl) rfl
theorem q114 : (Jvm.Cond.methodLink "LeftIsAgreedOn$Island" (3 : Nat) ({ cls := "java/lang/Object", name := "<init>", desc := "()V" } : Jvm.MethodName)) ∈ lw_all := lw_g (lw_at lw_m1 48 rfl) rfl
theorem q115 : (Jvm.Cond.classLink "LeftIsAgreedOn$Island" (15 : Nat) "LeftIsAgreedOn$Voter") ∈ lw_all := lw_g (lw_at lw_m1 49 rfl) rfl
theorem q117 : (Jvm.Cond.fieldLink "LeftIsAgreedOn$Island" (9 : Nat) "LeftIsAgreedOn$Island" "ponds" "[I") ∈ lw_all := lw_g (lw_at lw_m1 51 rfl) rfl
theorem q118 : (Jvm.Cond.fieldLink "LeftIsAgreedOn$Island" (17 : Nat) "LeftIsAgreedOn$Island" "voter" "[LLeftIsAgreedOn$Voter;") ∈ lw_all := lw_g (lw_at lw_m1 52 rfl) rfl
theorem q120 : (Jvm.Cond.fieldLink "LeftIsAgreedOn$Island" (21 : Nat) "LeftIsAgreedOn$Island" "cell" "[I") ∈ lw_all := lw_g (lw_at lw_m1 54 rfl) rfl
theorem q122 : (Jvm.Cond.fieldLink "LeftIsAgreedOn$Island" (24 : Nat) "LeftIsAgreedOn$Island" "faces" "[I") ∈ lw_all := lw_g (lw_at lw_m1 56 rfl) rfl
theorem q124 : (Jvm.Cond.fieldLink "LeftIsAgreedOn$Island" (27 : Nat) "LeftIsAgreedOn$Island" "wants" "[I") ∈ lw_all := lw_g (lw_at lw_m1 58 rfl) rfl
theorem q128 : (Jvm.Cond.fieldLink "LeftIsAgreedOn$Island" (30 : Nat) "LeftIsAgreedOn$Island" "told" "[I") ∈ lw_all := lw_g (lw_at lw_m1 62 rfl) rfl
theorem q132 : (Jvm.Cond.fieldLink "LeftIsAgreedOn$Island" (33 : Nat) "LeftIsAgreedOn$Island" "side" "I") ∈ lw_all := lw_g (lw_at lw_m1 66 rfl) rfl
theorem q135 : (Jvm.Cond.fieldLink "LeftIsAgreedOn$Island" (47 : Nat) "LeftIsAgreedOn$Island" "people" "I") ∈ lw_all := lw_g (lw_at lw_m1 69 rfl) rfl
theorem q138 : (Jvm.Cond.fieldLink "LeftIsAgreedOn$Island" (50 : Nat) "LeftIsAgreedOn$Island" "years" "I") ∈ lw_all := lw_g (lw_at lw_m1 72 rfl) rfl
theorem q140 : (Jvm.Cond.fieldLink "LeftIsAgreedOn$Island" (53 : Nat) "LeftIsAgreedOn$Island" "fallen" "I") ∈ lw_all := lw_g (lw_at lw_m1 74 rfl) rfl
theorem q142 : (Jvm.Cond.fieldLink "LeftIsAgreedOn$Island" (37 : Nat) "LeftIsAgreedOn$Island" "seed" "I") ∈ lw_all := lw_g (lw_at lw_m1 76 rfl) rfl
theorem q144 : (Jvm.Cond.laysFinal "LeftIsAgreedOn$Island" "LeftIsAgreedOn$Island" "ponds" "[I") ∈ lw_all := lw_g (lw_at lw_m1 78 rfl) rfl
theorem q145 : (Jvm.Cond.soleField "LeftIsAgreedOn$Island" "ponds") ∈ lw_all := lw_g (lw_at lw_m1 79 rfl) rfl
theorem q146 : (Jvm.Cond.laysFinal "LeftIsAgreedOn$Island" "LeftIsAgreedOn$Island" "voter" "[LLeftIsAgreedOn$Voter;") ∈ lw_all := lw_g (lw_at lw_m1 80 rfl) rfl
theorem q147 : (Jvm.Cond.soleField "LeftIsAgreedOn$Island" "voter") ∈ lw_all := lw_g (lw_at lw_m1 81 rfl) rfl
theorem q148 : (Jvm.Cond.laysFinal "LeftIsAgreedOn$Island" "LeftIsAgreedOn$Island" "cell" "[I") ∈ lw_all := lw_g (lw_at lw_m1 82 rfl) rfl
theorem q149 : (Jvm.Cond.soleField "LeftIsAgreedOn$Island" "cell") ∈ lw_all := lw_g (lw_at lw_m1 83 rfl) rfl
theorem q150 : (Jvm.Cond.laysFinal "LeftIsAgreedOn$Island" "LeftIsAgreedOn$Island" "faces" "[I") ∈ lw_all := lw_g (lw_at lw_m1 84 rfl) rfl
theorem q151 : (Jvm.Cond.soleField "LeftIsAgreedOn$Island" "faces") ∈ lw_all := lw_g (lw_at lw_m1 85 rfl) rfl
theorem q152 : (Jvm.Cond.laysFinal "LeftIsAgreedOn$Island" "LeftIsAgreedOn$Island" "wants" "[I") ∈ lw_all := lw_g (lw_at lw_m1 86 rfl) rfl
theorem q153 : (Jvm.Cond.soleField "LeftIsAgreedOn$Island" "wants") ∈ lw_all := lw_g (lw_at lw_m1 87 rfl) rfl
theorem q154 : (Jvm.Cond.laysFinal "LeftIsAgreedOn$Island" "LeftIsAgreedOn$Island" "told" "[I") ∈ lw_all := lw_g (lw_at lw_m1 88 rfl) rfl
theorem q155 : (Jvm.Cond.soleField "LeftIsAgreedOn$Island" "told") ∈ lw_all := lw_g (lw_at lw_m1 89 rfl) rfl
theorem q156 : (Jvm.Cond.lays "LeftIsAgreedOn$Island" "LeftIsAgreedOn$Island" "side" "I") ∈ lw_all := lw_g (lw_at lw_m1 90 rfl) rfl
theorem q157 : (Jvm.Cond.soleField "LeftIsAgreedOn$Island" "side") ∈ lw_all := lw_g (lw_at lw_m1 91 rfl) rfl
theorem q158 : (Jvm.Cond.lays "LeftIsAgreedOn$Island" "LeftIsAgreedOn$Island" "people" "I") ∈ lw_all := lw_g (lw_at lw_m1 92 rfl) rfl
theorem q159 : (Jvm.Cond.soleField "LeftIsAgreedOn$Island" "people") ∈ lw_all := lw_g (lw_at lw_m1 93 rfl) rfl
theorem q160 : (Jvm.Cond.lays "LeftIsAgreedOn$Island" "LeftIsAgreedOn$Island" "years" "I") ∈ lw_all := lw_g (lw_at lw_m1 94 rfl) rfl
theorem q161 : (Jvm.Cond.soleField "LeftIsAgreedOn$Island" "years") ∈ lw_all := lw_g (lw_at lw_m1 95 rfl) rfl
theorem q162 : (Jvm.Cond.lays "LeftIsAgreedOn$Island" "LeftIsAgreedOn$Island" "fallen" "I") ∈ lw_all := lw_g (lw_at lw_m1 96 rfl) rfl
theorem q163 : (Jvm.Cond.soleField "LeftIsAgreedOn$Island" "fallen") ∈ lw_all := lw_g (lw_at lw_m1 97 rfl) rfl
theorem q164 : (Jvm.Cond.lays "LeftIsAgreedOn$Island" "LeftIsAgreedOn$Island" "seed" "I") ∈ lw_all := lw_g (lw_at lw_m1 98 rfl) rfl
theorem q165 : (Jvm.Cond.soleField "LeftIsAgreedOn$Island" "seed") ∈ lw_all := lw_g (lw_at lw_m1 99 rfl) rfl
theorem q166 : (Jvm.Cond.superclass "LeftIsAgreedOn$Island" "java/lang/Object") ∈ lw_all := lw_g (lw_at lw_m1 100 rfl) rfl
theorem q492 : (Jvm.Cond.instanceMethod ({ cls := "LeftIsAgreedOn$Island", name := "isPerson", desc := "(I)Z" } : Jvm.MethodName)) ∈ lw_all := lw_g (lw_at lw_m2 186 rfl) rfl
theorem q493 : (Jvm.Cond.selects "LeftIsAgreedOn$Island" ({ cls := "LeftIsAgreedOn$Island", name := "isPerson", desc := "(I)Z" } : Jvm.MethodName) ({ cls := "LeftIsAgreedOn$Island", name := "isPerson", desc := "(I)Z" } : Jvm.MethodName)) ∈ lw_all := lw_g (lw_at lw_m2 187 rfl) rfl
theorem q494 : (Jvm.Cond.code ({ cls := "LeftIsAgreedOn$Island", name := "isPerson", desc := "(I)Z" } : Jvm.MethodName) prog_6_method_9_code (2 : Nat) (Option.some Jvm.ClassFile.FieldType.boolean)) ∈ lw_all := lw_g (lw_at lw_m2 188 rfl) rfl
theorem q495 : (Jvm.Cond.methodLinkNest "LeftIsAgreedOn$Island" (70 : Nat) ({ cls := "LeftIsAgreedOn", name := "isIn", desc := "(III)Z" } : Jvm.MethodName) "LeftIsAgreedOn") ∈ lw_tbl := lw_at lw_m2 189 rfl
theorem q528 : (Jvm.Cond.instanceMethod ({ cls := "LeftIsAgreedOn$Island", name := "ahead", desc := "(II)I" } : Jvm.MethodName)) ∈ lw_all := lw_g (lw_at lw_m2 222 rfl) rfl
theorem q529 : (Jvm.Cond.selects "LeftIsAgreedOn$Island" ({ cls := "LeftIsAgreedOn$Island", name := "ahead", desc := "(II)I" } : Jvm.MethodName) ({ cls := "LeftIsAgreedOn$Island", name := "ahead", desc := "(II)I" } : Jvm.MethodName)) ∈ lw_all := lw_g (lw_at lw_m2 223 rfl) rfl
theorem q530 : (Jvm.Cond.code ({ cls := "LeftIsAgreedOn$Island", name := "ahead", desc := "(II)I" } : Jvm.MethodName) prog_6_method_10_code (5 : Nat) (Option.some Jvm.ClassFile.FieldType.int)) ∈ lw_all := lw_g (lw_at lw_m2 224 rfl) rfl
theorem q531 : (Jvm.Cond.fieldLinkNest "LeftIsAgreedOn$Island" (74 : Nat) "LeftIsAgreedOn" "DOWN" "[I" "LeftIsAgreedOn") ∈ lw_tbl := lw_at lw_m2 225 rfl
theorem q533 : (Jvm.Cond.fieldLinkNest "LeftIsAgreedOn$Island" (77 : Nat) "LeftIsAgreedOn" "ACROSS" "[I" "LeftIsAgreedOn") ∈ lw_tbl := lw_at lw_m2 227 rfl
theorem q536 : (Jvm.Cond.instanceMethod ({ cls := "LeftIsAgreedOn$Island", name := "isPond", desc := "(I)Z" } : Jvm.MethodName)) ∈ lw_all := lw_g (lw_at lw_m2 230 rfl) rfl
theorem q537 : (Jvm.Cond.selects "LeftIsAgreedOn$Island" ({ cls := "LeftIsAgreedOn$Island", name := "isPond", desc := "(I)Z" } : Jvm.MethodName) ({ cls := "LeftIsAgreedOn$Island", name := "isPond", desc := "(I)Z" } : Jvm.MethodName)) ∈ lw_all := lw_g (lw_at lw_m2 231 rfl) rfl
theorem q538 : (Jvm.Cond.code ({ cls := "LeftIsAgreedOn$Island", name := "isPond", desc := "(I)Z" } : Jvm.MethodName) prog_6_method_5_code (2 : Nat) (Option.some Jvm.ClassFile.FieldType.boolean)) ∈ lw_all := lw_g (lw_at lw_m2 232 rfl) rfl
theorem q539 : (Jvm.Cond.methodLinkNest "LeftIsAgreedOn$Island" (60 : Nat) ({ cls := "LeftIsAgreedOn", name := "has", desc := "(II)Z" } : Jvm.MethodName) "LeftIsAgreedOn") ∈ lw_tbl := lw_at lw_m2 233 rfl
theorem q573 : (Jvm.Cond.instanceMethod ({ cls := "LeftIsAgreedOn$Island", name := "isByPond", desc := "(I)Z" } : Jvm.MethodName)) ∈ lw_all := lw_g (lw_at lw_m3 27 rfl) rfl
theorem q574 : (Jvm.Cond.selects "LeftIsAgreedOn$Island" ({ cls := "LeftIsAgreedOn$Island", name := "isByPond", desc := "(I)Z" } : Jvm.MethodName) ({ cls := "LeftIsAgreedOn$Island", name := "isByPond", desc := "(I)Z" } : Jvm.MethodName)) ∈ lw_all := lw_g (lw_at lw_m3 28 rfl) rfl
theorem q575 : (Jvm.Cond.code ({ cls := "LeftIsAgreedOn$Island", name := "isByPond", desc := "(I)Z" } : Jvm.MethodName) prog_6_method_11_code (5 : Nat) (Option.some Jvm.ClassFile.FieldType.boolean)) ∈ lw_all := lw_g (lw_at lw_m3 29 rfl) rfl
theorem q576 : (Jvm.Cond.methodLink "LeftIsAgreedOn$Island" (80 : Nat) ({ cls := "LeftIsAgreedOn$Island", name := "ahead", desc := "(II)I" } : Jvm.MethodName)) ∈ lw_all := lw_g (lw_at lw_m3 30 rfl) rfl
theorem q577 : (Jvm.Cond.methodLink "LeftIsAgreedOn$Island" (84 : Nat) ({ cls := "LeftIsAgreedOn$Island", name := "isPond", desc := "(I)Z" } : Jvm.MethodName)) ∈ lw_all := lw_g (lw_at lw_m3 31 rfl) rfl
theorem q599 : (Jvm.Cond.instanceMethod ({ cls := "LeftIsAgreedOn$Island", name := "isCell", desc := "(I)Z" } : Jvm.MethodName)) ∈ lw_all := lw_g (lw_at lw_m3 53 rfl) rfl
theorem q600 : (Jvm.Cond.selects "LeftIsAgreedOn$Island" ({ cls := "LeftIsAgreedOn$Island", name := "isCell", desc := "(I)Z" } : Jvm.MethodName) ({ cls := "LeftIsAgreedOn$Island", name := "isCell", desc := "(I)Z" } : Jvm.MethodName)) ∈ lw_all := lw_g (lw_at lw_m3 54 rfl) rfl
theorem q601 : (Jvm.Cond.code ({ cls := "LeftIsAgreedOn$Island", name := "isCell", desc := "(I)Z" } : Jvm.MethodName) prog_6_method_4_code (2 : Nat) (Option.some Jvm.ClassFile.FieldType.boolean)) ∈ lw_all := lw_g (lw_at lw_m3 55 rfl) rfl
theorem q603 : (Jvm.Cond.instanceMethod ({ cls := "LeftIsAgreedOn$Island", name := "mayPond", desc := "(I)Z" } : Jvm.MethodName)) ∈ lw_all := lw_g (lw_at lw_m3 57 rfl) rfl
theorem q604 : (Jvm.Cond.selects "LeftIsAgreedOn$Island" ({ cls := "LeftIsAgreedOn$Island", name := "mayPond", desc := "(I)Z" } : Jvm.MethodName) ({ cls := "LeftIsAgreedOn$Island", name := "mayPond", desc := "(I)Z" } : Jvm.MethodName)) ∈ lw_all := lw_g (lw_at lw_m3 58 rfl) rfl
theorem q605 : (Jvm.Cond.code ({ cls := "LeftIsAgreedOn$Island", name := "mayPond", desc := "(I)Z" } : Jvm.MethodName) prog_6_method_7_code (4 : Nat) (Option.some Jvm.ClassFile.FieldType.boolean)) ∈ lw_all := lw_g (lw_at lw_m3 59 rfl) rfl
theorem q608 : (Jvm.Cond.instanceMethod ({ cls := "LeftIsAgreedOn$Island", name := "pond", desc := "(IZ)V" } : Jvm.MethodName)) ∈ lw_all := lw_g (lw_at lw_m3 62 rfl) rfl
theorem q609 : (Jvm.Cond.selects "LeftIsAgreedOn$Island" ({ cls := "LeftIsAgreedOn$Island", name := "pond", desc := "(IZ)V" } : Jvm.MethodName) ({ cls := "LeftIsAgreedOn$Island", name := "pond", desc := "(IZ)V" } : Jvm.MethodName)) ∈ lw_all := lw_g (lw_at lw_m3 63 rfl) rfl
theorem q610 : (Jvm.Cond.code ({ cls := "LeftIsAgreedOn$Island", name := "pond", desc := "(IZ)V" } : Jvm.MethodName) prog_6_method_6_code (3 : Nat) (Option.none : Option Jvm.ClassFile.FieldType)) ∈ lw_all := lw_g (lw_at lw_m3 64 rfl) rfl
theorem q619 : (Jvm.Cond.instanceMethod ({ cls := "LeftIsAgreedOn$Island", name := "adds", desc := "(IIII)I" } : Jvm.MethodName)) ∈ lw_all := lw_g (lw_at lw_m3 73 rfl) rfl
theorem q620 : (Jvm.Cond.selects "LeftIsAgreedOn$Island" ({ cls := "LeftIsAgreedOn$Island", name := "adds", desc := "(IIII)I" } : Jvm.MethodName) ({ cls := "LeftIsAgreedOn$Island", name := "adds", desc := "(IIII)I" } : Jvm.MethodName)) ∈ lw_all := lw_g (lw_at lw_m3 74 rfl) rfl
theorem q621 : (Jvm.Cond.code ({ cls := "LeftIsAgreedOn$Island", name := "adds", desc := "(IIII)I" } : Jvm.MethodName) prog_6_method_3_code (5 : Nat) (Option.some Jvm.ClassFile.FieldType.int)) ∈ lw_all := lw_g (lw_at lw_m3 75 rfl) rfl
theorem q622 : (Jvm.Cond.methodLinkNest "LeftIsAgreedOn$Island" (56 : Nat) ({ cls := "LeftIsAgreedOn", name := "made", desc := "(III)LLeftIsAgreedOn$Voter;" } : Jvm.MethodName) "LeftIsAgreedOn") ∈ lw_tbl := lw_at lw_m3 76 rfl
theorem q635 : (Jvm.Cond.fieldLink "LeftIsAgreedOn$Island" (88 : Nat) "LeftIsAgreedOn$Voter" "a" "I") ∈ lw_all := lw_g (lw_at lw_m3 89 rfl) rfl
theorem q708 : (Jvm.Cond.instanceMethod ({ cls := "LeftIsAgreedOn$Island", name := "copied", desc := "()LLeftIsAgreedOn$Island;" } : Jvm.MethodName)) ∈ lw_all := lw_g (lw_at lw_m3 162 rfl) rfl
theorem q709 : (Jvm.Cond.selects "LeftIsAgreedOn$Island" ({ cls := "LeftIsAgreedOn$Island", name := "copied", desc := "()LLeftIsAgreedOn$Island;" } : Jvm.MethodName) ({ cls := "LeftIsAgreedOn$Island", name := "copied", desc := "()LLeftIsAgreedOn$Island;" } : Jvm.MethodName)) ∈ lw_all := lw_g (lw_at lw_m3 163 rfl) rfl
theorem q710 : (Jvm.Cond.code ({ cls := "LeftIsAgreedOn$Island", name := "copied", desc := "()LLeftIsAgreedOn$Island;" } : Jvm.MethodName) prog_6_method_2_code (2 : Nat) (Option.some (Jvm.ClassFile.FieldType.object "LeftIsAgreedOn$Island"))) ∈ lw_all := lw_g (lw_at lw_m3 164 rfl) rfl
theorem q711 : (Jvm.Cond.classLink "LeftIsAgreedOn$Island" (10 : Nat) "LeftIsAgreedOn$Island") ∈ lw_all := lw_g (lw_at lw_m3 165 rfl) rfl
theorem q712 : (Jvm.Cond.methodLink "LeftIsAgreedOn$Island" (40 : Nat) ({ cls := "LeftIsAgreedOn$Island", name := "<init>", desc := "()V" } : Jvm.MethodName)) ∈ lw_all := lw_g (lw_at lw_m3 166 rfl) rfl
theorem q713 : (Jvm.Cond.methodLink "LeftIsAgreedOn$Island" (41 : Nat) ({ cls := "java/lang/System", name := "arraycopy", desc := "(Ljava/lang/Object;ILjava/lang/Object;II)V" } : Jvm.MethodName)) ∈ lw_all := lw_g (lw_at lw_m3 167 rfl) rfl
theorem q1100 : (Jvm.Cond.instanceMethod ({ cls := "LeftIsAgreedOn$Island", name := "everybody", desc := "()I" } : Jvm.MethodName)) ∈ lw_all := lw_g (lw_at lw_m5 74 rfl) rfl
theorem q1101 : (Jvm.Cond.selects "LeftIsAgreedOn$Island" ({ cls := "LeftIsAgreedOn$Island", name := "everybody", desc := "()I" } : Jvm.MethodName) ({ cls := "LeftIsAgreedOn$Island", name := "everybody", desc := "()I" } : Jvm.MethodName)) ∈ lw_all := lw_g (lw_at lw_m5 75 rfl) rfl
theorem q1102 : (Jvm.Cond.code ({ cls := "LeftIsAgreedOn$Island", name := "everybody", desc := "()I" } : Jvm.MethodName) prog_6_method_13_code (1 : Nat) (Option.some Jvm.ClassFile.FieldType.int)) ∈ lw_all := lw_g (lw_at lw_m5 76 rfl) rfl
theorem q1104 : (Jvm.Cond.instanceMethod ({ cls := "LeftIsAgreedOn$Island", name := "weight", desc := "(I)I" } : Jvm.MethodName)) ∈ lw_all := lw_g (lw_at lw_m5 78 rfl) rfl
theorem q1105 : (Jvm.Cond.selects "LeftIsAgreedOn$Island" ({ cls := "LeftIsAgreedOn$Island", name := "weight", desc := "(I)I" } : Jvm.MethodName) ({ cls := "LeftIsAgreedOn$Island", name := "weight", desc := "(I)I" } : Jvm.MethodName)) ∈ lw_all := lw_g (lw_at lw_m5 79 rfl) rfl
theorem q1106 : (Jvm.Cond.code ({ cls := "LeftIsAgreedOn$Island", name := "weight", desc := "(I)I" } : Jvm.MethodName) prog_6_method_12_code (4 : Nat) (Option.some Jvm.ClassFile.FieldType.int)) ∈ lw_all := lw_g (lw_at lw_m5 80 rfl) rfl
theorem q1241 : (Jvm.Cond.instanceMethod ({ cls := "LeftIsAgreedOn$Island", name := "carries", desc := "(I)I" } : Jvm.MethodName)) ∈ lw_all := lw_g (lw_at lw_m5 215 rfl) rfl
theorem q1242 : (Jvm.Cond.selects "LeftIsAgreedOn$Island" ({ cls := "LeftIsAgreedOn$Island", name := "carries", desc := "(I)I" } : Jvm.MethodName) ({ cls := "LeftIsAgreedOn$Island", name := "carries", desc := "(I)I" } : Jvm.MethodName)) ∈ lw_all := lw_g (lw_at lw_m5 216 rfl) rfl
theorem q1243 : (Jvm.Cond.code ({ cls := "LeftIsAgreedOn$Island", name := "carries", desc := "(I)I" } : Jvm.MethodName) prog_6_method_15_code (3 : Nat) (Option.some Jvm.ClassFile.FieldType.int)) ∈ lw_all := lw_g (lw_at lw_m5 217 rfl) rfl
theorem q1244 : (Jvm.Cond.methodLink "LeftIsAgreedOn$Island" (91 : Nat) ({ cls := "LeftIsAgreedOn$Island", name := "forOne", desc := "(I)I" } : Jvm.MethodName)) ∈ lw_all := lw_g (lw_at lw_m5 218 rfl) rfl
theorem q1245 : (Jvm.Cond.instanceMethod ({ cls := "LeftIsAgreedOn$Island", name := "forOne", desc := "(I)I" } : Jvm.MethodName)) ∈ lw_all := lw_g (lw_at lw_m5 219 rfl) rfl
theorem q1246 : (Jvm.Cond.selects "LeftIsAgreedOn$Island" ({ cls := "LeftIsAgreedOn$Island", name := "forOne", desc := "(I)I" } : Jvm.MethodName) ({ cls := "LeftIsAgreedOn$Island", name := "forOne", desc := "(I)I" } : Jvm.MethodName)) ∈ lw_all := lw_g (lw_at lw_m5 220 rfl) rfl
theorem q1247 : (Jvm.Cond.code ({ cls := "LeftIsAgreedOn$Island", name := "forOne", desc := "(I)I" } : Jvm.MethodName) prog_6_method_14_code (4 : Nat) (Option.some Jvm.ClassFile.FieldType.int)) ∈ lw_all := lw_g (lw_at lw_m5 221 rfl) rfl
theorem q1248 : (Jvm.Cond.methodLink "LeftIsAgreedOn$Island" (94 : Nat) ({ cls := "LeftIsAgreedOn$Island", name := "weight", desc := "(I)I" } : Jvm.MethodName)) ∈ lw_all := lw_g (lw_at lw_m5 222 rfl) rfl
theorem q1249 : (Jvm.Cond.methodLink "LeftIsAgreedOn$Island" (97 : Nat) ({ cls := "LeftIsAgreedOn$Island", name := "everybody", desc := "()I" } : Jvm.MethodName)) ∈ lw_all := lw_g (lw_at lw_m5 223 rfl) rfl
theorem q1311 : (Jvm.Cond.instanceMethod ({ cls := "LeftIsAgreedOn$Island", name := "year", desc := "()V" } : Jvm.MethodName)) ∈ lw_all := lw_g (lw_at lw_m6 45 rfl) rfl
theorem q1312 : (Jvm.Cond.selects "LeftIsAgreedOn$Island" ({ cls := "LeftIsAgreedOn$Island", name := "year", desc := "()V" } : Jvm.MethodName) ({ cls := "LeftIsAgreedOn$Island", name := "year", desc := "()V" } : Jvm.MethodName)) ∈ lw_all := lw_g (lw_at lw_m6 46 rfl) rfl
theorem q1313 : (Jvm.Cond.code ({ cls := "LeftIsAgreedOn$Island", name := "year", desc := "()V" } : Jvm.MethodName) prog_6_method_16_code (3 : Nat) (Option.none : Option Jvm.ClassFile.FieldType)) ∈ lw_all := lw_g (lw_at lw_m6 47 rfl) rfl
theorem q1314 : (Jvm.Cond.methodLink "LeftIsAgreedOn$Island" (101 : Nat) ({ cls := "LeftIsAgreedOn$Island", name := "carries", desc := "(I)I" } : Jvm.MethodName)) ∈ lw_all := lw_g (lw_at lw_m6 48 rfl) rfl
theorem q1315 : (Jvm.Cond.methodLink "LeftIsAgreedOn$Island" (104 : Nat) ({ cls := "LeftIsAgreedOn$Island", name := "draw", desc := "(I)I" } : Jvm.MethodName)) ∈ lw_all := lw_g (lw_at lw_m6 49 rfl) rfl
theorem q1316 : (Jvm.Cond.instanceMethod ({ cls := "LeftIsAgreedOn$Island", name := "draw", desc := "(I)I" } : Jvm.MethodName)) ∈ lw_all := lw_g (lw_at lw_m6 50 rfl) rfl
theorem q1317 : (Jvm.Cond.selects "LeftIsAgreedOn$Island" ({ cls := "LeftIsAgreedOn$Island", name := "draw", desc := "(I)I" } : Jvm.MethodName) ({ cls := "LeftIsAgreedOn$Island", name := "draw", desc := "(I)I" } : Jvm.MethodName)) ∈ lw_all := lw_g (lw_at lw_m6 51 rfl) rfl
theorem q1318 : (Jvm.Cond.code ({ cls := "LeftIsAgreedOn$Island", name := "draw", desc := "(I)I" } : Jvm.MethodName) prog_6_method_17_code (2 : Nat) (Option.some Jvm.ClassFile.FieldType.int)) ∈ lw_all := lw_g (lw_at lw_m6 52 rfl) rfl
theorem q1319 : (Jvm.Cond.constant "LeftIsAgreedOn$Island" (107 : Nat) (1103515245 : Int32)) ∈ lw_all := lw_g (lw_at lw_m6 53 rfl) rfl
theorem q1337 : (Jvm.Cond.instanceMethod ({ cls := "LeftIsAgreedOn$Island", name := "manyPonds", desc := "()I" } : Jvm.MethodName)) ∈ lw_all := lw_g (lw_at lw_m6 71 rfl) rfl
theorem q1338 : (Jvm.Cond.selects "LeftIsAgreedOn$Island" ({ cls := "LeftIsAgreedOn$Island", name := "manyPonds", desc := "()I" } : Jvm.MethodName) ({ cls := "LeftIsAgreedOn$Island", name := "manyPonds", desc := "()I" } : Jvm.MethodName)) ∈ lw_all := lw_g (lw_at lw_m6 72 rfl) rfl
theorem q1339 : (Jvm.Cond.code ({ cls := "LeftIsAgreedOn$Island", name := "manyPonds", desc := "()I" } : Jvm.MethodName) prog_6_method_8_code (6 : Nat) (Option.some Jvm.ClassFile.FieldType.int)) ∈ lw_all := lw_g (lw_at lw_m6 73 rfl) rfl
theorem q1340 : (Jvm.Cond.methodLink "LeftIsAgreedOn$Island" (64 : Nat) ({ cls := "java/lang/Integer", name := "bitCount", desc := "(I)I" } : Jvm.MethodName)) ∈ lw_all := lw_g (lw_at lw_m6 74 rfl) rfl
theorem in_X1 : ∀ w ∈ wsX10, w ∈ lw_all := lw_in wsX10 [144, 146, 148, 150, 152, 154, 156, 158, 160, 162, 164] (by decide +kernel) (by decide +kernel)
/-! LeftIsAgreedOn$Walk -/
set_option maxRecDepth 100000
def RX2 : String := "LeftIsAgreedOn$Walk"
def TX2 : u_T := fun k => match k with
  | 0 => ("LeftIsAgreedOn$Walk", "cell", "I", false)
  | 1 => ("LeftIsAgreedOn$Walk", "faces", "I", false)
  | 2 => ("LeftIsAgreedOn$Walk", "turns", "I", false)
  | 3 => ("LeftIsAgreedOn$Walk", "latest", "I", false)
  | 4 => ("LeftIsAgreedOn$Walk", "by", "I", false)
  | 5 => ("LeftIsAgreedOn$Walk", "signs", "I", false)
  | 6 => ("LeftIsAgreedOn$Walk", "fell", "I", false)
  | _ => ("LeftIsAgreedOn$Walk", "was", "I", false)
def tyX2 : Nat → FieldType := fun k => match k with
  | 0 => .int
  | 1 => .int
  | 2 => .int
  | 3 => .int
  | 4 => .int
  | 5 => .int
  | 6 => .int
  | _ => .int
abbrev wsX20 : List Cond := u_ws RX2 TX2 8
theorem nmX2 : ∀ a, a < 8 → ∀ b, b < 8 → a ≠ b → (TX2 a).2.1 ≠ (TX2 b).2.1 := by decide +kernel
theorem tyX2_ok : ∀ k, k < 8 → parseFieldDescriptor (TX2 k).2.2.1 = some (tyX2 k) := by decide +kernel
abbrev cX2_init : ByteArray := prog_14_method_1_code
def yX2_init : MethodName := ⟨RX2, "<init>", "()V"⟩
theorem dX2_init_0 : decode cX2_init 0 = .ok (.aload_n 0, 1) := by decide +kernel
theorem dX2_init_1 : decode cX2_init 1 = .ok (.invokespecial 3, 3) := by decide +kernel
theorem dX2_init_4 : decode cX2_init 4 = .ok (.return_, 1) := by decide +kernel
abbrev cX2_begins : ByteArray := prog_14_method_2_code
def yX2_begins : MethodName := ⟨RX2, "begins", "(II)LLeftIsAgreedOn$Walk;"⟩
def dkwX2_begins_1 : List UInt8 := [181, 0, 24, 42, 3, 181, 0, 27, 42, 3, 181, 0, 30, 42, 2, 181, 0, 33, 42, 176]
abbrev dktX2_begins_1 : List UInt8 := dkwX2_begins_1 ++ []
def dkwX2_begins_0 : List UInt8 := [42, 27, 181, 0, 9, 42, 27, 181, 0, 15, 42, 28, 181, 0, 18, 42, 3, 181, 0, 21, 42, 2]
abbrev dktX2_begins_0 : List UInt8 := dkwX2_begins_0 ++ dktX2_begins_1
theorem dksX2_begins_0 : cX2_begins.data.toList.drop 0 = dktX2_begins_0 := by decide +kernel
theorem dksX2_begins_1 : cX2_begins.data.toList.drop 22 = dktX2_begins_1 := dk_seg dksX2_begins_0 22 rfl rfl
theorem dX2_begins_0 : decode cX2_begins 0 = .ok (.aload_n 0, 1) := dk_42 (dk_at dksX2_begins_0 0 rfl rfl)
theorem dX2_begins_1 : decode cX2_begins 1 = .ok (.iload_n 1, 1) := dk_27 (dk_at dksX2_begins_0 1 rfl rfl)
theorem dX2_begins_2 : decode cX2_begins 2 = .ok (.putfield 9, 3) := dk_181 0 9 (dk_at dksX2_begins_0 2 rfl rfl)
theorem dX2_begins_5 : decode cX2_begins 5 = .ok (.aload_n 0, 1) := dk_42 (dk_at dksX2_begins_0 5 rfl rfl)
theorem dX2_begins_6 : decode cX2_begins 6 = .ok (.iload_n 1, 1) := dk_27 (dk_at dksX2_begins_0 6 rfl rfl)
theorem dX2_begins_7 : decode cX2_begins 7 = .ok (.putfield 15, 3) := dk_181 0 15 (dk_at dksX2_begins_0 7 rfl rfl)
theorem dX2_begins_10 : decode cX2_begins 10 = .ok (.aload_n 0, 1) := dk_42 (dk_at dksX2_begins_0 10 rfl rfl)
theorem dX2_begins_11 : decode cX2_begins 11 = .ok (.iload_n 2, 1) := dk_28 (dk_at dksX2_begins_0 11 rfl rfl)
theorem dX2_begins_12 : decode cX2_begins 12 = .ok (.putfield 18, 3) := dk_181 0 18 (dk_at dksX2_begins_0 12 rfl rfl)
theorem dX2_begins_15 : decode cX2_begins 15 = .ok (.aload_n 0, 1) := dk_42 (dk_at dksX2_begins_0 15 rfl rfl)
theorem dX2_begins_16 : decode cX2_begins 16 = .ok (.iconst 0, 1) := dk_3 (dk_at dksX2_begins_0 16 rfl rfl)
theorem dX2_begins_17 : decode cX2_begins 17 = .ok (.putfield 21, 3) := dk_181 0 21 (dk_at dksX2_begins_0 17 rfl rfl)
theorem dX2_begins_20 : decode cX2_begins 20 = .ok (.aload_n 0, 1) := dk_42 (dk_at dksX2_begins_0 20 rfl rfl)
theorem dX2_begins_21 : decode cX2_begins 21 = .ok (.iconst (-1), 1) := dk_2 (dk_at dksX2_begins_0 21 rfl rfl)
theorem dX2_begins_22 : decode cX2_begins 22 = .ok (.putfield 24, 3) := dk_181 0 24 (dk_at dksX2_begins_1 0 rfl rfl)
theorem dX2_begins_25 : decode cX2_begins 25 = .ok (.aload_n 0, 1) := dk_42 (dk_at dksX2_begins_1 3 rfl rfl)
theorem dX2_begins_26 : decode cX2_begins 26 = .ok (.iconst 0, 1) := dk_3 (dk_at dksX2_begins_1 4 rfl rfl)
theorem dX2_begins_27 : decode cX2_begins 27 = .ok (.putfield 27, 3) := dk_181 0 27 (dk_at dksX2_begins_1 5 rfl rfl)
theorem dX2_begins_30 : decode cX2_begins 30 = .ok (.aload_n 0, 1) := dk_42 (dk_at dksX2_begins_1 8 rfl rfl)
theorem dX2_begins_31 : decode cX2_begins 31 = .ok (.iconst 0, 1) := dk_3 (dk_at dksX2_begins_1 9 rfl rfl)
theorem dX2_begins_32 : decode cX2_begins 32 = .ok (.putfield 30, 3) := dk_181 0 30 (dk_at dksX2_begins_1 10 rfl rfl)
theorem dX2_begins_35 : decode cX2_begins 35 = .ok (.aload_n 0, 1) := dk_42 (dk_at dksX2_begins_1 13 rfl rfl)
theorem dX2_begins_36 : decode cX2_begins 36 = .ok (.iconst (-1), 1) := dk_2 (dk_at dksX2_begins_1 14 rfl rfl)
theorem dX2_begins_37 : decode cX2_begins 37 = .ok (.putfield 33, 3) := dk_181 0 33 (dk_at dksX2_begins_1 15 rfl rfl)
theorem dX2_begins_40 : decode cX2_begins 40 = .ok (.aload_n 0, 1) := dk_42 (dk_at dksX2_begins_1 18 rfl rfl)
theorem dX2_begins_41 : decode cX2_begins 41 = .ok (.areturn, 1) := dk_176 (dk_at dksX2_begins_1 19 rfl rfl)
abbrev cX2_goes : ByteArray := prog_14_method_4_code
def yX2_goes : MethodName := ⟨RX2, "goes", "(LLeftIsAgreedOn$Island;LLeftIsAgreedOn$Voter;II)V"⟩
def dkwX2_goes_8 : List UInt8 := [181, 0, 30, 177]
abbrev dktX2_goes_8 : List UInt8 := dkwX2_goes_8 ++ []
def dkwX2_goes_7 : List UInt8 := [42, 29, 181, 0, 24, 42, 89, 180, 0, 21, 4, 96, 181, 0, 21, 42, 89, 180, 0, 30, 4, 96]
abbrev dktX2_goes_7 : List UInt8 := dkwX2_goes_7 ++ dktX2_goes_8
def dkwX2_goes_6 : List UInt8 := [3, 54, 5, 42, 42, 180, 0, 18, 21, 5, 153, 0, 7, 4, 167, 0, 4, 6, 96, 7, 112, 181, 0, 18]
abbrev dktX2_goes_6 : List UInt8 := dkwX2_goes_6 ++ dktX2_goes_7
def dkwX2_goes_5 : List UInt8 := [167, 0, 4, 3, 42, 180, 0, 27, 4, 160, 0, 7, 4, 167, 0, 4, 3, 160, 0, 7, 4, 167, 0, 4]
abbrev dktX2_goes_5 : List UInt8 := dkwX2_goes_5 ++ dktX2_goes_6
def dkwX2_goes_4 : List UInt8 := [5, 160, 0, 85, 42, 44, 43, 42, 29, 21, 4, 182, 0, 46, 181, 0, 27, 29, 4, 160, 0, 7, 4]
abbrev dktX2_goes_4 : List UInt8 := dkwX2_goes_4 ++ dktX2_goes_5
def dkwX2_goes_3 : List UInt8 := [167, 0, 4, 2, 181, 0, 33, 167, 0, 103, 42, 180, 0, 33, 2, 160, 0, 95, 29, 4, 159, 0, 8, 29]
abbrev dktX2_goes_3 : List UInt8 := dkwX2_goes_3 ++ dktX2_goes_4
def dkwX2_goes_2 : List UInt8 := [167, 0, 5, 21, 5, 181, 0, 9, 42, 43, 42, 180, 0, 9, 182, 0, 42, 153, 0, 10, 42, 180, 0, 30]
abbrev dktX2_goes_2 : List UInt8 := dkwX2_goes_2 ++ dktX2_goes_3
def dkwX2_goes_1 : List UInt8 := [180, 0, 9, 42, 180, 0, 18, 182, 0, 36, 54, 5, 42, 21, 5, 2, 160, 0, 10, 42, 180, 0, 9]
abbrev dktX2_goes_1 : List UInt8 := dkwX2_goes_1 ++ dktX2_goes_2
def dkwX2_goes_0 : List UInt8 := [42, 42, 180, 0, 9, 181, 0, 15, 42, 180, 0, 33, 2, 160, 0, 66, 29, 154, 0, 62, 43, 42]
abbrev dktX2_goes_0 : List UInt8 := dkwX2_goes_0 ++ dktX2_goes_1
theorem dksX2_goes_0 : cX2_goes.data.toList.drop 0 = dktX2_goes_0 := by decide +kernel
theorem dksX2_goes_1 : cX2_goes.data.toList.drop 22 = dktX2_goes_1 := dk_seg dksX2_goes_0 22 rfl rfl
theorem dksX2_goes_2 : cX2_goes.data.toList.drop 45 = dktX2_goes_2 := dk_seg dksX2_goes_1 23 rfl rfl
theorem dksX2_goes_3 : cX2_goes.data.toList.drop 69 = dktX2_goes_3 := dk_seg dksX2_goes_2 24 rfl rfl
theorem dksX2_goes_4 : cX2_goes.data.toList.drop 93 = dktX2_goes_4 := dk_seg dksX2_goes_3 24 rfl rfl
theorem dksX2_goes_5 : cX2_goes.data.toList.drop 116 = dktX2_goes_5 := dk_seg dksX2_goes_4 23 rfl rfl
theorem dksX2_goes_6 : cX2_goes.data.toList.drop 140 = dktX2_goes_6 := dk_seg dksX2_goes_5 24 rfl rfl
theorem dksX2_goes_7 : cX2_goes.data.toList.drop 164 = dktX2_goes_7 := dk_seg dksX2_goes_6 24 rfl rfl
theorem dksX2_goes_8 : cX2_goes.data.toList.drop 186 = dktX2_goes_8 := dk_seg dksX2_goes_7 22 rfl rfl
theorem dX2_goes_0 : decode cX2_goes 0 = .ok (.aload_n 0, 1) := dk_42 (dk_at dksX2_goes_0 0 rfl rfl)
theorem dX2_goes_1 : decode cX2_goes 1 = .ok (.aload_n 0, 1) := dk_42 (dk_at dksX2_goes_0 1 rfl rfl)
theorem dX2_goes_2 : decode cX2_goes 2 = .ok (.getfield 9, 3) := dk_180 0 9 (dk_at dksX2_goes_0 2 rfl rfl)
theorem dX2_goes_5 : decode cX2_goes 5 = .ok (.putfield 15, 3) := dk_181 0 15 (dk_at dksX2_goes_0 5 rfl rfl)
theorem dX2_goes_8 : decode cX2_goes 8 = .ok (.aload_n 0, 1) := dk_42 (dk_at dksX2_goes_0 8 rfl rfl)
theorem dX2_goes_9 : decode cX2_goes 9 = .ok (.getfield 33, 3) := dk_180 0 33 (dk_at dksX2_goes_0 9 rfl rfl)
theorem dX2_goes_12 : decode cX2_goes 12 = .ok (.iconst (-1), 1) := dk_2 (dk_at dksX2_goes_0 12 rfl rfl)
theorem dX2_goes_13 : decode cX2_goes 13 = .ok (.if_icmp .ne 66, 3) := dk_160 0 66 (dk_at dksX2_goes_0 13 rfl rfl)
theorem dX2_goes_16 : decode cX2_goes 16 = .ok (.iload_n 3, 1) := dk_29 (dk_at dksX2_goes_0 16 rfl rfl)
theorem dX2_goes_17 : decode cX2_goes 17 = .ok (.ifCond .ne 62, 3) := dk_154 0 62 (dk_at dksX2_goes_0 17 rfl rfl)
theorem dX2_goes_20 : decode cX2_goes 20 = .ok (.aload_n 1, 1) := dk_43 (dk_at dksX2_goes_0 20 rfl rfl)
theorem dX2_goes_21 : decode cX2_goes 21 = .ok (.aload_n 0, 1) := dk_42 (dk_at dksX2_goes_0 21 rfl rfl)
theorem dX2_goes_22 : decode cX2_goes 22 = .ok (.getfield 9, 3) := dk_180 0 9 (dk_at dksX2_goes_1 0 rfl rfl)
theorem dX2_goes_25 : decode cX2_goes 25 = .ok (.aload_n 0, 1) := dk_42 (dk_at dksX2_goes_1 3 rfl rfl)
theorem dX2_goes_26 : decode cX2_goes 26 = .ok (.getfield 18, 3) := dk_180 0 18 (dk_at dksX2_goes_1 4 rfl rfl)
theorem dX2_goes_29 : decode cX2_goes 29 = .ok (.invokevirtual 36, 3) := dk_182 0 36 (dk_at dksX2_goes_1 7 rfl rfl)
theorem dX2_goes_32 : decode cX2_goes 32 = .ok (.istore 5, 2) := dk_54 5 (dk_at dksX2_goes_1 10 rfl rfl)
theorem dX2_goes_34 : decode cX2_goes 34 = .ok (.aload_n 0, 1) := dk_42 (dk_at dksX2_goes_1 12 rfl rfl)
theorem dX2_goes_35 : decode cX2_goes 35 = .ok (.iload 5, 2) := dk_21 5 (dk_at dksX2_goes_1 13 rfl rfl)
theorem dX2_goes_37 : decode cX2_goes 37 = .ok (.iconst (-1), 1) := dk_2 (dk_at dksX2_goes_1 15 rfl rfl)
theorem dX2_goes_38 : decode cX2_goes 38 = .ok (.if_icmp .ne 10, 3) := dk_160 0 10 (dk_at dksX2_goes_1 16 rfl rfl)
theorem dX2_goes_41 : decode cX2_goes 41 = .ok (.aload_n 0, 1) := dk_42 (dk_at dksX2_goes_1 19 rfl rfl)
theorem dX2_goes_42 : decode cX2_goes 42 = .ok (.getfield 9, 3) := dk_180 0 9 (dk_at dksX2_goes_1 20 rfl rfl)
theorem dX2_goes_45 : decode cX2_goes 45 = .ok (.goto 5, 3) := dk_167 0 5 (dk_at dksX2_goes_2 0 rfl rfl)
theorem dX2_goes_48 : decode cX2_goes 48 = .ok (.iload 5, 2) := dk_21 5 (dk_at dksX2_goes_2 3 rfl rfl)
theorem dX2_goes_50 : decode cX2_goes 50 = .ok (.putfield 9, 3) := dk_181 0 9 (dk_at dksX2_goes_2 5 rfl rfl)
theorem dX2_goes_53 : decode cX2_goes 53 = .ok (.aload_n 0, 1) := dk_42 (dk_at dksX2_goes_2 8 rfl rfl)
theorem dX2_goes_54 : decode cX2_goes 54 = .ok (.aload_n 1, 1) := dk_43 (dk_at dksX2_goes_2 9 rfl rfl)
theorem dX2_goes_55 : decode cX2_goes 55 = .ok (.aload_n 0, 1) := dk_42 (dk_at dksX2_goes_2 10 rfl rfl)
theorem dX2_goes_56 : decode cX2_goes 56 = .ok (.getfield 9, 3) := dk_180 0 9 (dk_at dksX2_goes_2 11 rfl rfl)
theorem dX2_goes_59 : decode cX2_goes 59 = .ok (.invokevirtual 42, 3) := dk_182 0 42 (dk_at dksX2_goes_2 14 rfl rfl)
theorem dX2_goes_62 : decode cX2_goes 62 = .ok (.ifCond .eq 10, 3) := dk_153 0 10 (dk_at dksX2_goes_2 17 rfl rfl)
theorem dX2_goes_65 : decode cX2_goes 65 = .ok (.aload_n 0, 1) := dk_42 (dk_at dksX2_goes_2 20 rfl rfl)
theorem dX2_goes_66 : decode cX2_goes 66 = .ok (.getfield 30, 3) := dk_180 0 30 (dk_at dksX2_goes_2 21 rfl rfl)
theorem dX2_goes_69 : decode cX2_goes 69 = .ok (.goto 4, 3) := dk_167 0 4 (dk_at dksX2_goes_3 0 rfl rfl)
theorem dX2_goes_72 : decode cX2_goes 72 = .ok (.iconst (-1), 1) := dk_2 (dk_at dksX2_goes_3 3 rfl rfl)
theorem dX2_goes_73 : decode cX2_goes 73 = .ok (.putfield 33, 3) := dk_181 0 33 (dk_at dksX2_goes_3 4 rfl rfl)
theorem dX2_goes_76 : decode cX2_goes 76 = .ok (.goto 103, 3) := dk_167 0 103 (dk_at dksX2_goes_3 7 rfl rfl)
theorem dX2_goes_79 : decode cX2_goes 79 = .ok (.aload_n 0, 1) := dk_42 (dk_at dksX2_goes_3 10 rfl rfl)
theorem dX2_goes_80 : decode cX2_goes 80 = .ok (.getfield 33, 3) := dk_180 0 33 (dk_at dksX2_goes_3 11 rfl rfl)
theorem dX2_goes_83 : decode cX2_goes 83 = .ok (.iconst (-1), 1) := dk_2 (dk_at dksX2_goes_3 14 rfl rfl)
theorem dX2_goes_84 : decode cX2_goes 84 = .ok (.if_icmp .ne 95, 3) := dk_160 0 95 (dk_at dksX2_goes_3 15 rfl rfl)
theorem dX2_goes_87 : decode cX2_goes 87 = .ok (.iload_n 3, 1) := dk_29 (dk_at dksX2_goes_3 18 rfl rfl)
theorem dX2_goes_88 : decode cX2_goes 88 = .ok (.iconst 1, 1) := dk_4 (dk_at dksX2_goes_3 19 rfl rfl)
theorem dX2_goes_89 : decode cX2_goes 89 = .ok (.if_icmp .eq 8, 3) := dk_159 0 8 (dk_at dksX2_goes_3 20 rfl rfl)
theorem dX2_goes_92 : decode cX2_goes 92 = .ok (.iload_n 3, 1) := dk_29 (dk_at dksX2_goes_3 23 rfl rfl)
theorem dX2_goes_93 : decode cX2_goes 93 = .ok (.iconst 2, 1) := dk_5 (dk_at dksX2_goes_4 0 rfl rfl)
theorem dX2_goes_94 : decode cX2_goes 94 = .ok (.if_icmp .ne 85, 3) := dk_160 0 85 (dk_at dksX2_goes_4 1 rfl rfl)
theorem dX2_goes_97 : decode cX2_goes 97 = .ok (.aload_n 0, 1) := dk_42 (dk_at dksX2_goes_4 4 rfl rfl)
theorem dX2_goes_98 : decode cX2_goes 98 = .ok (.aload_n 2, 1) := dk_44 (dk_at dksX2_goes_4 5 rfl rfl)
theorem dX2_goes_99 : decode cX2_goes 99 = .ok (.aload_n 1, 1) := dk_43 (dk_at dksX2_goes_4 6 rfl rfl)
theorem dX2_goes_100 : decode cX2_goes 100 = .ok (.aload_n 0, 1) := dk_42 (dk_at dksX2_goes_4 7 rfl rfl)
theorem dX2_goes_101 : decode cX2_goes 101 = .ok (.iload_n 3, 1) := dk_29 (dk_at dksX2_goes_4 8 rfl rfl)
theorem dX2_goes_102 : decode cX2_goes 102 = .ok (.iload 4, 2) := dk_21 4 (dk_at dksX2_goes_4 9 rfl rfl)
theorem dX2_goes_104 : decode cX2_goes 104 = .ok (.invokevirtual 46, 3) := dk_182 0 46 (dk_at dksX2_goes_4 11 rfl rfl)
theorem dX2_goes_107 : decode cX2_goes 107 = .ok (.putfield 27, 3) := dk_181 0 27 (dk_at dksX2_goes_4 14 rfl rfl)
theorem dX2_goes_110 : decode cX2_goes 110 = .ok (.iload_n 3, 1) := dk_29 (dk_at dksX2_goes_4 17 rfl rfl)
theorem dX2_goes_111 : decode cX2_goes 111 = .ok (.iconst 1, 1) := dk_4 (dk_at dksX2_goes_4 18 rfl rfl)
theorem dX2_goes_112 : decode cX2_goes 112 = .ok (.if_icmp .ne 7, 3) := dk_160 0 7 (dk_at dksX2_goes_4 19 rfl rfl)
theorem dX2_goes_115 : decode cX2_goes 115 = .ok (.iconst 1, 1) := dk_4 (dk_at dksX2_goes_4 22 rfl rfl)
theorem dX2_goes_116 : decode cX2_goes 116 = .ok (.goto 4, 3) := dk_167 0 4 (dk_at dksX2_goes_5 0 rfl rfl)
theorem dX2_goes_119 : decode cX2_goes 119 = .ok (.iconst 0, 1) := dk_3 (dk_at dksX2_goes_5 3 rfl rfl)
theorem dX2_goes_120 : decode cX2_goes 120 = .ok (.aload_n 0, 1) := dk_42 (dk_at dksX2_goes_5 4 rfl rfl)
theorem dX2_goes_121 : decode cX2_goes 121 = .ok (.getfield 27, 3) := dk_180 0 27 (dk_at dksX2_goes_5 5 rfl rfl)
theorem dX2_goes_124 : decode cX2_goes 124 = .ok (.iconst 1, 1) := dk_4 (dk_at dksX2_goes_5 8 rfl rfl)
theorem dX2_goes_125 : decode cX2_goes 125 = .ok (.if_icmp .ne 7, 3) := dk_160 0 7 (dk_at dksX2_goes_5 9 rfl rfl)
theorem dX2_goes_128 : decode cX2_goes 128 = .ok (.iconst 1, 1) := dk_4 (dk_at dksX2_goes_5 12 rfl rfl)
theorem dX2_goes_129 : decode cX2_goes 129 = .ok (.goto 4, 3) := dk_167 0 4 (dk_at dksX2_goes_5 13 rfl rfl)
theorem dX2_goes_132 : decode cX2_goes 132 = .ok (.iconst 0, 1) := dk_3 (dk_at dksX2_goes_5 16 rfl rfl)
theorem dX2_goes_133 : decode cX2_goes 133 = .ok (.if_icmp .ne 7, 3) := dk_160 0 7 (dk_at dksX2_goes_5 17 rfl rfl)
theorem dX2_goes_136 : decode cX2_goes 136 = .ok (.iconst 1, 1) := dk_4 (dk_at dksX2_goes_5 20 rfl rfl)
theorem dX2_goes_137 : decode cX2_goes 137 = .ok (.goto 4, 3) := dk_167 0 4 (dk_at dksX2_goes_5 21 rfl rfl)
theorem dX2_goes_140 : decode cX2_goes 140 = .ok (.iconst 0, 1) := dk_3 (dk_at dksX2_goes_6 0 rfl rfl)
theorem dX2_goes_141 : decode cX2_goes 141 = .ok (.istore 5, 2) := dk_54 5 (dk_at dksX2_goes_6 1 rfl rfl)
theorem dX2_goes_143 : decode cX2_goes 143 = .ok (.aload_n 0, 1) := dk_42 (dk_at dksX2_goes_6 3 rfl rfl)
theorem dX2_goes_144 : decode cX2_goes 144 = .ok (.aload_n 0, 1) := dk_42 (dk_at dksX2_goes_6 4 rfl rfl)
theorem dX2_goes_145 : decode cX2_goes 145 = .ok (.getfield 18, 3) := dk_180 0 18 (dk_at dksX2_goes_6 5 rfl rfl)
theorem dX2_goes_148 : decode cX2_goes 148 = .ok (.iload 5, 2) := dk_21 5 (dk_at dksX2_goes_6 8 rfl rfl)
theorem dX2_goes_150 : decode cX2_goes 150 = .ok (.ifCond .eq 7, 3) := dk_153 0 7 (dk_at dksX2_goes_6 10 rfl rfl)
theorem dX2_goes_153 : decode cX2_goes 153 = .ok (.iconst 1, 1) := dk_4 (dk_at dksX2_goes_6 13 rfl rfl)
theorem dX2_goes_154 : decode cX2_goes 154 = .ok (.goto 4, 3) := dk_167 0 4 (dk_at dksX2_goes_6 14 rfl rfl)
theorem dX2_goes_157 : decode cX2_goes 157 = .ok (.iconst 3, 1) := dk_6 (dk_at dksX2_goes_6 17 rfl rfl)
theorem dX2_goes_158 : decode cX2_goes 158 = .ok (.iadd, 1) := dk_96 (dk_at dksX2_goes_6 18 rfl rfl)
theorem dX2_goes_159 : decode cX2_goes 159 = .ok (.iconst 4, 1) := dk_7 (dk_at dksX2_goes_6 19 rfl rfl)
theorem dX2_goes_160 : decode cX2_goes 160 = .ok (.irem, 1) := dk_112 (dk_at dksX2_goes_6 20 rfl rfl)
theorem dX2_goes_161 : decode cX2_goes 161 = .ok (.putfield 18, 3) := dk_181 0 18 (dk_at dksX2_goes_6 21 rfl rfl)
theorem dX2_goes_164 : decode cX2_goes 164 = .ok (.aload_n 0, 1) := dk_42 (dk_at dksX2_goes_7 0 rfl rfl)
theorem dX2_goes_165 : decode cX2_goes 165 = .ok (.iload_n 3, 1) := dk_29 (dk_at dksX2_goes_7 1 rfl rfl)
theorem dX2_goes_166 : decode cX2_goes 166 = .ok (.putfield 24, 3) := dk_181 0 24 (dk_at dksX2_goes_7 2 rfl rfl)
theorem dX2_goes_169 : decode cX2_goes 169 = .ok (.aload_n 0, 1) := dk_42 (dk_at dksX2_goes_7 5 rfl rfl)
theorem dX2_goes_170 : decode cX2_goes 170 = .ok (.dup, 1) := dk_89 (dk_at dksX2_goes_7 6 rfl rfl)
theorem dX2_goes_171 : decode cX2_goes 171 = .ok (.getfield 21, 3) := dk_180 0 21 (dk_at dksX2_goes_7 7 rfl rfl)
theorem dX2_goes_174 : decode cX2_goes 174 = .ok (.iconst 1, 1) := dk_4 (dk_at dksX2_goes_7 10 rfl rfl)
theorem dX2_goes_175 : decode cX2_goes 175 = .ok (.iadd, 1) := dk_96 (dk_at dksX2_goes_7 11 rfl rfl)
theorem dX2_goes_176 : decode cX2_goes 176 = .ok (.putfield 21, 3) := dk_181 0 21 (dk_at dksX2_goes_7 12 rfl rfl)
theorem dX2_goes_179 : decode cX2_goes 179 = .ok (.aload_n 0, 1) := dk_42 (dk_at dksX2_goes_7 15 rfl rfl)
theorem dX2_goes_180 : decode cX2_goes 180 = .ok (.dup, 1) := dk_89 (dk_at dksX2_goes_7 16 rfl rfl)
theorem dX2_goes_181 : decode cX2_goes 181 = .ok (.getfield 30, 3) := dk_180 0 30 (dk_at dksX2_goes_7 17 rfl rfl)
theorem dX2_goes_184 : decode cX2_goes 184 = .ok (.iconst 1, 1) := dk_4 (dk_at dksX2_goes_7 20 rfl rfl)
theorem dX2_goes_185 : decode cX2_goes 185 = .ok (.iadd, 1) := dk_96 (dk_at dksX2_goes_7 21 rfl rfl)
theorem dX2_goes_186 : decode cX2_goes 186 = .ok (.putfield 30, 3) := dk_181 0 30 (dk_at dksX2_goes_8 0 rfl rfl)
theorem dX2_goes_189 : decode cX2_goes 189 = .ok (.return_, 1) := dk_177 (dk_at dksX2_goes_8 3 rfl rfl)
abbrev cX2_isAfterSame : ByteArray := prog_14_method_5_code
def yX2_isAfterSame : MethodName := ⟨RX2, "isAfterSame", "(I)Z"⟩
def dkwX2_isAfterSame_0 : List UInt8 := [42, 180, 0, 24, 27, 160, 0, 7, 4, 167, 0, 4, 3, 172]
abbrev dktX2_isAfterSame_0 : List UInt8 := dkwX2_isAfterSame_0 ++ []
theorem dksX2_isAfterSame_0 : cX2_isAfterSame.data.toList.drop 0 = dktX2_isAfterSame_0 := by decide +kernel
theorem dX2_isAfterSame_0 : decode cX2_isAfterSame 0 = .ok (.aload_n 0, 1) := dk_42 (dk_at dksX2_isAfterSame_0 0 rfl rfl)
theorem dX2_isAfterSame_1 : decode cX2_isAfterSame 1 = .ok (.getfield 24, 3) := dk_180 0 24 (dk_at dksX2_isAfterSame_0 1 rfl rfl)
theorem dX2_isAfterSame_4 : decode cX2_isAfterSame 4 = .ok (.iload_n 1, 1) := dk_27 (dk_at dksX2_isAfterSame_0 4 rfl rfl)
theorem dX2_isAfterSame_5 : decode cX2_isAfterSame 5 = .ok (.if_icmp .ne 7, 3) := dk_160 0 7 (dk_at dksX2_isAfterSame_0 5 rfl rfl)
theorem dX2_isAfterSame_8 : decode cX2_isAfterSame 8 = .ok (.iconst 1, 1) := dk_4 (dk_at dksX2_isAfterSame_0 8 rfl rfl)
theorem dX2_isAfterSame_9 : decode cX2_isAfterSame 9 = .ok (.goto 4, 3) := dk_167 0 4 (dk_at dksX2_isAfterSame_0 9 rfl rfl)
theorem dX2_isAfterSame_12 : decode cX2_isAfterSame 12 = .ok (.iconst 0, 1) := dk_3 (dk_at dksX2_isAfterSame_0 12 rfl rfl)
theorem dX2_isAfterSame_13 : decode cX2_isAfterSame 13 = .ok (.ireturn, 1) := dk_172 (dk_at dksX2_isAfterSame_0 13 rfl rfl)
abbrev cX2_by : ByteArray := prog_14_method_6_code
def yX2_by : MethodName := ⟨RX2, "by", "()I"⟩
theorem dX2_by_0 : decode cX2_by 0 = .ok (.aload_n 0, 1) := by decide +kernel
theorem dX2_by_1 : decode cX2_by 1 = .ok (.getfield 27, 3) := by decide +kernel
theorem dX2_by_4 : decode cX2_by 4 = .ok (.ireturn, 1) := by decide +kernel
abbrev cX2_becomes : ByteArray := prog_14_method_3_code
def yX2_becomes : MethodName := ⟨RX2, "becomes", "(LLeftIsAgreedOn$Walk;)LLeftIsAgreedOn$Walk;"⟩
def dkwX2_becomes_2 : List UInt8 := [42, 43, 180, 0, 30, 181, 0, 30, 42, 43, 180, 0, 33, 181, 0, 33, 42, 176]
abbrev dktX2_becomes_2 : List UInt8 := dkwX2_becomes_2 ++ []
def dkwX2_becomes_1 : List UInt8 := [42, 43, 180, 0, 21, 181, 0, 21, 42, 43, 180, 0, 24, 181, 0, 24, 42, 43, 180, 0, 27, 181, 0, 27]
abbrev dktX2_becomes_1 : List UInt8 := dkwX2_becomes_1 ++ dktX2_becomes_2
def dkwX2_becomes_0 : List UInt8 := [42, 43, 180, 0, 9, 181, 0, 9, 42, 43, 180, 0, 15, 181, 0, 15, 42, 43, 180, 0, 18, 181, 0, 18]
abbrev dktX2_becomes_0 : List UInt8 := dkwX2_becomes_0 ++ dktX2_becomes_1
theorem dksX2_becomes_0 : cX2_becomes.data.toList.drop 0 = dktX2_becomes_0 := by decide +kernel
theorem dksX2_becomes_1 : cX2_becomes.data.toList.drop 24 = dktX2_becomes_1 := dk_seg dksX2_becomes_0 24 rfl rfl
theorem dksX2_becomes_2 : cX2_becomes.data.toList.drop 48 = dktX2_becomes_2 := dk_seg dksX2_becomes_1 24 rfl rfl
theorem dX2_becomes_0 : decode cX2_becomes 0 = .ok (.aload_n 0, 1) := dk_42 (dk_at dksX2_becomes_0 0 rfl rfl)
theorem dX2_becomes_1 : decode cX2_becomes 1 = .ok (.aload_n 1, 1) := dk_43 (dk_at dksX2_becomes_0 1 rfl rfl)
theorem dX2_becomes_2 : decode cX2_becomes 2 = .ok (.getfield 9, 3) := dk_180 0 9 (dk_at dksX2_becomes_0 2 rfl rfl)
theorem dX2_becomes_5 : decode cX2_becomes 5 = .ok (.putfield 9, 3) := dk_181 0 9 (dk_at dksX2_becomes_0 5 rfl rfl)
theorem dX2_becomes_8 : decode cX2_becomes 8 = .ok (.aload_n 0, 1) := dk_42 (dk_at dksX2_becomes_0 8 rfl rfl)
theorem dX2_becomes_9 : decode cX2_becomes 9 = .ok (.aload_n 1, 1) := dk_43 (dk_at dksX2_becomes_0 9 rfl rfl)
theorem dX2_becomes_10 : decode cX2_becomes 10 = .ok (.getfield 15, 3) := dk_180 0 15 (dk_at dksX2_becomes_0 10 rfl rfl)
theorem dX2_becomes_13 : decode cX2_becomes 13 = .ok (.putfield 15, 3) := dk_181 0 15 (dk_at dksX2_becomes_0 13 rfl rfl)
theorem dX2_becomes_16 : decode cX2_becomes 16 = .ok (.aload_n 0, 1) := dk_42 (dk_at dksX2_becomes_0 16 rfl rfl)
theorem dX2_becomes_17 : decode cX2_becomes 17 = .ok (.aload_n 1, 1) := dk_43 (dk_at dksX2_becomes_0 17 rfl rfl)
theorem dX2_becomes_18 : decode cX2_becomes 18 = .ok (.getfield 18, 3) := dk_180 0 18 (dk_at dksX2_becomes_0 18 rfl rfl)
theorem dX2_becomes_21 : decode cX2_becomes 21 = .ok (.putfield 18, 3) := dk_181 0 18 (dk_at dksX2_becomes_0 21 rfl rfl)
theorem dX2_becomes_24 : decode cX2_becomes 24 = .ok (.aload_n 0, 1) := dk_42 (dk_at dksX2_becomes_1 0 rfl rfl)
theorem dX2_becomes_25 : decode cX2_becomes 25 = .ok (.aload_n 1, 1) := dk_43 (dk_at dksX2_becomes_1 1 rfl rfl)
theorem dX2_becomes_26 : decode cX2_becomes 26 = .ok (.getfield 21, 3) := dk_180 0 21 (dk_at dksX2_becomes_1 2 rfl rfl)
theorem dX2_becomes_29 : decode cX2_becomes 29 = .ok (.putfield 21, 3) := dk_181 0 21 (dk_at dksX2_becomes_1 5 rfl rfl)
theorem dX2_becomes_32 : decode cX2_becomes 32 = .ok (.aload_n 0, 1) := dk_42 (dk_at dksX2_becomes_1 8 rfl rfl)
theorem dX2_becomes_33 : decode cX2_becomes 33 = .ok (.aload_n 1, 1) := dk_43 (dk_at dksX2_becomes_1 9 rfl rfl)
theorem dX2_becomes_34 : decode cX2_becomes 34 = .ok (.getfield 24, 3) := dk_180 0 24 (dk_at dksX2_becomes_1 10 rfl rfl)
theorem dX2_becomes_37 : decode cX2_becomes 37 = .ok (.putfield 24, 3) := dk_181 0 24 (dk_at dksX2_becomes_1 13 rfl rfl)
theorem dX2_becomes_40 : decode cX2_becomes 40 = .ok (.aload_n 0, 1) := dk_42 (dk_at dksX2_becomes_1 16 rfl rfl)
theorem dX2_becomes_41 : decode cX2_becomes 41 = .ok (.aload_n 1, 1) := dk_43 (dk_at dksX2_becomes_1 17 rfl rfl)
theorem dX2_becomes_42 : decode cX2_becomes 42 = .ok (.getfield 27, 3) := dk_180 0 27 (dk_at dksX2_becomes_1 18 rfl rfl)
theorem dX2_becomes_45 : decode cX2_becomes 45 = .ok (.putfield 27, 3) := dk_181 0 27 (dk_at dksX2_becomes_1 21 rfl rfl)
theorem dX2_becomes_48 : decode cX2_becomes 48 = .ok (.aload_n 0, 1) := dk_42 (dk_at dksX2_becomes_2 0 rfl rfl)
theorem dX2_becomes_49 : decode cX2_becomes 49 = .ok (.aload_n 1, 1) := dk_43 (dk_at dksX2_becomes_2 1 rfl rfl)
theorem dX2_becomes_50 : decode cX2_becomes 50 = .ok (.getfield 30, 3) := dk_180 0 30 (dk_at dksX2_becomes_2 2 rfl rfl)
theorem dX2_becomes_53 : decode cX2_becomes 53 = .ok (.putfield 30, 3) := dk_181 0 30 (dk_at dksX2_becomes_2 5 rfl rfl)
theorem dX2_becomes_56 : decode cX2_becomes 56 = .ok (.aload_n 0, 1) := dk_42 (dk_at dksX2_becomes_2 8 rfl rfl)
theorem dX2_becomes_57 : decode cX2_becomes 57 = .ok (.aload_n 1, 1) := dk_43 (dk_at dksX2_becomes_2 9 rfl rfl)
theorem dX2_becomes_58 : decode cX2_becomes 58 = .ok (.getfield 33, 3) := dk_180 0 33 (dk_at dksX2_becomes_2 10 rfl rfl)
theorem dX2_becomes_61 : decode cX2_becomes 61 = .ok (.putfield 33, 3) := dk_181 0 33 (dk_at dksX2_becomes_2 13 rfl rfl)
theorem dX2_becomes_64 : decode cX2_becomes 64 = .ok (.aload_n 0, 1) := dk_42 (dk_at dksX2_becomes_2 16 rfl rfl)
theorem dX2_becomes_65 : decode cX2_becomes 65 = .ok (.areturn, 1) := dk_176 (dk_at dksX2_becomes_2 17 rfl rfl)
theorem q69 : (Jvm.Cond.initialized "LeftIsAgreedOn$Walk") ∈ lw_all := lw_g (lw_at lw_m1 3 rfl) rfl
theorem q169 : (Jvm.Cond.instantiable "LeftIsAgreedOn$Walk" (8 : Nat)) ∈ lw_all := lw_g (lw_at lw_m1 103 rfl) rfl
theorem q171 : (Jvm.Cond.instanceMethod ({ cls := "LeftIsAgreedOn$Walk", name := "<init>", desc := "()V" } : Jvm.MethodName)) ∈ lw_all := lw_g (lw_at lw_m1 105 rfl) rfl
theorem q172 : (Jvm.Cond.code ({ cls := "LeftIsAgreedOn$Walk", name := "<init>", desc := "()V" } : Jvm.MethodName) prog_14_method_1_code (1 : Nat) (Option.none : Option Jvm.ClassFile.FieldType)) ∈ lw_all := lw_g (lw_at lw_m1 106 rfl) rfl
theorem q173 : (Jvm.Cond.methodLink "LeftIsAgreedOn$Walk" (3 : Nat) ({ cls := "java/lang/Object", name := "<init>", desc := "()V" } : Jvm.MethodName)) ∈ lw_all := lw_g (lw_at lw_m1 107 rfl) rfl
theorem q174 : (Jvm.Cond.fieldLink "LeftIsAgreedOn$Walk" (9 : Nat) "LeftIsAgreedOn$Walk" "cell" "I") ∈ lw_all := lw_g (lw_at lw_m1 108 rfl) rfl
theorem q177 : (Jvm.Cond.fieldLink "LeftIsAgreedOn$Walk" (18 : Nat) "LeftIsAgreedOn$Walk" "faces" "I") ∈ lw_all := lw_g (lw_at lw_m1 111 rfl) rfl
theorem q179 : (Jvm.Cond.fieldLink "LeftIsAgreedOn$Walk" (21 : Nat) "LeftIsAgreedOn$Walk" "turns" "I") ∈ lw_all := lw_g (lw_at lw_m1 113 rfl) rfl
theorem q182 : (Jvm.Cond.fieldLink "LeftIsAgreedOn$Walk" (24 : Nat) "LeftIsAgreedOn$Walk" "latest" "I") ∈ lw_all := lw_g (lw_at lw_m1 116 rfl) rfl
theorem q183 : (Jvm.Cond.fieldLink "LeftIsAgreedOn$Walk" (27 : Nat) "LeftIsAgreedOn$Walk" "by" "I") ∈ lw_all := lw_g (lw_at lw_m1 117 rfl) rfl
theorem q184 : (Jvm.Cond.fieldLink "LeftIsAgreedOn$Walk" (30 : Nat) "LeftIsAgreedOn$Walk" "signs" "I") ∈ lw_all := lw_g (lw_at lw_m1 118 rfl) rfl
theorem q185 : (Jvm.Cond.fieldLink "LeftIsAgreedOn$Walk" (33 : Nat) "LeftIsAgreedOn$Walk" "fell" "I") ∈ lw_all := lw_g (lw_at lw_m1 119 rfl) rfl
theorem q187 : (Jvm.Cond.fieldLink "LeftIsAgreedOn$Walk" (15 : Nat) "LeftIsAgreedOn$Walk" "was" "I") ∈ lw_all := lw_g (lw_at lw_m1 121 rfl) rfl
theorem q189 : (Jvm.Cond.lays "LeftIsAgreedOn$Walk" "LeftIsAgreedOn$Walk" "cell" "I") ∈ lw_all := lw_g (lw_at lw_m1 123 rfl) rfl
theorem q190 : (Jvm.Cond.soleField "LeftIsAgreedOn$Walk" "cell") ∈ lw_all := lw_g (lw_at lw_m1 124 rfl) rfl
theorem q191 : (Jvm.Cond.lays "LeftIsAgreedOn$Walk" "LeftIsAgreedOn$Walk" "faces" "I") ∈ lw_all := lw_g (lw_at lw_m1 125 rfl) rfl
theorem q192 : (Jvm.Cond.soleField "LeftIsAgreedOn$Walk" "faces") ∈ lw_all := lw_g (lw_at lw_m1 126 rfl) rfl
theorem q193 : (Jvm.Cond.lays "LeftIsAgreedOn$Walk" "LeftIsAgreedOn$Walk" "turns" "I") ∈ lw_all := lw_g (lw_at lw_m1 127 rfl) rfl
theorem q194 : (Jvm.Cond.soleField "LeftIsAgreedOn$Walk" "turns") ∈ lw_all := lw_g (lw_at lw_m1 128 rfl) rfl
theorem q195 : (Jvm.Cond.lays "LeftIsAgreedOn$Walk" "LeftIsAgreedOn$Walk" "latest" "I") ∈ lw_all := lw_g (lw_at lw_m1 129 rfl) rfl
theorem q196 : (Jvm.Cond.soleField "LeftIsAgreedOn$Walk" "latest") ∈ lw_all := lw_g (lw_at lw_m1 130 rfl) rfl
theorem q197 : (Jvm.Cond.lays "LeftIsAgreedOn$Walk" "LeftIsAgreedOn$Walk" "by" "I") ∈ lw_all := lw_g (lw_at lw_m1 131 rfl) rfl
theorem q198 : (Jvm.Cond.soleField "LeftIsAgreedOn$Walk" "by") ∈ lw_all := lw_g (lw_at lw_m1 132 rfl) rfl
theorem q199 : (Jvm.Cond.lays "LeftIsAgreedOn$Walk" "LeftIsAgreedOn$Walk" "signs" "I") ∈ lw_all := lw_g (lw_at lw_m1 133 rfl) rfl
theorem q200 : (Jvm.Cond.soleField "LeftIsAgreedOn$Walk" "signs") ∈ lw_all := lw_g (lw_at lw_m1 134 rfl) rfl
theorem q201 : (Jvm.Cond.lays "LeftIsAgreedOn$Walk" "LeftIsAgreedOn$Walk" "fell" "I") ∈ lw_all := lw_g (lw_at lw_m1 135 rfl) rfl
theorem q202 : (Jvm.Cond.soleField "LeftIsAgreedOn$Walk" "fell") ∈ lw_all := lw_g (lw_at lw_m1 136 rfl) rfl
theorem q203 : (Jvm.Cond.lays "LeftIsAgreedOn$Walk" "LeftIsAgreedOn$Walk" "was" "I") ∈ lw_all := lw_g (lw_at lw_m1 137 rfl) rfl
theorem q204 : (Jvm.Cond.soleField "LeftIsAgreedOn$Walk" "was") ∈ lw_all := lw_g (lw_at lw_m1 138 rfl) rfl
theorem q205 : (Jvm.Cond.superclass "LeftIsAgreedOn$Walk" "java/lang/Object") ∈ lw_all := lw_g (lw_at lw_m1 139 rfl) rfl
theorem q520 : (Jvm.Cond.instanceMethod ({ cls := "LeftIsAgreedOn$Walk", name := "begins", desc := "(II)LLeftIsAgreedOn$Walk;" } : Jvm.MethodName)) ∈ lw_all := lw_g (lw_at lw_m2 214 rfl) rfl
theorem q521 : (Jvm.Cond.selects "LeftIsAgreedOn$Walk" ({ cls := "LeftIsAgreedOn$Walk", name := "begins", desc := "(II)LLeftIsAgreedOn$Walk;" } : Jvm.MethodName) ({ cls := "LeftIsAgreedOn$Walk", name := "begins", desc := "(II)LLeftIsAgreedOn$Walk;" } : Jvm.MethodName)) ∈ lw_all := lw_g (lw_at lw_m2 215 rfl) rfl
theorem q522 : (Jvm.Cond.code ({ cls := "LeftIsAgreedOn$Walk", name := "begins", desc := "(II)LLeftIsAgreedOn$Walk;" } : Jvm.MethodName) prog_14_method_2_code (3 : Nat) (Option.some (Jvm.ClassFile.FieldType.object "LeftIsAgreedOn$Walk"))) ∈ lw_all := lw_g (lw_at lw_m2 216 rfl) rfl
theorem q524 : (Jvm.Cond.instanceMethod ({ cls := "LeftIsAgreedOn$Walk", name := "goes", desc := "(LLeftIsAgreedOn$Island;LLeftIsAgreedOn$Voter;II)V" } : Jvm.MethodName)) ∈ lw_all := lw_g (lw_at lw_m2 218 rfl) rfl
theorem q525 : (Jvm.Cond.selects "LeftIsAgreedOn$Walk" ({ cls := "LeftIsAgreedOn$Walk", name := "goes", desc := "(LLeftIsAgreedOn$Island;LLeftIsAgreedOn$Voter;II)V" } : Jvm.MethodName) ({ cls := "LeftIsAgreedOn$Walk", name := "goes", desc := "(LLeftIsAgreedOn$Island;LLeftIsAgreedOn$Voter;II)V" } : Jvm.MethodName)) ∈ lw_all := lw_g (lw_at lw_m2 219 rfl) rfl
theorem q526 : (Jvm.Cond.code ({ cls := "LeftIsAgreedOn$Walk", name := "goes", desc := "(LLeftIsAgreedOn$Island;LLeftIsAgreedOn$Voter;II)V" } : Jvm.MethodName) prog_14_method_4_code (6 : Nat) (Option.none : Option Jvm.ClassFile.FieldType)) ∈ lw_all := lw_g (lw_at lw_m2 220 rfl) rfl
theorem q527 : (Jvm.Cond.methodLink "LeftIsAgreedOn$Walk" (36 : Nat) ({ cls := "LeftIsAgreedOn$Island", name := "ahead", desc := "(II)I" } : Jvm.MethodName)) ∈ lw_all := lw_g (lw_at lw_m2 221 rfl) rfl
theorem q535 : (Jvm.Cond.methodLink "LeftIsAgreedOn$Walk" (42 : Nat) ({ cls := "LeftIsAgreedOn$Island", name := "isPond", desc := "(I)Z" } : Jvm.MethodName)) ∈ lw_all := lw_g (lw_at lw_m2 229 rfl) rfl
theorem q542 : (Jvm.Cond.methodLink "LeftIsAgreedOn$Walk" (46 : Nat) ({ cls := "LeftIsAgreedOn$Voter", name := "by", desc := "(LLeftIsAgreedOn$Island;LLeftIsAgreedOn$Walk;II)I" } : Jvm.MethodName)) ∈ lw_all := lw_g (lw_at lw_m2 236 rfl) rfl
theorem q553 : (Jvm.Cond.instanceMethod ({ cls := "LeftIsAgreedOn$Walk", name := "isAfterSame", desc := "(I)Z" } : Jvm.MethodName)) ∈ lw_all := lw_g (lw_at lw_m3 7 rfl) rfl
theorem q554 : (Jvm.Cond.selects "LeftIsAgreedOn$Walk" ({ cls := "LeftIsAgreedOn$Walk", name := "isAfterSame", desc := "(I)Z" } : Jvm.MethodName) ({ cls := "LeftIsAgreedOn$Walk", name := "isAfterSame", desc := "(I)Z" } : Jvm.MethodName)) ∈ lw_all := lw_g (lw_at lw_m3 8 rfl) rfl
theorem q555 : (Jvm.Cond.code ({ cls := "LeftIsAgreedOn$Walk", name := "isAfterSame", desc := "(I)Z" } : Jvm.MethodName) prog_14_method_5_code (2 : Nat) (Option.some Jvm.ClassFile.FieldType.boolean)) ∈ lw_all := lw_g (lw_at lw_m3 9 rfl) rfl
theorem q557 : (Jvm.Cond.instanceMethod ({ cls := "LeftIsAgreedOn$Walk", name := "by", desc := "()I" } : Jvm.MethodName)) ∈ lw_all := lw_g (lw_at lw_m3 11 rfl) rfl
theorem q558 : (Jvm.Cond.selects "LeftIsAgreedOn$Walk" ({ cls := "LeftIsAgreedOn$Walk", name := "by", desc := "()I" } : Jvm.MethodName) ({ cls := "LeftIsAgreedOn$Walk", name := "by", desc := "()I" } : Jvm.MethodName)) ∈ lw_all := lw_g (lw_at lw_m3 12 rfl) rfl
theorem q559 : (Jvm.Cond.code ({ cls := "LeftIsAgreedOn$Walk", name := "by", desc := "()I" } : Jvm.MethodName) prog_14_method_6_code (1 : Nat) (Option.some Jvm.ClassFile.FieldType.int)) ∈ lw_all := lw_g (lw_at lw_m3 13 rfl) rfl
theorem q1179 : (Jvm.Cond.instanceMethod ({ cls := "LeftIsAgreedOn$Walk", name := "becomes", desc := "(LLeftIsAgreedOn$Walk;)LLeftIsAgreedOn$Walk;" } : Jvm.MethodName)) ∈ lw_all := lw_g (lw_at lw_m5 153 rfl) rfl
theorem q1180 : (Jvm.Cond.selects "LeftIsAgreedOn$Walk" ({ cls := "LeftIsAgreedOn$Walk", name := "becomes", desc := "(LLeftIsAgreedOn$Walk;)LLeftIsAgreedOn$Walk;" } : Jvm.MethodName) ({ cls := "LeftIsAgreedOn$Walk", name := "becomes", desc := "(LLeftIsAgreedOn$Walk;)LLeftIsAgreedOn$Walk;" } : Jvm.MethodName)) ∈ lw_all := lw_g (lw_at lw_m5 154 rfl) rfl
theorem q1181 : (Jvm.Cond.code ({ cls := "LeftIsAgreedOn$Walk", name := "becomes", desc := "(LLeftIsAgreedOn$Walk;)LLeftIsAgreedOn$Walk;" } : Jvm.MethodName) prog_14_method_3_code (2 : Nat) (Option.some (Jvm.ClassFile.FieldType.object "LeftIsAgreedOn$Walk"))) ∈ lw_all := lw_g (lw_at lw_m5 155 rfl) rfl
theorem in_X2 : ∀ w ∈ wsX20, w ∈ lw_all := lw_in wsX20 [189, 191, 193, 195, 197, 199, 201, 203] (by decide +kernel) (by decide +kernel)
/-! LeftIsAgreedOn$Sheet -/
set_option maxRecDepth 100000
def RX3 : String := "LeftIsAgreedOn$Sheet"
def TX3 : u_T := fun k => match k with
  | _ => ("LeftIsAgreedOn$Sheet", "held", "Ljava/lang/Object;", false)
def tyX3 : Nat → FieldType := fun k => match k with
  | _ => .object "java/lang/Object"
abbrev wsX30 : List Cond := u_ws RX3 TX3 1
theorem nmX3 : ∀ a, a < 1 → ∀ b, b < 1 → a ≠ b → (TX3 a).2.1 ≠ (TX3 b).2.1 := by decide +kernel
theorem tyX3_ok : ∀ k, k < 1 → parseFieldDescriptor (TX3 k).2.2.1 = some (tyX3 k) := by decide +kernel
abbrev cX3_init : ByteArray := prog_10_method_1_code
def yX3_init : MethodName := ⟨RX3, "<init>", "()V"⟩
theorem dX3_init_0 : decode cX3_init 0 = .ok (.aload_n 0, 1) := by decide +kernel
theorem dX3_init_1 : decode cX3_init 1 = .ok (.invokespecial 1, 3) := by decide +kernel
theorem dX3_init_4 : decode cX3_init 4 = .ok (.return_, 1) := by decide +kernel
theorem q70 : (Jvm.Cond.initialized "LeftIsAgreedOn$Sheet") ∈ lw_all := lw_g (lw_at lw_m1 4 rfl) rfl
theorem q209 : (Jvm.Cond.instantiable "LeftIsAgreedOn$Sheet" (1 : Nat)) ∈ lw_all := lw_g (lw_at lw_m1 143 rfl) rfl
theorem q211 : (Jvm.Cond.instanceMethod ({ cls := "LeftIsAgreedOn$Sheet", name := "<init>", desc := "()V" } : Jvm.MethodName)) ∈ lw_all := lw_g (lw_at lw_m1 145 rfl) rfl
theorem q212 : (Jvm.Cond.code ({ cls := "LeftIsAgreedOn$Sheet", name := "<init>", desc := "()V" } : Jvm.MethodName) prog_10_method_1_code (1 : Nat) (Option.none : Option Jvm.ClassFile.FieldType)) ∈ lw_all := lw_g (lw_at lw_m1 146 rfl) rfl
theorem q213 : (Jvm.Cond.methodLink "LeftIsAgreedOn$Sheet" (1 : Nat) ({ cls := "java/lang/Object", name := "<init>", desc := "()V" } : Jvm.MethodName)) ∈ lw_all := lw_g (lw_at lw_m1 147 rfl) rfl
theorem q215 : (Jvm.Cond.lays "LeftIsAgreedOn$Sheet" "LeftIsAgreedOn$Sheet" "held" "Ljava/lang/Object;") ∈ lw_all := lw_g (lw_at lw_m1 149 rfl) rfl
theorem q216 : (Jvm.Cond.soleField "LeftIsAgreedOn$Sheet" "held") ∈ lw_all := lw_g (lw_at lw_m1 150 rfl) rfl
theorem q217 : (Jvm.Cond.superclass "LeftIsAgreedOn$Sheet" "java/lang/Object") ∈ lw_all := lw_g (lw_at lw_m1 151 rfl) rfl
theorem in_X3 : ∀ w ∈ wsX30, w ∈ lw_all := lw_in wsX30 [215] (by decide +kernel) (by decide +kernel)
/-! LeftIsAgreedOn$Refused -/
set_option maxRecDepth 100000
def RX5 : String := "LeftIsAgreedOn$Refused"
def TX5 : u_T := fun k => match k with
  | 0 => ("java/lang/Throwable", "cause", "Ljava/lang/Throwable;", false)
  | 1 => ("java/lang/Throwable", "stackTrace", "[Ljava/lang/StackTraceElement;", false)
  | 2 => ("java/lang/Throwable", "suppressedExceptions", "Ljava/util/List;", false)
  | 3 => ("java/lang/Throwable", "detailMessage", "Ljava/lang/String;", false)
  | 4 => ("java/lang/Throwable", "backtrace", "Ljava/lang/Object;", false)
  | 5 => ("java/lang/Throwable", "depth", "I", false)
  | _ => ("LeftIsAgreedOn$Refused", "by", "I", true)
def tyX5 : Nat → FieldType := fun k => match k with
  | 0 => .object "java/lang/Throwable"
  | 1 => .array (.object "java/lang/StackTraceElement")
  | 2 => .object "java/util/List"
  | 3 => .object "java/lang/String"
  | 4 => .object "java/lang/Object"
  | 5 => .int
  | _ => .int
abbrev wsX50 : List Cond := u_ws RX5 TX5 7
theorem nmX5 : ∀ a, a < 7 → ∀ b, b < 7 → a ≠ b → (TX5 a).2.1 ≠ (TX5 b).2.1 := by decide +kernel
theorem tyX5_ok : ∀ k, k < 7 → parseFieldDescriptor (TX5 k).2.2.1 = some (tyX5 k) := by decide +kernel
abbrev cX5_init : ByteArray := prog_9_method_1_code
def yX5_init : MethodName := ⟨RX5, "<init>", "(I)V"⟩
def dkwX5_init_0 : List UInt8 := [42, 1, 1, 3, 3, 183, 0, 1, 42, 27, 181, 0, 7, 177]
abbrev dktX5_init_0 : List UInt8 := dkwX5_init_0 ++ []
theorem dksX5_init_0 : cX5_init.data.toList.drop 0 = dktX5_init_0 := by decide +kernel
theorem dX5_init_0 : decode cX5_init 0 = .ok (.aload_n 0, 1) := dk_42 (dk_at dksX5_init_0 0 rfl rfl)
theorem dX5_init_1 : decode cX5_init 1 = .ok (.aconst_null, 1) := dk_1 (dk_at dksX5_init_0 1 rfl rfl)
theorem dX5_init_2 : decode cX5_init 2 = .ok (.aconst_null, 1) := dk_1 (dk_at dksX5_init_0 2 rfl rfl)
theorem dX5_init_3 : decode cX5_init 3 = .ok (.iconst 0, 1) := dk_3 (dk_at dksX5_init_0 3 rfl rfl)
theorem dX5_init_4 : decode cX5_init 4 = .ok (.iconst 0, 1) := dk_3 (dk_at dksX5_init_0 4 rfl rfl)
theorem dX5_init_5 : decode cX5_init 5 = .ok (.invokespecial 1, 3) := dk_183 0 1 (dk_at dksX5_init_0 5 rfl rfl)
theorem dX5_init_8 : decode cX5_init 8 = .ok (.aload_n 0, 1) := dk_42 (dk_at dksX5_init_0 8 rfl rfl)
theorem dX5_init_9 : decode cX5_init 9 = .ok (.iload_n 1, 1) := dk_27 (dk_at dksX5_init_0 9 rfl rfl)
theorem dX5_init_10 : decode cX5_init 10 = .ok (.putfield 7, 3) := dk_181 0 7 (dk_at dksX5_init_0 10 rfl rfl)
theorem dX5_init_13 : decode cX5_init 13 = .ok (.return_, 1) := dk_177 (dk_at dksX5_init_0 13 rfl rfl)
theorem q79 : (Jvm.Cond.initialized "LeftIsAgreedOn$Refused") ∈ lw_all := lw_g (lw_at lw_m1 13 rfl) rfl
theorem q281 : (Jvm.Cond.selects "LeftIsAgreedOn$Refused" ({ cls := "java/lang/Throwable", name := "fillInStackTrace", desc := "()Ljava/lang/Throwable;" } : Jvm.MethodName) ({ cls := "java/lang/Throwable", name := "fillInStackTrace", desc := "()Ljava/lang/Throwable;" } : Jvm.MethodName)) ∈ lw_all := lw_g (lw_at lw_m1 215 rfl) rfl
theorem q392 : (Jvm.Cond.instantiable "LeftIsAgreedOn$Refused" (7 : Nat)) ∈ lw_all := lw_g (lw_at lw_m2 86 rfl) rfl
theorem q393 : (Jvm.Cond.castable "LeftIsAgreedOn$Refused" "LeftIsAgreedOn$Refused") ∈ lw_tbl := lw_at lw_m2 87 rfl
theorem q394 : (Jvm.Cond.selects "LeftIsAgreedOn$Refused" ({ cls := "java/lang/Throwable", name := "fillInStackTrace", desc := "(I)Ljava/lang/Throwable;" } : Jvm.MethodName) ({ cls := "java/lang/Throwable", name := "fillInStackTrace", desc := "(I)Ljava/lang/Throwable;" } : Jvm.MethodName)) ∈ lw_all := lw_g (lw_at lw_m2 88 rfl) rfl
theorem q395 : (Jvm.Cond.lays "LeftIsAgreedOn$Refused" "java/lang/Throwable" "cause" "Ljava/lang/Throwable;") ∈ lw_all := lw_g (lw_at lw_m2 89 rfl) rfl
theorem q396 : (Jvm.Cond.lays "LeftIsAgreedOn$Refused" "java/lang/Throwable" "stackTrace" "[Ljava/lang/StackTraceElement;") ∈ lw_all := lw_g (lw_at lw_m2 90 rfl) rfl
theorem q397 : (Jvm.Cond.lays "LeftIsAgreedOn$Refused" "java/lang/Throwable" "suppressedExceptions" "Ljava/util/List;") ∈ lw_all := lw_g (lw_at lw_m2 91 rfl) rfl
theorem q398 : (Jvm.Cond.lays "LeftIsAgreedOn$Refused" "java/lang/Throwable" "detailMessage" "Ljava/lang/String;") ∈ lw_all := lw_g (lw_at lw_m2 92 rfl) rfl
theorem q399 : (Jvm.Cond.lays "LeftIsAgreedOn$Refused" "java/lang/Throwable" "backtrace" "Ljava/lang/Object;") ∈ lw_all := lw_g (lw_at lw_m2 93 rfl) rfl
theorem q401 : (Jvm.Cond.instanceMethod ({ cls := "LeftIsAgreedOn$Refused", name := "<init>", desc := "(I)V" } : Jvm.MethodName)) ∈ lw_all := lw_g (lw_at lw_m2 95 rfl) rfl
theorem q402 : (Jvm.Cond.code ({ cls := "LeftIsAgreedOn$Refused", name := "<init>", desc := "(I)V" } : Jvm.MethodName) prog_9_method_1_code (2 : Nat) (Option.none : Option Jvm.ClassFile.FieldType)) ∈ lw_all := lw_g (lw_at lw_m2 96 rfl) rfl
theorem q403 : (Jvm.Cond.methodLink "LeftIsAgreedOn$Refused" (1 : Nat) ({ cls := "java/lang/RuntimeException", name := "<init>", desc := "(Ljava/lang/String;Ljava/lang/Throwable;ZZ)V" } : Jvm.MethodName)) ∈ lw_all := lw_g (lw_at lw_m2 97 rfl) rfl
theorem q412 : (Jvm.Cond.fieldLink "LeftIsAgreedOn$Refused" (7 : Nat) "LeftIsAgreedOn$Refused" "by" "I") ∈ lw_all := lw_g (lw_at lw_m2 106 rfl) rfl
theorem q414 : (Jvm.Cond.laysFinal "LeftIsAgreedOn$Refused" "LeftIsAgreedOn$Refused" "by" "I") ∈ lw_all := lw_g (lw_at lw_m2 108 rfl) rfl
theorem q415 : (Jvm.Cond.soleField "LeftIsAgreedOn$Refused" "by") ∈ lw_all := lw_g (lw_at lw_m2 109 rfl) rfl
theorem q416 : (Jvm.Cond.lays "LeftIsAgreedOn$Refused" "java/lang/Throwable" "depth" "I") ∈ lw_all := lw_g (lw_at lw_m2 110 rfl) rfl
theorem q417 : (Jvm.Cond.superclass "LeftIsAgreedOn$Refused" "java/lang/RuntimeException") ∈ lw_all := lw_g (lw_at lw_m2 111 rfl) rfl
theorem in_X5 : ∀ w ∈ wsX50, w ∈ lw_all := lw_in wsX50 [395, 396, 397, 398, 399, 416, 414] (by decide +kernel) (by decide +kernel)
/-! LeftIsAgreedOn$Voter -/
set_option maxRecDepth 100000
def RX6 : String := "LeftIsAgreedOn$Voter"
def TX6 : u_T := fun k => match k with
  | 0 => ("LeftIsAgreedOn$Voter", "number", "I", true)
  | _ => ("LeftIsAgreedOn$Voter", "a", "I", true)
def tyX6 : Nat → FieldType := fun k => match k with
  | 0 => .int
  | _ => .int
abbrev wsX60 : List Cond := u_ws RX6 TX6 2
theorem nmX6 : ∀ a, a < 2 → ∀ b, b < 2 → a ≠ b → (TX6 a).2.1 ≠ (TX6 b).2.1 := by decide +kernel
theorem tyX6_ok : ∀ k, k < 2 → parseFieldDescriptor (TX6 k).2.2.1 = some (tyX6 k) := by decide +kernel
abbrev cX6_by : ByteArray := prog_13_method_3_code
def yX6_by : MethodName := ⟨RX6, "by", "(LLeftIsAgreedOn$Island;LLeftIsAgreedOn$Walk;II)I"⟩
theorem dX6_by_0 : decode cX6_by 0 = .ok (.iload 4, 2) := by decide +kernel
theorem dX6_by_2 : decode cX6_by 2 = .ok (.ireturn, 1) := by decide +kernel
abbrev cX6_init : ByteArray := prog_13_method_1_code
def yX6_init : MethodName := ⟨RX6, "<init>", "(II)V"⟩
def dkwX6_init_0 : List UInt8 := [42, 183, 0, 1, 42, 27, 181, 0, 7, 42, 28, 181, 0, 13, 177]
abbrev dktX6_init_0 : List UInt8 := dkwX6_init_0 ++ []
theorem dksX6_init_0 : cX6_init.data.toList.drop 0 = dktX6_init_0 := by decide +kernel
theorem dX6_init_0 : decode cX6_init 0 = .ok (.aload_n 0, 1) := dk_42 (dk_at dksX6_init_0 0 rfl rfl)
theorem dX6_init_1 : decode cX6_init 1 = .ok (.invokespecial 1, 3) := dk_183 0 1 (dk_at dksX6_init_0 1 rfl rfl)
theorem dX6_init_4 : decode cX6_init 4 = .ok (.aload_n 0, 1) := dk_42 (dk_at dksX6_init_0 4 rfl rfl)
theorem dX6_init_5 : decode cX6_init 5 = .ok (.iload_n 1, 1) := dk_27 (dk_at dksX6_init_0 5 rfl rfl)
theorem dX6_init_6 : decode cX6_init 6 = .ok (.putfield 7, 3) := dk_181 0 7 (dk_at dksX6_init_0 6 rfl rfl)
theorem dX6_init_9 : decode cX6_init 9 = .ok (.aload_n 0, 1) := dk_42 (dk_at dksX6_init_0 9 rfl rfl)
theorem dX6_init_10 : decode cX6_init 10 = .ok (.iload_n 2, 1) := dk_28 (dk_at dksX6_init_0 10 rfl rfl)
theorem dX6_init_11 : decode cX6_init 11 = .ok (.putfield 13, 3) := dk_181 0 13 (dk_at dksX6_init_0 11 rfl rfl)
theorem dX6_init_14 : decode cX6_init 14 = .ok (.return_, 1) := dk_177 (dk_at dksX6_init_0 14 rfl rfl)
abbrev cX6_kind : ByteArray := prog_13_method_2_code
def yX6_kind : MethodName := ⟨RX6, "kind", "()I"⟩
theorem dX6_kind_0 : decode cX6_kind 0 = .ok (.iconst 0, 1) := by decide +kernel
theorem dX6_kind_1 : decode cX6_kind 1 = .ok (.ireturn, 1) := by decide +kernel
theorem q84 : (Jvm.Cond.initialized "LeftIsAgreedOn$Voter") ∈ lw_all := lw_g (lw_at lw_m1 18 rfl) rfl
theorem q543 : (Jvm.Cond.instanceMethod ({ cls := "LeftIsAgreedOn$Voter", name := "by", desc := "(LLeftIsAgreedOn$Island;LLeftIsAgreedOn$Walk;II)I" } : Jvm.MethodName)) ∈ lw_all := lw_g (lw_at lw_m2 237 rfl) rfl
theorem q544 : (Jvm.Cond.selects "LeftIsAgreedOn$Voter" ({ cls := "LeftIsAgreedOn$Voter", name := "by", desc := "(LLeftIsAgreedOn$Island;LLeftIsAgreedOn$Walk;II)I" } : Jvm.MethodName) ({ cls := "LeftIsAgreedOn$Voter", name := "by", desc := "(LLeftIsAgreedOn$Island;LLeftIsAgreedOn$Walk;II)I" } : Jvm.MethodName)) ∈ lw_all := lw_g (lw_at lw_m2 238 rfl) rfl
theorem q545 : (Jvm.Cond.sameMethod "LeftIsAgreedOn$Voter" "LeftIsAgreedOn$Voter" "by" "(LLeftIsAgreedOn$Island;LLeftIsAgreedOn$Walk;II)I") ∈ lw_all := lw_g (lw_at lw_m2 239 rfl) rfl
theorem q551 : (Jvm.Cond.code ({ cls := "LeftIsAgreedOn$Voter", name := "by", desc := "(LLeftIsAgreedOn$Island;LLeftIsAgreedOn$Walk;II)I" } : Jvm.MethodName) prog_13_method_3_code (5 : Nat) (Option.some Jvm.ClassFile.FieldType.int)) ∈ lw_all := lw_g (lw_at lw_m3 5 rfl) rfl
theorem q625 : (Jvm.Cond.instantiable "LeftIsAgreedOn$Voter" (2 : Nat)) ∈ lw_all := lw_g (lw_at lw_m3 79 rfl) rfl
theorem q627 : (Jvm.Cond.instanceMethod ({ cls := "LeftIsAgreedOn$Voter", name := "<init>", desc := "(II)V" } : Jvm.MethodName)) ∈ lw_all := lw_g (lw_at lw_m3 81 rfl) rfl
theorem q628 : (Jvm.Cond.code ({ cls := "LeftIsAgreedOn$Voter", name := "<init>", desc := "(II)V" } : Jvm.MethodName) prog_13_method_1_code (3 : Nat) (Option.none : Option Jvm.ClassFile.FieldType)) ∈ lw_all := lw_g (lw_at lw_m3 82 rfl) rfl
theorem q629 : (Jvm.Cond.methodLink "LeftIsAgreedOn$Voter" (1 : Nat) ({ cls := "java/lang/Object", name := "<init>", desc := "()V" } : Jvm.MethodName)) ∈ lw_all := lw_g (lw_at lw_m3 83 rfl) rfl
theorem q630 : (Jvm.Cond.fieldLink "LeftIsAgreedOn$Voter" (7 : Nat) "LeftIsAgreedOn$Voter" "number" "I") ∈ lw_all := lw_g (lw_at lw_m3 84 rfl) rfl
theorem q634 : (Jvm.Cond.fieldLink "LeftIsAgreedOn$Voter" (13 : Nat) "LeftIsAgreedOn$Voter" "a" "I") ∈ lw_all := lw_g (lw_at lw_m3 88 rfl) rfl
theorem q637 : (Jvm.Cond.laysFinal "LeftIsAgreedOn$Voter" "LeftIsAgreedOn$Voter" "number" "I") ∈ lw_all := lw_g (lw_at lw_m3 91 rfl) rfl
theorem q638 : (Jvm.Cond.soleField "LeftIsAgreedOn$Voter" "number") ∈ lw_all := lw_g (lw_at lw_m3 92 rfl) rfl
theorem q639 : (Jvm.Cond.laysFinal "LeftIsAgreedOn$Voter" "LeftIsAgreedOn$Voter" "a" "I") ∈ lw_all := lw_g (lw_at lw_m3 93 rfl) rfl
theorem q640 : (Jvm.Cond.soleField "LeftIsAgreedOn$Voter" "a") ∈ lw_all := lw_g (lw_at lw_m3 94 rfl) rfl
theorem q641 : (Jvm.Cond.superclass "LeftIsAgreedOn$Voter" "java/lang/Object") ∈ lw_all := lw_g (lw_at lw_m3 95 rfl) rfl
theorem q1076 : (Jvm.Cond.instanceMethod ({ cls := "LeftIsAgreedOn$Voter", name := "kind", desc := "()I" } : Jvm.MethodName)) ∈ lw_all := lw_g (lw_at lw_m5 50 rfl) rfl
theorem q1077 : (Jvm.Cond.selects "LeftIsAgreedOn$Voter" ({ cls := "LeftIsAgreedOn$Voter", name := "kind", desc := "()I" } : Jvm.MethodName) ({ cls := "LeftIsAgreedOn$Voter", name := "kind", desc := "()I" } : Jvm.MethodName)) ∈ lw_all := lw_g (lw_at lw_m5 51 rfl) rfl
theorem q1078 : (Jvm.Cond.sameMethod "LeftIsAgreedOn$Voter" "LeftIsAgreedOn$Voter" "kind" "()I") ∈ lw_all := lw_g (lw_at lw_m5 52 rfl) rfl
theorem q1094 : (Jvm.Cond.code ({ cls := "LeftIsAgreedOn$Voter", name := "kind", desc := "()I" } : Jvm.MethodName) prog_13_method_2_code (1 : Nat) (Option.some Jvm.ClassFile.FieldType.int)) ∈ lw_all := lw_g (lw_at lw_m5 68 rfl) rfl
theorem in_X6 : ∀ w ∈ wsX60, w ∈ lw_all := lw_in wsX60 [637, 639] (by decide +kernel) (by decide +kernel)
/-! LeftIsAgreedOn$Olden -/
set_option maxRecDepth 100000
def RX7 : String := "LeftIsAgreedOn$Olden"
def TX7 : u_T := fun k => match k with
  | 0 => ("LeftIsAgreedOn$Voter", "number", "I", true)
  | _ => ("LeftIsAgreedOn$Voter", "a", "I", true)
def tyX7 : Nat → FieldType := fun k => match k with
  | 0 => .int
  | _ => .int
abbrev wsX70 : List Cond := u_ws RX7 TX7 2
theorem nmX7 : ∀ a, a < 2 → ∀ b, b < 2 → a ≠ b → (TX7 a).2.1 ≠ (TX7 b).2.1 := by decide +kernel
theorem tyX7_ok : ∀ k, k < 2 → parseFieldDescriptor (TX7 k).2.2.1 = some (tyX7 k) := by decide +kernel
abbrev cX7_by : ByteArray := prog_7_method_3_code
def yX7_by : MethodName := ⟨RX7, "by", "(LLeftIsAgreedOn$Island;LLeftIsAgreedOn$Walk;II)I"⟩
def dkwX7_by_0 : List UInt8 := [43, 180, 0, 7, 4, 46, 172]
abbrev dktX7_by_0 : List UInt8 := dkwX7_by_0 ++ []
theorem dksX7_by_0 : cX7_by.data.toList.drop 0 = dktX7_by_0 := by decide +kernel
theorem dX7_by_0 : decode cX7_by 0 = .ok (.aload_n 1, 1) := dk_43 (dk_at dksX7_by_0 0 rfl rfl)
theorem dX7_by_1 : decode cX7_by 1 = .ok (.getfield 7, 3) := dk_180 0 7 (dk_at dksX7_by_0 1 rfl rfl)
theorem dX7_by_4 : decode cX7_by 4 = .ok (.iconst 1, 1) := dk_4 (dk_at dksX7_by_0 4 rfl rfl)
theorem dX7_by_5 : decode cX7_by 5 = .ok (.iaload, 1) := dk_46 (dk_at dksX7_by_0 5 rfl rfl)
theorem dX7_by_6 : decode cX7_by 6 = .ok (.ireturn, 1) := dk_172 (dk_at dksX7_by_0 6 rfl rfl)
abbrev cX7_init : ByteArray := prog_7_method_1_code
def yX7_init : MethodName := ⟨RX7, "<init>", "(II)V"⟩
def dkwX7_init_0 : List UInt8 := [42, 27, 28, 183, 0, 1, 177]
abbrev dktX7_init_0 : List UInt8 := dkwX7_init_0 ++ []
theorem dksX7_init_0 : cX7_init.data.toList.drop 0 = dktX7_init_0 := by decide +kernel
theorem dX7_init_0 : decode cX7_init 0 = .ok (.aload_n 0, 1) := dk_42 (dk_at dksX7_init_0 0 rfl rfl)
theorem dX7_init_1 : decode cX7_init 1 = .ok (.iload_n 1, 1) := dk_27 (dk_at dksX7_init_0 1 rfl rfl)
theorem dX7_init_2 : decode cX7_init 2 = .ok (.iload_n 2, 1) := dk_28 (dk_at dksX7_init_0 2 rfl rfl)
theorem dX7_init_3 : decode cX7_init 3 = .ok (.invokespecial 1, 3) := dk_183 0 1 (dk_at dksX7_init_0 3 rfl rfl)
theorem dX7_init_6 : decode cX7_init 6 = .ok (.return_, 1) := dk_177 (dk_at dksX7_init_0 6 rfl rfl)
abbrev cX7_kind : ByteArray := prog_7_method_2_code
def yX7_kind : MethodName := ⟨RX7, "kind", "()I"⟩
theorem dX7_kind_0 : decode cX7_kind 0 = .ok (.iconst 1, 1) := by decide +kernel
theorem dX7_kind_1 : decode cX7_kind 1 = .ok (.ireturn, 1) := by decide +kernel
theorem q85 : (Jvm.Cond.initialized "LeftIsAgreedOn$Olden") ∈ lw_all := lw_g (lw_at lw_m1 19 rfl) rfl
theorem q129 : (Jvm.Cond.fieldLink "LeftIsAgreedOn$Olden" (7 : Nat) "LeftIsAgreedOn$Island" "told" "[I") ∈ lw_all := lw_g (lw_at lw_m1 63 rfl) rfl
theorem q580 : (Jvm.Cond.selects "LeftIsAgreedOn$Olden" ({ cls := "LeftIsAgreedOn$Voter", name := "by", desc := "(LLeftIsAgreedOn$Island;LLeftIsAgreedOn$Walk;II)I" } : Jvm.MethodName) ({ cls := "LeftIsAgreedOn$Olden", name := "by", desc := "(LLeftIsAgreedOn$Island;LLeftIsAgreedOn$Walk;II)I" } : Jvm.MethodName)) ∈ lw_all := lw_g (lw_at lw_m3 34 rfl) rfl
theorem q581 : (Jvm.Cond.instanceMethod ({ cls := "LeftIsAgreedOn$Olden", name := "by", desc := "(LLeftIsAgreedOn$Island;LLeftIsAgreedOn$Walk;II)I" } : Jvm.MethodName)) ∈ lw_all := lw_g (lw_at lw_m3 35 rfl) rfl
theorem q582 : (Jvm.Cond.code ({ cls := "LeftIsAgreedOn$Olden", name := "by", desc := "(LLeftIsAgreedOn$Island;LLeftIsAgreedOn$Walk;II)I" } : Jvm.MethodName) prog_7_method_3_code (5 : Nat) (Option.some Jvm.ClassFile.FieldType.int)) ∈ lw_all := lw_g (lw_at lw_m3 36 rfl) rfl
theorem q642 : (Jvm.Cond.instantiable "LeftIsAgreedOn$Olden" (2 : Nat)) ∈ lw_all := lw_g (lw_at lw_m3 96 rfl) rfl
theorem q644 : (Jvm.Cond.instanceMethod ({ cls := "LeftIsAgreedOn$Olden", name := "<init>", desc := "(II)V" } : Jvm.MethodName)) ∈ lw_all := lw_g (lw_at lw_m3 98 rfl) rfl
theorem q645 : (Jvm.Cond.code ({ cls := "LeftIsAgreedOn$Olden", name := "<init>", desc := "(II)V" } : Jvm.MethodName) prog_7_method_1_code (3 : Nat) (Option.none : Option Jvm.ClassFile.FieldType)) ∈ lw_all := lw_g (lw_at lw_m3 99 rfl) rfl
theorem q646 : (Jvm.Cond.methodLink "LeftIsAgreedOn$Olden" (1 : Nat) ({ cls := "LeftIsAgreedOn$Voter", name := "<init>", desc := "(II)V" } : Jvm.MethodName)) ∈ lw_all := lw_g (lw_at lw_m3 100 rfl) rfl
theorem q647 : (Jvm.Cond.laysFinal "LeftIsAgreedOn$Olden" "LeftIsAgreedOn$Voter" "number" "I") ∈ lw_all := lw_g (lw_at lw_m3 101 rfl) rfl
theorem q648 : (Jvm.Cond.laysFinal "LeftIsAgreedOn$Olden" "LeftIsAgreedOn$Voter" "a" "I") ∈ lw_all := lw_g (lw_at lw_m3 102 rfl) rfl
theorem q649 : (Jvm.Cond.superclass "LeftIsAgreedOn$Olden" "LeftIsAgreedOn$Voter") ∈ lw_all := lw_g (lw_at lw_m3 103 rfl) rfl
theorem q1088 : (Jvm.Cond.selects "LeftIsAgreedOn$Olden" ({ cls := "LeftIsAgreedOn$Voter", name := "kind", desc := "()I" } : Jvm.MethodName) ({ cls := "LeftIsAgreedOn$Olden", name := "kind", desc := "()I" } : Jvm.MethodName)) ∈ lw_all := lw_g (lw_at lw_m5 62 rfl) rfl
theorem q1089 : (Jvm.Cond.instanceMethod ({ cls := "LeftIsAgreedOn$Olden", name := "kind", desc := "()I" } : Jvm.MethodName)) ∈ lw_all := lw_g (lw_at lw_m5 63 rfl) rfl
theorem q1090 : (Jvm.Cond.code ({ cls := "LeftIsAgreedOn$Olden", name := "kind", desc := "()I" } : Jvm.MethodName) prog_7_method_2_code (1 : Nat) (Option.some Jvm.ClassFile.FieldType.int)) ∈ lw_all := lw_g (lw_at lw_m5 64 rfl) rfl
theorem q1836 : (Jvm.Cond.castable "LeftIsAgreedOn$Olden" "LeftIsAgreedOn$Voter") ∈ lw_tbl := lw_at lw_m8 90 rfl
theorem in_X7 : ∀ w ∈ wsX70, w ∈ lw_all := lw_in wsX70 [647, 648] (by decide +kernel) (by decide +kernel)
/-! LeftIsAgreedOn$Doubter -/
set_option maxRecDepth 100000
def RX8 : String := "LeftIsAgreedOn$Doubter"
def TX8 : u_T := fun k => match k with
  | 0 => ("LeftIsAgreedOn$Voter", "number", "I", true)
  | _ => ("LeftIsAgreedOn$Voter", "a", "I", true)
def tyX8 : Nat → FieldType := fun k => match k with
  | 0 => .int
  | _ => .int
abbrev wsX80 : List Cond := u_ws RX8 TX8 2
theorem nmX8 : ∀ a, a < 2 → ∀ b, b < 2 → a ≠ b → (TX8 a).2.1 ≠ (TX8 b).2.1 := by decide +kernel
theorem tyX8_ok : ∀ k, k < 2 → parseFieldDescriptor (TX8 k).2.2.1 = some (tyX8 k) := by decide +kernel
abbrev cX8_by : ByteArray := prog_3_method_4_code
def yX8_by : MethodName := ⟨RX8, "by", "(LLeftIsAgreedOn$Island;LLeftIsAgreedOn$Walk;II)I"⟩
def dkwX8_by_1 : List UInt8 := [167, 0, 5, 21, 5, 172]
abbrev dktX8_by_1 : List UInt8 := dkwX8_by_1 ++ []
def dkwX8_by_0 : List UInt8 := [42, 43, 44, 29, 21, 4, 183, 0, 13, 54, 5, 42, 43, 44, 182, 0, 17, 153, 0, 10, 4, 21, 5, 100]
abbrev dktX8_by_0 : List UInt8 := dkwX8_by_0 ++ dktX8_by_1
theorem dksX8_by_0 : cX8_by.data.toList.drop 0 = dktX8_by_0 := by decide +kernel
theorem dksX8_by_1 : cX8_by.data.toList.drop 24 = dktX8_by_1 := dk_seg dksX8_by_0 24 rfl rfl
theorem dX8_by_0 : decode cX8_by 0 = .ok (.aload_n 0, 1) := dk_42 (dk_at dksX8_by_0 0 rfl rfl)
theorem dX8_by_1 : decode cX8_by 1 = .ok (.aload_n 1, 1) := dk_43 (dk_at dksX8_by_0 1 rfl rfl)
theorem dX8_by_2 : decode cX8_by 2 = .ok (.aload_n 2, 1) := dk_44 (dk_at dksX8_by_0 2 rfl rfl)
theorem dX8_by_3 : decode cX8_by 3 = .ok (.iload_n 3, 1) := dk_29 (dk_at dksX8_by_0 3 rfl rfl)
theorem dX8_by_4 : decode cX8_by 4 = .ok (.iload 4, 2) := dk_21 4 (dk_at dksX8_by_0 4 rfl rfl)
theorem dX8_by_6 : decode cX8_by 6 = .ok (.invokespecial 13, 3) := dk_183 0 13 (dk_at dksX8_by_0 6 rfl rfl)
theorem dX8_by_9 : decode cX8_by 9 = .ok (.istore 5, 2) := dk_54 5 (dk_at dksX8_by_0 9 rfl rfl)
theorem dX8_by_11 : decode cX8_by 11 = .ok (.aload_n 0, 1) := dk_42 (dk_at dksX8_by_0 11 rfl rfl)
theorem dX8_by_12 : decode cX8_by 12 = .ok (.aload_n 1, 1) := dk_43 (dk_at dksX8_by_0 12 rfl rfl)
theorem dX8_by_13 : decode cX8_by 13 = .ok (.aload_n 2, 1) := dk_44 (dk_at dksX8_by_0 13 rfl rfl)
theorem dX8_by_14 : decode cX8_by 14 = .ok (.invokevirtual 17, 3) := dk_182 0 17 (dk_at dksX8_by_0 14 rfl rfl)
theorem dX8_by_17 : decode cX8_by 17 = .ok (.ifCond .eq 10, 3) := dk_153 0 10 (dk_at dksX8_by_0 17 rfl rfl)
theorem dX8_by_20 : decode cX8_by 20 = .ok (.iconst 1, 1) := dk_4 (dk_at dksX8_by_0 20 rfl rfl)
theorem dX8_by_21 : decode cX8_by 21 = .ok (.iload 5, 2) := dk_21 5 (dk_at dksX8_by_0 21 rfl rfl)
theorem dX8_by_23 : decode cX8_by 23 = .ok (.isub, 1) := dk_100 (dk_at dksX8_by_0 23 rfl rfl)
theorem dX8_by_24 : decode cX8_by 24 = .ok (.goto 5, 3) := dk_167 0 5 (dk_at dksX8_by_1 0 rfl rfl)
theorem dX8_by_27 : decode cX8_by 27 = .ok (.iload 5, 2) := dk_21 5 (dk_at dksX8_by_1 3 rfl rfl)
theorem dX8_by_29 : decode cX8_by 29 = .ok (.ireturn, 1) := dk_172 (dk_at dksX8_by_1 5 rfl rfl)
abbrev cX8_doubts : ByteArray := prog_3_method_3_code
def yX8_doubts : MethodName := ⟨RX8, "doubts", "(LLeftIsAgreedOn$Island;LLeftIsAgreedOn$Walk;)Z"⟩
def dkwX8_doubts_0 : List UInt8 := [44, 180, 0, 7, 5, 112, 4, 160, 0, 7, 4, 167, 0, 4, 3, 172]
abbrev dktX8_doubts_0 : List UInt8 := dkwX8_doubts_0 ++ []
theorem dksX8_doubts_0 : cX8_doubts.data.toList.drop 0 = dktX8_doubts_0 := by decide +kernel
theorem dX8_doubts_0 : decode cX8_doubts 0 = .ok (.aload_n 2, 1) := dk_44 (dk_at dksX8_doubts_0 0 rfl rfl)
theorem dX8_doubts_1 : decode cX8_doubts 1 = .ok (.getfield 7, 3) := dk_180 0 7 (dk_at dksX8_doubts_0 1 rfl rfl)
theorem dX8_doubts_4 : decode cX8_doubts 4 = .ok (.iconst 2, 1) := dk_5 (dk_at dksX8_doubts_0 4 rfl rfl)
theorem dX8_doubts_5 : decode cX8_doubts 5 = .ok (.irem, 1) := dk_112 (dk_at dksX8_doubts_0 5 rfl rfl)
theorem dX8_doubts_6 : decode cX8_doubts 6 = .ok (.iconst 1, 1) := dk_4 (dk_at dksX8_doubts_0 6 rfl rfl)
theorem dX8_doubts_7 : decode cX8_doubts 7 = .ok (.if_icmp .ne 7, 3) := dk_160 0 7 (dk_at dksX8_doubts_0 7 rfl rfl)
theorem dX8_doubts_10 : decode cX8_doubts 10 = .ok (.iconst 1, 1) := dk_4 (dk_at dksX8_doubts_0 10 rfl rfl)
theorem dX8_doubts_11 : decode cX8_doubts 11 = .ok (.goto 4, 3) := dk_167 0 4 (dk_at dksX8_doubts_0 11 rfl rfl)
theorem dX8_doubts_14 : decode cX8_doubts 14 = .ok (.iconst 0, 1) := dk_3 (dk_at dksX8_doubts_0 14 rfl rfl)
theorem dX8_doubts_15 : decode cX8_doubts 15 = .ok (.ireturn, 1) := dk_172 (dk_at dksX8_doubts_0 15 rfl rfl)
abbrev cX8_init : ByteArray := prog_3_method_1_code
def yX8_init : MethodName := ⟨RX8, "<init>", "(II)V"⟩
def dkwX8_init_0 : List UInt8 := [42, 27, 28, 183, 0, 1, 177]
abbrev dktX8_init_0 : List UInt8 := dkwX8_init_0 ++ []
theorem dksX8_init_0 : cX8_init.data.toList.drop 0 = dktX8_init_0 := by decide +kernel
theorem dX8_init_0 : decode cX8_init 0 = .ok (.aload_n 0, 1) := dk_42 (dk_at dksX8_init_0 0 rfl rfl)
theorem dX8_init_1 : decode cX8_init 1 = .ok (.iload_n 1, 1) := dk_27 (dk_at dksX8_init_0 1 rfl rfl)
theorem dX8_init_2 : decode cX8_init 2 = .ok (.iload_n 2, 1) := dk_28 (dk_at dksX8_init_0 2 rfl rfl)
theorem dX8_init_3 : decode cX8_init 3 = .ok (.invokespecial 1, 3) := dk_183 0 1 (dk_at dksX8_init_0 3 rfl rfl)
theorem dX8_init_6 : decode cX8_init 6 = .ok (.return_, 1) := dk_177 (dk_at dksX8_init_0 6 rfl rfl)
abbrev cX8_kind : ByteArray := prog_3_method_2_code
def yX8_kind : MethodName := ⟨RX8, "kind", "()I"⟩
theorem dX8_kind_0 : decode cX8_kind 0 = .ok (.iconst 2, 1) := by decide +kernel
theorem dX8_kind_1 : decode cX8_kind 1 = .ok (.ireturn, 1) := by decide +kernel
theorem q86 : (Jvm.Cond.initialized "LeftIsAgreedOn$Doubter") ∈ lw_all := lw_g (lw_at lw_m1 20 rfl) rfl
theorem q181 : (Jvm.Cond.fieldLink "LeftIsAgreedOn$Doubter" (7 : Nat) "LeftIsAgreedOn$Walk" "turns" "I") ∈ lw_all := lw_g (lw_at lw_m1 115 rfl) rfl
theorem q560 : (Jvm.Cond.selects "LeftIsAgreedOn$Doubter" ({ cls := "LeftIsAgreedOn$Voter", name := "by", desc := "(LLeftIsAgreedOn$Island;LLeftIsAgreedOn$Walk;II)I" } : Jvm.MethodName) ({ cls := "LeftIsAgreedOn$Doubter", name := "by", desc := "(LLeftIsAgreedOn$Island;LLeftIsAgreedOn$Walk;II)I" } : Jvm.MethodName)) ∈ lw_all := lw_g (lw_at lw_m3 14 rfl) rfl
theorem q561 : (Jvm.Cond.instanceMethod ({ cls := "LeftIsAgreedOn$Doubter", name := "by", desc := "(LLeftIsAgreedOn$Island;LLeftIsAgreedOn$Walk;II)I" } : Jvm.MethodName)) ∈ lw_all := lw_g (lw_at lw_m3 15 rfl) rfl
theorem q562 : (Jvm.Cond.code ({ cls := "LeftIsAgreedOn$Doubter", name := "by", desc := "(LLeftIsAgreedOn$Island;LLeftIsAgreedOn$Walk;II)I" } : Jvm.MethodName) prog_3_method_4_code (6 : Nat) (Option.some Jvm.ClassFile.FieldType.int)) ∈ lw_all := lw_g (lw_at lw_m3 16 rfl) rfl
theorem q563 : (Jvm.Cond.methodLink "LeftIsAgreedOn$Doubter" (13 : Nat) ({ cls := "LeftIsAgreedOn$Voter", name := "by", desc := "(LLeftIsAgreedOn$Island;LLeftIsAgreedOn$Walk;II)I" } : Jvm.MethodName)) ∈ lw_all := lw_g (lw_at lw_m3 17 rfl) rfl
theorem q564 : (Jvm.Cond.superclass "LeftIsAgreedOn$Doubter" "LeftIsAgreedOn$Voter") ∈ lw_all := lw_g (lw_at lw_m3 18 rfl) rfl
theorem q565 : (Jvm.Cond.methodLink "LeftIsAgreedOn$Doubter" (17 : Nat) ({ cls := "LeftIsAgreedOn$Doubter", name := "doubts", desc := "(LLeftIsAgreedOn$Island;LLeftIsAgreedOn$Walk;)Z" } : Jvm.MethodName)) ∈ lw_all := lw_g (lw_at lw_m3 19 rfl) rfl
theorem q566 : (Jvm.Cond.instanceMethod ({ cls := "LeftIsAgreedOn$Doubter", name := "doubts", desc := "(LLeftIsAgreedOn$Island;LLeftIsAgreedOn$Walk;)Z" } : Jvm.MethodName)) ∈ lw_all := lw_g (lw_at lw_m3 20 rfl) rfl
theorem q567 : (Jvm.Cond.selects "LeftIsAgreedOn$Doubter" ({ cls := "LeftIsAgreedOn$Doubter", name := "doubts", desc := "(LLeftIsAgreedOn$Island;LLeftIsAgreedOn$Walk;)Z" } : Jvm.MethodName) ({ cls := "LeftIsAgreedOn$Doubter", name := "doubts", desc := "(LLeftIsAgreedOn$Island;LLeftIsAgreedOn$Walk;)Z" } : Jvm.MethodName)) ∈ lw_all := lw_g (lw_at lw_m3 21 rfl) rfl
theorem q568 : (Jvm.Cond.sameMethod "LeftIsAgreedOn$Doubter" "LeftIsAgreedOn$Doubter" "doubts" "(LLeftIsAgreedOn$Island;LLeftIsAgreedOn$Walk;)Z") ∈ lw_all := lw_g (lw_at lw_m3 22 rfl) rfl
theorem q578 : (Jvm.Cond.code ({ cls := "LeftIsAgreedOn$Doubter", name := "doubts", desc := "(LLeftIsAgreedOn$Island;LLeftIsAgreedOn$Walk;)Z" } : Jvm.MethodName) prog_3_method_3_code (3 : Nat) (Option.some Jvm.ClassFile.FieldType.boolean)) ∈ lw_all := lw_g (lw_at lw_m3 32 rfl) rfl
theorem q650 : (Jvm.Cond.instantiable "LeftIsAgreedOn$Doubter" (2 : Nat)) ∈ lw_all := lw_g (lw_at lw_m3 104 rfl) rfl
theorem q652 : (Jvm.Cond.instanceMethod ({ cls := "LeftIsAgreedOn$Doubter", name := "<init>", desc := "(II)V" } : Jvm.MethodName)) ∈ lw_all := lw_g (lw_at lw_m3 106 rfl) rfl
theorem q653 : (Jvm.Cond.code ({ cls := "LeftIsAgreedOn$Doubter", name := "<init>", desc := "(II)V" } : Jvm.MethodName) prog_3_method_1_code (3 : Nat) (Option.none : Option Jvm.ClassFile.FieldType)) ∈ lw_all := lw_g (lw_at lw_m3 107 rfl) rfl
theorem q654 : (Jvm.Cond.methodLink "LeftIsAgreedOn$Doubter" (1 : Nat) ({ cls := "LeftIsAgreedOn$Voter", name := "<init>", desc := "(II)V" } : Jvm.MethodName)) ∈ lw_all := lw_g (lw_at lw_m3 108 rfl) rfl
theorem q655 : (Jvm.Cond.laysFinal "LeftIsAgreedOn$Doubter" "LeftIsAgreedOn$Voter" "number" "I") ∈ lw_all := lw_g (lw_at lw_m3 109 rfl) rfl
theorem q656 : (Jvm.Cond.laysFinal "LeftIsAgreedOn$Doubter" "LeftIsAgreedOn$Voter" "a" "I") ∈ lw_all := lw_g (lw_at lw_m3 110 rfl) rfl
theorem q1082 : (Jvm.Cond.selects "LeftIsAgreedOn$Doubter" ({ cls := "LeftIsAgreedOn$Voter", name := "kind", desc := "()I" } : Jvm.MethodName) ({ cls := "LeftIsAgreedOn$Doubter", name := "kind", desc := "()I" } : Jvm.MethodName)) ∈ lw_all := lw_g (lw_at lw_m5 56 rfl) rfl
theorem q1083 : (Jvm.Cond.instanceMethod ({ cls := "LeftIsAgreedOn$Doubter", name := "kind", desc := "()I" } : Jvm.MethodName)) ∈ lw_all := lw_g (lw_at lw_m5 57 rfl) rfl
theorem q1084 : (Jvm.Cond.code ({ cls := "LeftIsAgreedOn$Doubter", name := "kind", desc := "()I" } : Jvm.MethodName) prog_3_method_2_code (1 : Nat) (Option.some Jvm.ClassFile.FieldType.int)) ∈ lw_all := lw_g (lw_at lw_m5 58 rfl) rfl
theorem q1834 : (Jvm.Cond.castable "LeftIsAgreedOn$Doubter" "LeftIsAgreedOn$Voter") ∈ lw_tbl := lw_at lw_m8 88 rfl
theorem in_X8 : ∀ w ∈ wsX80, w ∈ lw_all := lw_in wsX80 [655, 656] (by decide +kernel) (by decide +kernel)
/-! LeftIsAgreedOn$Stubborn -/
set_option maxRecDepth 100000
def RX9 : String := "LeftIsAgreedOn$Stubborn"
def TX9 : u_T := fun k => match k with
  | 0 => ("LeftIsAgreedOn$Voter", "number", "I", true)
  | _ => ("LeftIsAgreedOn$Voter", "a", "I", true)
def tyX9 : Nat → FieldType := fun k => match k with
  | 0 => .int
  | _ => .int
abbrev wsX90 : List Cond := u_ws RX9 TX9 2
theorem nmX9 : ∀ a, a < 2 → ∀ b, b < 2 → a ≠ b → (TX9 a).2.1 ≠ (TX9 b).2.1 := by decide +kernel
theorem tyX9_ok : ∀ k, k < 2 → parseFieldDescriptor (TX9 k).2.2.1 = some (tyX9 k) := by decide +kernel
abbrev cX9_by : ByteArray := prog_11_method_3_code
def yX9_by : MethodName := ⟨RX9, "by", "(LLeftIsAgreedOn$Island;LLeftIsAgreedOn$Walk;II)I"⟩
def dkwX9_by_0 : List UInt8 := [43, 180, 0, 7, 42, 180, 0, 13, 46, 172]
abbrev dktX9_by_0 : List UInt8 := dkwX9_by_0 ++ []
theorem dksX9_by_0 : cX9_by.data.toList.drop 0 = dktX9_by_0 := by decide +kernel
theorem dX9_by_0 : decode cX9_by 0 = .ok (.aload_n 1, 1) := dk_43 (dk_at dksX9_by_0 0 rfl rfl)
theorem dX9_by_1 : decode cX9_by 1 = .ok (.getfield 7, 3) := dk_180 0 7 (dk_at dksX9_by_0 1 rfl rfl)
theorem dX9_by_4 : decode cX9_by 4 = .ok (.aload_n 0, 1) := dk_42 (dk_at dksX9_by_0 4 rfl rfl)
theorem dX9_by_5 : decode cX9_by 5 = .ok (.getfield 13, 3) := dk_180 0 13 (dk_at dksX9_by_0 5 rfl rfl)
theorem dX9_by_8 : decode cX9_by 8 = .ok (.iaload, 1) := dk_46 (dk_at dksX9_by_0 8 rfl rfl)
theorem dX9_by_9 : decode cX9_by 9 = .ok (.ireturn, 1) := dk_172 (dk_at dksX9_by_0 9 rfl rfl)
abbrev cX9_init : ByteArray := prog_11_method_1_code
def yX9_init : MethodName := ⟨RX9, "<init>", "(II)V"⟩
def dkwX9_init_0 : List UInt8 := [42, 27, 28, 183, 0, 1, 177]
abbrev dktX9_init_0 : List UInt8 := dkwX9_init_0 ++ []
theorem dksX9_init_0 : cX9_init.data.toList.drop 0 = dktX9_init_0 := by decide +kernel
theorem dX9_init_0 : decode cX9_init 0 = .ok (.aload_n 0, 1) := dk_42 (dk_at dksX9_init_0 0 rfl rfl)
theorem dX9_init_1 : decode cX9_init 1 = .ok (.iload_n 1, 1) := dk_27 (dk_at dksX9_init_0 1 rfl rfl)
theorem dX9_init_2 : decode cX9_init 2 = .ok (.iload_n 2, 1) := dk_28 (dk_at dksX9_init_0 2 rfl rfl)
theorem dX9_init_3 : decode cX9_init 3 = .ok (.invokespecial 1, 3) := dk_183 0 1 (dk_at dksX9_init_0 3 rfl rfl)
theorem dX9_init_6 : decode cX9_init 6 = .ok (.return_, 1) := dk_177 (dk_at dksX9_init_0 6 rfl rfl)
abbrev cX9_kind : ByteArray := prog_11_method_2_code
def yX9_kind : MethodName := ⟨RX9, "kind", "()I"⟩
theorem dX9_kind_0 : decode cX9_kind 0 = .ok (.iconst 3, 1) := by decide +kernel
theorem dX9_kind_1 : decode cX9_kind 1 = .ok (.ireturn, 1) := by decide +kernel
theorem q87 : (Jvm.Cond.initialized "LeftIsAgreedOn$Stubborn") ∈ lw_all := lw_g (lw_at lw_m1 21 rfl) rfl
theorem q125 : (Jvm.Cond.fieldLink "LeftIsAgreedOn$Stubborn" (7 : Nat) "LeftIsAgreedOn$Island" "wants" "[I") ∈ lw_all := lw_g (lw_at lw_m1 59 rfl) rfl
theorem q583 : (Jvm.Cond.selects "LeftIsAgreedOn$Stubborn" ({ cls := "LeftIsAgreedOn$Voter", name := "by", desc := "(LLeftIsAgreedOn$Island;LLeftIsAgreedOn$Walk;II)I" } : Jvm.MethodName) ({ cls := "LeftIsAgreedOn$Stubborn", name := "by", desc := "(LLeftIsAgreedOn$Island;LLeftIsAgreedOn$Walk;II)I" } : Jvm.MethodName)) ∈ lw_all := lw_g (lw_at lw_m3 37 rfl) rfl
theorem q584 : (Jvm.Cond.instanceMethod ({ cls := "LeftIsAgreedOn$Stubborn", name := "by", desc := "(LLeftIsAgreedOn$Island;LLeftIsAgreedOn$Walk;II)I" } : Jvm.MethodName)) ∈ lw_all := lw_g (lw_at lw_m3 38 rfl) rfl
theorem q585 : (Jvm.Cond.code ({ cls := "LeftIsAgreedOn$Stubborn", name := "by", desc := "(LLeftIsAgreedOn$Island;LLeftIsAgreedOn$Walk;II)I" } : Jvm.MethodName) prog_11_method_3_code (5 : Nat) (Option.some Jvm.ClassFile.FieldType.int)) ∈ lw_all := lw_g (lw_at lw_m3 39 rfl) rfl
theorem q631 : (Jvm.Cond.fieldLink "LeftIsAgreedOn$Stubborn" (13 : Nat) "LeftIsAgreedOn$Stubborn" "number" "I") ∈ lw_all := lw_g (lw_at lw_m3 85 rfl) rfl
theorem q632 : (Jvm.Cond.sameField "LeftIsAgreedOn$Stubborn" "LeftIsAgreedOn$Voter" "number" "I") ∈ lw_all := lw_g (lw_at lw_m3 86 rfl) rfl
theorem q657 : (Jvm.Cond.instantiable "LeftIsAgreedOn$Stubborn" (2 : Nat)) ∈ lw_all := lw_g (lw_at lw_m3 111 rfl) rfl
theorem q659 : (Jvm.Cond.instanceMethod ({ cls := "LeftIsAgreedOn$Stubborn", name := "<init>", desc := "(II)V" } : Jvm.MethodName)) ∈ lw_all := lw_g (lw_at lw_m3 113 rfl) rfl
theorem q660 : (Jvm.Cond.code ({ cls := "LeftIsAgreedOn$Stubborn", name := "<init>", desc := "(II)V" } : Jvm.MethodName) prog_11_method_1_code (3 : Nat) (Option.none : Option Jvm.ClassFile.FieldType)) ∈ lw_all := lw_g (lw_at lw_m3 114 rfl) rfl
theorem q661 : (Jvm.Cond.methodLink "LeftIsAgreedOn$Stubborn" (1 : Nat) ({ cls := "LeftIsAgreedOn$Olden", name := "<init>", desc := "(II)V" } : Jvm.MethodName)) ∈ lw_all := lw_g (lw_at lw_m3 115 rfl) rfl
theorem q662 : (Jvm.Cond.laysFinal "LeftIsAgreedOn$Stubborn" "LeftIsAgreedOn$Voter" "number" "I") ∈ lw_all := lw_g (lw_at lw_m3 116 rfl) rfl
theorem q663 : (Jvm.Cond.laysFinal "LeftIsAgreedOn$Stubborn" "LeftIsAgreedOn$Voter" "a" "I") ∈ lw_all := lw_g (lw_at lw_m3 117 rfl) rfl
theorem q664 : (Jvm.Cond.superclass "LeftIsAgreedOn$Stubborn" "LeftIsAgreedOn$Olden") ∈ lw_all := lw_g (lw_at lw_m3 118 rfl) rfl
theorem q1091 : (Jvm.Cond.selects "LeftIsAgreedOn$Stubborn" ({ cls := "LeftIsAgreedOn$Voter", name := "kind", desc := "()I" } : Jvm.MethodName) ({ cls := "LeftIsAgreedOn$Stubborn", name := "kind", desc := "()I" } : Jvm.MethodName)) ∈ lw_all := lw_g (lw_at lw_m5 65 rfl) rfl
theorem q1092 : (Jvm.Cond.instanceMethod ({ cls := "LeftIsAgreedOn$Stubborn", name := "kind", desc := "()I" } : Jvm.MethodName)) ∈ lw_all := lw_g (lw_at lw_m5 66 rfl) rfl
theorem q1093 : (Jvm.Cond.code ({ cls := "LeftIsAgreedOn$Stubborn", name := "kind", desc := "()I" } : Jvm.MethodName) prog_11_method_2_code (1 : Nat) (Option.some Jvm.ClassFile.FieldType.int)) ∈ lw_all := lw_g (lw_at lw_m5 67 rfl) rfl
theorem q1837 : (Jvm.Cond.castable "LeftIsAgreedOn$Stubborn" "LeftIsAgreedOn$Voter") ∈ lw_tbl := lw_at lw_m8 91 rfl
theorem q1838 : (Jvm.Cond.castable "LeftIsAgreedOn$Stubborn" "LeftIsAgreedOn$Olden") ∈ lw_tbl := lw_at lw_m8 92 rfl
theorem in_X9 : ∀ w ∈ wsX90, w ∈ lw_all := lw_in wsX90 [662, 663] (by decide +kernel) (by decide +kernel)
/-! LeftIsAgreedOn$Forder -/
set_option maxRecDepth 100000
def RX10 : String := "LeftIsAgreedOn$Forder"
def TX10 : u_T := fun k => match k with
  | 0 => ("LeftIsAgreedOn$Voter", "number", "I", true)
  | _ => ("LeftIsAgreedOn$Voter", "a", "I", true)
def tyX10 : Nat → FieldType := fun k => match k with
  | 0 => .int
  | _ => .int
abbrev wsX100 : List Cond := u_ws RX10 TX10 2
theorem nmX10 : ∀ a, a < 2 → ∀ b, b < 2 → a ≠ b → (TX10 a).2.1 ≠ (TX10 b).2.1 := by decide +kernel
theorem tyX10_ok : ∀ k, k < 2 → parseFieldDescriptor (TX10 k).2.2.1 = some (tyX10 k) := by decide +kernel
abbrev cX10_doubts : ByteArray := prog_5_method_3_code
def yX10_doubts : MethodName := ⟨RX10, "doubts", "(LLeftIsAgreedOn$Island;LLeftIsAgreedOn$Walk;)Z"⟩
def dkwX10_doubts_0 : List UInt8 := [43, 44, 180, 0, 7, 182, 0, 13, 172]
abbrev dktX10_doubts_0 : List UInt8 := dkwX10_doubts_0 ++ []
theorem dksX10_doubts_0 : cX10_doubts.data.toList.drop 0 = dktX10_doubts_0 := by decide +kernel
theorem dX10_doubts_0 : decode cX10_doubts 0 = .ok (.aload_n 1, 1) := dk_43 (dk_at dksX10_doubts_0 0 rfl rfl)
theorem dX10_doubts_1 : decode cX10_doubts 1 = .ok (.aload_n 2, 1) := dk_44 (dk_at dksX10_doubts_0 1 rfl rfl)
theorem dX10_doubts_2 : decode cX10_doubts 2 = .ok (.getfield 7, 3) := dk_180 0 7 (dk_at dksX10_doubts_0 2 rfl rfl)
theorem dX10_doubts_5 : decode cX10_doubts 5 = .ok (.invokevirtual 13, 3) := dk_182 0 13 (dk_at dksX10_doubts_0 5 rfl rfl)
theorem dX10_doubts_8 : decode cX10_doubts 8 = .ok (.ireturn, 1) := dk_172 (dk_at dksX10_doubts_0 8 rfl rfl)
abbrev cX10_init : ByteArray := prog_5_method_1_code
def yX10_init : MethodName := ⟨RX10, "<init>", "(II)V"⟩
def dkwX10_init_0 : List UInt8 := [42, 27, 28, 183, 0, 1, 177]
abbrev dktX10_init_0 : List UInt8 := dkwX10_init_0 ++ []
theorem dksX10_init_0 : cX10_init.data.toList.drop 0 = dktX10_init_0 := by decide +kernel
theorem dX10_init_0 : decode cX10_init 0 = .ok (.aload_n 0, 1) := dk_42 (dk_at dksX10_init_0 0 rfl rfl)
theorem dX10_init_1 : decode cX10_init 1 = .ok (.iload_n 1, 1) := dk_27 (dk_at dksX10_init_0 1 rfl rfl)
theorem dX10_init_2 : decode cX10_init 2 = .ok (.iload_n 2, 1) := dk_28 (dk_at dksX10_init_0 2 rfl rfl)
theorem dX10_init_3 : decode cX10_init 3 = .ok (.invokespecial 1, 3) := dk_183 0 1 (dk_at dksX10_init_0 3 rfl rfl)
theorem dX10_init_6 : decode cX10_init 6 = .ok (.return_, 1) := dk_177 (dk_at dksX10_init_0 6 rfl rfl)
abbrev cX10_kind : ByteArray := prog_5_method_2_code
def yX10_kind : MethodName := ⟨RX10, "kind", "()I"⟩
theorem dX10_kind_0 : decode cX10_kind 0 = .ok (.iconst 4, 1) := by decide +kernel
theorem dX10_kind_1 : decode cX10_kind 1 = .ok (.ireturn, 1) := by decide +kernel
theorem q88 : (Jvm.Cond.initialized "LeftIsAgreedOn$Forder") ∈ lw_all := lw_g (lw_at lw_m1 22 rfl) rfl
theorem q175 : (Jvm.Cond.fieldLink "LeftIsAgreedOn$Forder" (7 : Nat) "LeftIsAgreedOn$Walk" "cell" "I") ∈ lw_all := lw_g (lw_at lw_m1 109 rfl) rfl
theorem q569 : (Jvm.Cond.selects "LeftIsAgreedOn$Forder" ({ cls := "LeftIsAgreedOn$Doubter", name := "doubts", desc := "(LLeftIsAgreedOn$Island;LLeftIsAgreedOn$Walk;)Z" } : Jvm.MethodName) ({ cls := "LeftIsAgreedOn$Forder", name := "doubts", desc := "(LLeftIsAgreedOn$Island;LLeftIsAgreedOn$Walk;)Z" } : Jvm.MethodName)) ∈ lw_all := lw_g (lw_at lw_m3 23 rfl) rfl
theorem q570 : (Jvm.Cond.instanceMethod ({ cls := "LeftIsAgreedOn$Forder", name := "doubts", desc := "(LLeftIsAgreedOn$Island;LLeftIsAgreedOn$Walk;)Z" } : Jvm.MethodName)) ∈ lw_all := lw_g (lw_at lw_m3 24 rfl) rfl
theorem q571 : (Jvm.Cond.code ({ cls := "LeftIsAgreedOn$Forder", name := "doubts", desc := "(LLeftIsAgreedOn$Island;LLeftIsAgreedOn$Walk;)Z" } : Jvm.MethodName) prog_5_method_3_code (3 : Nat) (Option.some Jvm.ClassFile.FieldType.boolean)) ∈ lw_all := lw_g (lw_at lw_m3 25 rfl) rfl
theorem q572 : (Jvm.Cond.methodLink "LeftIsAgreedOn$Forder" (13 : Nat) ({ cls := "LeftIsAgreedOn$Island", name := "isByPond", desc := "(I)Z" } : Jvm.MethodName)) ∈ lw_all := lw_g (lw_at lw_m3 26 rfl) rfl
theorem q579 : (Jvm.Cond.selects "LeftIsAgreedOn$Forder" ({ cls := "LeftIsAgreedOn$Voter", name := "by", desc := "(LLeftIsAgreedOn$Island;LLeftIsAgreedOn$Walk;II)I" } : Jvm.MethodName) ({ cls := "LeftIsAgreedOn$Doubter", name := "by", desc := "(LLeftIsAgreedOn$Island;LLeftIsAgreedOn$Walk;II)I" } : Jvm.MethodName)) ∈ lw_all := lw_g (lw_at lw_m3 33 rfl) rfl
theorem q665 : (Jvm.Cond.instantiable "LeftIsAgreedOn$Forder" (2 : Nat)) ∈ lw_all := lw_g (lw_at lw_m3 119 rfl) rfl
theorem q667 : (Jvm.Cond.instanceMethod ({ cls := "LeftIsAgreedOn$Forder", name := "<init>", desc := "(II)V" } : Jvm.MethodName)) ∈ lw_all := lw_g (lw_at lw_m3 121 rfl) rfl
theorem q668 : (Jvm.Cond.code ({ cls := "LeftIsAgreedOn$Forder", name := "<init>", desc := "(II)V" } : Jvm.MethodName) prog_5_method_1_code (3 : Nat) (Option.none : Option Jvm.ClassFile.FieldType)) ∈ lw_all := lw_g (lw_at lw_m3 122 rfl) rfl
theorem q669 : (Jvm.Cond.methodLink "LeftIsAgreedOn$Forder" (1 : Nat) ({ cls := "LeftIsAgreedOn$Doubter", name := "<init>", desc := "(II)V" } : Jvm.MethodName)) ∈ lw_all := lw_g (lw_at lw_m3 123 rfl) rfl
theorem q670 : (Jvm.Cond.laysFinal "LeftIsAgreedOn$Forder" "LeftIsAgreedOn$Voter" "number" "I") ∈ lw_all := lw_g (lw_at lw_m3 124 rfl) rfl
theorem q671 : (Jvm.Cond.laysFinal "LeftIsAgreedOn$Forder" "LeftIsAgreedOn$Voter" "a" "I") ∈ lw_all := lw_g (lw_at lw_m3 125 rfl) rfl
theorem q672 : (Jvm.Cond.superclass "LeftIsAgreedOn$Forder" "LeftIsAgreedOn$Doubter") ∈ lw_all := lw_g (lw_at lw_m3 126 rfl) rfl
theorem q1085 : (Jvm.Cond.selects "LeftIsAgreedOn$Forder" ({ cls := "LeftIsAgreedOn$Voter", name := "kind", desc := "()I" } : Jvm.MethodName) ({ cls := "LeftIsAgreedOn$Forder", name := "kind", desc := "()I" } : Jvm.MethodName)) ∈ lw_all := lw_g (lw_at lw_m5 59 rfl) rfl
theorem q1086 : (Jvm.Cond.instanceMethod ({ cls := "LeftIsAgreedOn$Forder", name := "kind", desc := "()I" } : Jvm.MethodName)) ∈ lw_all := lw_g (lw_at lw_m5 60 rfl) rfl
theorem q1087 : (Jvm.Cond.code ({ cls := "LeftIsAgreedOn$Forder", name := "kind", desc := "()I" } : Jvm.MethodName) prog_5_method_2_code (1 : Nat) (Option.some Jvm.ClassFile.FieldType.int)) ∈ lw_all := lw_g (lw_at lw_m5 61 rfl) rfl
theorem q1835 : (Jvm.Cond.castable "LeftIsAgreedOn$Forder" "LeftIsAgreedOn$Voter") ∈ lw_tbl := lw_at lw_m8 89 rfl
theorem q1839 : (Jvm.Cond.castable "LeftIsAgreedOn$Forder" "LeftIsAgreedOn$Doubter") ∈ lw_tbl := lw_at lw_m8 93 rfl
theorem in_X10 : ∀ w ∈ wsX100, w ∈ lw_all := lw_in wsX100 [670, 671] (by decide +kernel) (by decide +kernel)
/-! LeftIsAgreedOn$Dancer -/
set_option maxRecDepth 100000
def RX11 : String := "LeftIsAgreedOn$Dancer"
def TX11 : u_T := fun k => match k with
  | 0 => ("LeftIsAgreedOn$Voter", "number", "I", true)
  | _ => ("LeftIsAgreedOn$Voter", "a", "I", true)
def tyX11 : Nat → FieldType := fun k => match k with
  | 0 => .int
  | _ => .int
abbrev wsX110 : List Cond := u_ws RX11 TX11 2
theorem nmX11 : ∀ a, a < 2 → ∀ b, b < 2 → a ≠ b → (TX11 a).2.1 ≠ (TX11 b).2.1 := by decide +kernel
theorem tyX11_ok : ∀ k, k < 2 → parseFieldDescriptor (TX11 k).2.2.1 = some (tyX11 k) := by decide +kernel
abbrev cX11_by : ByteArray := prog_2_method_3_code
def yX11_by : MethodName := ⟨RX11, "by", "(LLeftIsAgreedOn$Island;LLeftIsAgreedOn$Walk;II)I"⟩
def dkwX11_by_1 : List UInt8 := [153, 0, 12, 4, 44, 182, 0, 21, 100, 167, 0, 7, 44, 182, 0, 21, 172]
abbrev dktX11_by_1 : List UInt8 := dkwX11_by_1 ++ []
def dkwX11_by_0 : List UInt8 := [44, 180, 0, 7, 154, 0, 13, 42, 43, 44, 29, 21, 4, 183, 0, 13, 172, 44, 29, 182, 0, 17]
abbrev dktX11_by_0 : List UInt8 := dkwX11_by_0 ++ dktX11_by_1
theorem dksX11_by_0 : cX11_by.data.toList.drop 0 = dktX11_by_0 := by decide +kernel
theorem dksX11_by_1 : cX11_by.data.toList.drop 22 = dktX11_by_1 := dk_seg dksX11_by_0 22 rfl rfl
theorem dX11_by_0 : decode cX11_by 0 = .ok (.aload_n 2, 1) := dk_44 (dk_at dksX11_by_0 0 rfl rfl)
theorem dX11_by_1 : decode cX11_by 1 = .ok (.getfield 7, 3) := dk_180 0 7 (dk_at dksX11_by_0 1 rfl rfl)
theorem dX11_by_4 : decode cX11_by 4 = .ok (.ifCond .ne 13, 3) := dk_154 0 13 (dk_at dksX11_by_0 4 rfl rfl)
theorem dX11_by_7 : decode cX11_by 7 = .ok (.aload_n 0, 1) := dk_42 (dk_at dksX11_by_0 7 rfl rfl)
theorem dX11_by_8 : decode cX11_by 8 = .ok (.aload_n 1, 1) := dk_43 (dk_at dksX11_by_0 8 rfl rfl)
theorem dX11_by_9 : decode cX11_by 9 = .ok (.aload_n 2, 1) := dk_44 (dk_at dksX11_by_0 9 rfl rfl)
theorem dX11_by_10 : decode cX11_by 10 = .ok (.iload_n 3, 1) := dk_29 (dk_at dksX11_by_0 10 rfl rfl)
theorem dX11_by_11 : decode cX11_by 11 = .ok (.iload 4, 2) := dk_21 4 (dk_at dksX11_by_0 11 rfl rfl)
theorem dX11_by_13 : decode cX11_by 13 = .ok (.invokespecial 13, 3) := dk_183 0 13 (dk_at dksX11_by_0 13 rfl rfl)
theorem dX11_by_16 : decode cX11_by 16 = .ok (.ireturn, 1) := dk_172 (dk_at dksX11_by_0 16 rfl rfl)
theorem dX11_by_17 : decode cX11_by 17 = .ok (.aload_n 2, 1) := dk_44 (dk_at dksX11_by_0 17 rfl rfl)
theorem dX11_by_18 : decode cX11_by 18 = .ok (.iload_n 3, 1) := dk_29 (dk_at dksX11_by_0 18 rfl rfl)
theorem dX11_by_19 : decode cX11_by 19 = .ok (.invokevirtual 17, 3) := dk_182 0 17 (dk_at dksX11_by_0 19 rfl rfl)
theorem dX11_by_22 : decode cX11_by 22 = .ok (.ifCond .eq 12, 3) := dk_153 0 12 (dk_at dksX11_by_1 0 rfl rfl)
theorem dX11_by_25 : decode cX11_by 25 = .ok (.iconst 1, 1) := dk_4 (dk_at dksX11_by_1 3 rfl rfl)
theorem dX11_by_26 : decode cX11_by 26 = .ok (.aload_n 2, 1) := dk_44 (dk_at dksX11_by_1 4 rfl rfl)
theorem dX11_by_27 : decode cX11_by 27 = .ok (.invokevirtual 21, 3) := dk_182 0 21 (dk_at dksX11_by_1 5 rfl rfl)
theorem dX11_by_30 : decode cX11_by 30 = .ok (.isub, 1) := dk_100 (dk_at dksX11_by_1 8 rfl rfl)
theorem dX11_by_31 : decode cX11_by 31 = .ok (.goto 7, 3) := dk_167 0 7 (dk_at dksX11_by_1 9 rfl rfl)
theorem dX11_by_34 : decode cX11_by 34 = .ok (.aload_n 2, 1) := dk_44 (dk_at dksX11_by_1 12 rfl rfl)
theorem dX11_by_35 : decode cX11_by 35 = .ok (.invokevirtual 21, 3) := dk_182 0 21 (dk_at dksX11_by_1 13 rfl rfl)
theorem dX11_by_38 : decode cX11_by 38 = .ok (.ireturn, 1) := dk_172 (dk_at dksX11_by_1 16 rfl rfl)
abbrev cX11_init : ByteArray := prog_2_method_1_code
def yX11_init : MethodName := ⟨RX11, "<init>", "(II)V"⟩
def dkwX11_init_0 : List UInt8 := [42, 27, 28, 183, 0, 1, 177]
abbrev dktX11_init_0 : List UInt8 := dkwX11_init_0 ++ []
theorem dksX11_init_0 : cX11_init.data.toList.drop 0 = dktX11_init_0 := by decide +kernel
theorem dX11_init_0 : decode cX11_init 0 = .ok (.aload_n 0, 1) := dk_42 (dk_at dksX11_init_0 0 rfl rfl)
theorem dX11_init_1 : decode cX11_init 1 = .ok (.iload_n 1, 1) := dk_27 (dk_at dksX11_init_0 1 rfl rfl)
theorem dX11_init_2 : decode cX11_init 2 = .ok (.iload_n 2, 1) := dk_28 (dk_at dksX11_init_0 2 rfl rfl)
theorem dX11_init_3 : decode cX11_init 3 = .ok (.invokespecial 1, 3) := dk_183 0 1 (dk_at dksX11_init_0 3 rfl rfl)
theorem dX11_init_6 : decode cX11_init 6 = .ok (.return_, 1) := dk_177 (dk_at dksX11_init_0 6 rfl rfl)
abbrev cX11_kind : ByteArray := prog_2_method_2_code
def yX11_kind : MethodName := ⟨RX11, "kind", "()I"⟩
theorem dX11_kind_0 : decode cX11_kind 0 = .ok (.iconst 5, 1) := by decide +kernel
theorem dX11_kind_1 : decode cX11_kind 1 = .ok (.ireturn, 1) := by decide +kernel
theorem q89 : (Jvm.Cond.initialized "LeftIsAgreedOn$Dancer") ∈ lw_all := lw_g (lw_at lw_m1 23 rfl) rfl
theorem q180 : (Jvm.Cond.fieldLink "LeftIsAgreedOn$Dancer" (7 : Nat) "LeftIsAgreedOn$Walk" "turns" "I") ∈ lw_all := lw_g (lw_at lw_m1 114 rfl) rfl
theorem q546 : (Jvm.Cond.selects "LeftIsAgreedOn$Dancer" ({ cls := "LeftIsAgreedOn$Voter", name := "by", desc := "(LLeftIsAgreedOn$Island;LLeftIsAgreedOn$Walk;II)I" } : Jvm.MethodName) ({ cls := "LeftIsAgreedOn$Dancer", name := "by", desc := "(LLeftIsAgreedOn$Island;LLeftIsAgreedOn$Walk;II)I" } : Jvm.MethodName)) ∈ lw_all := lw_g (lw_at lw_m3 0 rfl) rfl
theorem q547 : (Jvm.Cond.instanceMethod ({ cls := "LeftIsAgreedOn$Dancer", name := "by", desc := "(LLeftIsAgreedOn$Island;LLeftIsAgreedOn$Walk;II)I" } : Jvm.MethodName)) ∈ lw_all := lw_g (lw_at lw_m3 1 rfl) rfl
theorem q548 : (Jvm.Cond.code ({ cls := "LeftIsAgreedOn$Dancer", name := "by", desc := "(LLeftIsAgreedOn$Island;LLeftIsAgreedOn$Walk;II)I" } : Jvm.MethodName) prog_2_method_3_code (5 : Nat) (Option.some Jvm.ClassFile.FieldType.int)) ∈ lw_all := lw_g (lw_at lw_m3 2 rfl) rfl
theorem q549 : (Jvm.Cond.methodLink "LeftIsAgreedOn$Dancer" (13 : Nat) ({ cls := "LeftIsAgreedOn$Voter", name := "by", desc := "(LLeftIsAgreedOn$Island;LLeftIsAgreedOn$Walk;II)I" } : Jvm.MethodName)) ∈ lw_all := lw_g (lw_at lw_m3 3 rfl) rfl
theorem q550 : (Jvm.Cond.superclass "LeftIsAgreedOn$Dancer" "LeftIsAgreedOn$Voter") ∈ lw_all := lw_g (lw_at lw_m3 4 rfl) rfl
theorem q552 : (Jvm.Cond.methodLink "LeftIsAgreedOn$Dancer" (17 : Nat) ({ cls := "LeftIsAgreedOn$Walk", name := "isAfterSame", desc := "(I)Z" } : Jvm.MethodName)) ∈ lw_all := lw_g (lw_at lw_m3 6 rfl) rfl
theorem q556 : (Jvm.Cond.methodLink "LeftIsAgreedOn$Dancer" (21 : Nat) ({ cls := "LeftIsAgreedOn$Walk", name := "by", desc := "()I" } : Jvm.MethodName)) ∈ lw_all := lw_g (lw_at lw_m3 10 rfl) rfl
theorem q673 : (Jvm.Cond.instantiable "LeftIsAgreedOn$Dancer" (2 : Nat)) ∈ lw_all := lw_g (lw_at lw_m3 127 rfl) rfl
theorem q675 : (Jvm.Cond.instanceMethod ({ cls := "LeftIsAgreedOn$Dancer", name := "<init>", desc := "(II)V" } : Jvm.MethodName)) ∈ lw_all := lw_g (lw_at lw_m3 129 rfl) rfl
theorem q676 : (Jvm.Cond.code ({ cls := "LeftIsAgreedOn$Dancer", name := "<init>", desc := "(II)V" } : Jvm.MethodName) prog_2_method_1_code (3 : Nat) (Option.none : Option Jvm.ClassFile.FieldType)) ∈ lw_all := lw_g (lw_at lw_m3 130 rfl) rfl
theorem q677 : (Jvm.Cond.methodLink "LeftIsAgreedOn$Dancer" (1 : Nat) ({ cls := "LeftIsAgreedOn$Voter", name := "<init>", desc := "(II)V" } : Jvm.MethodName)) ∈ lw_all := lw_g (lw_at lw_m3 131 rfl) rfl
theorem q678 : (Jvm.Cond.laysFinal "LeftIsAgreedOn$Dancer" "LeftIsAgreedOn$Voter" "number" "I") ∈ lw_all := lw_g (lw_at lw_m3 132 rfl) rfl
theorem q679 : (Jvm.Cond.laysFinal "LeftIsAgreedOn$Dancer" "LeftIsAgreedOn$Voter" "a" "I") ∈ lw_all := lw_g (lw_at lw_m3 133 rfl) rfl
theorem q1079 : (Jvm.Cond.selects "LeftIsAgreedOn$Dancer" ({ cls := "LeftIsAgreedOn$Voter", name := "kind", desc := "()I" } : Jvm.MethodName) ({ cls := "LeftIsAgreedOn$Dancer", name := "kind", desc := "()I" } : Jvm.MethodName)) ∈ lw_all := lw_g (lw_at lw_m5 53 rfl) rfl
theorem q1080 : (Jvm.Cond.instanceMethod ({ cls := "LeftIsAgreedOn$Dancer", name := "kind", desc := "()I" } : Jvm.MethodName)) ∈ lw_all := lw_g (lw_at lw_m5 54 rfl) rfl
theorem q1081 : (Jvm.Cond.code ({ cls := "LeftIsAgreedOn$Dancer", name := "kind", desc := "()I" } : Jvm.MethodName) prog_2_method_2_code (1 : Nat) (Option.some Jvm.ClassFile.FieldType.int)) ∈ lw_all := lw_g (lw_at lw_m5 55 rfl) rfl
theorem q1833 : (Jvm.Cond.castable "LeftIsAgreedOn$Dancer" "LeftIsAgreedOn$Voter") ∈ lw_tbl := lw_at lw_m8 87 rfl
theorem in_X11 : ∀ w ∈ wsX110, w ∈ lw_all := lw_in wsX110 [678, 679] (by decide +kernel) (by decide +kernel)
/-! LeftIsAgreedOn$Reader -/
set_option maxRecDepth 100000
def RX12 : String := "LeftIsAgreedOn$Reader"
def TX12 : u_T := fun k => match k with
  | 0 => ("LeftIsAgreedOn$Reader", "tape", "[I", true)
  | 1 => ("LeftIsAgreedOn$Reader", "size", "I", true)
  | 2 => ("LeftIsAgreedOn$Reader", "island", "LLeftIsAgreedOn$Island;", true)
  | 3 => ("LeftIsAgreedOn$Reader", "at", "I", false)
  | 4 => ("LeftIsAgreedOn$Reader", "from", "I", false)
  | 5 => ("LeftIsAgreedOn$Reader", "word", "Ljava/lang/String;", false)
  | _ => ("LeftIsAgreedOn$Reader", "number", "I", false)
def tyX12 : Nat → FieldType := fun k => match k with
  | 0 => .array .int
  | 1 => .int
  | 2 => .object "LeftIsAgreedOn$Island"
  | 3 => .int
  | 4 => .int
  | 5 => .object "java/lang/String"
  | _ => .int
abbrev wsX120 : List Cond := u_ws RX12 TX12 7
theorem nmX12 : ∀ a, a < 7 → ∀ b, b < 7 → a ≠ b → (TX12 a).2.1 ≠ (TX12 b).2.1 := by decide +kernel
theorem tyX12_ok : ∀ k, k < 7 → parseFieldDescriptor (TX12 k).2.2.1 = some (tyX12 k) := by decide +kernel
abbrev cX12_init : ByteArray := prog_8_method_1_code
def yX12_init : MethodName := ⟨RX12, "<init>", "([IILLeftIsAgreedOn$Island;)V"⟩
def dkwX12_init_0 : List UInt8 := [42, 183, 0, 3, 42, 43, 181, 0, 9, 42, 28, 181, 0, 15, 42, 45, 181, 0, 19, 177]
abbrev dktX12_init_0 : List UInt8 := dkwX12_init_0 ++ []
theorem dksX12_init_0 : cX12_init.data.toList.drop 0 = dktX12_init_0 := by decide +kernel
theorem dX12_init_0 : decode cX12_init 0 = .ok (.aload_n 0, 1) := dk_42 (dk_at dksX12_init_0 0 rfl rfl)
theorem dX12_init_1 : decode cX12_init 1 = .ok (.invokespecial 3, 3) := dk_183 0 3 (dk_at dksX12_init_0 1 rfl rfl)
theorem dX12_init_4 : decode cX12_init 4 = .ok (.aload_n 0, 1) := dk_42 (dk_at dksX12_init_0 4 rfl rfl)
theorem dX12_init_5 : decode cX12_init 5 = .ok (.aload_n 1, 1) := dk_43 (dk_at dksX12_init_0 5 rfl rfl)
theorem dX12_init_6 : decode cX12_init 6 = .ok (.putfield 9, 3) := dk_181 0 9 (dk_at dksX12_init_0 6 rfl rfl)
theorem dX12_init_9 : decode cX12_init 9 = .ok (.aload_n 0, 1) := dk_42 (dk_at dksX12_init_0 9 rfl rfl)
theorem dX12_init_10 : decode cX12_init 10 = .ok (.iload_n 2, 1) := dk_28 (dk_at dksX12_init_0 10 rfl rfl)
theorem dX12_init_11 : decode cX12_init 11 = .ok (.putfield 15, 3) := dk_181 0 15 (dk_at dksX12_init_0 11 rfl rfl)
theorem dX12_init_14 : decode cX12_init 14 = .ok (.aload_n 0, 1) := dk_42 (dk_at dksX12_init_0 14 rfl rfl)
theorem dX12_init_15 : decode cX12_init 15 = .ok (.aload_n 3, 1) := dk_45 (dk_at dksX12_init_0 15 rfl rfl)
theorem dX12_init_16 : decode cX12_init 16 = .ok (.putfield 19, 3) := dk_181 0 19 (dk_at dksX12_init_0 16 rfl rfl)
theorem dX12_init_19 : decode cX12_init 19 = .ok (.return_, 1) := dk_177 (dk_at dksX12_init_0 19 rfl rfl)
abbrev cX12_read : ByteArray := prog_8_method_12_code
def yX12_read : MethodName := ⟨RX12, "read", "()I"⟩
def dkwX12_read_1 : List UInt8 := [182, 0, 144, 154, 0, 8, 42, 182, 0, 73, 191, 42, 182, 0, 141, 132, 1, 1, 167, 255, 224, 27, 172]
abbrev dktX12_read_1 : List UInt8 := dkwX12_read_1 ++ []
def dkwX12_read_0 : List UInt8 := [4, 60, 42, 182, 0, 70, 42, 182, 0, 141, 42, 180, 0, 30, 42, 180, 0, 15, 162, 0, 27, 42, 18, 57]
abbrev dktX12_read_0 : List UInt8 := dkwX12_read_0 ++ dktX12_read_1
theorem dksX12_read_0 : cX12_read.data.toList.drop 0 = dktX12_read_0 := by decide +kernel
theorem dksX12_read_1 : cX12_read.data.toList.drop 24 = dktX12_read_1 := dk_seg dksX12_read_0 24 rfl rfl
theorem dX12_read_0 : decode cX12_read 0 = .ok (.iconst 1, 1) := dk_4 (dk_at dksX12_read_0 0 rfl rfl)
theorem dX12_read_1 : decode cX12_read 1 = .ok (.istore_n 1, 1) := dk_60 (dk_at dksX12_read_0 1 rfl rfl)
theorem dX12_read_2 : decode cX12_read 2 = .ok (.aload_n 0, 1) := dk_42 (dk_at dksX12_read_0 2 rfl rfl)
theorem dX12_read_3 : decode cX12_read 3 = .ok (.invokevirtual 70, 3) := dk_182 0 70 (dk_at dksX12_read_0 3 rfl rfl)
theorem dX12_read_6 : decode cX12_read 6 = .ok (.aload_n 0, 1) := dk_42 (dk_at dksX12_read_0 6 rfl rfl)
theorem dX12_read_7 : decode cX12_read 7 = .ok (.invokevirtual 141, 3) := dk_182 0 141 (dk_at dksX12_read_0 7 rfl rfl)
theorem dX12_read_10 : decode cX12_read 10 = .ok (.aload_n 0, 1) := dk_42 (dk_at dksX12_read_0 10 rfl rfl)
theorem dX12_read_11 : decode cX12_read 11 = .ok (.getfield 30, 3) := dk_180 0 30 (dk_at dksX12_read_0 11 rfl rfl)
theorem dX12_read_14 : decode cX12_read 14 = .ok (.aload_n 0, 1) := dk_42 (dk_at dksX12_read_0 14 rfl rfl)
theorem dX12_read_15 : decode cX12_read 15 = .ok (.getfield 15, 3) := dk_180 0 15 (dk_at dksX12_read_0 15 rfl rfl)
theorem dX12_read_18 : decode cX12_read 18 = .ok (.if_icmp .ge 27, 3) := dk_162 0 27 (dk_at dksX12_read_0 18 rfl rfl)
theorem dX12_read_21 : decode cX12_read 21 = .ok (.aload_n 0, 1) := dk_42 (dk_at dksX12_read_0 21 rfl rfl)
theorem dX12_read_22 : decode cX12_read 22 = .ok (.ldc 57, 2) := dk_18 57 (dk_at dksX12_read_0 22 rfl rfl)
theorem dX12_read_24 : decode cX12_read 24 = .ok (.invokevirtual 144, 3) := dk_182 0 144 (dk_at dksX12_read_1 0 rfl rfl)
theorem dX12_read_27 : decode cX12_read 27 = .ok (.ifCond .ne 8, 3) := dk_154 0 8 (dk_at dksX12_read_1 3 rfl rfl)
theorem dX12_read_30 : decode cX12_read 30 = .ok (.aload_n 0, 1) := dk_42 (dk_at dksX12_read_1 6 rfl rfl)
theorem dX12_read_31 : decode cX12_read 31 = .ok (.invokevirtual 73, 3) := dk_182 0 73 (dk_at dksX12_read_1 7 rfl rfl)
theorem dX12_read_34 : decode cX12_read 34 = .ok (.athrow, 1) := dk_191 (dk_at dksX12_read_1 10 rfl rfl)
theorem dX12_read_35 : decode cX12_read 35 = .ok (.aload_n 0, 1) := dk_42 (dk_at dksX12_read_1 11 rfl rfl)
theorem dX12_read_36 : decode cX12_read 36 = .ok (.invokevirtual 141, 3) := dk_182 0 141 (dk_at dksX12_read_1 12 rfl rfl)
theorem dX12_read_39 : decode cX12_read 39 = .ok (.iinc 1 1, 3) := dk_132 1 1 (dk_at dksX12_read_1 15 rfl rfl)
theorem dX12_read_42 : decode cX12_read 42 = .ok (.goto (-32), 3) := dk_167 255 224 (dk_at dksX12_read_1 18 rfl rfl)
theorem dX12_read_45 : decode cX12_read 45 = .ok (.iload_n 1, 1) := dk_27 (dk_at dksX12_read_1 21 rfl rfl)
theorem dX12_read_46 : decode cX12_read 46 = .ok (.ireturn, 1) := dk_172 (dk_at dksX12_read_1 22 rfl rfl)
abbrev cX12_next : ByteArray := prog_8_method_3_code
def yX12_next : MethodName := ⟨RX12, "next", "()V"⟩
def dkwX12_next_9 : List UInt8 := [181, 0, 33, 42, 89, 180, 0, 23, 4, 96, 181, 0, 23, 177]
abbrev dktX12_next_9 : List UInt8 := dkwX12_next_9 ++ []
def dkwX12_next_8 : List UInt8 := [167, 0, 4, 27, 181, 0, 37, 167, 0, 30, 42, 16, 59, 16, 59, 182, 0, 26, 153, 0, 19, 42, 18, 57]
abbrev dktX12_next_8 : List UInt8 := dkwX12_next_8 ++ dktX12_next_9
def dkwX12_next_7 : List UInt8 := [96, 181, 0, 23, 167, 255, 212, 42, 42, 180, 0, 23, 42, 180, 0, 30, 100, 5, 164, 0, 8, 16, 100]
abbrev dktX12_next_7 : List UInt8 := dkwX12_next_7 ++ dktX12_next_8
def dkwX12_next_6 : List UInt8 := [104, 42, 180, 0, 9, 42, 180, 0, 23, 46, 96, 16, 48, 100, 184, 0, 51, 60, 42, 89, 180, 0, 23, 4]
abbrev dktX12_next_6 : List UInt8 := dkwX12_next_6 ++ dktX12_next_7
def dkwX12_next_5 : List UInt8 := [182, 0, 26, 153, 0, 78, 3, 60, 42, 16, 48, 16, 57, 182, 0, 26, 153, 0, 39, 16, 100, 16, 10, 27]
abbrev dktX12_next_5 : List UInt8 := dkwX12_next_5 ++ dktX12_next_6
def dkwX12_next_4 : List UInt8 := [96, 181, 0, 23, 167, 255, 220, 42, 43, 182, 0, 47, 181, 0, 33, 167, 0, 116, 42, 16, 48, 16, 57]
abbrev dktX12_next_4 : List UInt8 := dkwX12_next_4 ++ dktX12_next_5
def dkwX12_next_3 : List UInt8 := [153, 0, 31, 43, 42, 180, 0, 9, 42, 180, 0, 23, 46, 146, 182, 0, 43, 87, 42, 89, 180, 0, 23, 4]
abbrev dktX12_next_3 : List UInt8 := dkwX12_next_3 ++ dktX12_next_4
def dkwX12_next_2 : List UInt8 := [182, 0, 26, 153, 0, 61, 187, 0, 40, 89, 183, 0, 42, 76, 42, 16, 97, 16, 122, 182, 0, 26]
abbrev dktX12_next_2 : List UInt8 := dkwX12_next_2 ++ dktX12_next_3
def dkwX12_next_1 : List UInt8 := [42, 42, 180, 0, 23, 181, 0, 30, 42, 1, 181, 0, 33, 42, 2, 181, 0, 37, 42, 16, 97, 16, 122]
abbrev dktX12_next_1 : List UInt8 := dkwX12_next_1 ++ dktX12_next_2
def dkwX12_next_0 : List UInt8 := [42, 16, 32, 16, 32, 182, 0, 26, 153, 0, 16, 42, 89, 180, 0, 23, 4, 96, 181, 0, 23, 167, 255, 235]
abbrev dktX12_next_0 : List UInt8 := dkwX12_next_0 ++ dktX12_next_1
theorem dksX12_next_0 : cX12_next.data.toList.drop 0 = dktX12_next_0 := by decide +kernel
theorem dksX12_next_1 : cX12_next.data.toList.drop 24 = dktX12_next_1 := dk_seg dksX12_next_0 24 rfl rfl
theorem dksX12_next_2 : cX12_next.data.toList.drop 47 = dktX12_next_2 := dk_seg dksX12_next_1 23 rfl rfl
theorem dksX12_next_3 : cX12_next.data.toList.drop 69 = dktX12_next_3 := dk_seg dksX12_next_2 22 rfl rfl
theorem dksX12_next_4 : cX12_next.data.toList.drop 93 = dktX12_next_4 := dk_seg dksX12_next_3 24 rfl rfl
theorem dksX12_next_5 : cX12_next.data.toList.drop 116 = dktX12_next_5 := dk_seg dksX12_next_4 23 rfl rfl
theorem dksX12_next_6 : cX12_next.data.toList.drop 140 = dktX12_next_6 := dk_seg dksX12_next_5 24 rfl rfl
theorem dksX12_next_7 : cX12_next.data.toList.drop 164 = dktX12_next_7 := dk_seg dksX12_next_6 24 rfl rfl
theorem dksX12_next_8 : cX12_next.data.toList.drop 187 = dktX12_next_8 := dk_seg dksX12_next_7 23 rfl rfl
theorem dksX12_next_9 : cX12_next.data.toList.drop 211 = dktX12_next_9 := dk_seg dksX12_next_8 24 rfl rfl
theorem dX12_next_0 : decode cX12_next 0 = .ok (.aload_n 0, 1) := dk_42 (dk_at dksX12_next_0 0 rfl rfl)
theorem dX12_next_1 : decode cX12_next 1 = .ok (.bipush 32, 2) := dk_16 32 (dk_at dksX12_next_0 1 rfl rfl)
theorem dX12_next_3 : decode cX12_next 3 = .ok (.bipush 32, 2) := dk_16 32 (dk_at dksX12_next_0 3 rfl rfl)
theorem dX12_next_5 : decode cX12_next 5 = .ok (.invokevirtual 26, 3) := dk_182 0 26 (dk_at dksX12_next_0 5 rfl rfl)
theorem dX12_next_8 : decode cX12_next 8 = .ok (.ifCond .eq 16, 3) := dk_153 0 16 (dk_at dksX12_next_0 8 rfl rfl)
theorem dX12_next_11 : decode cX12_next 11 = .ok (.aload_n 0, 1) := dk_42 (dk_at dksX12_next_0 11 rfl rfl)
theorem dX12_next_12 : decode cX12_next 12 = .ok (.dup, 1) := dk_89 (dk_at dksX12_next_0 12 rfl rfl)
theorem dX12_next_13 : decode cX12_next 13 = .ok (.getfield 23, 3) := dk_180 0 23 (dk_at dksX12_next_0 13 rfl rfl)
theorem dX12_next_16 : decode cX12_next 16 = .ok (.iconst 1, 1) := dk_4 (dk_at dksX12_next_0 16 rfl rfl)
theorem dX12_next_17 : decode cX12_next 17 = .ok (.iadd, 1) := dk_96 (dk_at dksX12_next_0 17 rfl rfl)
theorem dX12_next_18 : decode cX12_next 18 = .ok (.putfield 23, 3) := dk_181 0 23 (dk_at dksX12_next_0 18 rfl rfl)
theorem dX12_next_21 : decode cX12_next 21 = .ok (.goto (-21), 3) := dk_167 255 235 (dk_at dksX12_next_0 21 rfl rfl)
theorem dX12_next_24 : decode cX12_next 24 = .ok (.aload_n 0, 1) := dk_42 (dk_at dksX12_next_1 0 rfl rfl)
theorem dX12_next_25 : decode cX12_next 25 = .ok (.aload_n 0, 1) := dk_42 (dk_at dksX12_next_1 1 rfl rfl)
theorem dX12_next_26 : decode cX12_next 26 = .ok (.getfield 23, 3) := dk_180 0 23 (dk_at dksX12_next_1 2 rfl rfl)
theorem dX12_next_29 : decode cX12_next 29 = .ok (.putfield 30, 3) := dk_181 0 30 (dk_at dksX12_next_1 5 rfl rfl)
theorem dX12_next_32 : decode cX12_next 32 = .ok (.aload_n 0, 1) := dk_42 (dk_at dksX12_next_1 8 rfl rfl)
theorem dX12_next_33 : decode cX12_next 33 = .ok (.aconst_null, 1) := dk_1 (dk_at dksX12_next_1 9 rfl rfl)
theorem dX12_next_34 : decode cX12_next 34 = .ok (.putfield 33, 3) := dk_181 0 33 (dk_at dksX12_next_1 10 rfl rfl)
theorem dX12_next_37 : decode cX12_next 37 = .ok (.aload_n 0, 1) := dk_42 (dk_at dksX12_next_1 13 rfl rfl)
theorem dX12_next_38 : decode cX12_next 38 = .ok (.iconst (-1), 1) := dk_2 (dk_at dksX12_next_1 14 rfl rfl)
theorem dX12_next_39 : decode cX12_next 39 = .ok (.putfield 37, 3) := dk_181 0 37 (dk_at dksX12_next_1 15 rfl rfl)
theorem dX12_next_42 : decode cX12_next 42 = .ok (.aload_n 0, 1) := dk_42 (dk_at dksX12_next_1 18 rfl rfl)
theorem dX12_next_43 : decode cX12_next 43 = .ok (.bipush 97, 2) := dk_16 97 (dk_at dksX12_next_1 19 rfl rfl)
theorem dX12_next_45 : decode cX12_next 45 = .ok (.bipush 122, 2) := dk_16 122 (dk_at dksX12_next_1 21 rfl rfl)
theorem dX12_next_47 : decode cX12_next 47 = .ok (.invokevirtual 26, 3) := dk_182 0 26 (dk_at dksX12_next_2 0 rfl rfl)
theorem dX12_next_50 : decode cX12_next 50 = .ok (.ifCond .eq 61, 3) := dk_153 0 61 (dk_at dksX12_next_2 3 rfl rfl)
theorem dX12_next_53 : decode cX12_next 53 = .ok (.new 40, 3) := dk_187 0 40 (dk_at dksX12_next_2 6 rfl rfl)
theorem dX12_next_56 : decode cX12_next 56 = .ok (.dup, 1) := dk_89 (dk_at dksX12_next_2 9 rfl rfl)
theorem dX12_next_57 : decode cX12_next 57 = .ok (.invokespecial 42, 3) := dk_183 0 42 (dk_at dksX12_next_2 10 rfl rfl)
theorem dX12_next_60 : decode cX12_next 60 = .ok (.astore_n 1, 1) := dk_76 (dk_at dksX12_next_2 13 rfl rfl)
theorem dX12_next_61 : decode cX12_next 61 = .ok (.aload_n 0, 1) := dk_42 (dk_at dksX12_next_2 14 rfl rfl)
theorem dX12_next_62 : decode cX12_next 62 = .ok (.bipush 97, 2) := dk_16 97 (dk_at dksX12_next_2 15 rfl rfl)
theorem dX12_next_64 : decode cX12_next 64 = .ok (.bipush 122, 2) := dk_16 122 (dk_at dksX12_next_2 17 rfl rfl)
theorem dX12_next_66 : decode cX12_next 66 = .ok (.invokevirtual 26, 3) := dk_182 0 26 (dk_at dksX12_next_2 19 rfl rfl)
theorem dX12_next_69 : decode cX12_next 69 = .ok (.ifCond .eq 31, 3) := dk_153 0 31 (dk_at dksX12_next_3 0 rfl rfl)
theorem dX12_next_72 : decode cX12_next 72 = .ok (.aload_n 1, 1) := dk_43 (dk_at dksX12_next_3 3 rfl rfl)
theorem dX12_next_73 : decode cX12_next 73 = .ok (.aload_n 0, 1) := dk_42 (dk_at dksX12_next_3 4 rfl rfl)
theorem dX12_next_74 : decode cX12_next 74 = .ok (.getfield 9, 3) := dk_180 0 9 (dk_at dksX12_next_3 5 rfl rfl)
theorem dX12_next_77 : decode cX12_next 77 = .ok (.aload_n 0, 1) := dk_42 (dk_at dksX12_next_3 8 rfl rfl)
theorem dX12_next_78 : decode cX12_next 78 = .ok (.getfield 23, 3) := dk_180 0 23 (dk_at dksX12_next_3 9 rfl rfl)
theorem dX12_next_81 : decode cX12_next 81 = .ok (.iaload, 1) := dk_46 (dk_at dksX12_next_3 12 rfl rfl)
theorem dX12_next_82 : decode cX12_next 82 = .ok (.i2c, 1) := dk_146 (dk_at dksX12_next_3 13 rfl rfl)
theorem dX12_next_83 : decode cX12_next 83 = .ok (.invokevirtual 43, 3) := dk_182 0 43 (dk_at dksX12_next_3 14 rfl rfl)
theorem dX12_next_86 : decode cX12_next 86 = .ok (.pop, 1) := dk_87 (dk_at dksX12_next_3 17 rfl rfl)
theorem dX12_next_87 : decode cX12_next 87 = .ok (.aload_n 0, 1) := dk_42 (dk_at dksX12_next_3 18 rfl rfl)
theorem dX12_next_88 : decode cX12_next 88 = .ok (.dup, 1) := dk_89 (dk_at dksX12_next_3 19 rfl rfl)
theorem dX12_next_89 : decode cX12_next 89 = .ok (.getfield 23, 3) := dk_180 0 23 (dk_at dksX12_next_3 20 rfl rfl)
theorem dX12_next_92 : decode cX12_next 92 = .ok (.iconst 1, 1) := dk_4 (dk_at dksX12_next_3 23 rfl rfl)
theorem dX12_next_93 : decode cX12_next 93 = .ok (.iadd, 1) := dk_96 (dk_at dksX12_next_4 0 rfl rfl)
theorem dX12_next_94 : decode cX12_next 94 = .ok (.putfield 23, 3) := dk_181 0 23 (dk_at dksX12_next_4 1 rfl rfl)
theorem dX12_next_97 : decode cX12_next 97 = .ok (.goto (-36), 3) := dk_167 255 220 (dk_at dksX12_next_4 4 rfl rfl)
theorem dX12_next_100 : decode cX12_next 100 = .ok (.aload_n 0, 1) := dk_42 (dk_at dksX12_next_4 7 rfl rfl)
theorem dX12_next_101 : decode cX12_next 101 = .ok (.aload_n 1, 1) := dk_43 (dk_at dksX12_next_4 8 rfl rfl)
theorem dX12_next_102 : decode cX12_next 102 = .ok (.invokevirtual 47, 3) := dk_182 0 47 (dk_at dksX12_next_4 9 rfl rfl)
theorem dX12_next_105 : decode cX12_next 105 = .ok (.putfield 33, 3) := dk_181 0 33 (dk_at dksX12_next_4 12 rfl rfl)
theorem dX12_next_108 : decode cX12_next 108 = .ok (.goto 116, 3) := dk_167 0 116 (dk_at dksX12_next_4 15 rfl rfl)
theorem dX12_next_111 : decode cX12_next 111 = .ok (.aload_n 0, 1) := dk_42 (dk_at dksX12_next_4 18 rfl rfl)
theorem dX12_next_112 : decode cX12_next 112 = .ok (.bipush 48, 2) := dk_16 48 (dk_at dksX12_next_4 19 rfl rfl)
theorem dX12_next_114 : decode cX12_next 114 = .ok (.bipush 57, 2) := dk_16 57 (dk_at dksX12_next_4 21 rfl rfl)
theorem dX12_next_116 : decode cX12_next 116 = .ok (.invokevirtual 26, 3) := dk_182 0 26 (dk_at dksX12_next_5 0 rfl rfl)
theorem dX12_next_119 : decode cX12_next 119 = .ok (.ifCond .eq 78, 3) := dk_153 0 78 (dk_at dksX12_next_5 3 rfl rfl)
theorem dX12_next_122 : decode cX12_next 122 = .ok (.iconst 0, 1) := dk_3 (dk_at dksX12_next_5 6 rfl rfl)
theorem dX12_next_123 : decode cX12_next 123 = .ok (.istore_n 1, 1) := dk_60 (dk_at dksX12_next_5 7 rfl rfl)
theorem dX12_next_124 : decode cX12_next 124 = .ok (.aload_n 0, 1) := dk_42 (dk_at dksX12_next_5 8 rfl rfl)
theorem dX12_next_125 : decode cX12_next 125 = .ok (.bipush 48, 2) := dk_16 48 (dk_at dksX12_next_5 9 rfl rfl)
theorem dX12_next_127 : decode cX12_next 127 = .ok (.bipush 57, 2) := dk_16 57 (dk_at dksX12_next_5 11 rfl rfl)
theorem dX12_next_129 : decode cX12_next 129 = .ok (.invokevirtual 26, 3) := dk_182 0 26 (dk_at dksX12_next_5 13 rfl rfl)
theorem dX12_next_132 : decode cX12_next 132 = .ok (.ifCond .eq 39, 3) := dk_153 0 39 (dk_at dksX12_next_5 16 rfl rfl)
theorem dX12_next_135 : decode cX12_next 135 = .ok (.bipush 100, 2) := dk_16 100 (dk_at dksX12_next_5 19 rfl rfl)
theorem dX12_next_137 : decode cX12_next 137 = .ok (.bipush 10, 2) := dk_16 10 (dk_at dksX12_next_5 21 rfl rfl)
theorem dX12_next_139 : decode cX12_next 139 = .ok (.iload_n 1, 1) := dk_27 (dk_at dksX12_next_5 23 rfl rfl)
theorem dX12_next_140 : decode cX12_next 140 = .ok (.imul, 1) := dk_104 (dk_at dksX12_next_6 0 rfl rfl)
theorem dX12_next_141 : decode cX12_next 141 = .ok (.aload_n 0, 1) := dk_42 (dk_at dksX12_next_6 1 rfl rfl)
theorem dX12_next_142 : decode cX12_next 142 = .ok (.getfield 9, 3) := dk_180 0 9 (dk_at dksX12_next_6 2 rfl rfl)
theorem dX12_next_145 : decode cX12_next 145 = .ok (.aload_n 0, 1) := dk_42 (dk_at dksX12_next_6 5 rfl rfl)
theorem dX12_next_146 : decode cX12_next 146 = .ok (.getfield 23, 3) := dk_180 0 23 (dk_at dksX12_next_6 6 rfl rfl)
theorem dX12_next_149 : decode cX12_next 149 = .ok (.iaload, 1) := dk_46 (dk_at dksX12_next_6 9 rfl rfl)
theorem dX12_next_150 : decode cX12_next 150 = .ok (.iadd, 1) := dk_96 (dk_at dksX12_next_6 10 rfl rfl)
theorem dX12_next_151 : decode cX12_next 151 = .ok (.bipush 48, 2) := dk_16 48 (dk_at dksX12_next_6 11 rfl rfl)
theorem dX12_next_153 : decode cX12_next 153 = .ok (.isub, 1) := dk_100 (dk_at dksX12_next_6 13 rfl rfl)
theorem dX12_next_154 : decode cX12_next 154 = .ok (.invokestatic 51, 3) := dk_184 0 51 (dk_at dksX12_next_6 14 rfl rfl)
theorem dX12_next_157 : decode cX12_next 157 = .ok (.istore_n 1, 1) := dk_60 (dk_at dksX12_next_6 17 rfl rfl)
theorem dX12_next_158 : decode cX12_next 158 = .ok (.aload_n 0, 1) := dk_42 (dk_at dksX12_next_6 18 rfl rfl)
theorem dX12_next_159 : decode cX12_next 159 = .ok (.dup, 1) := dk_89 (dk_at dksX12_next_6 19 rfl rfl)
theorem dX12_next_160 : decode cX12_next 160 = .ok (.getfield 23, 3) := dk_180 0 23 (dk_at dksX12_next_6 20 rfl rfl)
theorem dX12_next_163 : decode cX12_next 163 = .ok (.iconst 1, 1) := dk_4 (dk_at dksX12_next_6 23 rfl rfl)
theorem dX12_next_164 : decode cX12_next 164 = .ok (.iadd, 1) := dk_96 (dk_at dksX12_next_7 0 rfl rfl)
theorem dX12_next_165 : decode cX12_next 165 = .ok (.putfield 23, 3) := dk_181 0 23 (dk_at dksX12_next_7 1 rfl rfl)
theorem dX12_next_168 : decode cX12_next 168 = .ok (.goto (-44), 3) := dk_167 255 212 (dk_at dksX12_next_7 4 rfl rfl)
theorem dX12_next_171 : decode cX12_next 171 = .ok (.aload_n 0, 1) := dk_42 (dk_at dksX12_next_7 7 rfl rfl)
theorem dX12_next_172 : decode cX12_next 172 = .ok (.aload_n 0, 1) := dk_42 (dk_at dksX12_next_7 8 rfl rfl)
theorem dX12_next_173 : decode cX12_next 173 = .ok (.getfield 23, 3) := dk_180 0 23 (dk_at dksX12_next_7 9 rfl rfl)
theorem dX12_next_176 : decode cX12_next 176 = .ok (.aload_n 0, 1) := dk_42 (dk_at dksX12_next_7 12 rfl rfl)
theorem dX12_next_177 : decode cX12_next 177 = .ok (.getfield 30, 3) := dk_180 0 30 (dk_at dksX12_next_7 13 rfl rfl)
theorem dX12_next_180 : decode cX12_next 180 = .ok (.isub, 1) := dk_100 (dk_at dksX12_next_7 16 rfl rfl)
theorem dX12_next_181 : decode cX12_next 181 = .ok (.iconst 2, 1) := dk_5 (dk_at dksX12_next_7 17 rfl rfl)
theorem dX12_next_182 : decode cX12_next 182 = .ok (.if_icmp .le 8, 3) := dk_164 0 8 (dk_at dksX12_next_7 18 rfl rfl)
theorem dX12_next_185 : decode cX12_next 185 = .ok (.bipush 100, 2) := dk_16 100 (dk_at dksX12_next_7 21 rfl rfl)
theorem dX12_next_187 : decode cX12_next 187 = .ok (.goto 4, 3) := dk_167 0 4 (dk_at dksX12_next_8 0 rfl rfl)
theorem dX12_next_190 : decode cX12_next 190 = .ok (.iload_n 1, 1) := dk_27 (dk_at dksX12_next_8 3 rfl rfl)
theorem dX12_next_191 : decode cX12_next 191 = .ok (.putfield 37, 3) := dk_181 0 37 (dk_at dksX12_next_8 4 rfl rfl)
theorem dX12_next_194 : decode cX12_next 194 = .ok (.goto 30, 3) := dk_167 0 30 (dk_at dksX12_next_8 7 rfl rfl)
theorem dX12_next_197 : decode cX12_next 197 = .ok (.aload_n 0, 1) := dk_42 (dk_at dksX12_next_8 10 rfl rfl)
theorem dX12_next_198 : decode cX12_next 198 = .ok (.bipush 59, 2) := dk_16 59 (dk_at dksX12_next_8 11 rfl rfl)
theorem dX12_next_200 : decode cX12_next 200 = .ok (.bipush 59, 2) := dk_16 59 (dk_at dksX12_next_8 13 rfl rfl)
theorem dX12_next_202 : decode cX12_next 202 = .ok (.invokevirtual 26, 3) := dk_182 0 26 (dk_at dksX12_next_8 15 rfl rfl)
theorem dX12_next_205 : decode cX12_next 205 = .ok (.ifCond .eq 19, 3) := dk_153 0 19 (dk_at dksX12_next_8 18 rfl rfl)
theorem dX12_next_208 : decode cX12_next 208 = .ok (.aload_n 0, 1) := dk_42 (dk_at dksX12_next_8 21 rfl rfl)
theorem dX12_next_209 : decode cX12_next 209 = .ok (.ldc 57, 2) := dk_18 57 (dk_at dksX12_next_8 22 rfl rfl)
theorem dX12_next_211 : decode cX12_next 211 = .ok (.putfield 33, 3) := dk_181 0 33 (dk_at dksX12_next_9 0 rfl rfl)
theorem dX12_next_214 : decode cX12_next 214 = .ok (.aload_n 0, 1) := dk_42 (dk_at dksX12_next_9 3 rfl rfl)
theorem dX12_next_215 : decode cX12_next 215 = .ok (.dup, 1) := dk_89 (dk_at dksX12_next_9 4 rfl rfl)
theorem dX12_next_216 : decode cX12_next 216 = .ok (.getfield 23, 3) := dk_180 0 23 (dk_at dksX12_next_9 5 rfl rfl)
theorem dX12_next_219 : decode cX12_next 219 = .ok (.iconst 1, 1) := dk_4 (dk_at dksX12_next_9 8 rfl rfl)
theorem dX12_next_220 : decode cX12_next 220 = .ok (.iadd, 1) := dk_96 (dk_at dksX12_next_9 9 rfl rfl)
theorem dX12_next_221 : decode cX12_next 221 = .ok (.putfield 23, 3) := dk_181 0 23 (dk_at dksX12_next_9 10 rfl rfl)
theorem dX12_next_224 : decode cX12_next 224 = .ok (.return_, 1) := dk_177 (dk_at dksX12_next_9 13 rfl rfl)
abbrev cX12_isIn : ByteArray := prog_8_method_2_code
def yX12_isIn : MethodName := ⟨RX12, "isIn", "(II)Z"⟩
def dkwX12_isIn_1 : List UInt8 := [42, 180, 0, 9, 42, 180, 0, 23, 46, 28, 163, 0, 7, 4, 167, 0, 4, 3, 172]
abbrev dktX12_isIn_1 : List UInt8 := dkwX12_isIn_1 ++ []
def dkwX12_isIn_0 : List UInt8 := [42, 180, 0, 23, 42, 180, 0, 15, 162, 0, 33, 42, 180, 0, 9, 42, 180, 0, 23, 46, 27, 161, 0, 20]
abbrev dktX12_isIn_0 : List UInt8 := dkwX12_isIn_0 ++ dktX12_isIn_1
theorem dksX12_isIn_0 : cX12_isIn.data.toList.drop 0 = dktX12_isIn_0 := by decide +kernel
theorem dksX12_isIn_1 : cX12_isIn.data.toList.drop 24 = dktX12_isIn_1 := dk_seg dksX12_isIn_0 24 rfl rfl
theorem dX12_isIn_0 : decode cX12_isIn 0 = .ok (.aload_n 0, 1) := dk_42 (dk_at dksX12_isIn_0 0 rfl rfl)
theorem dX12_isIn_1 : decode cX12_isIn 1 = .ok (.getfield 23, 3) := dk_180 0 23 (dk_at dksX12_isIn_0 1 rfl rfl)
theorem dX12_isIn_4 : decode cX12_isIn 4 = .ok (.aload_n 0, 1) := dk_42 (dk_at dksX12_isIn_0 4 rfl rfl)
theorem dX12_isIn_5 : decode cX12_isIn 5 = .ok (.getfield 15, 3) := dk_180 0 15 (dk_at dksX12_isIn_0 5 rfl rfl)
theorem dX12_isIn_8 : decode cX12_isIn 8 = .ok (.if_icmp .ge 33, 3) := dk_162 0 33 (dk_at dksX12_isIn_0 8 rfl rfl)
theorem dX12_isIn_11 : decode cX12_isIn 11 = .ok (.aload_n 0, 1) := dk_42 (dk_at dksX12_isIn_0 11 rfl rfl)
theorem dX12_isIn_12 : decode cX12_isIn 12 = .ok (.getfield 9, 3) := dk_180 0 9 (dk_at dksX12_isIn_0 12 rfl rfl)
theorem dX12_isIn_15 : decode cX12_isIn 15 = .ok (.aload_n 0, 1) := dk_42 (dk_at dksX12_isIn_0 15 rfl rfl)
theorem dX12_isIn_16 : decode cX12_isIn 16 = .ok (.getfield 23, 3) := dk_180 0 23 (dk_at dksX12_isIn_0 16 rfl rfl)
theorem dX12_isIn_19 : decode cX12_isIn 19 = .ok (.iaload, 1) := dk_46 (dk_at dksX12_isIn_0 19 rfl rfl)
theorem dX12_isIn_20 : decode cX12_isIn 20 = .ok (.iload_n 1, 1) := dk_27 (dk_at dksX12_isIn_0 20 rfl rfl)
theorem dX12_isIn_21 : decode cX12_isIn 21 = .ok (.if_icmp .lt 20, 3) := dk_161 0 20 (dk_at dksX12_isIn_0 21 rfl rfl)
theorem dX12_isIn_24 : decode cX12_isIn 24 = .ok (.aload_n 0, 1) := dk_42 (dk_at dksX12_isIn_1 0 rfl rfl)
theorem dX12_isIn_25 : decode cX12_isIn 25 = .ok (.getfield 9, 3) := dk_180 0 9 (dk_at dksX12_isIn_1 1 rfl rfl)
theorem dX12_isIn_28 : decode cX12_isIn 28 = .ok (.aload_n 0, 1) := dk_42 (dk_at dksX12_isIn_1 4 rfl rfl)
theorem dX12_isIn_29 : decode cX12_isIn 29 = .ok (.getfield 23, 3) := dk_180 0 23 (dk_at dksX12_isIn_1 5 rfl rfl)
theorem dX12_isIn_32 : decode cX12_isIn 32 = .ok (.iaload, 1) := dk_46 (dk_at dksX12_isIn_1 8 rfl rfl)
theorem dX12_isIn_33 : decode cX12_isIn 33 = .ok (.iload_n 2, 1) := dk_28 (dk_at dksX12_isIn_1 9 rfl rfl)
theorem dX12_isIn_34 : decode cX12_isIn 34 = .ok (.if_icmp .gt 7, 3) := dk_163 0 7 (dk_at dksX12_isIn_1 10 rfl rfl)
theorem dX12_isIn_37 : decode cX12_isIn 37 = .ok (.iconst 1, 1) := dk_4 (dk_at dksX12_isIn_1 13 rfl rfl)
theorem dX12_isIn_38 : decode cX12_isIn 38 = .ok (.goto 4, 3) := dk_167 0 4 (dk_at dksX12_isIn_1 14 rfl rfl)
theorem dX12_isIn_41 : decode cX12_isIn 41 = .ok (.iconst 0, 1) := dk_3 (dk_at dksX12_isIn_1 17 rfl rfl)
theorem dX12_isIn_42 : decode cX12_isIn 42 = .ok (.ireturn, 1) := dk_172 (dk_at dksX12_isIn_1 18 rfl rfl)
abbrev cX12_item : ByteArray := prog_8_method_11_code
def yX12_item : MethodName := ⟨RX12, "item", "()V"⟩
def dkwX12_item_15 : List UInt8 := [167, 0, 18, 42, 5, 16, 12, 182, 0, 138, 167, 0, 8, 42, 182, 0, 73, 191, 177]
abbrev dktX12_item_15 : List UInt8 := dkwX12_item_15 ++ []
def dkwX12_item_14 : List UInt8 := [182, 0, 87, 79, 167, 0, 36, 42, 3, 4, 182, 0, 138, 167, 0, 27, 42, 4, 4, 182, 0, 138]
abbrev dktX12_item_14 : List UInt8 := dkwX12_item_14 ++ dktX12_item_15
def dkwX12_item_13 : List UInt8 := [180, 0, 19, 180, 0, 92, 4, 100, 182, 0, 87, 62, 42, 180, 0, 19, 180, 0, 135, 29, 42, 3, 4]
abbrev dktX12_item_13 : List UInt8 := dkwX12_item_13 ++ dktX12_item_14
def dkwX12_item_12 : List UInt8 := [182, 0, 98, 3, 182, 0, 130, 167, 0, 80, 42, 182, 0, 133, 167, 0, 73, 42, 182, 0, 70, 42, 3, 42]
abbrev dktX12_item_12 : List UInt8 := dkwX12_item_12 ++ dktX12_item_13
def dkwX12_item_11 : List UInt8 := [180, 0, 19, 42, 182, 0, 98, 4, 182, 0, 130, 167, 0, 99, 42, 182, 0, 70, 42, 180, 0, 19, 42]
abbrev dktX12_item_11 : List UInt8 := dkwX12_item_11 ++ dktX12_item_12
def dkwX12_item_10 : List UInt8 := [180, 0, 19, 42, 180, 0, 37, 182, 0, 127, 153, 0, 7, 4, 167, 0, 4, 3, 182, 0, 83, 42]
abbrev dktX12_item_10 : List UInt8 := dkwX12_item_10 ++ dktX12_item_11
def dkwX12_item_9 : List UInt8 := [167, 0, 155, 42, 182, 0, 70, 42, 42, 180, 0, 19, 42, 180, 0, 37, 182, 0, 77, 153, 0, 21, 42]
abbrev dktX12_item_9 : List UInt8 := dkwX12_item_9 ++ dktX12_item_10
def dkwX12_item_8 : List UInt8 := [42, 182, 0, 70, 42, 180, 0, 19, 42, 42, 180, 0, 19, 180, 0, 125, 16, 7, 182, 0, 87, 181, 0, 125]
abbrev dktX12_item_8 : List UInt8 := dkwX12_item_8 ++ dktX12_item_9
def dkwX12_item_7 : List UInt8 := [170, 0, 0, 0, 0, 0, 0, 222, 0, 0, 0, 0, 0, 0, 0, 7, 0, 0, 0, 48, 0, 0, 0, 75, 0, 0, 0, 131, 0, 0, 0, 150, 0, 0, 0, 157, 0, 0, 0, 194, 0, 0, 0, 203, 0, 0, 0, 212]
abbrev dktX12_item_7 : List UInt8 := dkwX12_item_7 ++ dktX12_item_8
def dkwX12_item_6 : List UInt8 := [61, 167, 0, 15, 43, 18, 123, 182, 0, 64, 153, 0, 6, 16, 7, 61, 28]
abbrev dktX12_item_6 : List UInt8 := dkwX12_item_6 ++ dktX12_item_7
def dkwX12_item_5 : List UInt8 := [18, 119, 182, 0, 64, 153, 0, 35, 8, 61, 167, 0, 30, 43, 18, 121, 182, 0, 64, 153, 0, 21, 16, 6]
abbrev dktX12_item_5 : List UInt8 := dkwX12_item_5 ++ dktX12_item_6
def dkwX12_item_4 : List UInt8 := [153, 0, 63, 6, 61, 167, 0, 58, 43, 18, 117, 182, 0, 64, 153, 0, 49, 7, 61, 167, 0, 44, 43]
abbrev dktX12_item_4 : List UInt8 := dkwX12_item_4 ++ dktX12_item_5
def dkwX12_item_3 : List UInt8 := [61, 167, 0, 86, 43, 18, 113, 182, 0, 64, 153, 0, 77, 5, 61, 167, 0, 72, 43, 18, 115, 182, 0, 64]
abbrev dktX12_item_3 : List UInt8 := dkwX12_item_3 ++ dktX12_item_4
def dkwX12_item_2 : List UInt8 := [43, 18, 109, 182, 0, 64, 153, 0, 105, 3, 61, 167, 0, 100, 43, 18, 111, 182, 0, 64, 153, 0, 91, 4]
abbrev dktX12_item_2 : List UInt8 := dkwX12_item_2 ++ dktX12_item_3
def dkwX12_item_1 : List UInt8 := [171, 0, 0, 0, 184, 0, 0, 0, 8, 196, 227, 155, 85, 0, 0, 0, 115, 0, 0, 13, 42, 0, 0, 0, 129, 0, 1, 133, 171, 0, 0, 0, 101, 0, 1, 174, 39, 0, 0, 0, 157, 0, 50, 160, 7, 0, 0, 0, 143, 0, 52, 151, 245, 0, 0, 0, 87, 0, 53, 221, 87, 0, 0, 0, 73, 5, 181, 103, 28, 0, 0, 0, 172]
abbrev dktX12_item_1 : List UInt8 := dkwX12_item_1 ++ dktX12_item_2
def dkwX12_item_0 : List UInt8 := [42, 180, 0, 33, 199, 0, 8, 42, 182, 0, 73, 191, 42, 180, 0, 33, 76, 2, 61, 43, 182, 0, 106]
abbrev dktX12_item_0 : List UInt8 := dkwX12_item_0 ++ dktX12_item_1
theorem dksX12_item_0 : cX12_item.data.toList.drop 0 = dktX12_item_0 := by decide +kernel
theorem dksX12_item_1 : cX12_item.data.toList.drop 23 = dktX12_item_1 := dk_seg dksX12_item_0 23 rfl rfl
theorem dksX12_item_2 : cX12_item.data.toList.drop 96 = dktX12_item_2 := dk_seg dksX12_item_1 73 rfl rfl
theorem dksX12_item_3 : cX12_item.data.toList.drop 120 = dktX12_item_3 := dk_seg dksX12_item_2 24 rfl rfl
theorem dksX12_item_4 : cX12_item.data.toList.drop 144 = dktX12_item_4 := dk_seg dksX12_item_3 24 rfl rfl
theorem dksX12_item_5 : cX12_item.data.toList.drop 167 = dktX12_item_5 := dk_seg dksX12_item_4 23 rfl rfl
theorem dksX12_item_6 : cX12_item.data.toList.drop 191 = dktX12_item_6 := dk_seg dksX12_item_5 24 rfl rfl
theorem dksX12_item_7 : cX12_item.data.toList.drop 208 = dktX12_item_7 := dk_seg dksX12_item_6 17 rfl rfl
theorem dksX12_item_8 : cX12_item.data.toList.drop 256 = dktX12_item_8 := dk_seg dksX12_item_7 48 rfl rfl
theorem dksX12_item_9 : cX12_item.data.toList.drop 280 = dktX12_item_9 := dk_seg dksX12_item_8 24 rfl rfl
theorem dksX12_item_10 : cX12_item.data.toList.drop 303 = dktX12_item_10 := dk_seg dksX12_item_9 23 rfl rfl
theorem dksX12_item_11 : cX12_item.data.toList.drop 325 = dktX12_item_11 := dk_seg dksX12_item_10 22 rfl rfl
theorem dksX12_item_12 : cX12_item.data.toList.drop 348 = dktX12_item_12 := dk_seg dksX12_item_11 23 rfl rfl
theorem dksX12_item_13 : cX12_item.data.toList.drop 372 = dktX12_item_13 := dk_seg dksX12_item_12 24 rfl rfl
theorem dksX12_item_14 : cX12_item.data.toList.drop 395 = dktX12_item_14 := dk_seg dksX12_item_13 23 rfl rfl
theorem dksX12_item_15 : cX12_item.data.toList.drop 417 = dktX12_item_15 := dk_seg dksX12_item_14 22 rfl rfl
theorem dX12_item_0 : decode cX12_item 0 = .ok (.aload_n 0, 1) := dk_42 (dk_at dksX12_item_0 0 rfl rfl)
theorem dX12_item_1 : decode cX12_item 1 = .ok (.getfield 33, 3) := dk_180 0 33 (dk_at dksX12_item_0 1 rfl rfl)
theorem dX12_item_4 : decode cX12_item 4 = .ok (.ifnonnull 8, 3) := dk_199 0 8 (dk_at dksX12_item_0 4 rfl rfl)
theorem dX12_item_7 : decode cX12_item 7 = .ok (.aload_n 0, 1) := dk_42 (dk_at dksX12_item_0 7 rfl rfl)
theorem dX12_item_8 : decode cX12_item 8 = .ok (.invokevirtual 73, 3) := dk_182 0 73 (dk_at dksX12_item_0 8 rfl rfl)
theorem dX12_item_11 : decode cX12_item 11 = .ok (.athrow, 1) := dk_191 (dk_at dksX12_item_0 11 rfl rfl)
theorem dX12_item_12 : decode cX12_item 12 = .ok (.aload_n 0, 1) := dk_42 (dk_at dksX12_item_0 12 rfl rfl)
theorem dX12_item_13 : decode cX12_item 13 = .ok (.getfield 33, 3) := dk_180 0 33 (dk_at dksX12_item_0 13 rfl rfl)
theorem dX12_item_16 : decode cX12_item 16 = .ok (.astore_n 1, 1) := dk_76 (dk_at dksX12_item_0 16 rfl rfl)
theorem dX12_item_17 : decode cX12_item 17 = .ok (.iconst (-1), 1) := dk_2 (dk_at dksX12_item_0 17 rfl rfl)
theorem dX12_item_18 : decode cX12_item 18 = .ok (.istore_n 2, 1) := dk_61 (dk_at dksX12_item_0 18 rfl rfl)
theorem dX12_item_19 : decode cX12_item 19 = .ok (.aload_n 1, 1) := dk_43 (dk_at dksX12_item_0 19 rfl rfl)
theorem dX12_item_20 : decode cX12_item 20 = .ok (.invokevirtual 106, 3) := dk_182 0 106 (dk_at dksX12_item_0 20 rfl rfl)
theorem dX12_item_23 : decode cX12_item 23 = .ok (.lookupswitch 184 #[(-991716523, 115), (3370, 129), (99755, 101), (110119, 157), (3317767, 143), (3446773, 87), (3530071, 73), (95774492, 172)], 73) := by decide +kernel
theorem dX12_item_96 : decode cX12_item 96 = .ok (.aload_n 1, 1) := dk_43 (dk_at dksX12_item_2 0 rfl rfl)
theorem dX12_item_97 : decode cX12_item 97 = .ok (.ldc 109, 2) := dk_18 109 (dk_at dksX12_item_2 1 rfl rfl)
theorem dX12_item_99 : decode cX12_item 99 = .ok (.invokevirtual 64, 3) := dk_182 0 64 (dk_at dksX12_item_2 3 rfl rfl)
theorem dX12_item_102 : decode cX12_item 102 = .ok (.ifCond .eq 105, 3) := dk_153 0 105 (dk_at dksX12_item_2 6 rfl rfl)
theorem dX12_item_105 : decode cX12_item 105 = .ok (.iconst 0, 1) := dk_3 (dk_at dksX12_item_2 9 rfl rfl)
theorem dX12_item_106 : decode cX12_item 106 = .ok (.istore_n 2, 1) := dk_61 (dk_at dksX12_item_2 10 rfl rfl)
theorem dX12_item_107 : decode cX12_item 107 = .ok (.goto 100, 3) := dk_167 0 100 (dk_at dksX12_item_2 11 rfl rfl)
theorem dX12_item_110 : decode cX12_item 110 = .ok (.aload_n 1, 1) := dk_43 (dk_at dksX12_item_2 14 rfl rfl)
theorem dX12_item_111 : decode cX12_item 111 = .ok (.ldc 111, 2) := dk_18 111 (dk_at dksX12_item_2 15 rfl rfl)
theorem dX12_item_113 : decode cX12_item 113 = .ok (.invokevirtual 64, 3) := dk_182 0 64 (dk_at dksX12_item_2 17 rfl rfl)
theorem dX12_item_116 : decode cX12_item 116 = .ok (.ifCond .eq 91, 3) := dk_153 0 91 (dk_at dksX12_item_2 20 rfl rfl)
theorem dX12_item_119 : decode cX12_item 119 = .ok (.iconst 1, 1) := dk_4 (dk_at dksX12_item_2 23 rfl rfl)
theorem dX12_item_120 : decode cX12_item 120 = .ok (.istore_n 2, 1) := dk_61 (dk_at dksX12_item_3 0 rfl rfl)
theorem dX12_item_121 : decode cX12_item 121 = .ok (.goto 86, 3) := dk_167 0 86 (dk_at dksX12_item_3 1 rfl rfl)
theorem dX12_item_124 : decode cX12_item 124 = .ok (.aload_n 1, 1) := dk_43 (dk_at dksX12_item_3 4 rfl rfl)
theorem dX12_item_125 : decode cX12_item 125 = .ok (.ldc 113, 2) := dk_18 113 (dk_at dksX12_item_3 5 rfl rfl)
theorem dX12_item_127 : decode cX12_item 127 = .ok (.invokevirtual 64, 3) := dk_182 0 64 (dk_at dksX12_item_3 7 rfl rfl)
theorem dX12_item_130 : decode cX12_item 130 = .ok (.ifCond .eq 77, 3) := dk_153 0 77 (dk_at dksX12_item_3 10 rfl rfl)
theorem dX12_item_133 : decode cX12_item 133 = .ok (.iconst 2, 1) := dk_5 (dk_at dksX12_item_3 13 rfl rfl)
theorem dX12_item_134 : decode cX12_item 134 = .ok (.istore_n 2, 1) := dk_61 (dk_at dksX12_item_3 14 rfl rfl)
theorem dX12_item_135 : decode cX12_item 135 = .ok (.goto 72, 3) := dk_167 0 72 (dk_at dksX12_item_3 15 rfl rfl)
theorem dX12_item_138 : decode cX12_item 138 = .ok (.aload_n 1, 1) := dk_43 (dk_at dksX12_item_3 18 rfl rfl)
theorem dX12_item_139 : decode cX12_item 139 = .ok (.ldc 115, 2) := dk_18 115 (dk_at dksX12_item_3 19 rfl rfl)
theorem dX12_item_141 : decode cX12_item 141 = .ok (.invokevirtual 64, 3) := dk_182 0 64 (dk_at dksX12_item_3 21 rfl rfl)
theorem dX12_item_144 : decode cX12_item 144 = .ok (.ifCond .eq 63, 3) := dk_153 0 63 (dk_at dksX12_item_4 0 rfl rfl)
theorem dX12_item_147 : decode cX12_item 147 = .ok (.iconst 3, 1) := dk_6 (dk_at dksX12_item_4 3 rfl rfl)
theorem dX12_item_148 : decode cX12_item 148 = .ok (.istore_n 2, 1) := dk_61 (dk_at dksX12_item_4 4 rfl rfl)
theorem dX12_item_149 : decode cX12_item 149 = .ok (.goto 58, 3) := dk_167 0 58 (dk_at dksX12_item_4 5 rfl rfl)
theorem dX12_item_152 : decode cX12_item 152 = .ok (.aload_n 1, 1) := dk_43 (dk_at dksX12_item_4 8 rfl rfl)
theorem dX12_item_153 : decode cX12_item 153 = .ok (.ldc 117, 2) := dk_18 117 (dk_at dksX12_item_4 9 rfl rfl)
theorem dX12_item_155 : decode cX12_item 155 = .ok (.invokevirtual 64, 3) := dk_182 0 64 (dk_at dksX12_item_4 11 rfl rfl)
theorem dX12_item_158 : decode cX12_item 158 = .ok (.ifCond .eq 49, 3) := dk_153 0 49 (dk_at dksX12_item_4 14 rfl rfl)
theorem dX12_item_161 : decode cX12_item 161 = .ok (.iconst 4, 1) := dk_7 (dk_at dksX12_item_4 17 rfl rfl)
theorem dX12_item_162 : decode cX12_item 162 = .ok (.istore_n 2, 1) := dk_61 (dk_at dksX12_item_4 18 rfl rfl)
theorem dX12_item_163 : decode cX12_item 163 = .ok (.goto 44, 3) := dk_167 0 44 (dk_at dksX12_item_4 19 rfl rfl)
theorem dX12_item_166 : decode cX12_item 166 = .ok (.aload_n 1, 1) := dk_43 (dk_at dksX12_item_4 22 rfl rfl)
theorem dX12_item_167 : decode cX12_item 167 = .ok (.ldc 119, 2) := dk_18 119 (dk_at dksX12_item_5 0 rfl rfl)
theorem dX12_item_169 : decode cX12_item 169 = .ok (.invokevirtual 64, 3) := dk_182 0 64 (dk_at dksX12_item_5 2 rfl rfl)
theorem dX12_item_172 : decode cX12_item 172 = .ok (.ifCond .eq 35, 3) := dk_153 0 35 (dk_at dksX12_item_5 5 rfl rfl)
theorem dX12_item_175 : decode cX12_item 175 = .ok (.iconst 5, 1) := dk_8 (dk_at dksX12_item_5 8 rfl rfl)
theorem dX12_item_176 : decode cX12_item 176 = .ok (.istore_n 2, 1) := dk_61 (dk_at dksX12_item_5 9 rfl rfl)
theorem dX12_item_177 : decode cX12_item 177 = .ok (.goto 30, 3) := dk_167 0 30 (dk_at dksX12_item_5 10 rfl rfl)
theorem dX12_item_180 : decode cX12_item 180 = .ok (.aload_n 1, 1) := dk_43 (dk_at dksX12_item_5 13 rfl rfl)
theorem dX12_item_181 : decode cX12_item 181 = .ok (.ldc 121, 2) := dk_18 121 (dk_at dksX12_item_5 14 rfl rfl)
theorem dX12_item_183 : decode cX12_item 183 = .ok (.invokevirtual 64, 3) := dk_182 0 64 (dk_at dksX12_item_5 16 rfl rfl)
theorem dX12_item_186 : decode cX12_item 186 = .ok (.ifCond .eq 21, 3) := dk_153 0 21 (dk_at dksX12_item_5 19 rfl rfl)
theorem dX12_item_189 : decode cX12_item 189 = .ok (.bipush 6, 2) := dk_16 6 (dk_at dksX12_item_5 22 rfl rfl)
theorem dX12_item_191 : decode cX12_item 191 = .ok (.istore_n 2, 1) := dk_61 (dk_at dksX12_item_6 0 rfl rfl)
theorem dX12_item_192 : decode cX12_item 192 = .ok (.goto 15, 3) := dk_167 0 15 (dk_at dksX12_item_6 1 rfl rfl)
theorem dX12_item_195 : decode cX12_item 195 = .ok (.aload_n 1, 1) := dk_43 (dk_at dksX12_item_6 4 rfl rfl)
theorem dX12_item_196 : decode cX12_item 196 = .ok (.ldc 123, 2) := dk_18 123 (dk_at dksX12_item_6 5 rfl rfl)
theorem dX12_item_198 : decode cX12_item 198 = .ok (.invokevirtual 64, 3) := dk_182 0 64 (dk_at dksX12_item_6 7 rfl rfl)
theorem dX12_item_201 : decode cX12_item 201 = .ok (.ifCond .eq 6, 3) := dk_153 0 6 (dk_at dksX12_item_6 10 rfl rfl)
theorem dX12_item_204 : decode cX12_item 204 = .ok (.bipush 7, 2) := dk_16 7 (dk_at dksX12_item_6 13 rfl rfl)
theorem dX12_item_206 : decode cX12_item 206 = .ok (.istore_n 2, 1) := dk_61 (dk_at dksX12_item_6 15 rfl rfl)
theorem dX12_item_207 : decode cX12_item 207 = .ok (.iload_n 2, 1) := dk_28 (dk_at dksX12_item_6 16 rfl rfl)
theorem dX12_item_208 : decode cX12_item 208 = .ok (.tableswitch 222 0 7 #[48, 75, 131, 150, 157, 194, 203, 212], 48) := by decide +kernel
theorem dX12_item_256 : decode cX12_item 256 = .ok (.aload_n 0, 1) := dk_42 (dk_at dksX12_item_8 0 rfl rfl)
theorem dX12_item_257 : decode cX12_item 257 = .ok (.invokevirtual 70, 3) := dk_182 0 70 (dk_at dksX12_item_8 1 rfl rfl)
theorem dX12_item_260 : decode cX12_item 260 = .ok (.aload_n 0, 1) := dk_42 (dk_at dksX12_item_8 4 rfl rfl)
theorem dX12_item_261 : decode cX12_item 261 = .ok (.getfield 19, 3) := dk_180 0 19 (dk_at dksX12_item_8 5 rfl rfl)
theorem dX12_item_264 : decode cX12_item 264 = .ok (.aload_n 0, 1) := dk_42 (dk_at dksX12_item_8 8 rfl rfl)
theorem dX12_item_265 : decode cX12_item 265 = .ok (.aload_n 0, 1) := dk_42 (dk_at dksX12_item_8 9 rfl rfl)
theorem dX12_item_266 : decode cX12_item 266 = .ok (.getfield 19, 3) := dk_180 0 19 (dk_at dksX12_item_8 10 rfl rfl)
theorem dX12_item_269 : decode cX12_item 269 = .ok (.getfield 125, 3) := dk_180 0 125 (dk_at dksX12_item_8 13 rfl rfl)
theorem dX12_item_272 : decode cX12_item 272 = .ok (.bipush 7, 2) := dk_16 7 (dk_at dksX12_item_8 16 rfl rfl)
theorem dX12_item_274 : decode cX12_item 274 = .ok (.invokevirtual 87, 3) := dk_182 0 87 (dk_at dksX12_item_8 18 rfl rfl)
theorem dX12_item_277 : decode cX12_item 277 = .ok (.putfield 125, 3) := dk_181 0 125 (dk_at dksX12_item_8 21 rfl rfl)
theorem dX12_item_280 : decode cX12_item 280 = .ok (.goto 155, 3) := dk_167 0 155 (dk_at dksX12_item_9 0 rfl rfl)
theorem dX12_item_283 : decode cX12_item 283 = .ok (.aload_n 0, 1) := dk_42 (dk_at dksX12_item_9 3 rfl rfl)
theorem dX12_item_284 : decode cX12_item 284 = .ok (.invokevirtual 70, 3) := dk_182 0 70 (dk_at dksX12_item_9 4 rfl rfl)
theorem dX12_item_287 : decode cX12_item 287 = .ok (.aload_n 0, 1) := dk_42 (dk_at dksX12_item_9 7 rfl rfl)
theorem dX12_item_288 : decode cX12_item 288 = .ok (.aload_n 0, 1) := dk_42 (dk_at dksX12_item_9 8 rfl rfl)
theorem dX12_item_289 : decode cX12_item 289 = .ok (.getfield 19, 3) := dk_180 0 19 (dk_at dksX12_item_9 9 rfl rfl)
theorem dX12_item_292 : decode cX12_item 292 = .ok (.aload_n 0, 1) := dk_42 (dk_at dksX12_item_9 12 rfl rfl)
theorem dX12_item_293 : decode cX12_item 293 = .ok (.getfield 37, 3) := dk_180 0 37 (dk_at dksX12_item_9 13 rfl rfl)
theorem dX12_item_296 : decode cX12_item 296 = .ok (.invokevirtual 77, 3) := dk_182 0 77 (dk_at dksX12_item_9 16 rfl rfl)
theorem dX12_item_299 : decode cX12_item 299 = .ok (.ifCond .eq 21, 3) := dk_153 0 21 (dk_at dksX12_item_9 19 rfl rfl)
theorem dX12_item_302 : decode cX12_item 302 = .ok (.aload_n 0, 1) := dk_42 (dk_at dksX12_item_9 22 rfl rfl)
theorem dX12_item_303 : decode cX12_item 303 = .ok (.getfield 19, 3) := dk_180 0 19 (dk_at dksX12_item_10 0 rfl rfl)
theorem dX12_item_306 : decode cX12_item 306 = .ok (.aload_n 0, 1) := dk_42 (dk_at dksX12_item_10 3 rfl rfl)
theorem dX12_item_307 : decode cX12_item 307 = .ok (.getfield 37, 3) := dk_180 0 37 (dk_at dksX12_item_10 4 rfl rfl)
theorem dX12_item_310 : decode cX12_item 310 = .ok (.invokevirtual 127, 3) := dk_182 0 127 (dk_at dksX12_item_10 7 rfl rfl)
theorem dX12_item_313 : decode cX12_item 313 = .ok (.ifCond .eq 7, 3) := dk_153 0 7 (dk_at dksX12_item_10 10 rfl rfl)
theorem dX12_item_316 : decode cX12_item 316 = .ok (.iconst 1, 1) := dk_4 (dk_at dksX12_item_10 13 rfl rfl)
theorem dX12_item_317 : decode cX12_item 317 = .ok (.goto 4, 3) := dk_167 0 4 (dk_at dksX12_item_10 14 rfl rfl)
theorem dX12_item_320 : decode cX12_item 320 = .ok (.iconst 0, 1) := dk_3 (dk_at dksX12_item_10 17 rfl rfl)
theorem dX12_item_321 : decode cX12_item 321 = .ok (.invokevirtual 83, 3) := dk_182 0 83 (dk_at dksX12_item_10 18 rfl rfl)
theorem dX12_item_324 : decode cX12_item 324 = .ok (.aload_n 0, 1) := dk_42 (dk_at dksX12_item_10 21 rfl rfl)
theorem dX12_item_325 : decode cX12_item 325 = .ok (.getfield 19, 3) := dk_180 0 19 (dk_at dksX12_item_11 0 rfl rfl)
theorem dX12_item_328 : decode cX12_item 328 = .ok (.aload_n 0, 1) := dk_42 (dk_at dksX12_item_11 3 rfl rfl)
theorem dX12_item_329 : decode cX12_item 329 = .ok (.invokevirtual 98, 3) := dk_182 0 98 (dk_at dksX12_item_11 4 rfl rfl)
theorem dX12_item_332 : decode cX12_item 332 = .ok (.iconst 1, 1) := dk_4 (dk_at dksX12_item_11 7 rfl rfl)
theorem dX12_item_333 : decode cX12_item 333 = .ok (.invokevirtual 130, 3) := dk_182 0 130 (dk_at dksX12_item_11 8 rfl rfl)
theorem dX12_item_336 : decode cX12_item 336 = .ok (.goto 99, 3) := dk_167 0 99 (dk_at dksX12_item_11 11 rfl rfl)
theorem dX12_item_339 : decode cX12_item 339 = .ok (.aload_n 0, 1) := dk_42 (dk_at dksX12_item_11 14 rfl rfl)
theorem dX12_item_340 : decode cX12_item 340 = .ok (.invokevirtual 70, 3) := dk_182 0 70 (dk_at dksX12_item_11 15 rfl rfl)
theorem dX12_item_343 : decode cX12_item 343 = .ok (.aload_n 0, 1) := dk_42 (dk_at dksX12_item_11 18 rfl rfl)
theorem dX12_item_344 : decode cX12_item 344 = .ok (.getfield 19, 3) := dk_180 0 19 (dk_at dksX12_item_11 19 rfl rfl)
theorem dX12_item_347 : decode cX12_item 347 = .ok (.aload_n 0, 1) := dk_42 (dk_at dksX12_item_11 22 rfl rfl)
theorem dX12_item_348 : decode cX12_item 348 = .ok (.invokevirtual 98, 3) := dk_182 0 98 (dk_at dksX12_item_12 0 rfl rfl)
theorem dX12_item_351 : decode cX12_item 351 = .ok (.iconst 0, 1) := dk_3 (dk_at dksX12_item_12 3 rfl rfl)
theorem dX12_item_352 : decode cX12_item 352 = .ok (.invokevirtual 130, 3) := dk_182 0 130 (dk_at dksX12_item_12 4 rfl rfl)
theorem dX12_item_355 : decode cX12_item 355 = .ok (.goto 80, 3) := dk_167 0 80 (dk_at dksX12_item_12 7 rfl rfl)
theorem dX12_item_358 : decode cX12_item 358 = .ok (.aload_n 0, 1) := dk_42 (dk_at dksX12_item_12 10 rfl rfl)
theorem dX12_item_359 : decode cX12_item 359 = .ok (.invokevirtual 133, 3) := dk_182 0 133 (dk_at dksX12_item_12 11 rfl rfl)
theorem dX12_item_362 : decode cX12_item 362 = .ok (.goto 73, 3) := dk_167 0 73 (dk_at dksX12_item_12 14 rfl rfl)
theorem dX12_item_365 : decode cX12_item 365 = .ok (.aload_n 0, 1) := dk_42 (dk_at dksX12_item_12 17 rfl rfl)
theorem dX12_item_366 : decode cX12_item 366 = .ok (.invokevirtual 70, 3) := dk_182 0 70 (dk_at dksX12_item_12 18 rfl rfl)
theorem dX12_item_369 : decode cX12_item 369 = .ok (.aload_n 0, 1) := dk_42 (dk_at dksX12_item_12 21 rfl rfl)
theorem dX12_item_370 : decode cX12_item 370 = .ok (.iconst 0, 1) := dk_3 (dk_at dksX12_item_12 22 rfl rfl)
theorem dX12_item_371 : decode cX12_item 371 = .ok (.aload_n 0, 1) := dk_42 (dk_at dksX12_item_12 23 rfl rfl)
theorem dX12_item_372 : decode cX12_item 372 = .ok (.getfield 19, 3) := dk_180 0 19 (dk_at dksX12_item_13 0 rfl rfl)
theorem dX12_item_375 : decode cX12_item 375 = .ok (.getfield 92, 3) := dk_180 0 92 (dk_at dksX12_item_13 3 rfl rfl)
theorem dX12_item_378 : decode cX12_item 378 = .ok (.iconst 1, 1) := dk_4 (dk_at dksX12_item_13 6 rfl rfl)
theorem dX12_item_379 : decode cX12_item 379 = .ok (.isub, 1) := dk_100 (dk_at dksX12_item_13 7 rfl rfl)
theorem dX12_item_380 : decode cX12_item 380 = .ok (.invokevirtual 87, 3) := dk_182 0 87 (dk_at dksX12_item_13 8 rfl rfl)
theorem dX12_item_383 : decode cX12_item 383 = .ok (.istore_n 3, 1) := dk_62 (dk_at dksX12_item_13 11 rfl rfl)
theorem dX12_item_384 : decode cX12_item 384 = .ok (.aload_n 0, 1) := dk_42 (dk_at dksX12_item_13 12 rfl rfl)
theorem dX12_item_385 : decode cX12_item 385 = .ok (.getfield 19, 3) := dk_180 0 19 (dk_at dksX12_item_13 13 rfl rfl)
theorem dX12_item_388 : decode cX12_item 388 = .ok (.getfield 135, 3) := dk_180 0 135 (dk_at dksX12_item_13 16 rfl rfl)
theorem dX12_item_391 : decode cX12_item 391 = .ok (.iload_n 3, 1) := dk_29 (dk_at dksX12_item_13 19 rfl rfl)
theorem dX12_item_392 : decode cX12_item 392 = .ok (.aload_n 0, 1) := dk_42 (dk_at dksX12_item_13 20 rfl rfl)
theorem dX12_item_393 : decode cX12_item 393 = .ok (.iconst 0, 1) := dk_3 (dk_at dksX12_item_13 21 rfl rfl)
theorem dX12_item_394 : decode cX12_item 394 = .ok (.iconst 1, 1) := dk_4 (dk_at dksX12_item_13 22 rfl rfl)
theorem dX12_item_395 : decode cX12_item 395 = .ok (.invokevirtual 87, 3) := dk_182 0 87 (dk_at dksX12_item_14 0 rfl rfl)
theorem dX12_item_398 : decode cX12_item 398 = .ok (.iastore, 1) := dk_79 (dk_at dksX12_item_14 3 rfl rfl)
theorem dX12_item_399 : decode cX12_item 399 = .ok (.goto 36, 3) := dk_167 0 36 (dk_at dksX12_item_14 4 rfl rfl)
theorem dX12_item_402 : decode cX12_item 402 = .ok (.aload_n 0, 1) := dk_42 (dk_at dksX12_item_14 7 rfl rfl)
theorem dX12_item_403 : decode cX12_item 403 = .ok (.iconst 0, 1) := dk_3 (dk_at dksX12_item_14 8 rfl rfl)
theorem dX12_item_404 : decode cX12_item 404 = .ok (.iconst 1, 1) := dk_4 (dk_at dksX12_item_14 9 rfl rfl)
theorem dX12_item_405 : decode cX12_item 405 = .ok (.invokevirtual 138, 3) := dk_182 0 138 (dk_at dksX12_item_14 10 rfl rfl)
theorem dX12_item_408 : decode cX12_item 408 = .ok (.goto 27, 3) := dk_167 0 27 (dk_at dksX12_item_14 13 rfl rfl)
theorem dX12_item_411 : decode cX12_item 411 = .ok (.aload_n 0, 1) := dk_42 (dk_at dksX12_item_14 16 rfl rfl)
theorem dX12_item_412 : decode cX12_item 412 = .ok (.iconst 1, 1) := dk_4 (dk_at dksX12_item_14 17 rfl rfl)
theorem dX12_item_413 : decode cX12_item 413 = .ok (.iconst 1, 1) := dk_4 (dk_at dksX12_item_14 18 rfl rfl)
theorem dX12_item_414 : decode cX12_item 414 = .ok (.invokevirtual 138, 3) := dk_182 0 138 (dk_at dksX12_item_14 19 rfl rfl)
theorem dX12_item_417 : decode cX12_item 417 = .ok (.goto 18, 3) := dk_167 0 18 (dk_at dksX12_item_15 0 rfl rfl)
theorem dX12_item_420 : decode cX12_item 420 = .ok (.aload_n 0, 1) := dk_42 (dk_at dksX12_item_15 3 rfl rfl)
theorem dX12_item_421 : decode cX12_item 421 = .ok (.iconst 2, 1) := dk_5 (dk_at dksX12_item_15 4 rfl rfl)
theorem dX12_item_422 : decode cX12_item 422 = .ok (.bipush 12, 2) := dk_16 12 (dk_at dksX12_item_15 5 rfl rfl)
theorem dX12_item_424 : decode cX12_item 424 = .ok (.invokevirtual 138, 3) := dk_182 0 138 (dk_at dksX12_item_15 7 rfl rfl)
theorem dX12_item_427 : decode cX12_item 427 = .ok (.goto 8, 3) := dk_167 0 8 (dk_at dksX12_item_15 10 rfl rfl)
theorem dX12_item_430 : decode cX12_item 430 = .ok (.aload_n 0, 1) := dk_42 (dk_at dksX12_item_15 13 rfl rfl)
theorem dX12_item_431 : decode cX12_item 431 = .ok (.invokevirtual 73, 3) := dk_182 0 73 (dk_at dksX12_item_15 14 rfl rfl)
theorem dX12_item_434 : decode cX12_item 434 = .ok (.athrow, 1) := dk_191 (dk_at dksX12_item_15 17 rfl rfl)
theorem dX12_item_435 : decode cX12_item 435 = .ok (.return_, 1) := dk_177 (dk_at dksX12_item_15 18 rfl rfl)
abbrev cX12_wrong : ByteArray := prog_8_method_4_code
def yX12_wrong : MethodName := ⟨RX12, "wrong", "()LLeftIsAgreedOn$Fault;"⟩
def dkwX12_wrong_0 : List UInt8 := [187, 0, 59, 89, 42, 180, 0, 30, 183, 0, 61, 176]
abbrev dktX12_wrong_0 : List UInt8 := dkwX12_wrong_0 ++ []
theorem dksX12_wrong_0 : cX12_wrong.data.toList.drop 0 = dktX12_wrong_0 := by decide +kernel
theorem dX12_wrong_0 : decode cX12_wrong 0 = .ok (.new 59, 3) := dk_187 0 59 (dk_at dksX12_wrong_0 0 rfl rfl)
theorem dX12_wrong_3 : decode cX12_wrong 3 = .ok (.dup, 1) := dk_89 (dk_at dksX12_wrong_0 3 rfl rfl)
theorem dX12_wrong_4 : decode cX12_wrong 4 = .ok (.aload_n 0, 1) := dk_42 (dk_at dksX12_wrong_0 4 rfl rfl)
theorem dX12_wrong_5 : decode cX12_wrong 5 = .ok (.getfield 30, 3) := dk_180 0 30 (dk_at dksX12_wrong_0 5 rfl rfl)
theorem dX12_wrong_8 : decode cX12_wrong 8 = .ok (.invokespecial 61, 3) := dk_183 0 61 (dk_at dksX12_wrong_0 8 rfl rfl)
theorem dX12_wrong_11 : decode cX12_wrong 11 = .ok (.areturn, 1) := dk_176 (dk_at dksX12_wrong_0 11 rfl rfl)
abbrev cX12_number : ByteArray := prog_8_method_6_code
def yX12_number : MethodName := ⟨RX12, "number", "(II)I"⟩
def dkwX12_number_1 : List UInt8 := [180, 0, 37, 62, 42, 182, 0, 70, 29, 172]
abbrev dktX12_number_1 : List UInt8 := dkwX12_number_1 ++ []
def dkwX12_number_0 : List UInt8 := [42, 180, 0, 37, 27, 161, 0, 11, 42, 180, 0, 37, 28, 164, 0, 8, 42, 182, 0, 73, 191, 42]
abbrev dktX12_number_0 : List UInt8 := dkwX12_number_0 ++ dktX12_number_1
theorem dksX12_number_0 : cX12_number.data.toList.drop 0 = dktX12_number_0 := by decide +kernel
theorem dksX12_number_1 : cX12_number.data.toList.drop 22 = dktX12_number_1 := dk_seg dksX12_number_0 22 rfl rfl
theorem dX12_number_0 : decode cX12_number 0 = .ok (.aload_n 0, 1) := dk_42 (dk_at dksX12_number_0 0 rfl rfl)
theorem dX12_number_1 : decode cX12_number 1 = .ok (.getfield 37, 3) := dk_180 0 37 (dk_at dksX12_number_0 1 rfl rfl)
theorem dX12_number_4 : decode cX12_number 4 = .ok (.iload_n 1, 1) := dk_27 (dk_at dksX12_number_0 4 rfl rfl)
theorem dX12_number_5 : decode cX12_number 5 = .ok (.if_icmp .lt 11, 3) := dk_161 0 11 (dk_at dksX12_number_0 5 rfl rfl)
theorem dX12_number_8 : decode cX12_number 8 = .ok (.aload_n 0, 1) := dk_42 (dk_at dksX12_number_0 8 rfl rfl)
theorem dX12_number_9 : decode cX12_number 9 = .ok (.getfield 37, 3) := dk_180 0 37 (dk_at dksX12_number_0 9 rfl rfl)
theorem dX12_number_12 : decode cX12_number 12 = .ok (.iload_n 2, 1) := dk_28 (dk_at dksX12_number_0 12 rfl rfl)
theorem dX12_number_13 : decode cX12_number 13 = .ok (.if_icmp .le 8, 3) := dk_164 0 8 (dk_at dksX12_number_0 13 rfl rfl)
theorem dX12_number_16 : decode cX12_number 16 = .ok (.aload_n 0, 1) := dk_42 (dk_at dksX12_number_0 16 rfl rfl)
theorem dX12_number_17 : decode cX12_number 17 = .ok (.invokevirtual 73, 3) := dk_182 0 73 (dk_at dksX12_number_0 17 rfl rfl)
theorem dX12_number_20 : decode cX12_number 20 = .ok (.athrow, 1) := dk_191 (dk_at dksX12_number_0 20 rfl rfl)
theorem dX12_number_21 : decode cX12_number 21 = .ok (.aload_n 0, 1) := dk_42 (dk_at dksX12_number_0 21 rfl rfl)
theorem dX12_number_22 : decode cX12_number 22 = .ok (.getfield 37, 3) := dk_180 0 37 (dk_at dksX12_number_1 0 rfl rfl)
theorem dX12_number_25 : decode cX12_number 25 = .ok (.istore_n 3, 1) := dk_62 (dk_at dksX12_number_1 3 rfl rfl)
theorem dX12_number_26 : decode cX12_number 26 = .ok (.aload_n 0, 1) := dk_42 (dk_at dksX12_number_1 4 rfl rfl)
theorem dX12_number_27 : decode cX12_number 27 = .ok (.invokevirtual 70, 3) := dk_182 0 70 (dk_at dksX12_number_1 5 rfl rfl)
theorem dX12_number_30 : decode cX12_number 30 = .ok (.iload_n 3, 1) := dk_29 (dk_at dksX12_number_1 8 rfl rfl)
theorem dX12_number_31 : decode cX12_number 31 = .ok (.ireturn, 1) := dk_172 (dk_at dksX12_number_1 9 rfl rfl)
abbrev cX12_need : ByteArray := prog_8_method_7_code
def yX12_need : MethodName := ⟨RX12, "need", "(Z)V"⟩
def dkwX12_need_0 : List UInt8 := [27, 154, 0, 8, 42, 182, 0, 73, 191, 177]
abbrev dktX12_need_0 : List UInt8 := dkwX12_need_0 ++ []
theorem dksX12_need_0 : cX12_need.data.toList.drop 0 = dktX12_need_0 := by decide +kernel
theorem dX12_need_0 : decode cX12_need 0 = .ok (.iload_n 1, 1) := dk_27 (dk_at dksX12_need_0 0 rfl rfl)
theorem dX12_need_1 : decode cX12_need 1 = .ok (.ifCond .ne 8, 3) := dk_154 0 8 (dk_at dksX12_need_0 1 rfl rfl)
theorem dX12_need_4 : decode cX12_need 4 = .ok (.aload_n 0, 1) := dk_42 (dk_at dksX12_need_0 4 rfl rfl)
theorem dX12_need_5 : decode cX12_need 5 = .ok (.invokevirtual 73, 3) := dk_182 0 73 (dk_at dksX12_need_0 5 rfl rfl)
theorem dX12_need_8 : decode cX12_need 8 = .ok (.athrow, 1) := dk_191 (dk_at dksX12_need_0 8 rfl rfl)
theorem dX12_need_9 : decode cX12_need 9 = .ok (.return_, 1) := dk_177 (dk_at dksX12_need_0 9 rfl rfl)
abbrev cX12_cell : ByteArray := prog_8_method_8_code
def yX12_cell : MethodName := ⟨RX12, "cell", "()I"⟩
def dkwX12_cell_0 : List UInt8 := [42, 42, 180, 0, 19, 42, 180, 0, 37, 182, 0, 77, 182, 0, 83, 42, 3, 16, 70, 182, 0, 87, 172]
abbrev dktX12_cell_0 : List UInt8 := dkwX12_cell_0 ++ []
theorem dksX12_cell_0 : cX12_cell.data.toList.drop 0 = dktX12_cell_0 := by decide +kernel
theorem dX12_cell_0 : decode cX12_cell 0 = .ok (.aload_n 0, 1) := dk_42 (dk_at dksX12_cell_0 0 rfl rfl)
theorem dX12_cell_1 : decode cX12_cell 1 = .ok (.aload_n 0, 1) := dk_42 (dk_at dksX12_cell_0 1 rfl rfl)
theorem dX12_cell_2 : decode cX12_cell 2 = .ok (.getfield 19, 3) := dk_180 0 19 (dk_at dksX12_cell_0 2 rfl rfl)
theorem dX12_cell_5 : decode cX12_cell 5 = .ok (.aload_n 0, 1) := dk_42 (dk_at dksX12_cell_0 5 rfl rfl)
theorem dX12_cell_6 : decode cX12_cell 6 = .ok (.getfield 37, 3) := dk_180 0 37 (dk_at dksX12_cell_0 6 rfl rfl)
theorem dX12_cell_9 : decode cX12_cell 9 = .ok (.invokevirtual 77, 3) := dk_182 0 77 (dk_at dksX12_cell_0 9 rfl rfl)
theorem dX12_cell_12 : decode cX12_cell 12 = .ok (.invokevirtual 83, 3) := dk_182 0 83 (dk_at dksX12_cell_0 12 rfl rfl)
theorem dX12_cell_15 : decode cX12_cell 15 = .ok (.aload_n 0, 1) := dk_42 (dk_at dksX12_cell_0 15 rfl rfl)
theorem dX12_cell_16 : decode cX12_cell 16 = .ok (.iconst 0, 1) := dk_3 (dk_at dksX12_cell_0 16 rfl rfl)
theorem dX12_cell_17 : decode cX12_cell 17 = .ok (.bipush 70, 2) := dk_16 70 (dk_at dksX12_cell_0 17 rfl rfl)
theorem dX12_cell_19 : decode cX12_cell 19 = .ok (.invokevirtual 87, 3) := dk_182 0 87 (dk_at dksX12_cell_0 19 rfl rfl)
theorem dX12_cell_22 : decode cX12_cell 22 = .ok (.ireturn, 1) := dk_172 (dk_at dksX12_cell_0 22 rfl rfl)
abbrev cX12_adds : ByteArray := prog_8_method_10_code
def yX12_adds : MethodName := ⟨RX12, "adds", "()V"⟩
def dkwX12_adds_4 : List UInt8 := [182, 0, 87, 182, 0, 102, 87, 177]
abbrev dktX12_adds_4 : List UInt8 := dkwX12_adds_4 ++ []
def dkwX12_adds_3 : List UInt8 := [167, 0, 4, 3, 182, 0, 83, 42, 182, 0, 98, 62, 42, 180, 0, 19, 27, 28, 29, 42, 3, 6]
abbrev dktX12_adds_3 : List UInt8 := dkwX12_adds_3 ++ dktX12_adds_4
def dkwX12_adds_2 : List UInt8 := [180, 0, 37, 182, 0, 77, 153, 0, 21, 42, 180, 0, 19, 42, 180, 0, 37, 182, 0, 95, 154, 0, 7, 4]
abbrev dktX12_adds_2 : List UInt8 := dkwX12_adds_2 ++ dktX12_adds_3
def dkwX12_adds_1 : List UInt8 := [182, 0, 70, 42, 3, 8, 182, 0, 87, 60, 42, 3, 16, 9, 182, 0, 87, 61, 42, 42, 180, 0, 19, 42]
abbrev dktX12_adds_1 : List UInt8 := dkwX12_adds_1 ++ dktX12_adds_2
def dkwX12_adds_0 : List UInt8 := [42, 42, 180, 0, 19, 180, 0, 92, 16, 8, 162, 0, 7, 4, 167, 0, 4, 3, 182, 0, 83, 42]
abbrev dktX12_adds_0 : List UInt8 := dkwX12_adds_0 ++ dktX12_adds_1
theorem dksX12_adds_0 : cX12_adds.data.toList.drop 0 = dktX12_adds_0 := by decide +kernel
theorem dksX12_adds_1 : cX12_adds.data.toList.drop 22 = dktX12_adds_1 := dk_seg dksX12_adds_0 22 rfl rfl
theorem dksX12_adds_2 : cX12_adds.data.toList.drop 46 = dktX12_adds_2 := dk_seg dksX12_adds_1 24 rfl rfl
theorem dksX12_adds_3 : cX12_adds.data.toList.drop 70 = dktX12_adds_3 := dk_seg dksX12_adds_2 24 rfl rfl
theorem dksX12_adds_4 : cX12_adds.data.toList.drop 92 = dktX12_adds_4 := dk_seg dksX12_adds_3 22 rfl rfl
theorem dX12_adds_0 : decode cX12_adds 0 = .ok (.aload_n 0, 1) := dk_42 (dk_at dksX12_adds_0 0 rfl rfl)
theorem dX12_adds_1 : decode cX12_adds 1 = .ok (.aload_n 0, 1) := dk_42 (dk_at dksX12_adds_0 1 rfl rfl)
theorem dX12_adds_2 : decode cX12_adds 2 = .ok (.getfield 19, 3) := dk_180 0 19 (dk_at dksX12_adds_0 2 rfl rfl)
theorem dX12_adds_5 : decode cX12_adds 5 = .ok (.getfield 92, 3) := dk_180 0 92 (dk_at dksX12_adds_0 5 rfl rfl)
theorem dX12_adds_8 : decode cX12_adds 8 = .ok (.bipush 8, 2) := dk_16 8 (dk_at dksX12_adds_0 8 rfl rfl)
theorem dX12_adds_10 : decode cX12_adds 10 = .ok (.if_icmp .ge 7, 3) := dk_162 0 7 (dk_at dksX12_adds_0 10 rfl rfl)
theorem dX12_adds_13 : decode cX12_adds 13 = .ok (.iconst 1, 1) := dk_4 (dk_at dksX12_adds_0 13 rfl rfl)
theorem dX12_adds_14 : decode cX12_adds 14 = .ok (.goto 4, 3) := dk_167 0 4 (dk_at dksX12_adds_0 14 rfl rfl)
theorem dX12_adds_17 : decode cX12_adds 17 = .ok (.iconst 0, 1) := dk_3 (dk_at dksX12_adds_0 17 rfl rfl)
theorem dX12_adds_18 : decode cX12_adds 18 = .ok (.invokevirtual 83, 3) := dk_182 0 83 (dk_at dksX12_adds_0 18 rfl rfl)
theorem dX12_adds_21 : decode cX12_adds 21 = .ok (.aload_n 0, 1) := dk_42 (dk_at dksX12_adds_0 21 rfl rfl)
theorem dX12_adds_22 : decode cX12_adds 22 = .ok (.invokevirtual 70, 3) := dk_182 0 70 (dk_at dksX12_adds_1 0 rfl rfl)
theorem dX12_adds_25 : decode cX12_adds 25 = .ok (.aload_n 0, 1) := dk_42 (dk_at dksX12_adds_1 3 rfl rfl)
theorem dX12_adds_26 : decode cX12_adds 26 = .ok (.iconst 0, 1) := dk_3 (dk_at dksX12_adds_1 4 rfl rfl)
theorem dX12_adds_27 : decode cX12_adds 27 = .ok (.iconst 5, 1) := dk_8 (dk_at dksX12_adds_1 5 rfl rfl)
theorem dX12_adds_28 : decode cX12_adds 28 = .ok (.invokevirtual 87, 3) := dk_182 0 87 (dk_at dksX12_adds_1 6 rfl rfl)
theorem dX12_adds_31 : decode cX12_adds 31 = .ok (.istore_n 1, 1) := dk_60 (dk_at dksX12_adds_1 9 rfl rfl)
theorem dX12_adds_32 : decode cX12_adds 32 = .ok (.aload_n 0, 1) := dk_42 (dk_at dksX12_adds_1 10 rfl rfl)
theorem dX12_adds_33 : decode cX12_adds 33 = .ok (.iconst 0, 1) := dk_3 (dk_at dksX12_adds_1 11 rfl rfl)
theorem dX12_adds_34 : decode cX12_adds 34 = .ok (.bipush 9, 2) := dk_16 9 (dk_at dksX12_adds_1 12 rfl rfl)
theorem dX12_adds_36 : decode cX12_adds 36 = .ok (.invokevirtual 87, 3) := dk_182 0 87 (dk_at dksX12_adds_1 14 rfl rfl)
theorem dX12_adds_39 : decode cX12_adds 39 = .ok (.istore_n 2, 1) := dk_61 (dk_at dksX12_adds_1 17 rfl rfl)
theorem dX12_adds_40 : decode cX12_adds 40 = .ok (.aload_n 0, 1) := dk_42 (dk_at dksX12_adds_1 18 rfl rfl)
theorem dX12_adds_41 : decode cX12_adds 41 = .ok (.aload_n 0, 1) := dk_42 (dk_at dksX12_adds_1 19 rfl rfl)
theorem dX12_adds_42 : decode cX12_adds 42 = .ok (.getfield 19, 3) := dk_180 0 19 (dk_at dksX12_adds_1 20 rfl rfl)
theorem dX12_adds_45 : decode cX12_adds 45 = .ok (.aload_n 0, 1) := dk_42 (dk_at dksX12_adds_1 23 rfl rfl)
theorem dX12_adds_46 : decode cX12_adds 46 = .ok (.getfield 37, 3) := dk_180 0 37 (dk_at dksX12_adds_2 0 rfl rfl)
theorem dX12_adds_49 : decode cX12_adds 49 = .ok (.invokevirtual 77, 3) := dk_182 0 77 (dk_at dksX12_adds_2 3 rfl rfl)
theorem dX12_adds_52 : decode cX12_adds 52 = .ok (.ifCond .eq 21, 3) := dk_153 0 21 (dk_at dksX12_adds_2 6 rfl rfl)
theorem dX12_adds_55 : decode cX12_adds 55 = .ok (.aload_n 0, 1) := dk_42 (dk_at dksX12_adds_2 9 rfl rfl)
theorem dX12_adds_56 : decode cX12_adds 56 = .ok (.getfield 19, 3) := dk_180 0 19 (dk_at dksX12_adds_2 10 rfl rfl)
theorem dX12_adds_59 : decode cX12_adds 59 = .ok (.aload_n 0, 1) := dk_42 (dk_at dksX12_adds_2 13 rfl rfl)
theorem dX12_adds_60 : decode cX12_adds 60 = .ok (.getfield 37, 3) := dk_180 0 37 (dk_at dksX12_adds_2 14 rfl rfl)
theorem dX12_adds_63 : decode cX12_adds 63 = .ok (.invokevirtual 95, 3) := dk_182 0 95 (dk_at dksX12_adds_2 17 rfl rfl)
theorem dX12_adds_66 : decode cX12_adds 66 = .ok (.ifCond .ne 7, 3) := dk_154 0 7 (dk_at dksX12_adds_2 20 rfl rfl)
theorem dX12_adds_69 : decode cX12_adds 69 = .ok (.iconst 1, 1) := dk_4 (dk_at dksX12_adds_2 23 rfl rfl)
theorem dX12_adds_70 : decode cX12_adds 70 = .ok (.goto 4, 3) := dk_167 0 4 (dk_at dksX12_adds_3 0 rfl rfl)
theorem dX12_adds_73 : decode cX12_adds 73 = .ok (.iconst 0, 1) := dk_3 (dk_at dksX12_adds_3 3 rfl rfl)
theorem dX12_adds_74 : decode cX12_adds 74 = .ok (.invokevirtual 83, 3) := dk_182 0 83 (dk_at dksX12_adds_3 4 rfl rfl)
theorem dX12_adds_77 : decode cX12_adds 77 = .ok (.aload_n 0, 1) := dk_42 (dk_at dksX12_adds_3 7 rfl rfl)
theorem dX12_adds_78 : decode cX12_adds 78 = .ok (.invokevirtual 98, 3) := dk_182 0 98 (dk_at dksX12_adds_3 8 rfl rfl)
theorem dX12_adds_81 : decode cX12_adds 81 = .ok (.istore_n 3, 1) := dk_62 (dk_at dksX12_adds_3 11 rfl rfl)
theorem dX12_adds_82 : decode cX12_adds 82 = .ok (.aload_n 0, 1) := dk_42 (dk_at dksX12_adds_3 12 rfl rfl)
theorem dX12_adds_83 : decode cX12_adds 83 = .ok (.getfield 19, 3) := dk_180 0 19 (dk_at dksX12_adds_3 13 rfl rfl)
theorem dX12_adds_86 : decode cX12_adds 86 = .ok (.iload_n 1, 1) := dk_27 (dk_at dksX12_adds_3 16 rfl rfl)
theorem dX12_adds_87 : decode cX12_adds 87 = .ok (.iload_n 2, 1) := dk_28 (dk_at dksX12_adds_3 17 rfl rfl)
theorem dX12_adds_88 : decode cX12_adds 88 = .ok (.iload_n 3, 1) := dk_29 (dk_at dksX12_adds_3 18 rfl rfl)
theorem dX12_adds_89 : decode cX12_adds 89 = .ok (.aload_n 0, 1) := dk_42 (dk_at dksX12_adds_3 19 rfl rfl)
theorem dX12_adds_90 : decode cX12_adds 90 = .ok (.iconst 0, 1) := dk_3 (dk_at dksX12_adds_3 20 rfl rfl)
theorem dX12_adds_91 : decode cX12_adds 91 = .ok (.iconst 3, 1) := dk_6 (dk_at dksX12_adds_3 21 rfl rfl)
theorem dX12_adds_92 : decode cX12_adds 92 = .ok (.invokevirtual 87, 3) := dk_182 0 87 (dk_at dksX12_adds_4 0 rfl rfl)
theorem dX12_adds_95 : decode cX12_adds 95 = .ok (.invokevirtual 102, 3) := dk_182 0 102 (dk_at dksX12_adds_4 3 rfl rfl)
theorem dX12_adds_98 : decode cX12_adds 98 = .ok (.pop, 1) := dk_87 (dk_at dksX12_adds_4 6 rfl rfl)
theorem dX12_adds_99 : decode cX12_adds 99 = .ok (.return_, 1) := dk_177 (dk_at dksX12_adds_4 7 rfl rfl)
abbrev cX12_told : ByteArray := prog_8_method_9_code
def yX12_told : MethodName := ⟨RX12, "told", "(II)V"⟩
def dkwX12_told_0 : List UInt8 := [42, 182, 0, 70, 42, 180, 0, 19, 180, 0, 89, 27, 42, 3, 28, 182, 0, 87, 79, 177]
abbrev dktX12_told_0 : List UInt8 := dkwX12_told_0 ++ []
theorem dksX12_told_0 : cX12_told.data.toList.drop 0 = dktX12_told_0 := by decide +kernel
theorem dX12_told_0 : decode cX12_told 0 = .ok (.aload_n 0, 1) := dk_42 (dk_at dksX12_told_0 0 rfl rfl)
theorem dX12_told_1 : decode cX12_told 1 = .ok (.invokevirtual 70, 3) := dk_182 0 70 (dk_at dksX12_told_0 1 rfl rfl)
theorem dX12_told_4 : decode cX12_told 4 = .ok (.aload_n 0, 1) := dk_42 (dk_at dksX12_told_0 4 rfl rfl)
theorem dX12_told_5 : decode cX12_told 5 = .ok (.getfield 19, 3) := dk_180 0 19 (dk_at dksX12_told_0 5 rfl rfl)
theorem dX12_told_8 : decode cX12_told 8 = .ok (.getfield 89, 3) := dk_180 0 89 (dk_at dksX12_told_0 8 rfl rfl)
theorem dX12_told_11 : decode cX12_told 11 = .ok (.iload_n 1, 1) := dk_27 (dk_at dksX12_told_0 11 rfl rfl)
theorem dX12_told_12 : decode cX12_told 12 = .ok (.aload_n 0, 1) := dk_42 (dk_at dksX12_told_0 12 rfl rfl)
theorem dX12_told_13 : decode cX12_told 13 = .ok (.iconst 0, 1) := dk_3 (dk_at dksX12_told_0 13 rfl rfl)
theorem dX12_told_14 : decode cX12_told 14 = .ok (.iload_n 2, 1) := dk_28 (dk_at dksX12_told_0 14 rfl rfl)
theorem dX12_told_15 : decode cX12_told 15 = .ok (.invokevirtual 87, 3) := dk_182 0 87 (dk_at dksX12_told_0 15 rfl rfl)
theorem dX12_told_18 : decode cX12_told 18 = .ok (.iastore, 1) := dk_79 (dk_at dksX12_told_0 18 rfl rfl)
theorem dX12_told_19 : decode cX12_told 19 = .ok (.return_, 1) := dk_177 (dk_at dksX12_told_0 19 rfl rfl)
abbrev cX12_takes : ByteArray := prog_8_method_5_code
def yX12_takes : MethodName := ⟨RX12, "takes", "(Ljava/lang/String;)Z"⟩
def dkwX12_takes_1 : List UInt8 := [4, 172]
abbrev dktX12_takes_1 : List UInt8 := dkwX12_takes_1 ++ []
def dkwX12_takes_0 : List UInt8 := [42, 180, 0, 33, 198, 0, 14, 42, 180, 0, 33, 43, 182, 0, 64, 154, 0, 5, 3, 172, 42, 182, 0, 70]
abbrev dktX12_takes_0 : List UInt8 := dkwX12_takes_0 ++ dktX12_takes_1
theorem dksX12_takes_0 : cX12_takes.data.toList.drop 0 = dktX12_takes_0 := by decide +kernel
theorem dksX12_takes_1 : cX12_takes.data.toList.drop 24 = dktX12_takes_1 := dk_seg dksX12_takes_0 24 rfl rfl
theorem dX12_takes_0 : decode cX12_takes 0 = .ok (.aload_n 0, 1) := dk_42 (dk_at dksX12_takes_0 0 rfl rfl)
theorem dX12_takes_1 : decode cX12_takes 1 = .ok (.getfield 33, 3) := dk_180 0 33 (dk_at dksX12_takes_0 1 rfl rfl)
theorem dX12_takes_4 : decode cX12_takes 4 = .ok (.ifnull 14, 3) := dk_198 0 14 (dk_at dksX12_takes_0 4 rfl rfl)
theorem dX12_takes_7 : decode cX12_takes 7 = .ok (.aload_n 0, 1) := dk_42 (dk_at dksX12_takes_0 7 rfl rfl)
theorem dX12_takes_8 : decode cX12_takes 8 = .ok (.getfield 33, 3) := dk_180 0 33 (dk_at dksX12_takes_0 8 rfl rfl)
theorem dX12_takes_11 : decode cX12_takes 11 = .ok (.aload_n 1, 1) := dk_43 (dk_at dksX12_takes_0 11 rfl rfl)
theorem dX12_takes_12 : decode cX12_takes 12 = .ok (.invokevirtual 64, 3) := dk_182 0 64 (dk_at dksX12_takes_0 12 rfl rfl)
theorem dX12_takes_15 : decode cX12_takes 15 = .ok (.ifCond .ne 5, 3) := dk_154 0 5 (dk_at dksX12_takes_0 15 rfl rfl)
theorem dX12_takes_18 : decode cX12_takes 18 = .ok (.iconst 0, 1) := dk_3 (dk_at dksX12_takes_0 18 rfl rfl)
theorem dX12_takes_19 : decode cX12_takes 19 = .ok (.ireturn, 1) := dk_172 (dk_at dksX12_takes_0 19 rfl rfl)
theorem dX12_takes_20 : decode cX12_takes 20 = .ok (.aload_n 0, 1) := dk_42 (dk_at dksX12_takes_0 20 rfl rfl)
theorem dX12_takes_21 : decode cX12_takes 21 = .ok (.invokevirtual 70, 3) := dk_182 0 70 (dk_at dksX12_takes_0 21 rfl rfl)
theorem dX12_takes_24 : decode cX12_takes 24 = .ok (.iconst 1, 1) := dk_4 (dk_at dksX12_takes_1 0 rfl rfl)
theorem dX12_takes_25 : decode cX12_takes 25 = .ok (.ireturn, 1) := dk_172 (dk_at dksX12_takes_1 1 rfl rfl)
theorem q90 : (Jvm.Cond.initialized "LeftIsAgreedOn$Reader") ∈ lw_all := lw_g (lw_at lw_m1 24 rfl) rfl
theorem q126 : (Jvm.Cond.fieldLink "LeftIsAgreedOn$Reader" (135 : Nat) "LeftIsAgreedOn$Island" "wants" "[I") ∈ lw_all := lw_g (lw_at lw_m1 60 rfl) rfl
theorem q130 : (Jvm.Cond.fieldLink "LeftIsAgreedOn$Reader" (89 : Nat) "LeftIsAgreedOn$Island" "told" "[I") ∈ lw_all := lw_g (lw_at lw_m1 64 rfl) rfl
theorem q133 : (Jvm.Cond.fieldLink "LeftIsAgreedOn$Reader" (125 : Nat) "LeftIsAgreedOn$Island" "side" "I") ∈ lw_all := lw_g (lw_at lw_m1 67 rfl) rfl
theorem q136 : (Jvm.Cond.fieldLink "LeftIsAgreedOn$Reader" (92 : Nat) "LeftIsAgreedOn$Island" "people" "I") ∈ lw_all := lw_g (lw_at lw_m1 70 rfl) rfl
theorem q706 : (Jvm.Cond.instantiable "LeftIsAgreedOn$Reader" (7 : Nat)) ∈ lw_all := lw_g (lw_at lw_m3 160 rfl) rfl
theorem q715 : (Jvm.Cond.instanceMethod ({ cls := "LeftIsAgreedOn$Reader", name := "<init>", desc := "([IILLeftIsAgreedOn$Island;)V" } : Jvm.MethodName)) ∈ lw_all := lw_g (lw_at lw_m3 169 rfl) rfl
theorem q716 : (Jvm.Cond.code ({ cls := "LeftIsAgreedOn$Reader", name := "<init>", desc := "([IILLeftIsAgreedOn$Island;)V" } : Jvm.MethodName) prog_8_method_1_code (4 : Nat) (Option.none : Option Jvm.ClassFile.FieldType)) ∈ lw_all := lw_g (lw_at lw_m3 170 rfl) rfl
theorem q717 : (Jvm.Cond.methodLink "LeftIsAgreedOn$Reader" (3 : Nat) ({ cls := "java/lang/Object", name := "<init>", desc := "()V" } : Jvm.MethodName)) ∈ lw_all := lw_g (lw_at lw_m3 171 rfl) rfl
theorem q718 : (Jvm.Cond.fieldLink "LeftIsAgreedOn$Reader" (9 : Nat) "LeftIsAgreedOn$Reader" "tape" "[I") ∈ lw_all := lw_g (lw_at lw_m3 172 rfl) rfl
theorem q719 : (Jvm.Cond.fieldLink "LeftIsAgreedOn$Reader" (15 : Nat) "LeftIsAgreedOn$Reader" "size" "I") ∈ lw_all := lw_g (lw_at lw_m3 173 rfl) rfl
theorem q720 : (Jvm.Cond.fieldLink "LeftIsAgreedOn$Reader" (19 : Nat) "LeftIsAgreedOn$Reader" "island" "LLeftIsAgreedOn$Island;") ∈ lw_all := lw_g (lw_at lw_m3 174 rfl) rfl
theorem q722 : (Jvm.Cond.fieldLink "LeftIsAgreedOn$Reader" (23 : Nat) "LeftIsAgreedOn$Reader" "at" "I") ∈ lw_all := lw_g (lw_at lw_m3 176 rfl) rfl
theorem q723 : (Jvm.Cond.fieldLink "LeftIsAgreedOn$Reader" (30 : Nat) "LeftIsAgreedOn$Reader" "from" "I") ∈ lw_all := lw_g (lw_at lw_m3 177 rfl) rfl
theorem q724 : (Jvm.Cond.fieldLink "LeftIsAgreedOn$Reader" (33 : Nat) "LeftIsAgreedOn$Reader" "word" "Ljava/lang/String;") ∈ lw_all := lw_g (lw_at lw_m3 178 rfl) rfl
theorem q725 : (Jvm.Cond.fieldLink "LeftIsAgreedOn$Reader" (37 : Nat) "LeftIsAgreedOn$Reader" "number" "I") ∈ lw_all := lw_g (lw_at lw_m3 179 rfl) rfl
theorem q726 : (Jvm.Cond.laysFinal "LeftIsAgreedOn$Reader" "LeftIsAgreedOn$Reader" "tape" "[I") ∈ lw_all := lw_g (lw_at lw_m3 180 rfl) rfl
theorem q727 : (Jvm.Cond.soleField "LeftIsAgreedOn$Reader" "tape") ∈ lw_all := lw_g (lw_at lw_m3 181 rfl) rfl
theorem q728 : (Jvm.Cond.laysFinal "LeftIsAgreedOn$Reader" "LeftIsAgreedOn$Reader" "size" "I") ∈ lw_all := lw_g (lw_at lw_m3 182 rfl) rfl
theorem q729 : (Jvm.Cond.soleField "LeftIsAgreedOn$Reader" "size") ∈ lw_all := lw_g (lw_at lw_m3 183 rfl) rfl
theorem q730 : (Jvm.Cond.laysFinal "LeftIsAgreedOn$Reader" "LeftIsAgreedOn$Reader" "island" "LLeftIsAgreedOn$Island;") ∈ lw_all := lw_g (lw_at lw_m3 184 rfl) rfl
theorem q731 : (Jvm.Cond.soleField "LeftIsAgreedOn$Reader" "island") ∈ lw_all := lw_g (lw_at lw_m3 185 rfl) rfl
theorem q732 : (Jvm.Cond.lays "LeftIsAgreedOn$Reader" "LeftIsAgreedOn$Reader" "at" "I") ∈ lw_all := lw_g (lw_at lw_m3 186 rfl) rfl
theorem q733 : (Jvm.Cond.soleField "LeftIsAgreedOn$Reader" "at") ∈ lw_all := lw_g (lw_at lw_m3 187 rfl) rfl
theorem q734 : (Jvm.Cond.lays "LeftIsAgreedOn$Reader" "LeftIsAgreedOn$Reader" "from" "I") ∈ lw_all := lw_g (lw_at lw_m3 188 rfl) rfl
theorem q735 : (Jvm.Cond.soleField "LeftIsAgreedOn$Reader" "from") ∈ lw_all := lw_g (lw_at lw_m3 189 rfl) rfl
theorem q736 : (Jvm.Cond.lays "LeftIsAgreedOn$Reader" "LeftIsAgreedOn$Reader" "word" "Ljava/lang/String;") ∈ lw_all := lw_g (lw_at lw_m3 190 rfl) rfl
theorem q737 : (Jvm.Cond.soleField "LeftIsAgreedOn$Reader" "word") ∈ lw_all := lw_g (lw_at lw_m3 191 rfl) rfl
theorem q738 : (Jvm.Cond.lays "LeftIsAgreedOn$Reader" "LeftIsAgreedOn$Reader" "number" "I") ∈ lw_all := lw_g (lw_at lw_m3 192 rfl) rfl
theorem q739 : (Jvm.Cond.soleField "LeftIsAgreedOn$Reader" "number") ∈ lw_all := lw_g (lw_at lw_m3 193 rfl) rfl
theorem q740 : (Jvm.Cond.superclass "LeftIsAgreedOn$Reader" "java/lang/Object") ∈ lw_all := lw_g (lw_at lw_m3 194 rfl) rfl
theorem q742 : (Jvm.Cond.instanceMethod ({ cls := "LeftIsAgreedOn$Reader", name := "read", desc := "()I" } : Jvm.MethodName)) ∈ lw_all := lw_g (lw_at lw_m3 196 rfl) rfl
theorem q743 : (Jvm.Cond.selects "LeftIsAgreedOn$Reader" ({ cls := "LeftIsAgreedOn$Reader", name := "read", desc := "()I" } : Jvm.MethodName) ({ cls := "LeftIsAgreedOn$Reader", name := "read", desc := "()I" } : Jvm.MethodName)) ∈ lw_all := lw_g (lw_at lw_m3 197 rfl) rfl
theorem q744 : (Jvm.Cond.code ({ cls := "LeftIsAgreedOn$Reader", name := "read", desc := "()I" } : Jvm.MethodName) prog_8_method_12_code (2 : Nat) (Option.some Jvm.ClassFile.FieldType.int)) ∈ lw_all := lw_g (lw_at lw_m3 198 rfl) rfl
theorem q745 : (Jvm.Cond.methodLink "LeftIsAgreedOn$Reader" (70 : Nat) ({ cls := "LeftIsAgreedOn$Reader", name := "next", desc := "()V" } : Jvm.MethodName)) ∈ lw_all := lw_g (lw_at lw_m3 199 rfl) rfl
theorem q746 : (Jvm.Cond.privateMethod ({ cls := "LeftIsAgreedOn$Reader", name := "next", desc := "()V" } : Jvm.MethodName)) ∈ lw_tbl := lw_at lw_m3 200 rfl
theorem q747 : (Jvm.Cond.instanceMethod ({ cls := "LeftIsAgreedOn$Reader", name := "next", desc := "()V" } : Jvm.MethodName)) ∈ lw_all := lw_g (lw_at lw_m3 201 rfl) rfl
theorem q748 : (Jvm.Cond.code ({ cls := "LeftIsAgreedOn$Reader", name := "next", desc := "()V" } : Jvm.MethodName) prog_8_method_3_code (2 : Nat) (Option.none : Option Jvm.ClassFile.FieldType)) ∈ lw_all := lw_g (lw_at lw_m3 202 rfl) rfl
theorem q749 : (Jvm.Cond.methodLink "LeftIsAgreedOn$Reader" (26 : Nat) ({ cls := "LeftIsAgreedOn$Reader", name := "isIn", desc := "(II)Z" } : Jvm.MethodName)) ∈ lw_all := lw_g (lw_at lw_m3 203 rfl) rfl
theorem q750 : (Jvm.Cond.privateMethod ({ cls := "LeftIsAgreedOn$Reader", name := "isIn", desc := "(II)Z" } : Jvm.MethodName)) ∈ lw_tbl := lw_at lw_m3 204 rfl
theorem q751 : (Jvm.Cond.instanceMethod ({ cls := "LeftIsAgreedOn$Reader", name := "isIn", desc := "(II)Z" } : Jvm.MethodName)) ∈ lw_all := lw_g (lw_at lw_m3 205 rfl) rfl
theorem q752 : (Jvm.Cond.code ({ cls := "LeftIsAgreedOn$Reader", name := "isIn", desc := "(II)Z" } : Jvm.MethodName) prog_8_method_2_code (3 : Nat) (Option.some Jvm.ClassFile.FieldType.boolean)) ∈ lw_all := lw_g (lw_at lw_m3 206 rfl) rfl
theorem q753 : (Jvm.Cond.classLink "LeftIsAgreedOn$Reader" (40 : Nat) "java/lang/StringBuilder") ∈ lw_all := lw_g (lw_at lw_m3 207 rfl) rfl
theorem q755 : (Jvm.Cond.methodLink "LeftIsAgreedOn$Reader" (42 : Nat) ({ cls := "java/lang/StringBuilder", name := "<init>", desc := "()V" } : Jvm.MethodName)) ∈ lw_all := lw_g (lw_at lw_m3 209 rfl) rfl
theorem q789 : (Jvm.Cond.methodLink "LeftIsAgreedOn$Reader" (43 : Nat) ({ cls := "java/lang/StringBuilder", name := "append", desc := "(C)Ljava/lang/StringBuilder;" } : Jvm.MethodName)) ∈ lw_all := lw_g (lw_at lw_m4 3 rfl) rfl
theorem q882 : (Jvm.Cond.methodLink "LeftIsAgreedOn$Reader" (47 : Nat) ({ cls := "java/lang/StringBuilder", name := "toString", desc := "()Ljava/lang/String;" } : Jvm.MethodName)) ∈ lw_all := lw_g (lw_at lw_m4 96 rfl) rfl
theorem q940 : (Jvm.Cond.methodLink "LeftIsAgreedOn$Reader" (51 : Nat) ({ cls := "java/lang/Math", name := "min", desc := "(II)I" } : Jvm.MethodName)) ∈ lw_all := lw_g (lw_at lw_m4 154 rfl) rfl
theorem q941 : (Jvm.Cond.stringRef "LeftIsAgreedOn$Reader" (57 : Nat) ";") ∈ lw_tbl := lw_at lw_m4 155 rfl
theorem q942 : (Jvm.Cond.methodLink "LeftIsAgreedOn$Reader" (141 : Nat) ({ cls := "LeftIsAgreedOn$Reader", name := "item", desc := "()V" } : Jvm.MethodName)) ∈ lw_all := lw_g (lw_at lw_m4 156 rfl) rfl
theorem q943 : (Jvm.Cond.privateMethod ({ cls := "LeftIsAgreedOn$Reader", name := "item", desc := "()V" } : Jvm.MethodName)) ∈ lw_tbl := lw_at lw_m4 157 rfl
theorem q944 : (Jvm.Cond.instanceMethod ({ cls := "LeftIsAgreedOn$Reader", name := "item", desc := "()V" } : Jvm.MethodName)) ∈ lw_all := lw_g (lw_at lw_m4 158 rfl) rfl
theorem q945 : (Jvm.Cond.code ({ cls := "LeftIsAgreedOn$Reader", name := "item", desc := "()V" } : Jvm.MethodName) prog_8_method_11_code (4 : Nat) (Option.none : Option Jvm.ClassFile.FieldType)) ∈ lw_all := lw_g (lw_at lw_m4 159 rfl) rfl
theorem q946 : (Jvm.Cond.methodLink "LeftIsAgreedOn$Reader" (73 : Nat) ({ cls := "LeftIsAgreedOn$Reader", name := "wrong", desc := "()LLeftIsAgreedOn$Fault;" } : Jvm.MethodName)) ∈ lw_all := lw_g (lw_at lw_m4 160 rfl) rfl
theorem q947 : (Jvm.Cond.privateMethod ({ cls := "LeftIsAgreedOn$Reader", name := "wrong", desc := "()LLeftIsAgreedOn$Fault;" } : Jvm.MethodName)) ∈ lw_tbl := lw_at lw_m4 161 rfl
theorem q948 : (Jvm.Cond.instanceMethod ({ cls := "LeftIsAgreedOn$Reader", name := "wrong", desc := "()LLeftIsAgreedOn$Fault;" } : Jvm.MethodName)) ∈ lw_all := lw_g (lw_at lw_m4 162 rfl) rfl
theorem q949 : (Jvm.Cond.code ({ cls := "LeftIsAgreedOn$Reader", name := "wrong", desc := "()LLeftIsAgreedOn$Fault;" } : Jvm.MethodName) prog_8_method_4_code (1 : Nat) (Option.some (Jvm.ClassFile.FieldType.object "LeftIsAgreedOn$Fault"))) ∈ lw_all := lw_g (lw_at lw_m4 163 rfl) rfl
theorem q950 : (Jvm.Cond.classLink "LeftIsAgreedOn$Reader" (59 : Nat) "LeftIsAgreedOn$Fault") ∈ lw_all := lw_g (lw_at lw_m4 164 rfl) rfl
theorem q959 : (Jvm.Cond.methodLink "LeftIsAgreedOn$Reader" (61 : Nat) ({ cls := "LeftIsAgreedOn$Fault", name := "<init>", desc := "(I)V" } : Jvm.MethodName)) ∈ lw_all := lw_g (lw_at lw_m4 173 rfl) rfl
theorem q969 : (Jvm.Cond.methodLink "LeftIsAgreedOn$Reader" (106 : Nat) ({ cls := "java/lang/String", name := "hashCode", desc := "()I" } : Jvm.MethodName)) ∈ lw_all := lw_g (lw_at lw_m4 183 rfl) rfl
theorem q1022 : (Jvm.Cond.stringRef "LeftIsAgreedOn$Reader" (109 : Nat) "side") ∈ lw_tbl := lw_at lw_m4 236 rfl
theorem q1023 : (Jvm.Cond.methodLink "LeftIsAgreedOn$Reader" (64 : Nat) ({ cls := "java/lang/String", name := "equals", desc := "(Ljava/lang/Object;)Z" } : Jvm.MethodName)) ∈ lw_all := lw_g (lw_at lw_m4 237 rfl) rfl
theorem q1031 : (Jvm.Cond.stringRef "LeftIsAgreedOn$Reader" (111 : Nat) "pond") ∈ lw_tbl := lw_at lw_m5 5 rfl
theorem q1032 : (Jvm.Cond.stringRef "LeftIsAgreedOn$Reader" (113 : Nat) "dry") ∈ lw_tbl := lw_at lw_m5 6 rfl
theorem q1033 : (Jvm.Cond.stringRef "LeftIsAgreedOn$Reader" (115 : Nat) "person") ∈ lw_tbl := lw_at lw_m5 7 rfl
theorem q1034 : (Jvm.Cond.stringRef "LeftIsAgreedOn$Reader" (117 : Nat) "is") ∈ lw_tbl := lw_at lw_m5 8 rfl
theorem q1035 : (Jvm.Cond.stringRef "LeftIsAgreedOn$Reader" (119 : Nat) "left") ∈ lw_tbl := lw_at lw_m5 9 rfl
theorem q1036 : (Jvm.Cond.stringRef "LeftIsAgreedOn$Reader" (121 : Nat) "old") ∈ lw_tbl := lw_at lw_m5 10 rfl
theorem q1037 : (Jvm.Cond.stringRef "LeftIsAgreedOn$Reader" (123 : Nat) "doubt") ∈ lw_tbl := lw_at lw_m5 11 rfl
theorem q1038 : (Jvm.Cond.methodLink "LeftIsAgreedOn$Reader" (87 : Nat) ({ cls := "LeftIsAgreedOn$Reader", name := "number", desc := "(II)I" } : Jvm.MethodName)) ∈ lw_all := lw_g (lw_at lw_m5 12 rfl) rfl
theorem q1039 : (Jvm.Cond.privateMethod ({ cls := "LeftIsAgreedOn$Reader", name := "number", desc := "(II)I" } : Jvm.MethodName)) ∈ lw_tbl := lw_at lw_m5 13 rfl
theorem q1040 : (Jvm.Cond.instanceMethod ({ cls := "LeftIsAgreedOn$Reader", name := "number", desc := "(II)I" } : Jvm.MethodName)) ∈ lw_all := lw_g (lw_at lw_m5 14 rfl) rfl
theorem q1041 : (Jvm.Cond.code ({ cls := "LeftIsAgreedOn$Reader", name := "number", desc := "(II)I" } : Jvm.MethodName) prog_8_method_6_code (4 : Nat) (Option.some Jvm.ClassFile.FieldType.int)) ∈ lw_all := lw_g (lw_at lw_m5 15 rfl) rfl
theorem q1042 : (Jvm.Cond.methodLink "LeftIsAgreedOn$Reader" (77 : Nat) ({ cls := "LeftIsAgreedOn$Island", name := "isCell", desc := "(I)Z" } : Jvm.MethodName)) ∈ lw_all := lw_g (lw_at lw_m5 16 rfl) rfl
theorem q1043 : (Jvm.Cond.methodLink "LeftIsAgreedOn$Reader" (127 : Nat) ({ cls := "LeftIsAgreedOn$Island", name := "mayPond", desc := "(I)Z" } : Jvm.MethodName)) ∈ lw_all := lw_g (lw_at lw_m5 17 rfl) rfl
theorem q1044 : (Jvm.Cond.methodLink "LeftIsAgreedOn$Reader" (83 : Nat) ({ cls := "LeftIsAgreedOn$Reader", name := "need", desc := "(Z)V" } : Jvm.MethodName)) ∈ lw_all := lw_g (lw_at lw_m5 18 rfl) rfl
theorem q1045 : (Jvm.Cond.privateMethod ({ cls := "LeftIsAgreedOn$Reader", name := "need", desc := "(Z)V" } : Jvm.MethodName)) ∈ lw_tbl := lw_at lw_m5 19 rfl
theorem q1046 : (Jvm.Cond.instanceMethod ({ cls := "LeftIsAgreedOn$Reader", name := "need", desc := "(Z)V" } : Jvm.MethodName)) ∈ lw_all := lw_g (lw_at lw_m5 20 rfl) rfl
theorem q1047 : (Jvm.Cond.code ({ cls := "LeftIsAgreedOn$Reader", name := "need", desc := "(Z)V" } : Jvm.MethodName) prog_8_method_7_code (2 : Nat) (Option.none : Option Jvm.ClassFile.FieldType)) ∈ lw_all := lw_g (lw_at lw_m5 21 rfl) rfl
theorem q1048 : (Jvm.Cond.methodLink "LeftIsAgreedOn$Reader" (98 : Nat) ({ cls := "LeftIsAgreedOn$Reader", name := "cell", desc := "()I" } : Jvm.MethodName)) ∈ lw_all := lw_g (lw_at lw_m5 22 rfl) rfl
theorem q1049 : (Jvm.Cond.privateMethod ({ cls := "LeftIsAgreedOn$Reader", name := "cell", desc := "()I" } : Jvm.MethodName)) ∈ lw_tbl := lw_at lw_m5 23 rfl
theorem q1050 : (Jvm.Cond.instanceMethod ({ cls := "LeftIsAgreedOn$Reader", name := "cell", desc := "()I" } : Jvm.MethodName)) ∈ lw_all := lw_g (lw_at lw_m5 24 rfl) rfl
theorem q1051 : (Jvm.Cond.code ({ cls := "LeftIsAgreedOn$Reader", name := "cell", desc := "()I" } : Jvm.MethodName) prog_8_method_8_code (1 : Nat) (Option.some Jvm.ClassFile.FieldType.int)) ∈ lw_all := lw_g (lw_at lw_m5 25 rfl) rfl
theorem q1052 : (Jvm.Cond.methodLink "LeftIsAgreedOn$Reader" (130 : Nat) ({ cls := "LeftIsAgreedOn$Island", name := "pond", desc := "(IZ)V" } : Jvm.MethodName)) ∈ lw_all := lw_g (lw_at lw_m5 26 rfl) rfl
theorem q1053 : (Jvm.Cond.methodLink "LeftIsAgreedOn$Reader" (133 : Nat) ({ cls := "LeftIsAgreedOn$Reader", name := "adds", desc := "()V" } : Jvm.MethodName)) ∈ lw_all := lw_g (lw_at lw_m5 27 rfl) rfl
theorem q1054 : (Jvm.Cond.privateMethod ({ cls := "LeftIsAgreedOn$Reader", name := "adds", desc := "()V" } : Jvm.MethodName)) ∈ lw_tbl := lw_at lw_m5 28 rfl
theorem q1055 : (Jvm.Cond.instanceMethod ({ cls := "LeftIsAgreedOn$Reader", name := "adds", desc := "()V" } : Jvm.MethodName)) ∈ lw_all := lw_g (lw_at lw_m5 29 rfl) rfl
theorem q1056 : (Jvm.Cond.code ({ cls := "LeftIsAgreedOn$Reader", name := "adds", desc := "()V" } : Jvm.MethodName) prog_8_method_10_code (4 : Nat) (Option.none : Option Jvm.ClassFile.FieldType)) ∈ lw_all := lw_g (lw_at lw_m5 30 rfl) rfl
theorem q1057 : (Jvm.Cond.methodLink "LeftIsAgreedOn$Reader" (95 : Nat) ({ cls := "LeftIsAgreedOn$Island", name := "isPond", desc := "(I)Z" } : Jvm.MethodName)) ∈ lw_all := lw_g (lw_at lw_m5 31 rfl) rfl
theorem q1058 : (Jvm.Cond.methodLink "LeftIsAgreedOn$Reader" (102 : Nat) ({ cls := "LeftIsAgreedOn$Island", name := "adds", desc := "(IIII)I" } : Jvm.MethodName)) ∈ lw_all := lw_g (lw_at lw_m5 32 rfl) rfl
theorem q1059 : (Jvm.Cond.methodLink "LeftIsAgreedOn$Reader" (138 : Nat) ({ cls := "LeftIsAgreedOn$Reader", name := "told", desc := "(II)V" } : Jvm.MethodName)) ∈ lw_all := lw_g (lw_at lw_m5 33 rfl) rfl
theorem q1060 : (Jvm.Cond.privateMethod ({ cls := "LeftIsAgreedOn$Reader", name := "told", desc := "(II)V" } : Jvm.MethodName)) ∈ lw_tbl := lw_at lw_m5 34 rfl
theorem q1061 : (Jvm.Cond.instanceMethod ({ cls := "LeftIsAgreedOn$Reader", name := "told", desc := "(II)V" } : Jvm.MethodName)) ∈ lw_all := lw_g (lw_at lw_m5 35 rfl) rfl
theorem q1062 : (Jvm.Cond.code ({ cls := "LeftIsAgreedOn$Reader", name := "told", desc := "(II)V" } : Jvm.MethodName) prog_8_method_9_code (3 : Nat) (Option.none : Option Jvm.ClassFile.FieldType)) ∈ lw_all := lw_g (lw_at lw_m5 36 rfl) rfl
theorem q1063 : (Jvm.Cond.methodLink "LeftIsAgreedOn$Reader" (144 : Nat) ({ cls := "LeftIsAgreedOn$Reader", name := "takes", desc := "(Ljava/lang/String;)Z" } : Jvm.MethodName)) ∈ lw_all := lw_g (lw_at lw_m5 37 rfl) rfl
theorem q1064 : (Jvm.Cond.privateMethod ({ cls := "LeftIsAgreedOn$Reader", name := "takes", desc := "(Ljava/lang/String;)Z" } : Jvm.MethodName)) ∈ lw_tbl := lw_at lw_m5 38 rfl
theorem q1065 : (Jvm.Cond.instanceMethod ({ cls := "LeftIsAgreedOn$Reader", name := "takes", desc := "(Ljava/lang/String;)Z" } : Jvm.MethodName)) ∈ lw_all := lw_g (lw_at lw_m5 39 rfl) rfl
theorem q1066 : (Jvm.Cond.code ({ cls := "LeftIsAgreedOn$Reader", name := "takes", desc := "(Ljava/lang/String;)Z" } : Jvm.MethodName) prog_8_method_5_code (2 : Nat) (Option.some Jvm.ClassFile.FieldType.boolean)) ∈ lw_all := lw_g (lw_at lw_m5 40 rfl) rfl
theorem in_X12 : ∀ w ∈ wsX120, w ∈ lw_all := lw_in wsX120 [726, 728, 730, 732, 734, 736, 738] (by decide +kernel) (by decide +kernel)
/-! LeftIsAgreedOn$Fault -/
set_option maxRecDepth 100000
def RX13 : String := "LeftIsAgreedOn$Fault"
def TX13 : u_T := fun k => match k with
  | 0 => ("java/lang/Throwable", "cause", "Ljava/lang/Throwable;", false)
  | 1 => ("java/lang/Throwable", "stackTrace", "[Ljava/lang/StackTraceElement;", false)
  | 2 => ("java/lang/Throwable", "suppressedExceptions", "Ljava/util/List;", false)
  | 3 => ("java/lang/Throwable", "detailMessage", "Ljava/lang/String;", false)
  | 4 => ("java/lang/Throwable", "backtrace", "Ljava/lang/Object;", false)
  | 5 => ("java/lang/Throwable", "depth", "I", false)
  | _ => ("LeftIsAgreedOn$Fault", "place", "I", true)
def tyX13 : Nat → FieldType := fun k => match k with
  | 0 => .object "java/lang/Throwable"
  | 1 => .array (.object "java/lang/StackTraceElement")
  | 2 => .object "java/util/List"
  | 3 => .object "java/lang/String"
  | 4 => .object "java/lang/Object"
  | 5 => .int
  | _ => .int
abbrev wsX130 : List Cond := u_ws RX13 TX13 7
theorem nmX13 : ∀ a, a < 7 → ∀ b, b < 7 → a ≠ b → (TX13 a).2.1 ≠ (TX13 b).2.1 := by decide +kernel
theorem tyX13_ok : ∀ k, k < 7 → parseFieldDescriptor (TX13 k).2.2.1 = some (tyX13 k) := by decide +kernel
abbrev cX13_init : ByteArray := prog_4_method_1_code
def yX13_init : MethodName := ⟨RX13, "<init>", "(I)V"⟩
def dkwX13_init_0 : List UInt8 := [42, 1, 1, 3, 3, 183, 0, 1, 42, 27, 181, 0, 7, 177]
abbrev dktX13_init_0 : List UInt8 := dkwX13_init_0 ++ []
theorem dksX13_init_0 : cX13_init.data.toList.drop 0 = dktX13_init_0 := by decide +kernel
theorem dX13_init_0 : decode cX13_init 0 = .ok (.aload_n 0, 1) := dk_42 (dk_at dksX13_init_0 0 rfl rfl)
theorem dX13_init_1 : decode cX13_init 1 = .ok (.aconst_null, 1) := dk_1 (dk_at dksX13_init_0 1 rfl rfl)
theorem dX13_init_2 : decode cX13_init 2 = .ok (.aconst_null, 1) := dk_1 (dk_at dksX13_init_0 2 rfl rfl)
theorem dX13_init_3 : decode cX13_init 3 = .ok (.iconst 0, 1) := dk_3 (dk_at dksX13_init_0 3 rfl rfl)
theorem dX13_init_4 : decode cX13_init 4 = .ok (.iconst 0, 1) := dk_3 (dk_at dksX13_init_0 4 rfl rfl)
theorem dX13_init_5 : decode cX13_init 5 = .ok (.invokespecial 1, 3) := dk_183 0 1 (dk_at dksX13_init_0 5 rfl rfl)
theorem dX13_init_8 : decode cX13_init 8 = .ok (.aload_n 0, 1) := dk_42 (dk_at dksX13_init_0 8 rfl rfl)
theorem dX13_init_9 : decode cX13_init 9 = .ok (.iload_n 1, 1) := dk_27 (dk_at dksX13_init_0 9 rfl rfl)
theorem dX13_init_10 : decode cX13_init 10 = .ok (.putfield 7, 3) := dk_181 0 7 (dk_at dksX13_init_0 10 rfl rfl)
theorem dX13_init_13 : decode cX13_init 13 = .ok (.return_, 1) := dk_177 (dk_at dksX13_init_0 13 rfl rfl)
theorem q99 : (Jvm.Cond.initialized "LeftIsAgreedOn$Fault") ∈ lw_all := lw_g (lw_at lw_m1 33 rfl) rfl
theorem q280 : (Jvm.Cond.selects "LeftIsAgreedOn$Fault" ({ cls := "java/lang/Throwable", name := "fillInStackTrace", desc := "()Ljava/lang/Throwable;" } : Jvm.MethodName) ({ cls := "java/lang/Throwable", name := "fillInStackTrace", desc := "()Ljava/lang/Throwable;" } : Jvm.MethodName)) ∈ lw_all := lw_g (lw_at lw_m1 214 rfl) rfl
theorem q951 : (Jvm.Cond.instantiable "LeftIsAgreedOn$Fault" (7 : Nat)) ∈ lw_all := lw_g (lw_at lw_m4 165 rfl) rfl
theorem q952 : (Jvm.Cond.castable "LeftIsAgreedOn$Fault" "LeftIsAgreedOn$Fault") ∈ lw_tbl := lw_at lw_m4 166 rfl
theorem q953 : (Jvm.Cond.selects "LeftIsAgreedOn$Fault" ({ cls := "java/lang/Throwable", name := "fillInStackTrace", desc := "(I)Ljava/lang/Throwable;" } : Jvm.MethodName) ({ cls := "java/lang/Throwable", name := "fillInStackTrace", desc := "(I)Ljava/lang/Throwable;" } : Jvm.MethodName)) ∈ lw_all := lw_g (lw_at lw_m4 167 rfl) rfl
theorem q954 : (Jvm.Cond.lays "LeftIsAgreedOn$Fault" "java/lang/Throwable" "cause" "Ljava/lang/Throwable;") ∈ lw_all := lw_g (lw_at lw_m4 168 rfl) rfl
theorem q955 : (Jvm.Cond.lays "LeftIsAgreedOn$Fault" "java/lang/Throwable" "stackTrace" "[Ljava/lang/StackTraceElement;") ∈ lw_all := lw_g (lw_at lw_m4 169 rfl) rfl
theorem q956 : (Jvm.Cond.lays "LeftIsAgreedOn$Fault" "java/lang/Throwable" "suppressedExceptions" "Ljava/util/List;") ∈ lw_all := lw_g (lw_at lw_m4 170 rfl) rfl
theorem q957 : (Jvm.Cond.lays "LeftIsAgreedOn$Fault" "java/lang/Throwable" "detailMessage" "Ljava/lang/String;") ∈ lw_all := lw_g (lw_at lw_m4 171 rfl) rfl
theorem q958 : (Jvm.Cond.lays "LeftIsAgreedOn$Fault" "java/lang/Throwable" "backtrace" "Ljava/lang/Object;") ∈ lw_all := lw_g (lw_at lw_m4 172 rfl) rfl
theorem q960 : (Jvm.Cond.instanceMethod ({ cls := "LeftIsAgreedOn$Fault", name := "<init>", desc := "(I)V" } : Jvm.MethodName)) ∈ lw_all := lw_g (lw_at lw_m4 174 rfl) rfl
theorem q961 : (Jvm.Cond.code ({ cls := "LeftIsAgreedOn$Fault", name := "<init>", desc := "(I)V" } : Jvm.MethodName) prog_4_method_1_code (2 : Nat) (Option.none : Option Jvm.ClassFile.FieldType)) ∈ lw_all := lw_g (lw_at lw_m4 175 rfl) rfl
theorem q962 : (Jvm.Cond.methodLink "LeftIsAgreedOn$Fault" (1 : Nat) ({ cls := "java/lang/Exception", name := "<init>", desc := "(Ljava/lang/String;Ljava/lang/Throwable;ZZ)V" } : Jvm.MethodName)) ∈ lw_all := lw_g (lw_at lw_m4 176 rfl) rfl
theorem q963 : (Jvm.Cond.fieldLink "LeftIsAgreedOn$Fault" (7 : Nat) "LeftIsAgreedOn$Fault" "place" "I") ∈ lw_all := lw_g (lw_at lw_m4 177 rfl) rfl
theorem q965 : (Jvm.Cond.laysFinal "LeftIsAgreedOn$Fault" "LeftIsAgreedOn$Fault" "place" "I") ∈ lw_all := lw_g (lw_at lw_m4 179 rfl) rfl
theorem q966 : (Jvm.Cond.soleField "LeftIsAgreedOn$Fault" "place") ∈ lw_all := lw_g (lw_at lw_m4 180 rfl) rfl
theorem q967 : (Jvm.Cond.lays "LeftIsAgreedOn$Fault" "java/lang/Throwable" "depth" "I") ∈ lw_all := lw_g (lw_at lw_m4 181 rfl) rfl
theorem q968 : (Jvm.Cond.superclass "LeftIsAgreedOn$Fault" "java/lang/Exception") ∈ lw_all := lw_g (lw_at lw_m4 182 rfl) rfl
theorem in_X13 : ∀ w ∈ wsX130, w ∈ lw_all := lw_in wsX130 [954, 955, 956, 957, 958, 967, 965] (by decide +kernel) (by decide +kernel)
theorem q819 : (Jvm.Cond.sameMethod "[B" "java/lang/Object" "clone" "()Ljava/lang/Object;") ∈ lw_all := lw_g (lw_at lw_m4 33 rfl) rfl
set_option maxRecDepth 100000
theorem q822 : (Jvm.Cond.selects "[B" ({ cls := "[B", name := "clone", desc := "()Ljava/lang/Object;" } : Jvm.MethodName) ({ cls := "java/lang/Object", name := "clone", desc := "()Ljava/lang/Object;" } : Jvm.MethodName)) ∈ lw_all := lw_g (lw_at lw_m4 36 rfl) rfl
theorem q823 : (Jvm.Cond.castable "[B" "java/lang/Cloneable") ∈ lw_tbl := lw_at lw_m4 37 rfl
theorem q82 : (Jvm.Cond.initialized "java/lang/System") ∈ lw_all := lw_g (lw_at lw_m1 16 rfl) rfl
set_option maxRecDepth 100000
theorem q474 : (Jvm.Cond.static ({ cls := "java/lang/System", name := "arraycopy", desc := "(Ljava/lang/Object;ILjava/lang/Object;II)V" } : Jvm.MethodName)) ∈ lw_all := lw_g (lw_at lw_m2 168 rfl) rfl
theorem q475 : (Jvm.Cond.native ({ cls := "java/lang/System", name := "arraycopy", desc := "(Ljava/lang/Object;ILjava/lang/Object;II)V" } : Jvm.MethodName)) ∈ lw_all := lw_g (lw_at lw_m2 169 rfl) rfl
theorem q994 : (Jvm.Cond.interfaceMethod "jdk/internal/access/JavaLangAccess" "jdk/internal/access/JavaLangAccess" "getUTF16Char" "([BI)C") ∈ lw_tbl := lw_at lw_m4 208 rfl
set_option maxRecDepth 100000
theorem q995 : (Jvm.Cond.declares ({ cls := "jdk/internal/access/JavaLangAccess", name := "getUTF16Char", desc := "([BI)C" } : Jvm.MethodName)) ∈ lw_tbl := lw_at lw_m4 209 rfl
theorem q116 : (Jvm.Cond.arrayOver (Jvm.ClassFile.FieldType.object "LeftIsAgreedOn$Voter")) ∈ lw_tbl := lw_at lw_m1 50 rfl
set_option maxRecDepth 100000
theorem q167 : (Jvm.Cond.arrayClass Jvm.ClassFile.FieldType.int) ∈ lw_all := lw_g (lw_at lw_m1 101 rfl) rfl
theorem q206 : (Jvm.Cond.arrayOver (Jvm.ClassFile.FieldType.object "LeftIsAgreedOn$Walk")) ∈ lw_tbl := lw_at lw_m1 140 rfl
theorem q208 : (Jvm.Cond.arrayOver (Jvm.ClassFile.FieldType.object "LeftIsAgreedOn$Sheet")) ∈ lw_tbl := lw_at lw_m1 142 rfl
theorem q342 : (Jvm.Cond.arrayClass Jvm.ClassFile.FieldType.byte) ∈ lw_all := lw_g (lw_at lw_m2 36 rfl) rfl
theorem q360 : (Jvm.Cond.arrayClass Jvm.ClassFile.FieldType.short) ∈ lw_all := lw_g (lw_at lw_m2 54 rfl) rfl
theorem q361 : (Jvm.Cond.arrayClass Jvm.ClassFile.FieldType.long) ∈ lw_all := lw_g (lw_at lw_m2 55 rfl) rfl
theorem q362 : (Jvm.Cond.arrayClass Jvm.ClassFile.FieldType.boolean) ∈ lw_all := lw_g (lw_at lw_m2 56 rfl) rfl
theorem q1433 : (Jvm.Cond.arrayClass Jvm.ClassFile.FieldType.char) ∈ lw_all := lw_g (lw_at lw_m6 167 rfl) rfl
theorem q66 : (Jvm.Cond.initialized "LeftIsAgreedOnLaw") ∈ lw_all := lw_g (lw_at lw_m1 0 rfl) rfl
set_option maxRecDepth 100000
theorem q101 : (Jvm.Cond.classLink "LeftIsAgreedOnLaw" (7 : Nat) "LeftIsAgreedOn") ∈ lw_all := lw_g (lw_at lw_m1 35 rfl) rfl
theorem q103 : (Jvm.Cond.methodLink "LeftIsAgreedOnLaw" (9 : Nat) ({ cls := "LeftIsAgreedOn", name := "<init>", desc := "()V" } : Jvm.MethodName)) ∈ lw_all := lw_g (lw_at lw_m1 37 rfl) rfl
theorem q255 : (Jvm.Cond.methodLink "LeftIsAgreedOnLaw" (13 : Nat) ({ cls := "LeftIsAgreedOn", name := "row", desc := "(III)I" } : Jvm.MethodName)) ∈ lw_all := lw_g (lw_at lw_m1 189 rfl) rfl
theorem q363 : (Jvm.Cond.methodLink "LeftIsAgreedOnLaw" (20 : Nat) ({ cls := "LeftIsAgreedOn", name := "set", desc := "(IIJ)I" } : Jvm.MethodName)) ∈ lw_all := lw_g (lw_at lw_m2 57 rfl) rfl
theorem q429 : (Jvm.Cond.methodLink "LeftIsAgreedOnLaw" (25 : Nat) ({ cls := "LeftIsAgreedOn", name := "copy", desc := "(IIIII)I" } : Jvm.MethodName)) ∈ lw_all := lw_g (lw_at lw_m2 123 rfl) rfl
theorem q476 : (Jvm.Cond.methodLink "LeftIsAgreedOnLaw" (30 : Nat) ({ cls := "LeftIsAgreedOn", name := "element", desc := "(II)J" } : Jvm.MethodName)) ∈ lw_all := lw_g (lw_at lw_m2 170 rfl) rfl
theorem q483 : (Jvm.Cond.methodLink "LeftIsAgreedOnLaw" (35 : Nat) ({ cls := "LeftIsAgreedOn", name := "holds", desc := "(I)I" } : Jvm.MethodName)) ∈ lw_all := lw_g (lw_at lw_m2 177 rfl) rfl
theorem q487 : (Jvm.Cond.methodLink "LeftIsAgreedOnLaw" (40 : Nat) ({ cls := "LeftIsAgreedOn", name := "show", desc := "(II)I" } : Jvm.MethodName)) ∈ lw_all := lw_g (lw_at lw_m2 181 rfl) rfl
theorem q496 : (Jvm.Cond.methodLink "LeftIsAgreedOnLaw" (45 : Nat) ({ cls := "LeftIsAgreedOn", name := "says", desc := "(II)I" } : Jvm.MethodName)) ∈ lw_all := lw_g (lw_at lw_m2 190 rfl) rfl
theorem q590 : (Jvm.Cond.methodLink "LeftIsAgreedOnLaw" (49 : Nat) ({ cls := "LeftIsAgreedOn", name := "side", desc := "(I)I" } : Jvm.MethodName)) ∈ lw_all := lw_g (lw_at lw_m3 44 rfl) rfl
theorem q594 : (Jvm.Cond.methodLink "LeftIsAgreedOnLaw" (53 : Nat) ({ cls := "LeftIsAgreedOn", name := "pond", desc := "(IZ)I" } : Jvm.MethodName)) ∈ lw_all := lw_g (lw_at lw_m3 48 rfl) rfl
theorem q611 : (Jvm.Cond.methodLink "LeftIsAgreedOnLaw" (58 : Nat) ({ cls := "LeftIsAgreedOn", name := "person", desc := "(IIII)I" } : Jvm.MethodName)) ∈ lw_all := lw_g (lw_at lw_m3 65 rfl) rfl
theorem q680 : (Jvm.Cond.methodLink "LeftIsAgreedOnLaw" (63 : Nat) ({ cls := "LeftIsAgreedOn", name := "tell", desc := "(II)I" } : Jvm.MethodName)) ∈ lw_all := lw_g (lw_at lw_m3 134 rfl) rfl
theorem q684 : (Jvm.Cond.methodLink "LeftIsAgreedOnLaw" (67 : Nat) ({ cls := "LeftIsAgreedOn", name := "isFor", desc := "(II)I" } : Jvm.MethodName)) ∈ lw_all := lw_g (lw_at lw_m3 138 rfl) rfl
theorem q688 : (Jvm.Cond.methodLink "LeftIsAgreedOnLaw" (71 : Nat) ({ cls := "LeftIsAgreedOn", name := "put", desc := "(III)I" } : Jvm.MethodName)) ∈ lw_all := lw_g (lw_at lw_m3 142 rfl) rfl
theorem q692 : (Jvm.Cond.methodLink "LeftIsAgreedOnLaw" (75 : Nat) ({ cls := "LeftIsAgreedOn", name := "feed", desc := "(I)I" } : Jvm.MethodName)) ∈ lw_all := lw_g (lw_at lw_m3 146 rfl) rfl
theorem q696 : (Jvm.Cond.methodLink "LeftIsAgreedOnLaw" (79 : Nat) ({ cls := "LeftIsAgreedOn", name := "wipe", desc := "()I" } : Jvm.MethodName)) ∈ lw_all := lw_g (lw_at lw_m3 150 rfl) rfl
theorem q700 : (Jvm.Cond.methodLink "LeftIsAgreedOnLaw" (84 : Nat) ({ cls := "LeftIsAgreedOn", name := "island", desc := "()I" } : Jvm.MethodName)) ∈ lw_all := lw_g (lw_at lw_m3 154 rfl) rfl
theorem q1071 : (Jvm.Cond.methodLink "LeftIsAgreedOnLaw" (88 : Nat) ({ cls := "LeftIsAgreedOn", name := "personOf", desc := "(II)I" } : Jvm.MethodName)) ∈ lw_all := lw_g (lw_at lw_m5 45 rfl) rfl
theorem q1108 : (Jvm.Cond.methodLink "LeftIsAgreedOnLaw" (92 : Nat) ({ cls := "LeftIsAgreedOn", name := "isPond", desc := "(I)I" } : Jvm.MethodName)) ∈ lw_all := lw_g (lw_at lw_m5 82 rfl) rfl
theorem q1112 : (Jvm.Cond.methodLink "LeftIsAgreedOnLaw" (201 : Nat) ({ cls := "LeftIsAgreedOn", name := "judge", desc := "(II)I" } : Jvm.MethodName)) ∈ lw_all := lw_g (lw_at lw_m5 86 rfl) rfl
theorem q1127 : (Jvm.Cond.methodLink "LeftIsAgreedOnLaw" (96 : Nat) ({ cls := "LeftIsAgreedOn", name := "comes", desc := "(IIII)I" } : Jvm.MethodName)) ∈ lw_all := lw_g (lw_at lw_m5 101 rfl) rfl
theorem q1146 : (Jvm.Cond.methodLink "LeftIsAgreedOnLaw" (100 : Nat) ({ cls := "LeftIsAgreedOn", name := "fell", desc := "(II)I" } : Jvm.MethodName)) ∈ lw_all := lw_g (lw_at lw_m5 120 rfl) rfl
theorem q1150 : (Jvm.Cond.methodLink "LeftIsAgreedOnLaw" (104 : Nat) ({ cls := "LeftIsAgreedOn", name := "ponds", desc := "(III)I" } : Jvm.MethodName)) ∈ lw_all := lw_g (lw_at lw_m5 124 rfl) rfl
theorem q1154 : (Jvm.Cond.methodLink "LeftIsAgreedOnLaw" (112 : Nat) ({ cls := "LeftIsAgreedOn", name := "kinds", desc := "(IIIII)I" } : Jvm.MethodName)) ∈ lw_all := lw_g (lw_at lw_m5 128 rfl) rfl
theorem q1159 : (Jvm.Cond.methodLink "LeftIsAgreedOnLaw" (116 : Nat) ({ cls := "LeftIsAgreedOn", name := "who", desc := "(III)I" } : Jvm.MethodName)) ∈ lw_all := lw_g (lw_at lw_m5 133 rfl) rfl
theorem q1163 : (Jvm.Cond.methodLink "LeftIsAgreedOnLaw" (120 : Nat) ({ cls := "LeftIsAgreedOn", name := "crowd", desc := "(III)I" } : Jvm.MethodName)) ∈ lw_all := lw_g (lw_at lw_m5 137 rfl) rfl
theorem q1170 : (Jvm.Cond.methodLink "LeftIsAgreedOnLaw" (124 : Nat) ({ cls := "LeftIsAgreedOn", name := "firstFall", desc := "(II)I" } : Jvm.MethodName)) ∈ lw_all := lw_g (lw_at lw_m5 144 rfl) rfl
theorem q1174 : (Jvm.Cond.methodLink "LeftIsAgreedOnLaw" (128 : Nat) ({ cls := "LeftIsAgreedOn", name := "alike", desc := "(III)I" } : Jvm.MethodName)) ∈ lw_all := lw_g (lw_at lw_m5 148 rfl) rfl
theorem q1182 : (Jvm.Cond.methodLink "LeftIsAgreedOnLaw" (132 : Nat) ({ cls := "LeftIsAgreedOn", name := "differ", desc := "(IIII)I" } : Jvm.MethodName)) ∈ lw_all := lw_g (lw_at lw_m5 156 rfl) rfl
theorem q1186 : (Jvm.Cond.methodLink "LeftIsAgreedOnLaw" (136 : Nat) ({ cls := "LeftIsAgreedOn", name := "again", desc := "(IIII)I" } : Jvm.MethodName)) ∈ lw_all := lw_g (lw_at lw_m5 160 rfl) rfl
theorem q1190 : (Jvm.Cond.methodLink "LeftIsAgreedOnLaw" (140 : Nat) ({ cls := "LeftIsAgreedOn", name := "ring", desc := "(III)I" } : Jvm.MethodName)) ∈ lw_all := lw_g (lw_at lw_m5 164 rfl) rfl
theorem q1194 : (Jvm.Cond.methodLink "LeftIsAgreedOnLaw" (144 : Nat) ({ cls := "LeftIsAgreedOn", name := "lonely", desc := "(II)I" } : Jvm.MethodName)) ∈ lw_all := lw_g (lw_at lw_m5 168 rfl) rfl
theorem q1198 : (Jvm.Cond.methodLink "LeftIsAgreedOnLaw" (148 : Nat) ({ cls := "LeftIsAgreedOn", name := "idle", desc := "(III)I" } : Jvm.MethodName)) ∈ lw_all := lw_g (lw_at lw_m5 172 rfl) rfl
theorem q1202 : (Jvm.Cond.methodLink "LeftIsAgreedOnLaw" (152 : Nat) ({ cls := "LeftIsAgreedOn", name := "lefts", desc := "(II)I" } : Jvm.MethodName)) ∈ lw_all := lw_g (lw_at lw_m5 176 rfl) rfl
theorem q1206 : (Jvm.Cond.methodLink "LeftIsAgreedOnLaw" (156 : Nat) ({ cls := "LeftIsAgreedOn", name := "reach", desc := "(II)I" } : Jvm.MethodName)) ∈ lw_all := lw_g (lw_at lw_m5 180 rfl) rfl
theorem q1214 : (Jvm.Cond.methodLink "LeftIsAgreedOnLaw" (160 : Nat) ({ cls := "LeftIsAgreedOn", name := "open", desc := "(II)I" } : Jvm.MethodName)) ∈ lw_all := lw_g (lw_at lw_m5 188 rfl) rfl
theorem q1219 : (Jvm.Cond.methodLink "LeftIsAgreedOnLaw" (164 : Nat) ({ cls := "LeftIsAgreedOn", name := "shore", desc := "()I" } : Jvm.MethodName)) ∈ lw_all := lw_g (lw_at lw_m5 193 rfl) rfl
theorem q1224 : (Jvm.Cond.methodLink "LeftIsAgreedOnLaw" (108 : Nat) ({ cls := "LeftIsAgreedOn", name := "safe", desc := "(IIII)I" } : Jvm.MethodName)) ∈ lw_all := lw_g (lw_at lw_m5 198 rfl) rfl
theorem q1236 : (Jvm.Cond.methodLink "LeftIsAgreedOnLaw" (184 : Nat) ({ cls := "LeftIsAgreedOn", name := "carries", desc := "()I" } : Jvm.MethodName)) ∈ lw_all := lw_g (lw_at lw_m5 210 rfl) rfl
theorem q1250 : (Jvm.Cond.methodLink "LeftIsAgreedOnLaw" (168 : Nat) ({ cls := "LeftIsAgreedOn", name := "bloc", desc := "(I)I" } : Jvm.MethodName)) ∈ lw_all := lw_g (lw_at lw_m5 224 rfl) rfl
theorem q1255 : (Jvm.Cond.methodLink "LeftIsAgreedOnLaw" (172 : Nat) ({ cls := "LeftIsAgreedOn", name := "swing", desc := "(I)I" } : Jvm.MethodName)) ∈ lw_all := lw_g (lw_at lw_m5 229 rfl) rfl
theorem q1259 : (Jvm.Cond.methodLink "LeftIsAgreedOnLaw" (176 : Nat) ({ cls := "LeftIsAgreedOn", name := "mightiest", desc := "()I" } : Jvm.MethodName)) ∈ lw_all := lw_g (lw_at lw_m5 233 rfl) rfl
theorem q1263 : (Jvm.Cond.methodLink "LeftIsAgreedOnLaw" (180 : Nat) ({ cls := "LeftIsAgreedOn", name := "agreed", desc := "()I" } : Jvm.MethodName)) ∈ lw_all := lw_g (lw_at lw_m5 237 rfl) rfl
theorem q1268 : (Jvm.Cond.methodLink "LeftIsAgreedOnLaw" (188 : Nat) ({ cls := "LeftIsAgreedOn", name := "turn", desc := "(I)I" } : Jvm.MethodName)) ∈ lw_all := lw_g (lw_at lw_m6 2 rfl) rfl
theorem q1278 : (Jvm.Cond.methodLink "LeftIsAgreedOnLaw" (192 : Nat) ({ cls := "LeftIsAgreedOn", name := "meet", desc := "(IIIIII)I" } : Jvm.MethodName)) ∈ lw_all := lw_g (lw_at lw_m6 12 rfl) rfl
theorem q1298 : (Jvm.Cond.methodLink "LeftIsAgreedOnLaw" (197 : Nat) ({ cls := "LeftIsAgreedOn", name := "waits", desc := "(IIIIII)I" } : Jvm.MethodName)) ∈ lw_all := lw_g (lw_at lw_m6 32 rfl) rfl
theorem q1302 : (Jvm.Cond.methodLink "LeftIsAgreedOnLaw" (205 : Nat) ({ cls := "LeftIsAgreedOn", name := "walk", desc := "(III)I" } : Jvm.MethodName)) ∈ lw_all := lw_g (lw_at lw_m6 36 rfl) rfl
theorem q1306 : (Jvm.Cond.methodLink "LeftIsAgreedOnLaw" (209 : Nat) ({ cls := "LeftIsAgreedOn", name := "years", desc := "(I)I" } : Jvm.MethodName)) ∈ lw_all := lw_g (lw_at lw_m6 40 rfl) rfl
theorem q1320 : (Jvm.Cond.methodLink "LeftIsAgreedOnLaw" (213 : Nat) ({ cls := "LeftIsAgreedOn", name := "seed", desc := "(I)I" } : Jvm.MethodName)) ∈ lw_all := lw_g (lw_at lw_m6 54 rfl) rfl
theorem q1324 : (Jvm.Cond.methodLink "LeftIsAgreedOnLaw" (217 : Nat) ({ cls := "LeftIsAgreedOn", name := "image", desc := "()I" } : Jvm.MethodName)) ∈ lw_all := lw_g (lw_at lw_m6 58 rfl) rfl
theorem q1328 : (Jvm.Cond.methodLink "LeftIsAgreedOnLaw" (221 : Nat) ({ cls := "LeftIsAgreedOn", name := "back", desc := "()I" } : Jvm.MethodName)) ∈ lw_all := lw_g (lw_at lw_m6 62 rfl) rfl
theorem q1332 : (Jvm.Cond.methodLink "LeftIsAgreedOnLaw" (225 : Nat) ({ cls := "LeftIsAgreedOn", name := "status", desc := "(I)I" } : Jvm.MethodName)) ∈ lw_all := lw_g (lw_at lw_m6 66 rfl) rfl
theorem q1345 : (Jvm.Cond.classLink "LeftIsAgreedOnLaw" (10 : Nat) "LeftIsAgreedOnModel") ∈ lw_all := lw_g (lw_at lw_m6 79 rfl) rfl
theorem q1347 : (Jvm.Cond.methodLink "LeftIsAgreedOnLaw" (12 : Nat) ({ cls := "LeftIsAgreedOnModel", name := "<init>", desc := "()V" } : Jvm.MethodName)) ∈ lw_all := lw_g (lw_at lw_m6 81 rfl) rfl
theorem q1434 : (Jvm.Cond.methodLink "LeftIsAgreedOnLaw" (52 : Nat) ({ cls := "LeftIsAgreedOnModel", name := "side", desc := "(I)I" } : Jvm.MethodName)) ∈ lw_all := lw_g (lw_at lw_m6 168 rfl) rfl
theorem q1446 : (Jvm.Cond.methodLink "LeftIsAgreedOnLaw" (57 : Nat) ({ cls := "LeftIsAgreedOnModel", name := "pond", desc := "(IZ)I" } : Jvm.MethodName)) ∈ lw_all := lw_g (lw_at lw_m6 180 rfl) rfl
theorem q1469 : (Jvm.Cond.methodLink "LeftIsAgreedOnLaw" (62 : Nat) ({ cls := "LeftIsAgreedOnModel", name := "person", desc := "(IIII)I" } : Jvm.MethodName)) ∈ lw_all := lw_g (lw_at lw_m6 203 rfl) rfl
theorem q1484 : (Jvm.Cond.methodLink "LeftIsAgreedOnLaw" (66 : Nat) ({ cls := "LeftIsAgreedOnModel", name := "tell", desc := "(II)I" } : Jvm.MethodName)) ∈ lw_all := lw_g (lw_at lw_m6 218 rfl) rfl
theorem q1490 : (Jvm.Cond.methodLink "LeftIsAgreedOnLaw" (70 : Nat) ({ cls := "LeftIsAgreedOnModel", name := "isFor", desc := "(II)I" } : Jvm.MethodName)) ∈ lw_all := lw_g (lw_at lw_m6 224 rfl) rfl
theorem q1502 : (Jvm.Cond.methodLink "LeftIsAgreedOnLaw" (74 : Nat) ({ cls := "LeftIsAgreedOnModel", name := "put", desc := "(III)I" } : Jvm.MethodName)) ∈ lw_all := lw_g (lw_at lw_m6 236 rfl) rfl
theorem q1506 : (Jvm.Cond.methodLink "LeftIsAgreedOnLaw" (95 : Nat) ({ cls := "LeftIsAgreedOnModel", name := "isPond", desc := "(I)I" } : Jvm.MethodName)) ∈ lw_all := lw_g (lw_at lw_m7 0 rfl) rfl
theorem q1510 : (Jvm.Cond.methodLink "LeftIsAgreedOnLaw" (78 : Nat) ({ cls := "LeftIsAgreedOnModel", name := "feed", desc := "(I)I" } : Jvm.MethodName)) ∈ lw_all := lw_g (lw_at lw_m7 4 rfl) rfl
theorem q1515 : (Jvm.Cond.methodLink "LeftIsAgreedOnLaw" (83 : Nat) ({ cls := "LeftIsAgreedOnModel", name := "wipe", desc := "()I" } : Jvm.MethodName)) ∈ lw_all := lw_g (lw_at lw_m7 9 rfl) rfl
theorem q1519 : (Jvm.Cond.methodLink "LeftIsAgreedOnLaw" (87 : Nat) ({ cls := "LeftIsAgreedOnModel", name := "island", desc := "()I" } : Jvm.MethodName)) ∈ lw_all := lw_g (lw_at lw_m7 13 rfl) rfl
theorem q1558 : (Jvm.Cond.methodLink "LeftIsAgreedOnLaw" (17 : Nat) ({ cls := "LeftIsAgreedOnModel", name := "row", desc := "(III)I" } : Jvm.MethodName)) ∈ lw_all := lw_g (lw_at lw_m7 52 rfl) rfl
theorem q1567 : (Jvm.Cond.methodLink "LeftIsAgreedOnLaw" (24 : Nat) ({ cls := "LeftIsAgreedOnModel", name := "set", desc := "(IIJ)I" } : Jvm.MethodName)) ∈ lw_all := lw_g (lw_at lw_m7 61 rfl) rfl
theorem q1575 : (Jvm.Cond.methodLink "LeftIsAgreedOnLaw" (29 : Nat) ({ cls := "LeftIsAgreedOnModel", name := "copy", desc := "(IIIII)I" } : Jvm.MethodName)) ∈ lw_all := lw_g (lw_at lw_m7 69 rfl) rfl
theorem q1579 : (Jvm.Cond.methodLink "LeftIsAgreedOnLaw" (34 : Nat) ({ cls := "LeftIsAgreedOnModel", name := "element", desc := "(II)J" } : Jvm.MethodName)) ∈ lw_all := lw_g (lw_at lw_m7 73 rfl) rfl
theorem q1583 : (Jvm.Cond.methodLink "LeftIsAgreedOnLaw" (39 : Nat) ({ cls := "LeftIsAgreedOnModel", name := "holds", desc := "(I)I" } : Jvm.MethodName)) ∈ lw_all := lw_g (lw_at lw_m7 77 rfl) rfl
theorem q1587 : (Jvm.Cond.methodLink "LeftIsAgreedOnLaw" (44 : Nat) ({ cls := "LeftIsAgreedOnModel", name := "show", desc := "(II)I" } : Jvm.MethodName)) ∈ lw_all := lw_g (lw_at lw_m7 81 rfl) rfl
theorem q1591 : (Jvm.Cond.methodLink "LeftIsAgreedOnLaw" (48 : Nat) ({ cls := "LeftIsAgreedOnModel", name := "says", desc := "(II)I" } : Jvm.MethodName)) ∈ lw_all := lw_g (lw_at lw_m7 85 rfl) rfl
theorem q1627 : (Jvm.Cond.methodLink "LeftIsAgreedOnLaw" (99 : Nat) ({ cls := "LeftIsAgreedOnModel", name := "comes", desc := "(IIII)I" } : Jvm.MethodName)) ∈ lw_all := lw_g (lw_at lw_m7 121 rfl) rfl
theorem q1643 : (Jvm.Cond.methodLink "LeftIsAgreedOnLaw" (103 : Nat) ({ cls := "LeftIsAgreedOnModel", name := "fell", desc := "(II)I" } : Jvm.MethodName)) ∈ lw_all := lw_g (lw_at lw_m7 137 rfl) rfl
theorem q1647 : (Jvm.Cond.methodLink "LeftIsAgreedOnLaw" (107 : Nat) ({ cls := "LeftIsAgreedOnModel", name := "ponds", desc := "(III)I" } : Jvm.MethodName)) ∈ lw_all := lw_g (lw_at lw_m7 141 rfl) rfl
theorem q1651 : (Jvm.Cond.methodLink "LeftIsAgreedOnLaw" (111 : Nat) ({ cls := "LeftIsAgreedOnModel", name := "safe", desc := "(IIII)I" } : Jvm.MethodName)) ∈ lw_all := lw_g (lw_at lw_m7 145 rfl) rfl
theorem q1663 : (Jvm.Cond.methodLink "LeftIsAgreedOnLaw" (115 : Nat) ({ cls := "LeftIsAgreedOnModel", name := "kinds", desc := "(IIIII)I" } : Jvm.MethodName)) ∈ lw_all := lw_g (lw_at lw_m7 157 rfl) rfl
theorem q1667 : (Jvm.Cond.methodLink "LeftIsAgreedOnLaw" (119 : Nat) ({ cls := "LeftIsAgreedOnModel", name := "who", desc := "(III)I" } : Jvm.MethodName)) ∈ lw_all := lw_g (lw_at lw_m7 161 rfl) rfl
theorem q1671 : (Jvm.Cond.methodLink "LeftIsAgreedOnLaw" (123 : Nat) ({ cls := "LeftIsAgreedOnModel", name := "crowd", desc := "(III)I" } : Jvm.MethodName)) ∈ lw_all := lw_g (lw_at lw_m7 165 rfl) rfl
theorem q1683 : (Jvm.Cond.methodLink "LeftIsAgreedOnLaw" (147 : Nat) ({ cls := "LeftIsAgreedOnModel", name := "lonely", desc := "(II)I" } : Jvm.MethodName)) ∈ lw_all := lw_g (lw_at lw_m7 177 rfl) rfl
theorem q1687 : (Jvm.Cond.methodLink "LeftIsAgreedOnLaw" (127 : Nat) ({ cls := "LeftIsAgreedOnModel", name := "firstFall", desc := "(II)I" } : Jvm.MethodName)) ∈ lw_all := lw_g (lw_at lw_m7 181 rfl) rfl
theorem q1691 : (Jvm.Cond.methodLink "LeftIsAgreedOnLaw" (131 : Nat) ({ cls := "LeftIsAgreedOnModel", name := "alike", desc := "(III)I" } : Jvm.MethodName)) ∈ lw_all := lw_g (lw_at lw_m7 185 rfl) rfl
theorem q1695 : (Jvm.Cond.methodLink "LeftIsAgreedOnLaw" (135 : Nat) ({ cls := "LeftIsAgreedOnModel", name := "differ", desc := "(IIII)I" } : Jvm.MethodName)) ∈ lw_all := lw_g (lw_at lw_m7 189 rfl) rfl
theorem q1699 : (Jvm.Cond.methodLink "LeftIsAgreedOnLaw" (139 : Nat) ({ cls := "LeftIsAgreedOnModel", name := "again", desc := "(IIII)I" } : Jvm.MethodName)) ∈ lw_all := lw_g (lw_at lw_m7 193 rfl) rfl
theorem q1704 : (Jvm.Cond.methodLink "LeftIsAgreedOnLaw" (143 : Nat) ({ cls := "LeftIsAgreedOnModel", name := "ring", desc := "(III)I" } : Jvm.MethodName)) ∈ lw_all := lw_g (lw_at lw_m7 198 rfl) rfl
theorem q1708 : (Jvm.Cond.methodLink "LeftIsAgreedOnLaw" (151 : Nat) ({ cls := "LeftIsAgreedOnModel", name := "idle", desc := "(III)I" } : Jvm.MethodName)) ∈ lw_all := lw_g (lw_at lw_m7 202 rfl) rfl
theorem q1712 : (Jvm.Cond.methodLink "LeftIsAgreedOnLaw" (155 : Nat) ({ cls := "LeftIsAgreedOnModel", name := "lefts", desc := "(II)I" } : Jvm.MethodName)) ∈ lw_all := lw_g (lw_at lw_m7 206 rfl) rfl
theorem q1716 : (Jvm.Cond.methodLink "LeftIsAgreedOnLaw" (159 : Nat) ({ cls := "LeftIsAgreedOnModel", name := "reach", desc := "(II)I" } : Jvm.MethodName)) ∈ lw_all := lw_g (lw_at lw_m7 210 rfl) rfl
theorem q1721 : (Jvm.Cond.methodLink "LeftIsAgreedOnLaw" (163 : Nat) ({ cls := "LeftIsAgreedOnModel", name := "open", desc := "(II)I" } : Jvm.MethodName)) ∈ lw_all := lw_g (lw_at lw_m7 215 rfl) rfl
theorem q1725 : (Jvm.Cond.methodLink "LeftIsAgreedOnLaw" (167 : Nat) ({ cls := "LeftIsAgreedOnModel", name := "shore", desc := "()I" } : Jvm.MethodName)) ∈ lw_all := lw_g (lw_at lw_m7 219 rfl) rfl
theorem q1729 : (Jvm.Cond.methodLink "LeftIsAgreedOnLaw" (171 : Nat) ({ cls := "LeftIsAgreedOnModel", name := "bloc", desc := "(I)I" } : Jvm.MethodName)) ∈ lw_all := lw_g (lw_at lw_m7 223 rfl) rfl
theorem q1737 : (Jvm.Cond.methodLink "LeftIsAgreedOnLaw" (187 : Nat) ({ cls := "LeftIsAgreedOnModel", name := "carries", desc := "()I" } : Jvm.MethodName)) ∈ lw_all := lw_g (lw_at lw_m7 231 rfl) rfl
theorem q1741 : (Jvm.Cond.methodLink "LeftIsAgreedOnLaw" (91 : Nat) ({ cls := "LeftIsAgreedOnModel", name := "personOf", desc := "(II)I" } : Jvm.MethodName)) ∈ lw_all := lw_g (lw_at lw_m7 235 rfl) rfl
theorem q1749 : (Jvm.Cond.methodLink "LeftIsAgreedOnLaw" (179 : Nat) ({ cls := "LeftIsAgreedOnModel", name := "mightiest", desc := "()I" } : Jvm.MethodName)) ∈ lw_all := lw_g (lw_at lw_m8 3 rfl) rfl
theorem q1753 : (Jvm.Cond.methodLink "LeftIsAgreedOnLaw" (175 : Nat) ({ cls := "LeftIsAgreedOnModel", name := "swing", desc := "(I)I" } : Jvm.MethodName)) ∈ lw_all := lw_g (lw_at lw_m8 7 rfl) rfl
theorem q1762 : (Jvm.Cond.methodLink "LeftIsAgreedOnLaw" (191 : Nat) ({ cls := "LeftIsAgreedOnModel", name := "turn", desc := "(I)I" } : Jvm.MethodName)) ∈ lw_all := lw_g (lw_at lw_m8 16 rfl) rfl
theorem q1769 : (Jvm.Cond.methodLink "LeftIsAgreedOnLaw" (183 : Nat) ({ cls := "LeftIsAgreedOnModel", name := "agreed", desc := "()I" } : Jvm.MethodName)) ∈ lw_all := lw_g (lw_at lw_m8 23 rfl) rfl
theorem q1773 : (Jvm.Cond.methodLink "LeftIsAgreedOnLaw" (196 : Nat) ({ cls := "LeftIsAgreedOnModel", name := "meet", desc := "(IIIIII)I" } : Jvm.MethodName)) ∈ lw_all := lw_g (lw_at lw_m8 27 rfl) rfl
theorem q1786 : (Jvm.Cond.methodLink "LeftIsAgreedOnLaw" (200 : Nat) ({ cls := "LeftIsAgreedOnModel", name := "waits", desc := "(IIIIII)I" } : Jvm.MethodName)) ∈ lw_all := lw_g (lw_at lw_m8 40 rfl) rfl
theorem q1790 : (Jvm.Cond.methodLink "LeftIsAgreedOnLaw" (204 : Nat) ({ cls := "LeftIsAgreedOnModel", name := "judge", desc := "(II)I" } : Jvm.MethodName)) ∈ lw_all := lw_g (lw_at lw_m8 44 rfl) rfl
theorem q1794 : (Jvm.Cond.methodLink "LeftIsAgreedOnLaw" (208 : Nat) ({ cls := "LeftIsAgreedOnModel", name := "walk", desc := "(III)I" } : Jvm.MethodName)) ∈ lw_all := lw_g (lw_at lw_m8 48 rfl) rfl
theorem q1798 : (Jvm.Cond.methodLink "LeftIsAgreedOnLaw" (212 : Nat) ({ cls := "LeftIsAgreedOnModel", name := "years", desc := "(I)I" } : Jvm.MethodName)) ∈ lw_all := lw_g (lw_at lw_m8 52 rfl) rfl
theorem q1808 : (Jvm.Cond.methodLink "LeftIsAgreedOnLaw" (216 : Nat) ({ cls := "LeftIsAgreedOnModel", name := "seed", desc := "(I)I" } : Jvm.MethodName)) ∈ lw_all := lw_g (lw_at lw_m8 62 rfl) rfl
theorem q1812 : (Jvm.Cond.methodLink "LeftIsAgreedOnLaw" (220 : Nat) ({ cls := "LeftIsAgreedOnModel", name := "image", desc := "()I" } : Jvm.MethodName)) ∈ lw_all := lw_g (lw_at lw_m8 66 rfl) rfl
theorem q1816 : (Jvm.Cond.methodLink "LeftIsAgreedOnLaw" (224 : Nat) ({ cls := "LeftIsAgreedOnModel", name := "back", desc := "()I" } : Jvm.MethodName)) ∈ lw_all := lw_g (lw_at lw_m8 70 rfl) rfl
theorem q1820 : (Jvm.Cond.methodLink "LeftIsAgreedOnLaw" (228 : Nat) ({ cls := "LeftIsAgreedOnModel", name := "status", desc := "(I)I" } : Jvm.MethodName)) ∈ lw_all := lw_g (lw_at lw_m8 74 rfl) rfl
theorem q1825 : (Jvm.Cond.constantLong "LeftIsAgreedOnLaw" (18 : Nat) (4294967295 : Int64)) ∈ lw_all := lw_g (lw_at lw_m8 79 rfl) rfl
