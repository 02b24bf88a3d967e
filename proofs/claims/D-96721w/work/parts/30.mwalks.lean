/-! the reference walked (printed by prog/extract.py) -/
/-! java/lang/Math.max(II)I -/
section VJ14_max
variable {p : Program} {l : Launch} {e : Env} {s : State} {m : MethodId} {args : Array Value} {below : List Frame} {meth : Method} {c : Code} {Z : wZ} {A : Nat → Prop}
set_option maxHeartbeats 4000000 in
theorem ct_J14_max (l : Launch) (Z : wZ) (w : Wd) (a0 : Int32) (a1 : Int32) (k : Int32 → Wd → Prop) (h : wp_J14_max w a0 a1 k) : wMet l Z yJ14_max cJ14_max 2 (some .int) 0 0 0 0 [.int a0, .int a1] w (pI k) := by
  refine wM_of (by decide +kernel) (Nat.le_of_ble_eq_true rfl) ?_
  intro p e s m below meth c ls C hS hl
  replace C : wC p l s m _ meth c cJ14_max 2 (some .int) RJ14 "max" Z _ := C
  have hl : lv_has ls 2 [(0, .int a0), (1, .int a1)] := hl
  have hx := C.hx
  have hb := C.hb
  unfold wp_J14_max at h
  generalize wA w = A at C hS ⊢
  refine lv_iload_n hx hb dJ14_max_0 rfl (lv_at hl 0 rfl) ?_
  refine lv_iload_n hx hb dJ14_max_1 rfl (lv_at hl 1 rfl) ?_
  refine r_icmp_lt (tgt := 9) hx hb h dJ14_max_2 (by decide) (fun h => ?_) (fun h => ?_)
  · refine lv_iload_n hx hb dJ14_max_9 rfl (lv_at hl 1 rfl) ?_
    exact r_iret C hS h rfl rfl (Nat.le_of_ble_eq_true rfl) (Nat.le_of_ble_eq_true rfl) dJ14_max_10
  · refine lv_iload_n hx hb dJ14_max_5 rfl (lv_at hl 0 rfl) ?_
    refine lv_goto (tgt := 10) hx hb dJ14_max_6 (by decide) ?_
    exact r_iret C hS h rfl rfl (Nat.le_of_ble_eq_true rfl) (Nat.le_of_ble_eq_true rfl) dJ14_max_10
end VJ14_max
/-! LeftIsAgreedOnModel.fresh()[I -/
section VX4_fresh
variable {p : Program} {l : Launch} {e : Env} {s : State} {m : MethodId} {args : Array Value} {below : List Frame} {meth : Method} {c : Code} {Z : wZ} {A : Nat → Prop}
set_option maxHeartbeats 4000000 in
theorem ct_X4_fresh (l : Launch) (Z : wZ) (w : Wd)  (k : Option Nat → Wd → Prop) (h : wp_X4_fresh w  k) : wMet l Z yX4_fresh cX4_fresh 1 (some (.array .int)) 0 0 1 97 [] w (pR k) := by
  refine wM_of (by decide +kernel) (Nat.le_of_ble_eq_true rfl) ?_
  intro p e s m below meth c ls C hS hl
  replace C : wC p l s m _ meth c cX4_fresh 1 (some (.array .int)) RX4 "fresh" Z _ := C
  have hl : lv_has ls 1 [] := hl
  have hx := C.hx
  have hb := C.hb
  unfold wp_X4_fresh at h
  generalize wA w = A at C hS ⊢
  refine lv_bipush (v := 97) hx hb dX4_fresh_0 (by decide) ?_
  refine r_newa_0 C hS h q167 (Nat.le_of_ble_eq_true rfl) (Nat.le_of_ble_eq_true rfl) (Nat.le_of_ble_eq_true rfl) dX4_fresh_2 (fun n1 w2 H h hS => ?_)
  refine lv_astore_n (i := 0) (lv' := [(0, .ref n1)]) hx hb dX4_fresh_4 rfl hl (by decide) rfl (fun ls hl => ?_)
  refine lv_aload_n hx hb dX4_fresh_5 rfl (lv_at hl 0 rfl) ?_
  refine lv_bipush (v := 90) hx hb dX4_fresh_6 (by decide) ?_
  refine lv_iconst (v := 5) hx hb dX4_fresh_8 (by decide) ?_
  refine r_iast C hS h dX4_fresh_9 (fun w3 H locs h hS => ?_)
  refine lv_aload_n hx hb dX4_fresh_10 rfl (lv_at hl 0 rfl) ?_
  refine lv_bipush (v := 93) hx hb dX4_fresh_11 (by decide) ?_
  refine lv_iconst (v := 3) hx hb dX4_fresh_13 (by decide) ?_
  refine r_iast C hS h dX4_fresh_14 (fun w4 H locs h hS => ?_)
  refine lv_aload_n hx hb dX4_fresh_15 rfl (lv_at hl 0 rfl) ?_
  refine lv_bipush (v := 96) hx hb dX4_fresh_16 (by decide) ?_
  refine lv_iconst (v := 1) hx hb dX4_fresh_18 (by decide) ?_
  refine r_iast C hS h dX4_fresh_19 (fun w5 H locs h hS => ?_)
  refine lv_aload_n hx hb dX4_fresh_20 rfl (lv_at hl 0 rfl) ?_
  exact r_aret (x := (some n1)) C hS h rfl (Or.inr ⟨_, rfl⟩) (Nat.le_of_ble_eq_true rfl) (Nat.le_of_ble_eq_true rfl) dX4_fresh_21
end VX4_fresh
/-! LeftIsAgreedOnModel.<init>()V -/
section VX4_init
variable {p : Program} {l : Launch} {e : Env} {s : State} {m : MethodId} {args : Array Value} {below : List Frame} {meth : Method} {c : Code} {Z : wZ} {A : Nat → Prop}
set_option maxHeartbeats 4000000 in
theorem ct_X4_init (l : Launch) (Z : wZ) (w : Wd) (a0 : Nat) (k : Wd → Prop) (h : wp_X4_init w a0 k) : wMet l Z yX4_init cX4_init 1 none 1 20 20 1078 [.ref a0] w (pV k) := by
  refine wM_of (by decide +kernel) (Nat.le_of_ble_eq_true rfl) ?_
  intro p e s m below meth c ls C hS hl
  replace C : wC p l s m _ meth c cX4_init 1 none RX4 "<init>" Z _ := C
  have hl : lv_has ls 1 [(0, .ref a0)] := hl
  have hx := C.hx
  have hb := C.hb
  unfold wp_X4_init at h
  generalize wA w = A at C hS ⊢
  refine lv_aload_n hx hb dX4_init_0 rfl (lv_at hl 0 rfl) ?_
  refine r_O0 C hl.1 q1350 q107 q108 dX4_init_1 (Nat.le_of_ble_eq_true rfl) (Nat.le_of_ble_eq_true rfl) (wcat4 (Nat.le_of_ble_eq_true rfl)) ?_
  refine lv_aload_n hx hb dX4_init_4 rfl (lv_at hl 0 rfl) ?_
  refine lv_bipush (v := 7) hx hb dX4_init_5 (by decide) ?_
  refine r_newa_0 C hS h q167 (Nat.le_of_ble_eq_true rfl) (Nat.le_of_ble_eq_true rfl) (Nat.le_of_ble_eq_true rfl) dX4_init_7 (fun n1 w2 H h hS => ?_)
  refine r_putG (fin := true) C hS h gk_55 (ty := (.array .int)) (by decide +kernel) rfl gk_55f (fun _ => ⟨rfl, rfl⟩) q1354 dX4_init_9 (fun w3 H locs h hS => ?_)
  refine lv_aload_n hx hb dX4_init_12 rfl (lv_at hl 0 rfl) ?_
  refine r_S C hS (ct_X4_fresh l Z w3  _ h) 0 (lw_S q1351 q1352 q71 q1353) ⟨by decide, by decide, by decide +kernel⟩ ⟨Nat.le_of_ble_eq_true rfl, Nat.le_of_ble_eq_true rfl⟩ rfl hl.1 rfl (wcat4 (Nat.le_of_ble_eq_true rfl)) dX4_init_13 ⟨Nat.le_of_ble_eq_true rfl, Nat.le_of_ble_eq_true rfl⟩ (fun v_ w5 H locs hv hS => ?_)
  obtain ⟨v4, rfl, h⟩ := hv
  refine W.widen (k := 2) (n := 104) (Nat.le_of_ble_eq_true rfl) (Nat.le_of_ble_eq_true rfl) ?_
  refine r_putG (fin := true) C hS h gk_56 (ty := (.array .int)) (by decide +kernel) rfl gk_56f (fun _ => ⟨rfl, rfl⟩) q1355 dX4_init_16 (fun w6 H locs h hS => ?_)
  refine lv_aload_n hx hb dX4_init_19 rfl (lv_at hl 0 rfl) ?_
  refine lv_bipush (v := 97) hx hb dX4_init_20 (by decide) ?_
  refine r_newa_0 C hS h q167 (Nat.le_of_ble_eq_true rfl) (Nat.le_of_ble_eq_true rfl) (Nat.le_of_ble_eq_true rfl) dX4_init_22 (fun n7 w8 H h hS => ?_)
  refine r_putG (fin := true) C hS h gk_57 (ty := (.array .int)) (by decide +kernel) rfl gk_57f (fun _ => ⟨rfl, rfl⟩) q1356 dX4_init_24 (fun w9 H locs h hS => ?_)
  refine lv_aload_n hx hb dX4_init_27 rfl (lv_at hl 0 rfl) ?_
  refine lv_bipush (v := 97) hx hb dX4_init_28 (by decide) ?_
  refine r_newa_0 C hS h q167 (Nat.le_of_ble_eq_true rfl) (Nat.le_of_ble_eq_true rfl) (Nat.le_of_ble_eq_true rfl) dX4_init_30 (fun n10 w11 H h hS => ?_)
  refine r_putG (fin := true) C hS h gk_58 (ty := (.array .int)) (by decide +kernel) rfl gk_58f (fun _ => ⟨rfl, rfl⟩) q1357 dX4_init_32 (fun w12 H locs h hS => ?_)
  refine lv_aload_n hx hb dX4_init_35 rfl (lv_at hl 0 rfl) ?_
  refine lv_sipush (v := 250) hx hb dX4_init_36 (by decide) ?_
  refine r_newa_0 C hS h q167 (Nat.le_of_ble_eq_true rfl) (Nat.le_of_ble_eq_true rfl) (Nat.le_of_ble_eq_true rfl) dX4_init_39 (fun n13 w14 H h hS => ?_)
  refine r_putG (fin := true) C hS h gk_59 (ty := (.array .int)) (by decide +kernel) rfl gk_59f (fun _ => ⟨rfl, rfl⟩) q1359 dX4_init_41 (fun w15 H locs h hS => ?_)
  refine lv_aload_n hx hb dX4_init_44 rfl (lv_at hl 0 rfl) ?_
  refine lv_bipush (v := 48) hx hb dX4_init_45 (by decide) ?_
  refine r_newa_3 C hS h q1433 (Nat.le_of_ble_eq_true rfl) (Nat.le_of_ble_eq_true rfl) (Nat.le_of_ble_eq_true rfl) dX4_init_47 (fun n16 w17 H h hS => ?_)
  refine lv_dup hx hb dX4_init_49 rfl ?_
  refine lv_iconst (v := 0) hx hb dX4_init_50 (by decide) ?_
  refine lv_bipush (v := 115) hx hb dX4_init_51 (by decide) ?_
  refine r_cast C hS h dX4_init_53 (fun w18 H locs h hS => ?_)
  refine lv_dup hx hb dX4_init_54 rfl ?_
  refine lv_iconst (v := 1) hx hb dX4_init_55 (by decide) ?_
  refine lv_bipush (v := 105) hx hb dX4_init_56 (by decide) ?_
  refine r_cast C hS h dX4_init_58 (fun w19 H locs h hS => ?_)
  refine lv_dup hx hb dX4_init_59 rfl ?_
  refine lv_iconst (v := 2) hx hb dX4_init_60 (by decide) ?_
  refine lv_bipush (v := 100) hx hb dX4_init_61 (by decide) ?_
  refine r_cast C hS h dX4_init_63 (fun w20 H locs h hS => ?_)
  refine lv_dup hx hb dX4_init_64 rfl ?_
  refine lv_iconst (v := 3) hx hb dX4_init_65 (by decide) ?_
  refine lv_bipush (v := 101) hx hb dX4_init_66 (by decide) ?_
  refine r_cast C hS h dX4_init_68 (fun w21 H locs h hS => ?_)
  refine lv_dup hx hb dX4_init_69 rfl ?_
  refine lv_iconst (v := 4) hx hb dX4_init_70 (by decide) ?_
  refine lv_iconst (v := 0) hx hb dX4_init_71 (by decide) ?_
  refine r_cast C hS h dX4_init_72 (fun w22 H locs h hS => ?_)
  refine lv_dup hx hb dX4_init_73 rfl ?_
  refine lv_iconst (v := 5) hx hb dX4_init_74 (by decide) ?_
  refine lv_iconst (v := 0) hx hb dX4_init_75 (by decide) ?_
  refine r_cast C hS h dX4_init_76 (fun w23 H locs h hS => ?_)
  refine lv_dup hx hb dX4_init_77 rfl ?_
  refine lv_bipush (v := 6) hx hb dX4_init_78 (by decide) ?_
  refine lv_bipush (v := 112) hx hb dX4_init_80 (by decide) ?_
  refine r_cast C hS h dX4_init_82 (fun w24 H locs h hS => ?_)
  refine lv_dup hx hb dX4_init_83 rfl ?_
  refine lv_bipush (v := 7) hx hb dX4_init_84 (by decide) ?_
  refine lv_bipush (v := 111) hx hb dX4_init_86 (by decide) ?_
  refine r_cast C hS h dX4_init_88 (fun w25 H locs h hS => ?_)
  refine lv_dup hx hb dX4_init_89 rfl ?_
  refine lv_bipush (v := 8) hx hb dX4_init_90 (by decide) ?_
  refine lv_bipush (v := 110) hx hb dX4_init_92 (by decide) ?_
  refine r_cast C hS h dX4_init_94 (fun w26 H locs h hS => ?_)
  refine lv_dup hx hb dX4_init_95 rfl ?_
  refine lv_bipush (v := 9) hx hb dX4_init_96 (by decide) ?_
  refine lv_bipush (v := 100) hx hb dX4_init_98 (by decide) ?_
  refine r_cast C hS h dX4_init_100 (fun w27 H locs h hS => ?_)
  refine lv_dup hx hb dX4_init_101 rfl ?_
  refine lv_bipush (v := 10) hx hb dX4_init_102 (by decide) ?_
  refine lv_iconst (v := 0) hx hb dX4_init_104 (by decide) ?_
  refine r_cast C hS h dX4_init_105 (fun w28 H locs h hS => ?_)
  refine lv_dup hx hb dX4_init_106 rfl ?_
  refine lv_bipush (v := 11) hx hb dX4_init_107 (by decide) ?_
  refine lv_iconst (v := 0) hx hb dX4_init_109 (by decide) ?_
  refine r_cast C hS h dX4_init_110 (fun w29 H locs h hS => ?_)
  refine lv_dup hx hb dX4_init_111 rfl ?_
  refine lv_bipush (v := 12) hx hb dX4_init_112 (by decide) ?_
  refine lv_bipush (v := 100) hx hb dX4_init_114 (by decide) ?_
  refine r_cast C hS h dX4_init_116 (fun w30 H locs h hS => ?_)
  refine lv_dup hx hb dX4_init_117 rfl ?_
  refine lv_bipush (v := 13) hx hb dX4_init_118 (by decide) ?_
  refine lv_bipush (v := 114) hx hb dX4_init_120 (by decide) ?_
  refine r_cast C hS h dX4_init_122 (fun w31 H locs h hS => ?_)
  refine lv_dup hx hb dX4_init_123 rfl ?_
  refine lv_bipush (v := 14) hx hb dX4_init_124 (by decide) ?_
  refine lv_bipush (v := 121) hx hb dX4_init_126 (by decide) ?_
  refine r_cast C hS h dX4_init_128 (fun w32 H locs h hS => ?_)
  refine lv_dup hx hb dX4_init_129 rfl ?_
  refine lv_bipush (v := 15) hx hb dX4_init_130 (by decide) ?_
  refine lv_iconst (v := 0) hx hb dX4_init_132 (by decide) ?_
  refine r_cast C hS h dX4_init_133 (fun w33 H locs h hS => ?_)
  refine lv_dup hx hb dX4_init_134 rfl ?_
  refine lv_bipush (v := 16) hx hb dX4_init_135 (by decide) ?_
  refine lv_iconst (v := 0) hx hb dX4_init_137 (by decide) ?_
  refine r_cast C hS h dX4_init_138 (fun w34 H locs h hS => ?_)
  refine lv_dup hx hb dX4_init_139 rfl ?_
  refine lv_bipush (v := 17) hx hb dX4_init_140 (by decide) ?_
  refine lv_iconst (v := 0) hx hb dX4_init_142 (by decide) ?_
  refine r_cast C hS h dX4_init_143 (fun w35 H locs h hS => ?_)
  refine lv_dup hx hb dX4_init_144 rfl ?_
  refine lv_bipush (v := 18) hx hb dX4_init_145 (by decide) ?_
  refine lv_bipush (v := 112) hx hb dX4_init_147 (by decide) ?_
  refine r_cast C hS h dX4_init_149 (fun w36 H locs h hS => ?_)
  refine lv_dup hx hb dX4_init_150 rfl ?_
  refine lv_bipush (v := 19) hx hb dX4_init_151 (by decide) ?_
  refine lv_bipush (v := 101) hx hb dX4_init_153 (by decide) ?_
  refine r_cast C hS h dX4_init_155 (fun w37 H locs h hS => ?_)
  refine lv_dup hx hb dX4_init_156 rfl ?_
  refine lv_bipush (v := 20) hx hb dX4_init_157 (by decide) ?_
  refine lv_bipush (v := 114) hx hb dX4_init_159 (by decide) ?_
  refine r_cast C hS h dX4_init_161 (fun w38 H locs h hS => ?_)
  refine lv_dup hx hb dX4_init_162 rfl ?_
  refine lv_bipush (v := 21) hx hb dX4_init_163 (by decide) ?_
  refine lv_bipush (v := 115) hx hb dX4_init_165 (by decide) ?_
  refine r_cast C hS h dX4_init_167 (fun w39 H locs h hS => ?_)
  refine lv_dup hx hb dX4_init_168 rfl ?_
  refine lv_bipush (v := 22) hx hb dX4_init_169 (by decide) ?_
  refine lv_bipush (v := 111) hx hb dX4_init_171 (by decide) ?_
  refine r_cast C hS h dX4_init_173 (fun w40 H locs h hS => ?_)
  refine lv_dup hx hb dX4_init_174 rfl ?_
  refine lv_bipush (v := 23) hx hb dX4_init_175 (by decide) ?_
  refine lv_bipush (v := 110) hx hb dX4_init_177 (by decide) ?_
  refine r_cast C hS h dX4_init_179 (fun w41 H locs h hS => ?_)
  refine lv_dup hx hb dX4_init_180 rfl ?_
  refine lv_bipush (v := 24) hx hb dX4_init_181 (by decide) ?_
  refine lv_bipush (v := 105) hx hb dX4_init_183 (by decide) ?_
  refine r_cast C hS h dX4_init_185 (fun w42 H locs h hS => ?_)
  refine lv_dup hx hb dX4_init_186 rfl ?_
  refine lv_bipush (v := 25) hx hb dX4_init_187 (by decide) ?_
  refine lv_bipush (v := 115) hx hb dX4_init_189 (by decide) ?_
  refine r_cast C hS h dX4_init_191 (fun w43 H locs h hS => ?_)
  refine lv_dup hx hb dX4_init_192 rfl ?_
  refine lv_bipush (v := 26) hx hb dX4_init_193 (by decide) ?_
  refine lv_iconst (v := 0) hx hb dX4_init_195 (by decide) ?_
  refine r_cast C hS h dX4_init_196 (fun w44 H locs h hS => ?_)
  refine lv_dup hx hb dX4_init_197 rfl ?_
  refine lv_bipush (v := 27) hx hb dX4_init_198 (by decide) ?_
  refine lv_iconst (v := 0) hx hb dX4_init_200 (by decide) ?_
  refine r_cast C hS h dX4_init_201 (fun w45 H locs h hS => ?_)
  refine lv_dup hx hb dX4_init_202 rfl ?_
  refine lv_bipush (v := 28) hx hb dX4_init_203 (by decide) ?_
  refine lv_iconst (v := 0) hx hb dX4_init_205 (by decide) ?_
  refine r_cast C hS h dX4_init_206 (fun w46 H locs h hS => ?_)
  refine lv_dup hx hb dX4_init_207 rfl ?_
  refine lv_bipush (v := 29) hx hb dX4_init_208 (by decide) ?_
  refine lv_iconst (v := 0) hx hb dX4_init_210 (by decide) ?_
  refine r_cast C hS h dX4_init_211 (fun w47 H locs h hS => ?_)
  refine lv_dup hx hb dX4_init_212 rfl ?_
  refine lv_bipush (v := 30) hx hb dX4_init_213 (by decide) ?_
  refine lv_bipush (v := 108) hx hb dX4_init_215 (by decide) ?_
  refine r_cast C hS h dX4_init_217 (fun w48 H locs h hS => ?_)
  refine lv_dup hx hb dX4_init_218 rfl ?_
  refine lv_bipush (v := 31) hx hb dX4_init_219 (by decide) ?_
  refine lv_bipush (v := 101) hx hb dX4_init_221 (by decide) ?_
  refine r_cast C hS h dX4_init_223 (fun w49 H locs h hS => ?_)
  refine lv_dup hx hb dX4_init_224 rfl ?_
  refine lv_bipush (v := 32) hx hb dX4_init_225 (by decide) ?_
  refine lv_bipush (v := 102) hx hb dX4_init_227 (by decide) ?_
  refine r_cast C hS h dX4_init_229 (fun w50 H locs h hS => ?_)
  refine lv_dup hx hb dX4_init_230 rfl ?_
  refine lv_bipush (v := 33) hx hb dX4_init_231 (by decide) ?_
  refine lv_bipush (v := 116) hx hb dX4_init_233 (by decide) ?_
  refine r_cast C hS h dX4_init_235 (fun w51 H locs h hS => ?_)
  refine lv_dup hx hb dX4_init_236 rfl ?_
  refine lv_bipush (v := 34) hx hb dX4_init_237 (by decide) ?_
  refine lv_iconst (v := 0) hx hb dX4_init_239 (by decide) ?_
  refine r_cast C hS h dX4_init_240 (fun w52 H locs h hS => ?_)
  refine lv_dup hx hb dX4_init_241 rfl ?_
  refine lv_bipush (v := 35) hx hb dX4_init_242 (by decide) ?_
  refine lv_iconst (v := 0) hx hb dX4_init_244 (by decide) ?_
  refine r_cast C hS h dX4_init_245 (fun w53 H locs h hS => ?_)
  refine lv_dup hx hb dX4_init_246 rfl ?_
  refine lv_bipush (v := 36) hx hb dX4_init_247 (by decide) ?_
  refine lv_bipush (v := 111) hx hb dX4_init_249 (by decide) ?_
  refine r_cast C hS h dX4_init_251 (fun w54 H locs h hS => ?_)
  refine lv_dup hx hb dX4_init_252 rfl ?_
  refine lv_bipush (v := 37) hx hb dX4_init_253 (by decide) ?_
  refine lv_bipush (v := 108) hx hb dX4_init_255 (by decide) ?_
  refine r_cast C hS h dX4_init_257 (fun w55 H locs h hS => ?_)
  refine lv_dup hx hb dX4_init_258 rfl ?_
  refine lv_bipush (v := 38) hx hb dX4_init_259 (by decide) ?_
  refine lv_bipush (v := 100) hx hb dX4_init_261 (by decide) ?_
  refine r_cast C hS h dX4_init_263 (fun w56 H locs h hS => ?_)
  refine lv_dup hx hb dX4_init_264 rfl ?_
  refine lv_bipush (v := 39) hx hb dX4_init_265 (by decide) ?_
  refine lv_iconst (v := 0) hx hb dX4_init_267 (by decide) ?_
  refine r_cast C hS h dX4_init_268 (fun w57 H locs h hS => ?_)
  refine lv_dup hx hb dX4_init_269 rfl ?_
  refine lv_bipush (v := 40) hx hb dX4_init_270 (by decide) ?_
  refine lv_iconst (v := 0) hx hb dX4_init_272 (by decide) ?_
  refine r_cast C hS h dX4_init_273 (fun w58 H locs h hS => ?_)
  refine lv_dup hx hb dX4_init_274 rfl ?_
  refine lv_bipush (v := 41) hx hb dX4_init_275 (by decide) ?_
  refine lv_iconst (v := 0) hx hb dX4_init_277 (by decide) ?_
  refine r_cast C hS h dX4_init_278 (fun w59 H locs h hS => ?_)
  refine lv_dup hx hb dX4_init_279 rfl ?_
  refine lv_bipush (v := 42) hx hb dX4_init_280 (by decide) ?_
  refine lv_bipush (v := 100) hx hb dX4_init_282 (by decide) ?_
  refine r_cast C hS h dX4_init_284 (fun w60 H locs h hS => ?_)
  refine lv_dup hx hb dX4_init_285 rfl ?_
  refine lv_bipush (v := 43) hx hb dX4_init_286 (by decide) ?_
  refine lv_bipush (v := 111) hx hb dX4_init_288 (by decide) ?_
  refine r_cast C hS h dX4_init_290 (fun w61 H locs h hS => ?_)
  refine lv_dup hx hb dX4_init_291 rfl ?_
  refine lv_bipush (v := 44) hx hb dX4_init_292 (by decide) ?_
  refine lv_bipush (v := 117) hx hb dX4_init_294 (by decide) ?_
  refine r_cast C hS h dX4_init_296 (fun w62 H locs h hS => ?_)
  refine lv_dup hx hb dX4_init_297 rfl ?_
  refine lv_bipush (v := 45) hx hb dX4_init_298 (by decide) ?_
  refine lv_bipush (v := 98) hx hb dX4_init_300 (by decide) ?_
  refine r_cast C hS h dX4_init_302 (fun w63 H locs h hS => ?_)
  refine lv_dup hx hb dX4_init_303 rfl ?_
  refine lv_bipush (v := 46) hx hb dX4_init_304 (by decide) ?_
  refine lv_bipush (v := 116) hx hb dX4_init_306 (by decide) ?_
  refine r_cast C hS h dX4_init_308 (fun w64 H locs h hS => ?_)
  refine lv_dup hx hb dX4_init_309 rfl ?_
  refine lv_bipush (v := 47) hx hb dX4_init_310 (by decide) ?_
  refine lv_iconst (v := 0) hx hb dX4_init_312 (by decide) ?_
  refine r_cast C hS h dX4_init_313 (fun w65 H locs h hS => ?_)
  refine r_putG (fin := true) C hS h gk_60 (ty := (.array .char)) (by decide +kernel) rfl gk_60f (fun _ => ⟨rfl, rfl⟩) q1364 dX4_init_314 (fun w66 H locs h hS => ?_)
  refine lv_aload_n hx hb dX4_init_317 rfl (lv_at hl 0 rfl) ?_
  refine lv_iconst (v := 2) hx hb dX4_init_318 (by decide) ?_
  refine r_newa_0 C hS h q167 (Nat.le_of_ble_eq_true rfl) (Nat.le_of_ble_eq_true rfl) (Nat.le_of_ble_eq_true rfl) dX4_init_319 (fun n67 w68 H h hS => ?_)
  refine r_putG (fin := true) C hS h gk_61 (ty := (.array .int)) (by decide +kernel) rfl gk_61f (fun _ => ⟨rfl, rfl⟩) q1365 dX4_init_321 (fun w69 H locs h hS => ?_)
  refine lv_aload_n hx hb dX4_init_324 rfl (lv_at hl 0 rfl) ?_
  refine lv_iconst (v := 2) hx hb dX4_init_325 (by decide) ?_
  refine r_newa_0 C hS h q167 (Nat.le_of_ble_eq_true rfl) (Nat.le_of_ble_eq_true rfl) (Nat.le_of_ble_eq_true rfl) dX4_init_326 (fun n70 w71 H h hS => ?_)
  refine r_putG (fin := true) C hS h gk_62 (ty := (.array .int)) (by decide +kernel) rfl gk_62f (fun _ => ⟨rfl, rfl⟩) q1366 dX4_init_328 (fun w72 H locs h hS => ?_)
  refine lv_aload_n hx hb dX4_init_331 rfl (lv_at hl 0 rfl) ?_
  refine lv_iconst (v := 2) hx hb dX4_init_332 (by decide) ?_
  refine r_newa_0 C hS h q167 (Nat.le_of_ble_eq_true rfl) (Nat.le_of_ble_eq_true rfl) (Nat.le_of_ble_eq_true rfl) dX4_init_333 (fun n73 w74 H h hS => ?_)
  refine r_putG (fin := true) C hS h gk_63 (ty := (.array .int)) (by decide +kernel) rfl gk_63f (fun _ => ⟨rfl, rfl⟩) q1367 dX4_init_335 (fun w75 H locs h hS => ?_)
  refine lv_aload_n hx hb dX4_init_338 rfl (lv_at hl 0 rfl) ?_
  refine lv_iconst (v := 2) hx hb dX4_init_339 (by decide) ?_
  refine r_newa_0 C hS h q167 (Nat.le_of_ble_eq_true rfl) (Nat.le_of_ble_eq_true rfl) (Nat.le_of_ble_eq_true rfl) dX4_init_340 (fun n76 w77 H h hS => ?_)
  refine r_putG (fin := true) C hS h gk_64 (ty := (.array .int)) (by decide +kernel) rfl gk_64f (fun _ => ⟨rfl, rfl⟩) q1368 dX4_init_342 (fun w78 H locs h hS => ?_)
  refine lv_aload_n hx hb dX4_init_345 rfl (lv_at hl 0 rfl) ?_
  refine lv_iconst (v := 2) hx hb dX4_init_346 (by decide) ?_
  refine r_newa_0 C hS h q167 (Nat.le_of_ble_eq_true rfl) (Nat.le_of_ble_eq_true rfl) (Nat.le_of_ble_eq_true rfl) dX4_init_347 (fun n79 w80 H h hS => ?_)
  refine r_putG (fin := true) C hS h gk_65 (ty := (.array .int)) (by decide +kernel) rfl gk_65f (fun _ => ⟨rfl, rfl⟩) q1369 dX4_init_349 (fun w81 H locs h hS => ?_)
  refine lv_aload_n hx hb dX4_init_352 rfl (lv_at hl 0 rfl) ?_
  refine lv_iconst (v := 2) hx hb dX4_init_353 (by decide) ?_
  refine r_newa_0 C hS h q167 (Nat.le_of_ble_eq_true rfl) (Nat.le_of_ble_eq_true rfl) (Nat.le_of_ble_eq_true rfl) dX4_init_354 (fun n82 w83 H h hS => ?_)
  refine r_putG (fin := true) C hS h gk_66 (ty := (.array .int)) (by decide +kernel) rfl gk_66f (fun _ => ⟨rfl, rfl⟩) q1370 dX4_init_356 (fun w84 H locs h hS => ?_)
  refine lv_aload_n hx hb dX4_init_359 rfl (lv_at hl 0 rfl) ?_
  refine lv_bipush (v := 40) hx hb dX4_init_360 (by decide) ?_
  refine r_newa_0 C hS h q167 (Nat.le_of_ble_eq_true rfl) (Nat.le_of_ble_eq_true rfl) (Nat.le_of_ble_eq_true rfl) dX4_init_362 (fun n85 w86 H h hS => ?_)
  refine r_putG (fin := true) C hS h gk_67 (ty := (.array .int)) (by decide +kernel) rfl gk_67f (fun _ => ⟨rfl, rfl⟩) q1372 dX4_init_364 (fun w87 H locs h hS => ?_)
  refine lv_aload_n hx hb dX4_init_367 rfl (lv_at hl 0 rfl) ?_
  refine lv_bipush (v := 8) hx hb dX4_init_368 (by decide) ?_
  refine r_newa_0 C hS h q167 (Nat.le_of_ble_eq_true rfl) (Nat.le_of_ble_eq_true rfl) (Nat.le_of_ble_eq_true rfl) dX4_init_370 (fun n88 w89 H h hS => ?_)
  refine lv_dup hx hb dX4_init_372 rfl ?_
  refine lv_iconst (v := 0) hx hb dX4_init_373 (by decide) ?_
  refine lv_iconst (v := -1) hx hb dX4_init_374 (by decide) ?_
  refine r_iast C hS h dX4_init_375 (fun w90 H locs h hS => ?_)
  refine lv_dup hx hb dX4_init_376 rfl ?_
  refine lv_iconst (v := 1) hx hb dX4_init_377 (by decide) ?_
  refine lv_iconst (v := -1) hx hb dX4_init_378 (by decide) ?_
  refine r_iast C hS h dX4_init_379 (fun w91 H locs h hS => ?_)
  refine lv_dup hx hb dX4_init_380 rfl ?_
  refine lv_iconst (v := 2) hx hb dX4_init_381 (by decide) ?_
  refine lv_iconst (v := -1) hx hb dX4_init_382 (by decide) ?_
  refine r_iast C hS h dX4_init_383 (fun w92 H locs h hS => ?_)
  refine lv_dup hx hb dX4_init_384 rfl ?_
  refine lv_iconst (v := 3) hx hb dX4_init_385 (by decide) ?_
  refine lv_iconst (v := -1) hx hb dX4_init_386 (by decide) ?_
  refine r_iast C hS h dX4_init_387 (fun w93 H locs h hS => ?_)
  refine lv_dup hx hb dX4_init_388 rfl ?_
  refine lv_iconst (v := 4) hx hb dX4_init_389 (by decide) ?_
  refine lv_iconst (v := -1) hx hb dX4_init_390 (by decide) ?_
  refine r_iast C hS h dX4_init_391 (fun w94 H locs h hS => ?_)
  refine lv_dup hx hb dX4_init_392 rfl ?_
  refine lv_iconst (v := 5) hx hb dX4_init_393 (by decide) ?_
  refine lv_iconst (v := -1) hx hb dX4_init_394 (by decide) ?_
  refine r_iast C hS h dX4_init_395 (fun w95 H locs h hS => ?_)
  refine lv_dup hx hb dX4_init_396 rfl ?_
  refine lv_bipush (v := 6) hx hb dX4_init_397 (by decide) ?_
  refine lv_iconst (v := -1) hx hb dX4_init_399 (by decide) ?_
  refine r_iast C hS h dX4_init_400 (fun w96 H locs h hS => ?_)
  refine lv_dup hx hb dX4_init_401 rfl ?_
  refine lv_bipush (v := 7) hx hb dX4_init_402 (by decide) ?_
  refine lv_iconst (v := -1) hx hb dX4_init_404 (by decide) ?_
  refine r_iast C hS h dX4_init_405 (fun w97 H locs h hS => ?_)
  refine r_putG (fin := true) C hS h gk_68 (ty := (.array .int)) (by decide +kernel) rfl gk_68f (fun _ => ⟨rfl, rfl⟩) q1373 dX4_init_406 (fun w98 H locs h hS => ?_)
  refine lv_aload_n hx hb dX4_init_409 rfl (lv_at hl 0 rfl) ?_
  refine lv_bipush (v := 8) hx hb dX4_init_410 (by decide) ?_
  refine r_newa_0 C hS h q167 (Nat.le_of_ble_eq_true rfl) (Nat.le_of_ble_eq_true rfl) (Nat.le_of_ble_eq_true rfl) dX4_init_412 (fun n99 w100 H h hS => ?_)
  refine r_putG (fin := true) C hS h gk_69 (ty := (.array .int)) (by decide +kernel) rfl gk_69f (fun _ => ⟨rfl, rfl⟩) q1374 dX4_init_414 (fun w101 H locs h hS => ?_)
  refine lv_aload_n hx hb dX4_init_417 rfl (lv_at hl 0 rfl) ?_
  refine lv_sipush (v := 320) hx hb dX4_init_418 (by decide) ?_
  refine r_newa_5 C hS h q361 (Nat.le_of_ble_eq_true rfl) (Nat.le_of_ble_eq_true rfl) (Nat.le_of_ble_eq_true rfl) dX4_init_421 (fun n102 w103 H h hS => ?_)
  refine r_putG (fin := true) C hS h gk_70 (ty := (.array .long)) (by decide +kernel) rfl gk_70f (fun _ => ⟨rfl, rfl⟩) q1375 dX4_init_423 (fun w104 H locs h hS => ?_)
  refine lv_aload_n hx hb dX4_init_426 rfl (lv_at hl 0 rfl) ?_
  refine lv_bipush (v := 40) hx hb dX4_init_427 (by decide) ?_
  refine r_newa_5 C hS h q361 (Nat.le_of_ble_eq_true rfl) (Nat.le_of_ble_eq_true rfl) (Nat.le_of_ble_eq_true rfl) dX4_init_429 (fun n105 w106 H h hS => ?_)
  refine r_putG (fin := true) C hS h gk_71 (ty := (.array .long)) (by decide +kernel) rfl gk_71f (fun _ => ⟨rfl, rfl⟩) q1376 dX4_init_431 (fun w107 H locs h hS => ?_)
  refine lv_aload_n hx hb dX4_init_434 rfl (lv_at hl 0 rfl) ?_
  refine lv_bipush (v := 6) hx hb dX4_init_435 (by decide) ?_
  refine r_newa_0 C hS h q167 (Nat.le_of_ble_eq_true rfl) (Nat.le_of_ble_eq_true rfl) (Nat.le_of_ble_eq_true rfl) dX4_init_437 (fun n108 w109 H h hS => ?_)
  refine lv_dup hx hb dX4_init_439 rfl ?_
  refine lv_iconst (v := 0) hx hb dX4_init_440 (by decide) ?_
  refine lv_iconst (v := -1) hx hb dX4_init_441 (by decide) ?_
  refine r_iast C hS h dX4_init_442 (fun w110 H locs h hS => ?_)
  refine lv_dup hx hb dX4_init_443 rfl ?_
  refine lv_iconst (v := 1) hx hb dX4_init_444 (by decide) ?_
  refine lv_iconst (v := 0) hx hb dX4_init_445 (by decide) ?_
  refine r_iast C hS h dX4_init_446 (fun w111 H locs h hS => ?_)
  refine lv_dup hx hb dX4_init_447 rfl ?_
  refine lv_iconst (v := 2) hx hb dX4_init_448 (by decide) ?_
  refine lv_iconst (v := 0) hx hb dX4_init_449 (by decide) ?_
  refine r_iast C hS h dX4_init_450 (fun w112 H locs h hS => ?_)
  refine lv_dup hx hb dX4_init_451 rfl ?_
  refine lv_iconst (v := 3) hx hb dX4_init_452 (by decide) ?_
  refine lv_iconst (v := 1) hx hb dX4_init_453 (by decide) ?_
  refine r_iast C hS h dX4_init_454 (fun w113 H locs h hS => ?_)
  refine lv_dup hx hb dX4_init_455 rfl ?_
  refine lv_iconst (v := 4) hx hb dX4_init_456 (by decide) ?_
  refine lv_iconst (v := 2) hx hb dX4_init_457 (by decide) ?_
  refine r_iast C hS h dX4_init_458 (fun w114 H locs h hS => ?_)
  refine lv_dup hx hb dX4_init_459 rfl ?_
  refine lv_iconst (v := 5) hx hb dX4_init_460 (by decide) ?_
  refine lv_iconst (v := 0) hx hb dX4_init_461 (by decide) ?_
  refine r_iast C hS h dX4_init_462 (fun w115 H locs h hS => ?_)
  refine r_putG (fin := true) C hS h gk_72 (ty := (.array .int)) (by decide +kernel) rfl gk_72f (fun _ => ⟨rfl, rfl⟩) q1377 dX4_init_463 (fun w116 H locs h hS => ?_)
  refine lv_aload_n hx hb dX4_init_466 rfl (lv_at hl 0 rfl) ?_
  refine lv_bipush (v := 8) hx hb dX4_init_467 (by decide) ?_
  refine r_newa_0 C hS h q167 (Nat.le_of_ble_eq_true rfl) (Nat.le_of_ble_eq_true rfl) (Nat.le_of_ble_eq_true rfl) dX4_init_469 (fun n117 w118 H h hS => ?_)
  refine r_putG (fin := true) C hS h gk_73 (ty := (.array .int)) (by decide +kernel) rfl gk_73f (fun _ => ⟨rfl, rfl⟩) q1378 dX4_init_471 (fun w119 H locs h hS => ?_)
  refine lv_aload_n hx hb dX4_init_474 rfl (lv_at hl 0 rfl) ?_
  refine lv_bipush (v := 40) hx hb dX4_init_475 (by decide) ?_
  refine r_newa_0 C hS h q167 (Nat.le_of_ble_eq_true rfl) (Nat.le_of_ble_eq_true rfl) (Nat.le_of_ble_eq_true rfl) dX4_init_477 (fun n120 w121 H h hS => ?_)
  refine r_putG (fin := true) C hS h gk_74 (ty := (.array .int)) (by decide +kernel) rfl gk_74f (fun _ => ⟨rfl, rfl⟩) q1379 dX4_init_479 (fun w122 H locs h hS => ?_)
  exact r_vret C hS h rfl (Nat.le_of_ble_eq_true rfl) (Nat.le_of_ble_eq_true rfl) dX4_init_482
end VX4_init
/-! LeftIsAgreedOnModel.isIn(JJJ)Z -/
section VX4_isIn
variable {p : Program} {l : Launch} {e : Env} {s : State} {m : MethodId} {args : Array Value} {below : List Frame} {meth : Method} {c : Code} {Z : wZ} {A : Nat → Prop}
set_option maxHeartbeats 4000000 in
theorem ct_X4_isIn (l : Launch) (Z : wZ) (w : Wd) (a0 : Int64) (a2 : Int64) (a4 : Int64) (k : Int32 → Wd → Prop) (h : wp_X4_isIn w a0 a2 a4 k) : wMet l Z yX4_isIn cX4_isIn 6 (some .boolean) 0 0 0 0 [.long a0, .long a2, .long a4] w (pI k) := by
  refine wM_of (by decide +kernel) (Nat.le_of_ble_eq_true rfl) ?_
  intro p e s m below meth c ls C hS hl
  replace C : wC p l s m _ meth c cX4_isIn 6 (some .boolean) RX4 "isIn" Z _ := C
  have hl : lv_has ls 6 [(0, .long a0), (2, .long a2), (4, .long a4)] := hl
  have hx := C.hx
  have hb := C.hb
  unfold wp_X4_isIn at h
  generalize wA w = A at C hS ⊢
  refine lv_lload_n hx hb dX4_isIn_0 rfl (lv_at hl 0 rfl) ?_
  refine lv_lload_n hx hb dX4_isIn_1 rfl (lv_at hl 1 rfl) ?_
  refine W.lcmp hx hb dX4_isIn_2 ?_
  refine r_if_lt (tgt := 17) hx hb h dX4_isIn_3 (by decide) (fun h => ?_) (fun h => ?_)
  · refine lv_iconst (v := 0) hx hb dX4_isIn_17 (by decide) ?_
    exact r_iret C hS h rfl (by decide +kernel) (Nat.le_of_ble_eq_true rfl) (Nat.le_of_ble_eq_true rfl) dX4_isIn_18
  · refine lv_lload_n hx hb dX4_isIn_6 rfl (lv_at hl 0 rfl) ?_
    refine lv_lload hx hb dX4_isIn_7 (lv_at hl 2 rfl) ?_
    refine W.lcmp hx hb dX4_isIn_9 ?_
    refine r_if_gt (tgt := 17) hx hb h dX4_isIn_10 (by decide) (fun h => ?_) (fun h => ?_)
    · refine lv_iconst (v := 0) hx hb dX4_isIn_17 (by decide) ?_
      exact r_iret C hS h rfl (by decide +kernel) (Nat.le_of_ble_eq_true rfl) (Nat.le_of_ble_eq_true rfl) dX4_isIn_18
    · refine lv_iconst (v := 1) hx hb dX4_isIn_13 (by decide) ?_
      refine lv_goto (tgt := 18) hx hb dX4_isIn_14 (by decide) ?_
      exact r_iret C hS h rfl (by decide +kernel) (Nat.le_of_ble_eq_true rfl) (Nat.le_of_ble_eq_true rfl) dX4_isIn_18
end VX4_isIn
/-! LeftIsAgreedOnModel.refuse(I)I -/
section VX4_refuse
variable {p : Program} {l : Launch} {e : Env} {s : State} {m : MethodId} {args : Array Value} {below : List Frame} {meth : Method} {c : Code} {Z : wZ} {A : Nat → Prop}
set_option maxHeartbeats 4000000 in
theorem ct_X4_refuse (l : Launch) (Z : wZ) (w : Wd) (a0 : Nat) (a1 : Int32) (k : Int32 → Wd → Prop) (h : wp_X4_refuse w a0 a1 k) : wMet l Z yX4_refuse cX4_refuse 2 (some .int) 0 0 0 0 [.ref a0, .int a1] w (pI k) := by
  refine wM_of (by decide +kernel) (Nat.le_of_ble_eq_true rfl) ?_
  intro p e s m below meth c ls C hS hl
  replace C : wC p l s m _ meth c cX4_refuse 2 (some .int) RX4 "refuse" Z _ := C
  have hl : lv_has ls 2 [(0, .ref a0), (1, .int a1)] := hl
  have hx := C.hx
  have hb := C.hb
  unfold wp_X4_refuse at h
  generalize wA w = A at C hS ⊢
  refine lv_aload_n hx hb dX4_refuse_0 rfl (lv_at hl 0 rfl) ?_
  refine r_getG C hS h gk_55 q1354 dX4_refuse_1 (fun v1 h => ?_)
  refine lv_iload_n hx hb dX4_refuse_4 rfl (lv_at hl 1 rfl) ?_
  refine lv_ineg hx hb dX4_refuse_5 ?_
  refine lv_dup2_11 hx hb dX4_refuse_6 rfl (va_rf_cat _) ?_
  refine r_iald C hS h dX4_refuse_7 (fun v2 h => ?_)
  refine lv_iconst (v := 1) hx hb dX4_refuse_8 (by decide) ?_
  refine lv_iadd hx hb dX4_refuse_9 ?_
  refine r_iast C hS h dX4_refuse_10 (fun w3 H locs h hS => ?_)
  refine lv_iload_n hx hb dX4_refuse_11 rfl (lv_at hl 1 rfl) ?_
  exact r_iret C hS h rfl rfl (Nat.le_of_ble_eq_true rfl) (Nat.le_of_ble_eq_true rfl) dX4_refuse_12
end VX4_refuse
/-! LeftIsAgreedOnModel.side(I)I -/
section VX4_side
variable {p : Program} {l : Launch} {e : Env} {s : State} {m : MethodId} {args : Array Value} {below : List Frame} {meth : Method} {c : Code} {Z : wZ} {A : Nat → Prop}
set_option maxHeartbeats 4000000 in
theorem ct_X4_side (l : Launch) (Z : wZ) (w : Wd) (a0 : Nat) (a1 : Int32) (k : Int32 → Wd → Prop) (h : wp_X4_side w a0 a1 k) : wMet l Z yX4_side cX4_side 3 (some .int) 1 25 0 0 [.ref a0, .int a1] w (pI k) := by
  refine wM_of (by decide +kernel) (Nat.le_of_ble_eq_true rfl) ?_
  intro p e s m below meth c ls C hS hl
  replace C : wC p l s m _ meth c cX4_side 3 (some .int) RX4 "side" Z _ := C
  have hl : lv_has ls 3 [(0, .ref a0), (1, .int a1)] := hl
  have hx := C.hx
  have hb := C.hb
  unfold wp_X4_side at h
  generalize wA w = A at C hS ⊢
  refine lv_iload_n hx hb dX4_side_0 rfl (lv_at hl 1 rfl) ?_
  refine lv_i2l hx hb dX4_side_1 rfl ?_
  refine lv_aload_n hx hb dX4_side_2 rfl (lv_at hl 0 rfl) ?_
  refine r_getG C hS h gk_56 q1355 dX4_side_3 (fun v1 h => ?_)
  refine lv_bipush (v := 90) hx hb dX4_side_6 (by decide) ?_
  refine r_iald C hS h dX4_side_8 (fun v2 h => ?_)
  refine lv_i2l hx hb dX4_side_9 rfl ?_
  refine lv_ldc2 (v := 7) hx hb C.ow (C.hts _ q1438) dX4_side_10 ?_
  refine r_S C hS (ct_X4_isIn l Z w (a1.toInt64) (v2.toInt64) 7 _ h) 3 (lw_S q1439 q1440 q71 q1441) ⟨by decide, by decide, by decide +kernel⟩ ⟨Nat.le_of_ble_eq_true rfl, Nat.le_of_ble_eq_true rfl⟩ rfl hl.1 rfl (wcat4 (Nat.le_of_ble_eq_true rfl)) dX4_side_13 ⟨Nat.le_of_ble_eq_true rfl, Nat.le_of_ble_eq_true rfl⟩ (fun v_ w4 H locs hv hS => ?_)
  obtain ⟨v3, rfl, h⟩ := hv
  refine r_if_ne (tgt := 26) hx hb h dX4_side_16 (by decide) (fun h => ?_) (fun h => ?_)
  · refine lv_aload_n hx hb dX4_side_26 rfl (lv_at hl 0 rfl) ?_
    refine r_getG C hS h gk_56 q1355 dX4_side_27 (fun v5 h => ?_)
    refine lv_bipush (v := 90) hx hb dX4_side_30 (by decide) ?_
    refine r_iald C hS h dX4_side_32 (fun v6 h => ?_)
    refine lv_istore_n (i := 2) (lv' := [(2, .int v6), (0, .ref a0), (1, .int a1)]) hx hb dX4_side_33 rfl hl (by decide) rfl (fun ls hl => ?_)
    refine lv_aload_n hx hb dX4_side_34 rfl (lv_at hl 1 rfl) ?_
    refine r_getG C hS h gk_56 q1355 dX4_side_35 (fun v7 h => ?_)
    refine lv_bipush (v := 90) hx hb dX4_side_38 (by decide) ?_
    refine lv_iload_n hx hb dX4_side_40 rfl (lv_at hl 2 rfl) ?_
    refine r_iast C hS h dX4_side_41 (fun w8 H locs h hS => ?_)
    refine lv_iload_n hx hb dX4_side_42 rfl (lv_at hl 0 rfl) ?_
    exact r_iret C hS h rfl rfl (Nat.le_of_ble_eq_true rfl) (Nat.le_of_ble_eq_true rfl) dX4_side_43
  · refine lv_aload_n hx hb dX4_side_19 rfl (lv_at hl 0 rfl) ?_
    refine lv_bipush (v := -2) hx hb dX4_side_20 (by decide) ?_
    obtain ⟨hob, h⟩ := h
    refine r_V C hS (ct_X4_refuse l Z w4 a0 (-2) _ h) 1 24 hob ⟨by decide, by decide +kernel⟩ (lw_V q1442 q1444 qs28 q71 q1445) ⟨rfl, by decide, by decide, by decide +kernel⟩ ⟨Nat.le_of_ble_eq_true rfl, Nat.le_of_ble_eq_true rfl⟩ rfl hl.1 rfl (wcat4 (Nat.le_of_ble_eq_true rfl)) dX4_side_22 ⟨Nat.le_of_ble_eq_true rfl, Nat.le_of_ble_eq_true rfl⟩ (fun v_ w10 H locs hv hS => ?_)
    obtain ⟨v9, rfl, h⟩ := hv
    exact r_iret C hS h rfl rfl (Nat.le_of_ble_eq_true rfl) (Nat.le_of_ble_eq_true rfl) dX4_side_25
end VX4_side
/-! LeftIsAgreedOnModel.isCell(I)Z -/
section VX4_isCell
variable {p : Program} {l : Launch} {e : Env} {s : State} {m : MethodId} {args : Array Value} {below : List Frame} {meth : Method} {c : Code} {Z : wZ} {A : Nat → Prop}
set_option maxHeartbeats 4000000 in
theorem ct_X4_isCell (l : Launch) (Z : wZ) (w : Wd) (a0 : Nat) (a1 : Int32) (k : Int32 → Wd → Prop) (h : wp_X4_isCell w a0 a1 k) : wMet l Z yX4_isCell cX4_isCell 2 (some .boolean) 0 0 0 0 [.ref a0, .int a1] w (pI k) := by
  refine wM_of (by decide +kernel) (Nat.le_of_ble_eq_true rfl) ?_
  intro p e s m below meth c ls C hS hl
  replace C : wC p l s m _ meth c cX4_isCell 2 (some .boolean) RX4 "isCell" Z _ := C
  have hl : lv_has ls 2 [(0, .ref a0), (1, .int a1)] := hl
  have hx := C.hx
  have hb := C.hb
  unfold wp_X4_isCell at h
  generalize wA w = A at C hS ⊢
  refine lv_iload_n hx hb dX4_isCell_0 rfl (lv_at hl 1 rfl) ?_
  refine r_if_lt (tgt := 36) hx hb h dX4_isCell_1 (by decide) (fun h => ?_) (fun h => ?_)
  · refine lv_iconst (v := 0) hx hb dX4_isCell_36 (by decide) ?_
    exact r_iret C hS h rfl (by decide +kernel) (Nat.le_of_ble_eq_true rfl) (Nat.le_of_ble_eq_true rfl) dX4_isCell_37
  · refine lv_iload_n hx hb dX4_isCell_4 rfl (lv_at hl 1 rfl) ?_
    refine lv_bipush (v := 10) hx hb dX4_isCell_5 (by decide) ?_
    refine lv_idiv hx hb dX4_isCell_7 (by decide) ?_
    refine lv_aload_n hx hb dX4_isCell_8 rfl (lv_at hl 0 rfl) ?_
    refine r_getG C hS h gk_56 q1355 dX4_isCell_9 (fun v1 h => ?_)
    refine lv_bipush (v := 90) hx hb dX4_isCell_12 (by decide) ?_
    refine r_iald C hS h dX4_isCell_14 (fun v2 h => ?_)
    refine r_icmp_ge (tgt := 36) hx hb h dX4_isCell_15 (by decide) (fun h => ?_) (fun h => ?_)
    · refine lv_iconst (v := 0) hx hb dX4_isCell_36 (by decide) ?_
      exact r_iret C hS h rfl (by decide +kernel) (Nat.le_of_ble_eq_true rfl) (Nat.le_of_ble_eq_true rfl) dX4_isCell_37
    · refine lv_iload_n hx hb dX4_isCell_18 rfl (lv_at hl 1 rfl) ?_
      refine lv_bipush (v := 10) hx hb dX4_isCell_19 (by decide) ?_
      refine lv_irem hx hb dX4_isCell_21 (by decide) ?_
      refine lv_aload_n hx hb dX4_isCell_22 rfl (lv_at hl 0 rfl) ?_
      refine r_getG C hS h gk_56 q1355 dX4_isCell_23 (fun v3 h => ?_)
      refine lv_bipush (v := 90) hx hb dX4_isCell_26 (by decide) ?_
      refine r_iald C hS h dX4_isCell_28 (fun v4 h => ?_)
      refine r_icmp_ge (tgt := 36) hx hb h dX4_isCell_29 (by decide) (fun h => ?_) (fun h => ?_)
      · refine lv_iconst (v := 0) hx hb dX4_isCell_36 (by decide) ?_
        exact r_iret C hS h rfl (by decide +kernel) (Nat.le_of_ble_eq_true rfl) (Nat.le_of_ble_eq_true rfl) dX4_isCell_37
      · refine lv_iconst (v := 1) hx hb dX4_isCell_32 (by decide) ?_
        refine lv_goto (tgt := 37) hx hb dX4_isCell_33 (by decide) ?_
        exact r_iret C hS h rfl (by decide +kernel) (Nat.le_of_ble_eq_true rfl) (Nat.le_of_ble_eq_true rfl) dX4_isCell_37
end VX4_isCell
/-! LeftIsAgreedOnModel.pondAt(I)I -/
section VX4_pondAt
variable {p : Program} {l : Launch} {e : Env} {s : State} {m : MethodId} {args : Array Value} {below : List Frame} {meth : Method} {c : Code} {Z : wZ} {A : Nat → Prop}
set_option maxHeartbeats 4000000 in
theorem ct_X4_pondAt (l : Launch) (Z : wZ) (w : Wd) (a0 : Int32) (k : Int32 → Wd → Prop) (h : wp_X4_pondAt w a0 k) : wMet l Z yX4_pondAt cX4_pondAt 1 (some .int) 0 0 0 0 [.int a0] w (pI k) := by
  refine wM_of (by decide +kernel) (Nat.le_of_ble_eq_true rfl) ?_
  intro p e s m below meth c ls C hS hl
  replace C : wC p l s m _ meth c cX4_pondAt 1 (some .int) RX4 "pondAt" Z _ := C
  have hl : lv_has ls 1 [(0, .int a0)] := hl
  have hx := C.hx
  have hb := C.hb
  unfold wp_X4_pondAt at h
  generalize wA w = A at C hS ⊢
  refine lv_bipush (v := 40) hx hb dX4_pondAt_0 (by decide) ?_
  refine lv_bipush (v := 7) hx hb dX4_pondAt_2 (by decide) ?_
  refine lv_iload_n hx hb dX4_pondAt_4 rfl (lv_at hl 0 rfl) ?_
  refine lv_bipush (v := 10) hx hb dX4_pondAt_5 (by decide) ?_
  refine lv_idiv hx hb dX4_pondAt_7 (by decide) ?_
  refine lv_imul hx hb dX4_pondAt_8 ?_
  refine lv_iadd hx hb dX4_pondAt_9 ?_
  refine lv_iload_n hx hb dX4_pondAt_10 rfl (lv_at hl 0 rfl) ?_
  refine lv_bipush (v := 10) hx hb dX4_pondAt_11 (by decide) ?_
  refine lv_irem hx hb dX4_pondAt_13 (by decide) ?_
  refine lv_iadd hx hb dX4_pondAt_14 ?_
  exact r_iret C hS h rfl rfl (Nat.le_of_ble_eq_true rfl) (Nat.le_of_ble_eq_true rfl) dX4_pondAt_15
end VX4_pondAt
/-! LeftIsAgreedOnModel.many()I -/
section VX4_many
variable {p : Program} {l : Launch} {e : Env} {s : State} {m : MethodId} {args : Array Value} {below : List Frame} {meth : Method} {c : Code} {Z : wZ} {A : Nat → Prop}
set_option maxHeartbeats 4000000 in
theorem ct_X4_many (l : Launch) (Z : wZ) (w : Wd) (a0 : Nat) (k : Int32 → Wd → Prop) (h : wp_X4_many w a0 k) : wMet l Z yX4_many cX4_many 1 (some .int) 0 0 0 0 [.ref a0] w (pI k) := by
  refine wM_of (by decide +kernel) (Nat.le_of_ble_eq_true rfl) ?_
  intro p e s m below meth c ls C hS hl
  replace C : wC p l s m _ meth c cX4_many 1 (some .int) RX4 "many" Z _ := C
  have hl : lv_has ls 1 [(0, .ref a0)] := hl
  have hx := C.hx
  have hb := C.hb
  unfold wp_X4_many at h
  generalize wA w = A at C hS ⊢
  refine lv_aload_n hx hb dX4_many_0 rfl (lv_at hl 0 rfl) ?_
  refine r_getG C hS h gk_56 q1355 dX4_many_1 (fun v1 h => ?_)
  refine lv_bipush (v := 89) hx hb dX4_many_4 (by decide) ?_
  refine r_iald C hS h dX4_many_6 (fun v2 h => ?_)
  exact r_iret C hS h rfl rfl (Nat.le_of_ble_eq_true rfl) (Nat.le_of_ble_eq_true rfl) dX4_many_7
end VX4_many
/-! LeftIsAgreedOnModel.cell(I)I -/
section VX4_cell
variable {p : Program} {l : Launch} {e : Env} {s : State} {m : MethodId} {args : Array Value} {below : List Frame} {meth : Method} {c : Code} {Z : wZ} {A : Nat → Prop}
set_option maxHeartbeats 4000000 in
theorem ct_X4_cell (l : Launch) (Z : wZ) (w : Wd) (a0 : Nat) (a1 : Int32) (k : Int32 → Wd → Prop) (h : wp_X4_cell w a0 a1 k) : wMet l Z yX4_cell cX4_cell 2 (some .int) 0 0 0 0 [.ref a0, .int a1] w (pI k) := by
  refine wM_of (by decide +kernel) (Nat.le_of_ble_eq_true rfl) ?_
  intro p e s m below meth c ls C hS hl
  replace C : wC p l s m _ meth c cX4_cell 2 (some .int) RX4 "cell" Z _ := C
  have hl : lv_has ls 2 [(0, .ref a0), (1, .int a1)] := hl
  have hx := C.hx
  have hb := C.hb
  unfold wp_X4_cell at h
  generalize wA w = A at C hS ⊢
  refine lv_aload_n hx hb dX4_cell_0 rfl (lv_at hl 0 rfl) ?_
  refine r_getG C hS h gk_56 q1355 dX4_cell_1 (fun v1 h => ?_)
  refine lv_iconst (v := 5) hx hb dX4_cell_4 (by decide) ?_
  refine lv_iload_n hx hb dX4_cell_5 rfl (lv_at hl 1 rfl) ?_
  refine lv_imul hx hb dX4_cell_6 ?_
  refine lv_iconst (v := 2) hx hb dX4_cell_7 (by decide) ?_
  refine lv_iadd hx hb dX4_cell_8 ?_
  refine r_iald C hS h dX4_cell_9 (fun v2 h => ?_)
  exact r_iret C hS h rfl rfl (Nat.le_of_ble_eq_true rfl) (Nat.le_of_ble_eq_true rfl) dX4_cell_10
end VX4_cell
/-! LeftIsAgreedOnModel.isSomebody(I)Z -/
section VX4_isSomebody
variable {p : Program} {l : Launch} {e : Env} {s : State} {m : MethodId} {args : Array Value} {below : List Frame} {meth : Method} {c : Code} {Z : wZ} {A : Nat → Prop}
set_option maxHeartbeats 4000000 in
theorem kb_X4_isSomebody_4 (C : wC p l s m args meth c cX4_isSomebody 4 (some .boolean) RX4 "isSomebody" Z A) (k : Int32 → Wd → Prop) (L4 : Wd → Nat → Int32 → Int32 → Int32 → Prop) (hL4 : ∀ (w : Wd) (x0 : Nat) (x1 : Int32) (x2 : Int32) (x3 : Int32) (H : Heap) (locs : List Loc) (ls : Array Slot), L4 w x0 x1 x2 x3 → wS Z A s w H locs → lv_has ls 4 [(0, .ref x0), (1, .int x1), (2, .int x2), (3, .int x3)] → W p l e ({ frames := 1, cells := 0, slots := 0, locals := 21 } : Room) s m args below meth c H locs 0 0 (MQ below (wQc Z A (pI k)) args s 0 0 A) (F0 m 4 ls [])) : ∀ (w : Wd) (a0 : Nat) (l1 : Int32) (l2 : Int32) (l3 : Int32) (H : Heap) (locs : List Loc) (ls : Array Slot), wb_X4_isSomebody_4 k L4 w a0 l1 l2 l3 → wS Z A s w H locs → lv_has ls 4 [(0, .ref a0), (1, .int l1), (2, .int l2), (3, .int l3)] → W p l e ({ frames := 1, cells := 0, slots := 0, locals := 21 } : Room) s m args below meth c H locs 0 0 (MQ below (wQc Z A (pI k)) args s 0 0 A) (F0 m 4 ls []) := by
  intro w a0 l1 l2 l3 H locs ls h hS hl
  have hx := C.hx
  have hb := C.hb
  unfold wb_X4_isSomebody_4 at h
  refine lv_iload_n hx hb dX4_isSomebody_4 rfl (lv_at hl 3 rfl) ?_
  refine lv_aload_n hx hb dX4_isSomebody_5 rfl (lv_at hl 0 rfl) ?_
  obtain ⟨hob, h⟩ := h
  refine r_V C hS (ct_X4_many l Z w a0 _ h) 0 24 hob ⟨by decide, by decide +kernel⟩ (lw_V q1458 q1460 qs31 q71 q1461) ⟨rfl, by decide, by decide, by decide +kernel⟩ ⟨Nat.le_of_ble_eq_true rfl, Nat.le_of_ble_eq_true rfl⟩ rfl hl.1 rfl (wcat4 (Nat.le_of_ble_eq_true rfl)) dX4_isSomebody_6 ⟨Nat.le_of_ble_eq_true rfl, Nat.le_of_ble_eq_true rfl⟩ (fun v_ w2 H locs hv hS => ?_)
  obtain ⟨v1, rfl, h⟩ := hv
  refine r_icmp_ge (tgt := 37) hx hb h dX4_isSomebody_9 (by decide) (fun h => ?_) (fun h => ?_)
  · refine lv_iload_n hx hb dX4_isSomebody_37 rfl (lv_at hl 2 rfl) ?_
    obtain ⟨hn, h⟩ := h
    exact r_iret C hS h rfl hn (Nat.le_of_ble_eq_true rfl) (Nat.le_of_ble_eq_true rfl) dX4_isSomebody_38
  · refine lv_iload_n hx hb dX4_isSomebody_12 rfl (lv_at hl 2 rfl) ?_
    refine r_if_ne (tgt := 25) hx hb h dX4_isSomebody_13 (by decide) (fun h => ?_) (fun h => ?_)
    · refine lv_iconst (v := 1) hx hb dX4_isSomebody_25 (by decide) ?_
      refine lv_goto (tgt := 30) hx hb dX4_isSomebody_26 (by decide) ?_
      refine lv_istore_n (i := 2) (lv' := [(2, .int 1), (0, .ref a0), (1, .int l1), (3, .int l3)]) hx hb dX4_isSomebody_30 rfl hl (by decide) rfl (fun ls hl => ?_)
      refine lv_iinc (i := 3) (v := (l3 + 1)) (lv' := [(3, .int (l3 + 1)), (2, .int 1), (0, .ref a0), (1, .int l1)]) hx hb dX4_isSomebody_31 hl (k := 3) rfl rfl (by decide) rfl (fun ls hl => ?_)
      refine lv_goto (tgt := 4) hx hb dX4_isSomebody_34 (by decide) ?_
      exact hL4 w2 a0 l1 1 (l3 + 1) _ _ _ h hS (lv_sub hl [2, 3, 1, 0] rfl)
    · refine lv_aload_n hx hb dX4_isSomebody_16 rfl (lv_at hl 0 rfl) ?_
      refine lv_iload_n hx hb dX4_isSomebody_17 rfl (lv_at hl 3 rfl) ?_
      obtain ⟨hob, h⟩ := h
      refine r_V C hS (ct_X4_cell l Z w2 a0 l3 _ h) 1 24 hob ⟨by decide, by decide +kernel⟩ (lw_V q1462 q1464 qs32 q71 q1465) ⟨rfl, by decide, by decide, by decide +kernel⟩ ⟨Nat.le_of_ble_eq_true rfl, Nat.le_of_ble_eq_true rfl⟩ rfl hl.1 rfl (wcat4 (Nat.le_of_ble_eq_true rfl)) dX4_isSomebody_18 ⟨Nat.le_of_ble_eq_true rfl, Nat.le_of_ble_eq_true rfl⟩ (fun v_ w4 H locs hv hS => ?_)
      obtain ⟨v3, rfl, h⟩ := hv
      refine lv_iload_n hx hb dX4_isSomebody_21 rfl (lv_at hl 1 rfl) ?_
      refine r_icmp_ne (tgt := 29) hx hb h dX4_isSomebody_22 (by decide) (fun h => ?_) (fun h => ?_)
      · refine lv_iconst (v := 0) hx hb dX4_isSomebody_29 (by decide) ?_
        refine lv_istore_n (i := 2) (lv' := [(2, .int 0), (0, .ref a0), (1, .int l1), (3, .int l3)]) hx hb dX4_isSomebody_30 rfl hl (by decide) rfl (fun ls hl => ?_)
        refine lv_iinc (i := 3) (v := (l3 + 1)) (lv' := [(3, .int (l3 + 1)), (2, .int 0), (0, .ref a0), (1, .int l1)]) hx hb dX4_isSomebody_31 hl (k := 3) rfl rfl (by decide) rfl (fun ls hl => ?_)
        refine lv_goto (tgt := 4) hx hb dX4_isSomebody_34 (by decide) ?_
        exact hL4 w4 a0 l1 0 (l3 + 1) _ _ _ h hS (lv_sub hl [2, 3, 1, 0] rfl)
      · refine lv_iconst (v := 1) hx hb dX4_isSomebody_25 (by decide) ?_
        refine lv_goto (tgt := 30) hx hb dX4_isSomebody_26 (by decide) ?_
        refine lv_istore_n (i := 2) (lv' := [(2, .int 1), (0, .ref a0), (1, .int l1), (3, .int l3)]) hx hb dX4_isSomebody_30 rfl hl (by decide) rfl (fun ls hl => ?_)
        refine lv_iinc (i := 3) (v := (l3 + 1)) (lv' := [(3, .int (l3 + 1)), (2, .int 1), (0, .ref a0), (1, .int l1)]) hx hb dX4_isSomebody_31 hl (k := 3) rfl rfl (by decide) rfl (fun ls hl => ?_)
        refine lv_goto (tgt := 4) hx hb dX4_isSomebody_34 (by decide) ?_
        exact hL4 w4 a0 l1 1 (l3 + 1) _ _ _ h hS (lv_sub hl [2, 3, 1, 0] rfl)
set_option maxHeartbeats 4000000 in
theorem kl_X4_isSomebody_4 (C : wC p l s m args meth c cX4_isSomebody 4 (some .boolean) RX4 "isSomebody" Z A) (k : Int32 → Wd → Prop) : ∀ (n : Nat), ∀ (w : Wd) (a0 : Nat) (l1 : Int32) (l2 : Int32) (l3 : Int32) (H : Heap) (locs : List Loc) (ls : Array Slot), wl_X4_isSomebody_4 k n w a0 l1 l2 l3 → wS Z A s w H locs → lv_has ls 4 [(0, .ref a0), (1, .int l1), (2, .int l2), (3, .int l3)] → W p l e ({ frames := 1, cells := 0, slots := 0, locals := 21 } : Room) s m args below meth c H locs 0 0 (MQ below (wQc Z A (pI k)) args s 0 0 A) (F0 m 4 ls []) := by
  intro n
  induction n with
  | zero =>
    intro w a0 l1 l2 l3 H locs ls h
    exact h.elim
  | succ n ih =>
    intro w a0 l1 l2 l3 H locs ls h hS hl
    exact kb_X4_isSomebody_4 C k (wl_X4_isSomebody_4 k n) ih w a0 l1 l2 l3 H locs ls h hS hl
set_option maxHeartbeats 4000000 in
theorem ct_X4_isSomebody (l : Launch) (Z : wZ) (w : Wd) (a0 : Nat) (a1 : Int32) (k : Int32 → Wd → Prop) (h : wp_X4_isSomebody w a0 a1 k) : wMet l Z yX4_isSomebody cX4_isSomebody 4 (some .boolean) 1 21 0 0 [.ref a0, .int a1] w (pI k) := by
  refine wM_of (by decide +kernel) (Nat.le_of_ble_eq_true rfl) ?_
  intro p e s m below meth c ls C hS hl
  replace C : wC p l s m _ meth c cX4_isSomebody 4 (some .boolean) RX4 "isSomebody" Z _ := C
  have hl : lv_has ls 4 [(0, .ref a0), (1, .int a1)] := hl
  have hx := C.hx
  have hb := C.hb
  unfold wp_X4_isSomebody at h
  generalize wA w = A at C hS ⊢
  refine lv_iconst (v := 0) hx hb dX4_isSomebody_0 (by decide) ?_
  refine lv_istore_n (i := 2) (lv' := [(2, .int 0), (0, .ref a0), (1, .int a1)]) hx hb dX4_isSomebody_1 rfl hl (by decide) rfl (fun ls hl => ?_)
  refine lv_iconst (v := 0) hx hb dX4_isSomebody_2 (by decide) ?_
  refine lv_istore_n (i := 3) (lv' := [(3, .int 0), (2, .int 0), (0, .ref a0), (1, .int a1)]) hx hb dX4_isSomebody_3 rfl hl (by decide) rfl (fun ls hl => ?_)
  exact kl_X4_isSomebody_4 C k FU w a0 a1 0 0 _ _ _ h hS (lv_sub hl [2, 3, 1, 0] rfl)
end VX4_isSomebody
/-! LeftIsAgreedOnModel.pond(IZ)I -/
section VX4_pond
variable {p : Program} {l : Launch} {e : Env} {s : State} {m : MethodId} {args : Array Value} {below : List Frame} {meth : Method} {c : Code} {Z : wZ} {A : Nat → Prop}
set_option maxHeartbeats 4000000 in
theorem kb_X4_pond_34 (C : wC p l s m args meth c cX4_pond 4 (some .int) RX4 "pond" Z A) (k : Int32 → Wd → Prop) : ∀ (w : Wd) (a0 : Nat) (l1 : Int32) (l2 : Int32) (H : Heap) (locs : List Loc) (ls : Array Slot), wb_X4_pond_34 k w a0 l1 l2 → wS Z A s w H locs → lv_has ls 4 [(0, .ref a0), (1, .int l1), (2, .int l2)] → W p l e ({ frames := 2, cells := 0, slots := 0, locals := 44 } : Room) s m args below meth c H locs 0 0 (MQ below (wQc Z A (pI k)) args s 0 0 A) (F0 m 34 ls []) := by
  intro w a0 l1 l2 H locs ls h hS hl
  have hx := C.hx
  have hb := C.hb
  unfold wb_X4_pond_34 at h
  refine lv_aload_n hx hb dX4_pond_34 rfl (lv_at hl 0 rfl) ?_
  refine r_getG C hS h gk_56 q1355 dX4_pond_35 (fun v3 h => ?_)
  refine lv_iload_n hx hb dX4_pond_38 rfl (lv_at hl 1 rfl) ?_
  refine r_S C hS (ct_X4_pondAt l Z w l1 _ h) 1 (lw_S q1466 q1467 q71 q1468) ⟨by decide, by decide, by decide +kernel⟩ ⟨Nat.le_of_ble_eq_true rfl, Nat.le_of_ble_eq_true rfl⟩ rfl hl.1 rfl (wcat4 (Nat.le_of_ble_eq_true rfl)) dX4_pond_39 ⟨Nat.le_of_ble_eq_true rfl, Nat.le_of_ble_eq_true rfl⟩ (fun v_ w5 H locs hv hS => ?_)
  obtain ⟨v4, rfl, h⟩ := hv
  refine r_iald C hS h dX4_pond_42 (fun v6 h => ?_)
  refine lv_istore_n (i := 3) (lv' := [(3, .int v6), (0, .ref a0), (1, .int l1), (2, .int l2)]) hx hb dX4_pond_43 rfl hl (by decide) rfl (fun ls hl => ?_)
  refine lv_aload_n hx hb dX4_pond_44 rfl (lv_at hl 1 rfl) ?_
  refine r_getG C hS h gk_56 q1355 dX4_pond_45 (fun v7 h => ?_)
  refine lv_iload_n hx hb dX4_pond_48 rfl (lv_at hl 2 rfl) ?_
  refine r_S C hS (ct_X4_pondAt l Z w5 l1 _ h) 1 (lw_S q1466 q1467 q71 q1468) ⟨by decide, by decide, by decide +kernel⟩ ⟨Nat.le_of_ble_eq_true rfl, Nat.le_of_ble_eq_true rfl⟩ rfl hl.1 rfl (wcat4 (Nat.le_of_ble_eq_true rfl)) dX4_pond_49 ⟨Nat.le_of_ble_eq_true rfl, Nat.le_of_ble_eq_true rfl⟩ (fun v_ w9 H locs hv hS => ?_)
  obtain ⟨v8, rfl, h⟩ := hv
  refine lv_iload_n hx hb dX4_pond_52 rfl (lv_at hl 3 rfl) ?_
  refine r_if_eq (tgt := 60) hx hb h dX4_pond_53 (by decide) (fun h => ?_) (fun h => ?_)
  · refine lv_iconst (v := 0) hx hb dX4_pond_60 (by decide) ?_
    refine r_iast C hS h dX4_pond_61 (fun w10 H locs h hS => ?_)
    refine lv_iload_n hx hb dX4_pond_62 rfl (lv_at hl 0 rfl) ?_
    exact r_iret C hS h rfl rfl (Nat.le_of_ble_eq_true rfl) (Nat.le_of_ble_eq_true rfl) dX4_pond_63
  · refine lv_iconst (v := 1) hx hb dX4_pond_56 (by decide) ?_
    refine lv_goto (tgt := 61) hx hb dX4_pond_57 (by decide) ?_
    refine r_iast C hS h dX4_pond_61 (fun w11 H locs h hS => ?_)
    refine lv_iload_n hx hb dX4_pond_62 rfl (lv_at hl 0 rfl) ?_
    exact r_iret C hS h rfl rfl (Nat.le_of_ble_eq_true rfl) (Nat.le_of_ble_eq_true rfl) dX4_pond_63
set_option maxHeartbeats 4000000 in
theorem ct_X4_pond (l : Launch) (Z : wZ) (w : Wd) (a0 : Nat) (a1 : Int32) (a2 : Int32) (k : Int32 → Wd → Prop) (h : wp_X4_pond w a0 a1 a2 k) : wMet l Z yX4_pond cX4_pond 4 (some .int) 2 44 0 0 [.ref a0, .int a1, .int a2] w (pI k) := by
  refine wM_of (by decide +kernel) (Nat.le_of_ble_eq_true rfl) ?_
  intro p e s m below meth c ls C hS hl
  replace C : wC p l s m _ meth c cX4_pond 4 (some .int) RX4 "pond" Z _ := C
  have hl : lv_has ls 4 [(0, .ref a0), (1, .int a1), (2, .int a2)] := hl
  have hx := C.hx
  have hb := C.hb
  unfold wp_X4_pond at h
  generalize wA w = A at C hS ⊢
  refine lv_aload_n hx hb dX4_pond_0 rfl (lv_at hl 0 rfl) ?_
  refine lv_iload_n hx hb dX4_pond_1 rfl (lv_at hl 1 rfl) ?_
  obtain ⟨hob, h⟩ := h
  refine r_V C hS (ct_X4_isCell l Z w a0 a1 _ h) 1 24 hob ⟨by decide, by decide +kernel⟩ (lw_V q1450 q1452 qs29 q71 q1453) ⟨rfl, by decide, by decide, by decide +kernel⟩ ⟨Nat.le_of_ble_eq_true rfl, Nat.le_of_ble_eq_true rfl⟩ rfl hl.1 rfl (wcat4 (Nat.le_of_ble_eq_true rfl)) dX4_pond_2 ⟨Nat.le_of_ble_eq_true rfl, Nat.le_of_ble_eq_true rfl⟩ (fun v_ w2 H locs hv hS => ?_)
  obtain ⟨v1, rfl, h⟩ := hv
  refine r_if_ne (tgt := 15) hx hb h dX4_pond_5 (by decide) (fun h => ?_) (fun h => ?_)
  · refine lv_iload_n hx hb dX4_pond_15 rfl (lv_at hl 2 rfl) ?_
    refine r_if_eq (tgt := 34) hx hb h dX4_pond_16 (by decide) (fun h => ?_) (fun h => ?_)
    · exact kb_X4_pond_34 C k w2 a0 a1 a2 _ _ _ h hS (lv_sub hl [0, 1, 2] rfl)
    · refine lv_aload_n hx hb dX4_pond_19 rfl (lv_at hl 0 rfl) ?_
      refine lv_iload_n hx hb dX4_pond_20 rfl (lv_at hl 1 rfl) ?_
      obtain ⟨hob, h⟩ := h
      refine r_V C hS (ct_X4_isSomebody l Z w2 a0 a1 _ h) 1 24 hob ⟨by decide, by decide +kernel⟩ (lw_V q1454 q1456 qs30 q71 q1457) ⟨rfl, by decide, by decide, by decide +kernel⟩ ⟨Nat.le_of_ble_eq_true rfl, Nat.le_of_ble_eq_true rfl⟩ rfl hl.1 rfl (wcat4 (Nat.le_of_ble_eq_true rfl)) dX4_pond_21 ⟨Nat.le_of_ble_eq_true rfl, Nat.le_of_ble_eq_true rfl⟩ (fun v_ w13 H locs hv hS => ?_)
      obtain ⟨v12, rfl, h⟩ := hv
      refine r_if_eq (tgt := 34) hx hb h dX4_pond_24 (by decide) (fun h => ?_) (fun h => ?_)
      · exact kb_X4_pond_34 C k w13 a0 a1 a2 _ _ _ h hS (lv_sub hl [0, 1, 2] rfl)
      · refine lv_aload_n hx hb dX4_pond_27 rfl (lv_at hl 0 rfl) ?_
        refine lv_bipush (v := -5) hx hb dX4_pond_28 (by decide) ?_
        obtain ⟨hob, h⟩ := h
        refine r_V C hS (ct_X4_refuse l Z w13 a0 (-5) _ h) 1 24 hob ⟨by decide, by decide +kernel⟩ (lw_V q1442 q1444 qs28 q71 q1445) ⟨rfl, by decide, by decide, by decide +kernel⟩ ⟨Nat.le_of_ble_eq_true rfl, Nat.le_of_ble_eq_true rfl⟩ rfl hl.1 rfl (wcat4 (Nat.le_of_ble_eq_true rfl)) dX4_pond_30 ⟨Nat.le_of_ble_eq_true rfl, Nat.le_of_ble_eq_true rfl⟩ (fun v_ w15 H locs hv hS => ?_)
        obtain ⟨v14, rfl, h⟩ := hv
        exact r_iret C hS h rfl rfl (Nat.le_of_ble_eq_true rfl) (Nat.le_of_ble_eq_true rfl) dX4_pond_33
  · refine lv_aload_n hx hb dX4_pond_8 rfl (lv_at hl 0 rfl) ?_
    refine lv_bipush (v := -2) hx hb dX4_pond_9 (by decide) ?_
    obtain ⟨hob, h⟩ := h
    refine r_V C hS (ct_X4_refuse l Z w2 a0 (-2) _ h) 1 24 hob ⟨by decide, by decide +kernel⟩ (lw_V q1442 q1444 qs28 q71 q1445) ⟨rfl, by decide, by decide, by decide +kernel⟩ ⟨Nat.le_of_ble_eq_true rfl, Nat.le_of_ble_eq_true rfl⟩ rfl hl.1 rfl (wcat4 (Nat.le_of_ble_eq_true rfl)) dX4_pond_11 ⟨Nat.le_of_ble_eq_true rfl, Nat.le_of_ble_eq_true rfl⟩ (fun v_ w17 H locs hv hS => ?_)
    obtain ⟨v16, rfl, h⟩ := hv
    exact r_iret C hS h rfl rfl (Nat.le_of_ble_eq_true rfl) (Nat.le_of_ble_eq_true rfl) dX4_pond_14
end VX4_pond
/-! LeftIsAgreedOnModel.hasPond(I)Z -/
section VX4_hasPond
variable {p : Program} {l : Launch} {e : Env} {s : State} {m : MethodId} {args : Array Value} {below : List Frame} {meth : Method} {c : Code} {Z : wZ} {A : Nat → Prop}
set_option maxHeartbeats 4000000 in
theorem ct_X4_hasPond (l : Launch) (Z : wZ) (w : Wd) (a0 : Nat) (a1 : Int32) (k : Int32 → Wd → Prop) (h : wp_X4_hasPond w a0 a1 k) : wMet l Z yX4_hasPond cX4_hasPond 2 (some .boolean) 1 20 0 0 [.ref a0, .int a1] w (pI k) := by
  refine wM_of (by decide +kernel) (Nat.le_of_ble_eq_true rfl) ?_
  intro p e s m below meth c ls C hS hl
  replace C : wC p l s m _ meth c cX4_hasPond 2 (some .boolean) RX4 "hasPond" Z _ := C
  have hl : lv_has ls 2 [(0, .ref a0), (1, .int a1)] := hl
  have hx := C.hx
  have hb := C.hb
  unfold wp_X4_hasPond at h
  generalize wA w = A at C hS ⊢
  refine lv_aload_n hx hb dX4_hasPond_0 rfl (lv_at hl 0 rfl) ?_
  refine r_getG C hS h gk_56 q1355 dX4_hasPond_1 (fun v1 h => ?_)
  refine lv_iload_n hx hb dX4_hasPond_4 rfl (lv_at hl 1 rfl) ?_
  refine r_S C hS (ct_X4_pondAt l Z w a1 _ h) 1 (lw_S q1466 q1467 q71 q1468) ⟨by decide, by decide, by decide +kernel⟩ ⟨Nat.le_of_ble_eq_true rfl, Nat.le_of_ble_eq_true rfl⟩ rfl hl.1 rfl (wcat4 (Nat.le_of_ble_eq_true rfl)) dX4_hasPond_5 ⟨Nat.le_of_ble_eq_true rfl, Nat.le_of_ble_eq_true rfl⟩ (fun v_ w3 H locs hv hS => ?_)
  obtain ⟨v2, rfl, h⟩ := hv
  refine r_iald C hS h dX4_hasPond_8 (fun v4 h => ?_)
  refine lv_iconst (v := 1) hx hb dX4_hasPond_9 (by decide) ?_
  refine r_icmp_ne (tgt := 17) hx hb h dX4_hasPond_10 (by decide) (fun h => ?_) (fun h => ?_)
  · refine lv_iconst (v := 0) hx hb dX4_hasPond_17 (by decide) ?_
    exact r_iret C hS h rfl (by decide +kernel) (Nat.le_of_ble_eq_true rfl) (Nat.le_of_ble_eq_true rfl) dX4_hasPond_18
  · refine lv_iconst (v := 1) hx hb dX4_hasPond_13 (by decide) ?_
    refine lv_goto (tgt := 18) hx hb dX4_hasPond_14 (by decide) ?_
    exact r_iret C hS h rfl (by decide +kernel) (Nat.le_of_ble_eq_true rfl) (Nat.le_of_ble_eq_true rfl) dX4_hasPond_18
end VX4_hasPond
/-! LeftIsAgreedOnModel.add(IIII)I -/
section VX4_add
variable {p : Program} {l : Launch} {e : Env} {s : State} {m : MethodId} {args : Array Value} {below : List Frame} {meth : Method} {c : Code} {Z : wZ} {A : Nat → Prop}
set_option maxHeartbeats 4000000 in
theorem ct_X4_add (l : Launch) (Z : wZ) (w : Wd) (a0 : Nat) (a1 : Int32) (a2 : Int32) (a3 : Int32) (a4 : Int32) (k : Int32 → Wd → Prop) (h : wp_X4_add w a0 a1 a2 a3 a4 k) : wMet l Z yX4_add cX4_add 6 (some .int) 0 0 0 0 [.ref a0, .int a1, .int a2, .int a3, .int a4] w (pI k) := by
  refine wM_of (by decide +kernel) (Nat.le_of_ble_eq_true rfl) ?_
  intro p e s m below meth c ls C hS hl
  replace C : wC p l s m _ meth c cX4_add 6 (some .int) RX4 "add" Z _ := C
  have hl : lv_has ls 6 [(0, .ref a0), (1, .int a1), (2, .int a2), (3, .int a3), (4, .int a4)] := hl
  have hx := C.hx
  have hb := C.hb
  unfold wp_X4_add at h
  generalize wA w = A at C hS ⊢
  refine lv_aload_n hx hb dX4_add_0 rfl (lv_at hl 0 rfl) ?_
  refine r_getG C hS h gk_56 q1355 dX4_add_1 (fun v1 h => ?_)
  refine lv_bipush (v := 89) hx hb dX4_add_4 (by decide) ?_
  refine r_iald C hS h dX4_add_6 (fun v2 h => ?_)
  refine lv_istore (i := 5) (lv' := [(5, .int v2), (0, .ref a0), (1, .int a1), (2, .int a2), (3, .int a3), (4, .int a4)]) hx hb dX4_add_7 hl (by decide) rfl (fun ls hl => ?_)
  refine lv_aload_n hx hb dX4_add_9 rfl (lv_at hl 1 rfl) ?_
  refine r_getG C hS h gk_56 q1355 dX4_add_10 (fun v3 h => ?_)
  refine lv_iconst (v := 5) hx hb dX4_add_13 (by decide) ?_
  refine lv_iload hx hb dX4_add_14 (lv_at hl 0 rfl) ?_
  refine lv_imul hx hb dX4_add_16 ?_
  refine lv_iload_n hx hb dX4_add_17 rfl (lv_at hl 2 rfl) ?_
  refine r_iast C hS h dX4_add_18 (fun w4 H locs h hS => ?_)
  refine lv_aload_n hx hb dX4_add_19 rfl (lv_at hl 1 rfl) ?_
  refine r_getG C hS h gk_56 q1355 dX4_add_20 (fun v5 h => ?_)
  refine lv_iconst (v := 5) hx hb dX4_add_23 (by decide) ?_
  refine lv_iload hx hb dX4_add_24 (lv_at hl 0 rfl) ?_
  refine lv_imul hx hb dX4_add_26 ?_
  refine lv_iconst (v := 1) hx hb dX4_add_27 (by decide) ?_
  refine lv_iadd hx hb dX4_add_28 ?_
  refine lv_iload_n hx hb dX4_add_29 rfl (lv_at hl 3 rfl) ?_
  refine r_iast C hS h dX4_add_30 (fun w6 H locs h hS => ?_)
  refine lv_aload_n hx hb dX4_add_31 rfl (lv_at hl 1 rfl) ?_
  refine r_getG C hS h gk_56 q1355 dX4_add_32 (fun v7 h => ?_)
  refine lv_iconst (v := 5) hx hb dX4_add_35 (by decide) ?_
  refine lv_iload hx hb dX4_add_36 (lv_at hl 0 rfl) ?_
  refine lv_imul hx hb dX4_add_38 ?_
  refine lv_iconst (v := 2) hx hb dX4_add_39 (by decide) ?_
  refine lv_iadd hx hb dX4_add_40 ?_
  refine lv_iload_n hx hb dX4_add_41 rfl (lv_at hl 4 rfl) ?_
  refine r_iast C hS h dX4_add_42 (fun w8 H locs h hS => ?_)
  refine lv_aload_n hx hb dX4_add_43 rfl (lv_at hl 1 rfl) ?_
  refine r_getG C hS h gk_56 q1355 dX4_add_44 (fun v9 h => ?_)
  refine lv_iconst (v := 5) hx hb dX4_add_47 (by decide) ?_
  refine lv_iload hx hb dX4_add_48 (lv_at hl 0 rfl) ?_
  refine lv_imul hx hb dX4_add_50 ?_
  refine lv_iconst (v := 3) hx hb dX4_add_51 (by decide) ?_
  refine lv_iadd hx hb dX4_add_52 ?_
  refine lv_iload hx hb dX4_add_53 (lv_at hl 5 rfl) ?_
  refine r_iast C hS h dX4_add_55 (fun w10 H locs h hS => ?_)
  refine lv_aload_n hx hb dX4_add_56 rfl (lv_at hl 1 rfl) ?_
  refine r_getG C hS h gk_56 q1355 dX4_add_57 (fun v11 h => ?_)
  refine lv_iconst (v := 5) hx hb dX4_add_60 (by decide) ?_
  refine lv_iload hx hb dX4_add_61 (lv_at hl 0 rfl) ?_
  refine lv_imul hx hb dX4_add_63 ?_
  refine lv_iconst (v := 4) hx hb dX4_add_64 (by decide) ?_
  refine lv_iadd hx hb dX4_add_65 ?_
  refine lv_iconst (v := 0) hx hb dX4_add_66 (by decide) ?_
  refine r_iast C hS h dX4_add_67 (fun w12 H locs h hS => ?_)
  refine lv_aload_n hx hb dX4_add_68 rfl (lv_at hl 1 rfl) ?_
  refine r_getG C hS h gk_56 q1355 dX4_add_69 (fun v13 h => ?_)
  refine lv_bipush (v := 89) hx hb dX4_add_72 (by decide) ?_
  refine lv_dup2_11 hx hb dX4_add_74 rfl (va_rf_cat _) ?_
  refine r_iald C hS h dX4_add_75 (fun v14 h => ?_)
  refine lv_iconst (v := 1) hx hb dX4_add_76 (by decide) ?_
  refine lv_iadd hx hb dX4_add_77 ?_
  refine r_iast C hS h dX4_add_78 (fun w15 H locs h hS => ?_)
  refine lv_iload hx hb dX4_add_79 (lv_at hl 0 rfl) ?_
  exact r_iret C hS h rfl rfl (Nat.le_of_ble_eq_true rfl) (Nat.le_of_ble_eq_true rfl) dX4_add_81
end VX4_add
/-! LeftIsAgreedOnModel.person(IIII)I -/
section VX4_person
variable {p : Program} {l : Launch} {e : Env} {s : State} {m : MethodId} {args : Array Value} {below : List Frame} {meth : Method} {c : Code} {Z : wZ} {A : Nat → Prop}
set_option maxHeartbeats 4000000 in
theorem ct_X4_person (l : Launch) (Z : wZ) (w : Wd) (a0 : Nat) (a1 : Int32) (a2 : Int32) (a3 : Int32) (a4 : Int32) (k : Int32 → Wd → Prop) (h : wp_X4_person w a0 a1 a2 a3 a4 k) : wMet l Z yX4_person cX4_person 5 (some .int) 2 41 0 0 [.ref a0, .int a1, .int a2, .int a3, .int a4] w (pI k) := by
  refine wM_of (by decide +kernel) (Nat.le_of_ble_eq_true rfl) ?_
  intro p e s m below meth c ls C hS hl
  replace C : wC p l s m _ meth c cX4_person 5 (some .int) RX4 "person" Z _ := C
  have hl : lv_has ls 5 [(0, .ref a0), (1, .int a1), (2, .int a2), (3, .int a3), (4, .int a4)] := hl
  have hx := C.hx
  have hb := C.hb
  unfold wp_X4_person at h
  generalize wA w = A at C hS ⊢
  refine lv_iload_n hx hb dX4_person_0 rfl (lv_at hl 1 rfl) ?_
  refine lv_i2l hx hb dX4_person_1 rfl ?_
  refine lv_lconst (v := 0) hx hb dX4_person_2 (by decide) ?_
  refine lv_ldc2 (v := 5) hx hb C.ow (C.hts _ q1473) dX4_person_3 ?_
  refine r_S C hS (ct_X4_isIn l Z w (a1.toInt64) 0 5 _ h) 3 (lw_S q1439 q1440 q71 q1441) ⟨by decide, by decide, by decide +kernel⟩ ⟨Nat.le_of_ble_eq_true rfl, Nat.le_of_ble_eq_true rfl⟩ rfl hl.1 rfl (wcat4 (Nat.le_of_ble_eq_true rfl)) dX4_person_6 ⟨Nat.le_of_ble_eq_true rfl, Nat.le_of_ble_eq_true rfl⟩ (fun v_ w2 H locs hv hS => ?_)
  obtain ⟨v1, rfl, h⟩ := hv
  refine r_if_eq (tgt := 45) hx hb h dX4_person_9 (by decide) (fun h => ?_) (fun h => ?_)
  · refine lv_aload_n hx hb dX4_person_45 rfl (lv_at hl 0 rfl) ?_
    refine lv_bipush (v := -2) hx hb dX4_person_46 (by decide) ?_
    obtain ⟨hob, h⟩ := h
    refine r_V C hS (ct_X4_refuse l Z w2 a0 (-2) _ h) 1 24 hob ⟨by decide, by decide +kernel⟩ (lw_V q1442 q1444 qs28 q71 q1445) ⟨rfl, by decide, by decide, by decide +kernel⟩ ⟨Nat.le_of_ble_eq_true rfl, Nat.le_of_ble_eq_true rfl⟩ rfl hl.1 rfl (wcat4 (Nat.le_of_ble_eq_true rfl)) dX4_person_48 ⟨Nat.le_of_ble_eq_true rfl, Nat.le_of_ble_eq_true rfl⟩ (fun v_ w4 H locs hv hS => ?_)
    obtain ⟨v3, rfl, h⟩ := hv
    exact r_iret C hS h rfl rfl (Nat.le_of_ble_eq_true rfl) (Nat.le_of_ble_eq_true rfl) dX4_person_51
  · refine lv_iload_n hx hb dX4_person_12 rfl (lv_at hl 2 rfl) ?_
    refine lv_i2l hx hb dX4_person_13 rfl ?_
    refine lv_lconst (v := 0) hx hb dX4_person_14 (by decide) ?_
    refine lv_ldc2 (v := 9) hx hb C.ow (C.hts _ q1474) dX4_person_15 ?_
    refine r_S C hS (ct_X4_isIn l Z w2 (a2.toInt64) 0 9 _ h) 3 (lw_S q1439 q1440 q71 q1441) ⟨by decide, by decide, by decide +kernel⟩ ⟨Nat.le_of_ble_eq_true rfl, Nat.le_of_ble_eq_true rfl⟩ rfl hl.1 rfl (wcat4 (Nat.le_of_ble_eq_true rfl)) dX4_person_18 ⟨Nat.le_of_ble_eq_true rfl, Nat.le_of_ble_eq_true rfl⟩ (fun v_ w6 H locs hv hS => ?_)
    obtain ⟨v5, rfl, h⟩ := hv
    refine r_if_eq (tgt := 45) hx hb h dX4_person_21 (by decide) (fun h => ?_) (fun h => ?_)
    · refine lv_aload_n hx hb dX4_person_45 rfl (lv_at hl 0 rfl) ?_
      refine lv_bipush (v := -2) hx hb dX4_person_46 (by decide) ?_
      obtain ⟨hob, h⟩ := h
      refine r_V C hS (ct_X4_refuse l Z w6 a0 (-2) _ h) 1 24 hob ⟨by decide, by decide +kernel⟩ (lw_V q1442 q1444 qs28 q71 q1445) ⟨rfl, by decide, by decide, by decide +kernel⟩ ⟨Nat.le_of_ble_eq_true rfl, Nat.le_of_ble_eq_true rfl⟩ rfl hl.1 rfl (wcat4 (Nat.le_of_ble_eq_true rfl)) dX4_person_48 ⟨Nat.le_of_ble_eq_true rfl, Nat.le_of_ble_eq_true rfl⟩ (fun v_ w8 H locs hv hS => ?_)
      obtain ⟨v7, rfl, h⟩ := hv
      exact r_iret C hS h rfl rfl (Nat.le_of_ble_eq_true rfl) (Nat.le_of_ble_eq_true rfl) dX4_person_51
    · refine lv_aload_n hx hb dX4_person_24 rfl (lv_at hl 0 rfl) ?_
      refine lv_iload_n hx hb dX4_person_25 rfl (lv_at hl 3 rfl) ?_
      obtain ⟨hob, h⟩ := h
      refine r_V C hS (ct_X4_isCell l Z w6 a0 a3 _ h) 1 24 hob ⟨by decide, by decide +kernel⟩ (lw_V q1450 q1452 qs29 q71 q1453) ⟨rfl, by decide, by decide, by decide +kernel⟩ ⟨Nat.le_of_ble_eq_true rfl, Nat.le_of_ble_eq_true rfl⟩ rfl hl.1 rfl (wcat4 (Nat.le_of_ble_eq_true rfl)) dX4_person_26 ⟨Nat.le_of_ble_eq_true rfl, Nat.le_of_ble_eq_true rfl⟩ (fun v_ w10 H locs hv hS => ?_)
      obtain ⟨v9, rfl, h⟩ := hv
      refine r_if_eq (tgt := 45) hx hb h dX4_person_29 (by decide) (fun h => ?_) (fun h => ?_)
      · refine lv_aload_n hx hb dX4_person_45 rfl (lv_at hl 0 rfl) ?_
        refine lv_bipush (v := -2) hx hb dX4_person_46 (by decide) ?_
        obtain ⟨hob, h⟩ := h
        refine r_V C hS (ct_X4_refuse l Z w10 a0 (-2) _ h) 1 24 hob ⟨by decide, by decide +kernel⟩ (lw_V q1442 q1444 qs28 q71 q1445) ⟨rfl, by decide, by decide, by decide +kernel⟩ ⟨Nat.le_of_ble_eq_true rfl, Nat.le_of_ble_eq_true rfl⟩ rfl hl.1 rfl (wcat4 (Nat.le_of_ble_eq_true rfl)) dX4_person_48 ⟨Nat.le_of_ble_eq_true rfl, Nat.le_of_ble_eq_true rfl⟩ (fun v_ w12 H locs hv hS => ?_)
        obtain ⟨v11, rfl, h⟩ := hv
        exact r_iret C hS h rfl rfl (Nat.le_of_ble_eq_true rfl) (Nat.le_of_ble_eq_true rfl) dX4_person_51
      · refine lv_iload hx hb dX4_person_32 (lv_at hl 4 rfl) ?_
        refine lv_i2l hx hb dX4_person_34 rfl ?_
        refine lv_lconst (v := 0) hx hb dX4_person_35 (by decide) ?_
        refine lv_ldc2 (v := 3) hx hb C.ow (C.hts _ q1475) dX4_person_36 ?_
        refine r_S C hS (ct_X4_isIn l Z w10 (a4.toInt64) 0 3 _ h) 3 (lw_S q1439 q1440 q71 q1441) ⟨by decide, by decide, by decide +kernel⟩ ⟨Nat.le_of_ble_eq_true rfl, Nat.le_of_ble_eq_true rfl⟩ rfl hl.1 rfl (wcat4 (Nat.le_of_ble_eq_true rfl)) dX4_person_39 ⟨Nat.le_of_ble_eq_true rfl, Nat.le_of_ble_eq_true rfl⟩ (fun v_ w14 H locs hv hS => ?_)
        obtain ⟨v13, rfl, h⟩ := hv
        refine r_if_ne (tgt := 52) hx hb h dX4_person_42 (by decide) (fun h => ?_) (fun h => ?_)
        · refine lv_aload_n hx hb dX4_person_52 rfl (lv_at hl 0 rfl) ?_
          refine lv_iload_n hx hb dX4_person_53 rfl (lv_at hl 3 rfl) ?_
          obtain ⟨hob, h⟩ := h
          refine r_V C hS (ct_X4_hasPond l Z w14 a0 a3 _ h) 1 24 hob ⟨by decide, by decide +kernel⟩ (lw_V q1476 q1478 qs33 q71 q1479) ⟨rfl, by decide, by decide, by decide +kernel⟩ ⟨Nat.le_of_ble_eq_true rfl, Nat.le_of_ble_eq_true rfl⟩ rfl hl.1 rfl (wcat4 (Nat.le_of_ble_eq_true rfl)) dX4_person_54 ⟨Nat.le_of_ble_eq_true rfl, Nat.le_of_ble_eq_true rfl⟩ (fun v_ w16 H locs hv hS => ?_)
          obtain ⟨v15, rfl, h⟩ := hv
          refine r_if_eq (tgt := 67) hx hb h dX4_person_57 (by decide) (fun h => ?_) (fun h => ?_)
          · refine lv_aload_n hx hb dX4_person_67 rfl (lv_at hl 0 rfl) ?_
            obtain ⟨hob, h⟩ := h
            refine r_V C hS (ct_X4_many l Z w16 a0 _ h) 0 24 hob ⟨by decide, by decide +kernel⟩ (lw_V q1458 q1460 qs31 q71 q1461) ⟨rfl, by decide, by decide, by decide +kernel⟩ ⟨Nat.le_of_ble_eq_true rfl, Nat.le_of_ble_eq_true rfl⟩ rfl hl.1 rfl (wcat4 (Nat.le_of_ble_eq_true rfl)) dX4_person_68 ⟨Nat.le_of_ble_eq_true rfl, Nat.le_of_ble_eq_true rfl⟩ (fun v_ w18 H locs hv hS => ?_)
            obtain ⟨v17, rfl, h⟩ := hv
            refine lv_bipush (v := 8) hx hb dX4_person_71 (by decide) ?_
            refine r_icmp_ne (tgt := 85) hx hb h dX4_person_73 (by decide) (fun h => ?_) (fun h => ?_)
            · refine lv_aload_n hx hb dX4_person_85 rfl (lv_at hl 0 rfl) ?_
              refine lv_iload_n hx hb dX4_person_86 rfl (lv_at hl 1 rfl) ?_
              refine lv_iload_n hx hb dX4_person_87 rfl (lv_at hl 2 rfl) ?_
              refine lv_iload_n hx hb dX4_person_88 rfl (lv_at hl 3 rfl) ?_
              refine lv_iload hx hb dX4_person_89 (lv_at hl 4 rfl) ?_
              obtain ⟨hob, h⟩ := h
              refine r_V C hS (ct_X4_add l Z w18 a0 a1 a2 a3 a4 _ h) 4 24 hob ⟨by decide, by decide +kernel⟩ (lw_V q1480 q1482 qs34 q71 q1483) ⟨rfl, by decide, by decide, by decide +kernel⟩ ⟨Nat.le_of_ble_eq_true rfl, Nat.le_of_ble_eq_true rfl⟩ rfl hl.1 rfl (wcat4 (Nat.le_of_ble_eq_true rfl)) dX4_person_91 ⟨Nat.le_of_ble_eq_true rfl, Nat.le_of_ble_eq_true rfl⟩ (fun v_ w20 H locs hv hS => ?_)
              obtain ⟨v19, rfl, h⟩ := hv
              exact r_iret C hS h rfl rfl (Nat.le_of_ble_eq_true rfl) (Nat.le_of_ble_eq_true rfl) dX4_person_94
            · refine lv_aload_n hx hb dX4_person_76 rfl (lv_at hl 0 rfl) ?_
              refine lv_bipush (v := -6) hx hb dX4_person_77 (by decide) ?_
              obtain ⟨hob, h⟩ := h
              refine r_V C hS (ct_X4_refuse l Z w18 a0 (-6) _ h) 1 24 hob ⟨by decide, by decide +kernel⟩ (lw_V q1442 q1444 qs28 q71 q1445) ⟨rfl, by decide, by decide, by decide +kernel⟩ ⟨Nat.le_of_ble_eq_true rfl, Nat.le_of_ble_eq_true rfl⟩ rfl hl.1 rfl (wcat4 (Nat.le_of_ble_eq_true rfl)) dX4_person_79 ⟨Nat.le_of_ble_eq_true rfl, Nat.le_of_ble_eq_true rfl⟩ (fun v_ w22 H locs hv hS => ?_)
              obtain ⟨v21, rfl, h⟩ := hv
              refine lv_goto (tgt := 94) hx hb dX4_person_82 (by decide) ?_
              exact r_iret C hS h rfl rfl (Nat.le_of_ble_eq_true rfl) (Nat.le_of_ble_eq_true rfl) dX4_person_94
          · refine lv_aload_n hx hb dX4_person_60 rfl (lv_at hl 0 rfl) ?_
            refine lv_bipush (v := -5) hx hb dX4_person_61 (by decide) ?_
            obtain ⟨hob, h⟩ := h
            refine r_V C hS (ct_X4_refuse l Z w16 a0 (-5) _ h) 1 24 hob ⟨by decide, by decide +kernel⟩ (lw_V q1442 q1444 qs28 q71 q1445) ⟨rfl, by decide, by decide, by decide +kernel⟩ ⟨Nat.le_of_ble_eq_true rfl, Nat.le_of_ble_eq_true rfl⟩ rfl hl.1 rfl (wcat4 (Nat.le_of_ble_eq_true rfl)) dX4_person_63 ⟨Nat.le_of_ble_eq_true rfl, Nat.le_of_ble_eq_true rfl⟩ (fun v_ w24 H locs hv hS => ?_)
            obtain ⟨v23, rfl, h⟩ := hv
            exact r_iret C hS h rfl rfl (Nat.le_of_ble_eq_true rfl) (Nat.le_of_ble_eq_true rfl) dX4_person_66
        · refine lv_aload_n hx hb dX4_person_45 rfl (lv_at hl 0 rfl) ?_
          refine lv_bipush (v := -2) hx hb dX4_person_46 (by decide) ?_
          obtain ⟨hob, h⟩ := h
          refine r_V C hS (ct_X4_refuse l Z w14 a0 (-2) _ h) 1 24 hob ⟨by decide, by decide +kernel⟩ (lw_V q1442 q1444 qs28 q71 q1445) ⟨rfl, by decide, by decide, by decide +kernel⟩ ⟨Nat.le_of_ble_eq_true rfl, Nat.le_of_ble_eq_true rfl⟩ rfl hl.1 rfl (wcat4 (Nat.le_of_ble_eq_true rfl)) dX4_person_48 ⟨Nat.le_of_ble_eq_true rfl, Nat.le_of_ble_eq_true rfl⟩ (fun v_ w26 H locs hv hS => ?_)
          obtain ⟨v25, rfl, h⟩ := hv
          exact r_iret C hS h rfl rfl (Nat.le_of_ble_eq_true rfl) (Nat.le_of_ble_eq_true rfl) dX4_person_51
end VX4_person
/-! LeftIsAgreedOnModel.tell(II)I -/
section VX4_tell
variable {p : Program} {l : Launch} {e : Env} {s : State} {m : MethodId} {args : Array Value} {below : List Frame} {meth : Method} {c : Code} {Z : wZ} {A : Nat → Prop}
set_option maxHeartbeats 4000000 in
theorem kb_X4_tell_27 (C : wC p l s m args meth c cX4_tell 4 (some .int) RX4 "tell" Z A) (k : Int32 → Wd → Prop) : ∀ (w : Wd) (a0 : Nat) (l1 : Int32) (l2 : Int32) (s0 : Int64) (s1 : Int64) (s2 : Int64) (H : Heap) (locs : List Loc) (ls : Array Slot), wb_X4_tell_27 k w a0 l1 l2 s0 s1 s2 → wS Z A s w H locs → lv_has ls 4 [(0, .ref a0), (1, .int l1), (2, .int l2)] → W p l e ({ frames := 1, cells := 0, slots := 0, locals := 25 } : Room) s m args below meth c H locs 0 0 (MQ below (wQc Z A (pI k)) args s 0 0 A) (F0 m 27 ls [.long s2, .long s1, .long s0]) := by
  intro w a0 l1 l2 s0 s1 s2 H locs ls h hS hl
  have hx := C.hx
  have hb := C.hb
  unfold wb_X4_tell_27 at h
  refine r_S C hS (ct_X4_isIn l Z w s0 s1 s2 _ h) 3 (lw_S q1439 q1440 q71 q1441) ⟨by decide, by decide, by decide +kernel⟩ ⟨Nat.le_of_ble_eq_true rfl, Nat.le_of_ble_eq_true rfl⟩ rfl hl.1 rfl (wcat4 (Nat.le_of_ble_eq_true rfl)) dX4_tell_27 ⟨Nat.le_of_ble_eq_true rfl, Nat.le_of_ble_eq_true rfl⟩ (fun v_ w6 H locs hv hS => ?_)
  obtain ⟨v5, rfl, h⟩ := hv
  refine r_if_ne (tgt := 40) hx hb h dX4_tell_30 (by decide) (fun h => ?_) (fun h => ?_)
  · refine lv_aload_n hx hb dX4_tell_40 rfl (lv_at hl 0 rfl) ?_
    refine r_getG C hS h gk_56 q1355 dX4_tell_41 (fun v7 h => ?_)
    refine lv_bipush (v := 91) hx hb dX4_tell_44 (by decide) ?_
    refine lv_iload_n hx hb dX4_tell_46 rfl (lv_at hl 1 rfl) ?_
    refine lv_iadd hx hb dX4_tell_47 ?_
    refine r_iald C hS h dX4_tell_48 (fun v8 h => ?_)
    refine lv_istore_n (i := 3) (lv' := [(3, .int v8), (0, .ref a0), (1, .int l1), (2, .int l2)]) hx hb dX4_tell_49 rfl hl (by decide) rfl (fun ls hl => ?_)
    refine lv_aload_n hx hb dX4_tell_50 rfl (lv_at hl 1 rfl) ?_
    refine r_getG C hS h gk_56 q1355 dX4_tell_51 (fun v9 h => ?_)
    refine lv_bipush (v := 91) hx hb dX4_tell_54 (by decide) ?_
    refine lv_iload_n hx hb dX4_tell_56 rfl (lv_at hl 2 rfl) ?_
    refine lv_iadd hx hb dX4_tell_57 ?_
    refine lv_iload_n hx hb dX4_tell_58 rfl (lv_at hl 3 rfl) ?_
    refine r_iast C hS h dX4_tell_59 (fun w10 H locs h hS => ?_)
    refine lv_iload_n hx hb dX4_tell_60 rfl (lv_at hl 0 rfl) ?_
    exact r_iret C hS h rfl rfl (Nat.le_of_ble_eq_true rfl) (Nat.le_of_ble_eq_true rfl) dX4_tell_61
  · refine lv_aload_n hx hb dX4_tell_33 rfl (lv_at hl 0 rfl) ?_
    refine lv_bipush (v := -2) hx hb dX4_tell_34 (by decide) ?_
    obtain ⟨hob, h⟩ := h
    refine r_V C hS (ct_X4_refuse l Z w6 a0 (-2) _ h) 1 24 hob ⟨by decide, by decide +kernel⟩ (lw_V q1442 q1444 qs28 q71 q1445) ⟨rfl, by decide, by decide, by decide +kernel⟩ ⟨Nat.le_of_ble_eq_true rfl, Nat.le_of_ble_eq_true rfl⟩ rfl hl.1 rfl (wcat4 (Nat.le_of_ble_eq_true rfl)) dX4_tell_36 ⟨Nat.le_of_ble_eq_true rfl, Nat.le_of_ble_eq_true rfl⟩ (fun v_ w12 H locs hv hS => ?_)
    obtain ⟨v11, rfl, h⟩ := hv
    exact r_iret C hS h rfl rfl (Nat.le_of_ble_eq_true rfl) (Nat.le_of_ble_eq_true rfl) dX4_tell_39
set_option maxHeartbeats 4000000 in
theorem ct_X4_tell (l : Launch) (Z : wZ) (w : Wd) (a0 : Nat) (a1 : Int32) (a2 : Int32) (k : Int32 → Wd → Prop) (h : wp_X4_tell w a0 a1 a2 k) : wMet l Z yX4_tell cX4_tell 4 (some .int) 1 25 0 0 [.ref a0, .int a1, .int a2] w (pI k) := by
  refine wM_of (by decide +kernel) (Nat.le_of_ble_eq_true rfl) ?_
  intro p e s m below meth c ls C hS hl
  replace C : wC p l s m _ meth c cX4_tell 4 (some .int) RX4 "tell" Z _ := C
  have hl : lv_has ls 4 [(0, .ref a0), (1, .int a1), (2, .int a2)] := hl
  have hx := C.hx
  have hb := C.hb
  unfold wp_X4_tell at h
  generalize wA w = A at C hS ⊢
  refine lv_iload_n hx hb dX4_tell_0 rfl (lv_at hl 1 rfl) ?_
  refine lv_i2l hx hb dX4_tell_1 rfl ?_
  refine lv_lconst (v := 0) hx hb dX4_tell_2 (by decide) ?_
  refine lv_ldc2 (v := 2) hx hb C.ow (C.hts _ q1488) dX4_tell_3 ?_
  refine r_S C hS (ct_X4_isIn l Z w (a1.toInt64) 0 2 _ h) 3 (lw_S q1439 q1440 q71 q1441) ⟨by decide, by decide, by decide +kernel⟩ ⟨Nat.le_of_ble_eq_true rfl, Nat.le_of_ble_eq_true rfl⟩ rfl hl.1 rfl (wcat4 (Nat.le_of_ble_eq_true rfl)) dX4_tell_6 ⟨Nat.le_of_ble_eq_true rfl, Nat.le_of_ble_eq_true rfl⟩ (fun v_ w2 H locs hv hS => ?_)
  obtain ⟨v1, rfl, h⟩ := hv
  refine r_if_eq (tgt := 33) hx hb h dX4_tell_9 (by decide) (fun h => ?_) (fun h => ?_)
  · refine lv_aload_n hx hb dX4_tell_33 rfl (lv_at hl 0 rfl) ?_
    refine lv_bipush (v := -2) hx hb dX4_tell_34 (by decide) ?_
    obtain ⟨hob, h⟩ := h
    refine r_V C hS (ct_X4_refuse l Z w2 a0 (-2) _ h) 1 24 hob ⟨by decide, by decide +kernel⟩ (lw_V q1442 q1444 qs28 q71 q1445) ⟨rfl, by decide, by decide, by decide +kernel⟩ ⟨Nat.le_of_ble_eq_true rfl, Nat.le_of_ble_eq_true rfl⟩ rfl hl.1 rfl (wcat4 (Nat.le_of_ble_eq_true rfl)) dX4_tell_36 ⟨Nat.le_of_ble_eq_true rfl, Nat.le_of_ble_eq_true rfl⟩ (fun v_ w4 H locs hv hS => ?_)
    obtain ⟨v3, rfl, h⟩ := hv
    exact r_iret C hS h rfl rfl (Nat.le_of_ble_eq_true rfl) (Nat.le_of_ble_eq_true rfl) dX4_tell_39
  · refine lv_iload_n hx hb dX4_tell_12 rfl (lv_at hl 2 rfl) ?_
    refine lv_i2l hx hb dX4_tell_13 rfl ?_
    refine lv_lconst (v := 0) hx hb dX4_tell_14 (by decide) ?_
    refine lv_iload_n hx hb dX4_tell_15 rfl (lv_at hl 1 rfl) ?_
    refine lv_iconst (v := 2) hx hb dX4_tell_16 (by decide) ?_
    refine r_icmp_ne (tgt := 26) hx hb h dX4_tell_17 (by decide) (fun h => ?_) (fun h => ?_)
    · refine lv_lconst (v := 1) hx hb dX4_tell_26 (by decide) ?_
      exact kb_X4_tell_27 C k w2 a0 a1 a2 (a2.toInt64) 0 1 _ _ _ h hS (lv_sub hl [0, 1, 2] rfl)
    · refine lv_ldc2 (v := 12) hx hb C.ow (C.hts _ q1489) dX4_tell_20 ?_
      refine lv_goto (tgt := 27) hx hb dX4_tell_23 (by decide) ?_
      exact kb_X4_tell_27 C k w2 a0 a1 a2 (a2.toInt64) 0 12 _ _ _ h hS (lv_sub hl [0, 1, 2] rfl)
end VX4_tell
/-! LeftIsAgreedOnModel.isPerson(I)Z -/
section VX4_isPerson
variable {p : Program} {l : Launch} {e : Env} {s : State} {m : MethodId} {args : Array Value} {below : List Frame} {meth : Method} {c : Code} {Z : wZ} {A : Nat → Prop}
set_option maxHeartbeats 4000000 in
theorem ct_X4_isPerson (l : Launch) (Z : wZ) (w : Wd) (a0 : Nat) (a1 : Int32) (k : Int32 → Wd → Prop) (h : wp_X4_isPerson w a0 a1 k) : wMet l Z yX4_isPerson cX4_isPerson 2 (some .boolean) 1 25 0 0 [.ref a0, .int a1] w (pI k) := by
  refine wM_of (by decide +kernel) (Nat.le_of_ble_eq_true rfl) ?_
  intro p e s m below meth c ls C hS hl
  replace C : wC p l s m _ meth c cX4_isPerson 2 (some .boolean) RX4 "isPerson" Z _ := C
  have hl : lv_has ls 2 [(0, .ref a0), (1, .int a1)] := hl
  have hx := C.hx
  have hb := C.hb
  unfold wp_X4_isPerson at h
  generalize wA w = A at C hS ⊢
  refine lv_iload_n hx hb dX4_isPerson_0 rfl (lv_at hl 1 rfl) ?_
  refine lv_i2l hx hb dX4_isPerson_1 rfl ?_
  refine lv_lconst (v := 0) hx hb dX4_isPerson_2 (by decide) ?_
  refine lv_aload_n hx hb dX4_isPerson_3 rfl (lv_at hl 0 rfl) ?_
  refine r_getG C hS h gk_56 q1355 dX4_isPerson_4 (fun v1 h => ?_)
  refine lv_bipush (v := 89) hx hb dX4_isPerson_7 (by decide) ?_
  refine r_iald C hS h dX4_isPerson_9 (fun v2 h => ?_)
  refine lv_iconst (v := 1) hx hb dX4_isPerson_10 (by decide) ?_
  refine lv_isub hx hb dX4_isPerson_11 ?_
  refine lv_i2l hx hb dX4_isPerson_12 rfl ?_
  refine r_S C hS (ct_X4_isIn l Z w (a1.toInt64) 0 ((v2 - 1).toInt64) _ h) 3 (lw_S q1439 q1440 q71 q1441) ⟨by decide, by decide, by decide +kernel⟩ ⟨Nat.le_of_ble_eq_true rfl, Nat.le_of_ble_eq_true rfl⟩ rfl hl.1 rfl (wcat4 (Nat.le_of_ble_eq_true rfl)) dX4_isPerson_13 ⟨Nat.le_of_ble_eq_true rfl, Nat.le_of_ble_eq_true rfl⟩ (fun v_ w4 H locs hv hS => ?_)
  obtain ⟨v3, rfl, h⟩ := hv
  obtain ⟨hn, h⟩ := h
  exact r_iret C hS h rfl hn (Nat.le_of_ble_eq_true rfl) (Nat.le_of_ble_eq_true rfl) dX4_isPerson_16
end VX4_isPerson
/-! LeftIsAgreedOnModel.isFor(I)I -/
section VX4_isFor_2
variable {p : Program} {l : Launch} {e : Env} {s : State} {m : MethodId} {args : Array Value} {below : List Frame} {meth : Method} {c : Code} {Z : wZ} {A : Nat → Prop}
set_option maxHeartbeats 4000000 in
theorem ct_X4_isFor_2 (l : Launch) (Z : wZ) (w : Wd) (a0 : Nat) (a1 : Int32) (k : Int32 → Wd → Prop) (h : wp_X4_isFor_2 w a0 a1 k) : wMet l Z yX4_isFor_2 cX4_isFor_2 2 (some .int) 0 0 0 0 [.ref a0, .int a1] w (pI k) := by
  refine wM_of (by decide +kernel) (Nat.le_of_ble_eq_true rfl) ?_
  intro p e s m below meth c ls C hS hl
  replace C : wC p l s m _ meth c cX4_isFor_2 2 (some .int) RX4 "isFor" Z _ := C
  have hl : lv_has ls 2 [(0, .ref a0), (1, .int a1)] := hl
  have hx := C.hx
  have hb := C.hb
  unfold wp_X4_isFor_2 at h
  generalize wA w = A at C hS ⊢
  refine lv_aload_n hx hb dX4_isFor_2_0 rfl (lv_at hl 0 rfl) ?_
  refine r_getG C hS h gk_56 q1355 dX4_isFor_2_1 (fun v1 h => ?_)
  refine lv_iconst (v := 5) hx hb dX4_isFor_2_4 (by decide) ?_
  refine lv_iload_n hx hb dX4_isFor_2_5 rfl (lv_at hl 1 rfl) ?_
  refine lv_imul hx hb dX4_isFor_2_6 ?_
  refine lv_iconst (v := 4) hx hb dX4_isFor_2_7 (by decide) ?_
  refine lv_iadd hx hb dX4_isFor_2_8 ?_
  refine r_iald C hS h dX4_isFor_2_9 (fun v2 h => ?_)
  exact r_iret C hS h rfl rfl (Nat.le_of_ble_eq_true rfl) (Nat.le_of_ble_eq_true rfl) dX4_isFor_2_10
end VX4_isFor_2
/-! LeftIsAgreedOnModel.isFor(II)I -/
section VX4_isFor
variable {p : Program} {l : Launch} {e : Env} {s : State} {m : MethodId} {args : Array Value} {below : List Frame} {meth : Method} {c : Code} {Z : wZ} {A : Nat → Prop}
set_option maxHeartbeats 4000000 in
theorem ct_X4_isFor (l : Launch) (Z : wZ) (w : Wd) (a0 : Nat) (a1 : Int32) (a2 : Int32) (k : Int32 → Wd → Prop) (h : wp_X4_isFor w a0 a1 a2 k) : wMet l Z yX4_isFor cX4_isFor 4 (some .int) 2 46 0 0 [.ref a0, .int a1, .int a2] w (pI k) := by
  refine wM_of (by decide +kernel) (Nat.le_of_ble_eq_true rfl) ?_
  intro p e s m below meth c ls C hS hl
  replace C : wC p l s m _ meth c cX4_isFor 4 (some .int) RX4 "isFor" Z _ := C
  have hl : lv_has ls 4 [(0, .ref a0), (1, .int a1), (2, .int a2)] := hl
  have hx := C.hx
  have hb := C.hb
  unfold wp_X4_isFor at h
  generalize wA w = A at C hS ⊢
  refine lv_aload_n hx hb dX4_isFor_0 rfl (lv_at hl 0 rfl) ?_
  refine lv_iload_n hx hb dX4_isFor_1 rfl (lv_at hl 1 rfl) ?_
  obtain ⟨hob, h⟩ := h
  refine r_V C hS (ct_X4_isPerson l Z w a0 a1 _ h) 1 24 hob ⟨by decide, by decide +kernel⟩ (lw_V q1494 q1496 qs35 q71 q1497) ⟨rfl, by decide, by decide, by decide +kernel⟩ ⟨Nat.le_of_ble_eq_true rfl, Nat.le_of_ble_eq_true rfl⟩ rfl hl.1 rfl (wcat4 (Nat.le_of_ble_eq_true rfl)) dX4_isFor_2 ⟨Nat.le_of_ble_eq_true rfl, Nat.le_of_ble_eq_true rfl⟩ (fun v_ w2 H locs hv hS => ?_)
  obtain ⟨v1, rfl, h⟩ := hv
  refine r_if_eq (tgt := 18) hx hb h dX4_isFor_5 (by decide) (fun h => ?_) (fun h => ?_)
  · refine lv_aload_n hx hb dX4_isFor_18 rfl (lv_at hl 0 rfl) ?_
    refine lv_bipush (v := -2) hx hb dX4_isFor_19 (by decide) ?_
    obtain ⟨hob, h⟩ := h
    refine r_V C hS (ct_X4_refuse l Z w2 a0 (-2) _ h) 1 24 hob ⟨by decide, by decide +kernel⟩ (lw_V q1442 q1444 qs28 q71 q1445) ⟨rfl, by decide, by decide, by decide +kernel⟩ ⟨Nat.le_of_ble_eq_true rfl, Nat.le_of_ble_eq_true rfl⟩ rfl hl.1 rfl (wcat4 (Nat.le_of_ble_eq_true rfl)) dX4_isFor_21 ⟨Nat.le_of_ble_eq_true rfl, Nat.le_of_ble_eq_true rfl⟩ (fun v_ w4 H locs hv hS => ?_)
    obtain ⟨v3, rfl, h⟩ := hv
    exact r_iret C hS h rfl rfl (Nat.le_of_ble_eq_true rfl) (Nat.le_of_ble_eq_true rfl) dX4_isFor_24
  · refine lv_iload_n hx hb dX4_isFor_8 rfl (lv_at hl 2 rfl) ?_
    refine lv_i2l hx hb dX4_isFor_9 rfl ?_
    refine lv_lconst (v := 0) hx hb dX4_isFor_10 (by decide) ?_
    refine lv_lconst (v := 1) hx hb dX4_isFor_11 (by decide) ?_
    refine r_S C hS (ct_X4_isIn l Z w2 (a2.toInt64) 0 1 _ h) 3 (lw_S q1439 q1440 q71 q1441) ⟨by decide, by decide, by decide +kernel⟩ ⟨Nat.le_of_ble_eq_true rfl, Nat.le_of_ble_eq_true rfl⟩ rfl hl.1 rfl (wcat4 (Nat.le_of_ble_eq_true rfl)) dX4_isFor_12 ⟨Nat.le_of_ble_eq_true rfl, Nat.le_of_ble_eq_true rfl⟩ (fun v_ w6 H locs hv hS => ?_)
    obtain ⟨v5, rfl, h⟩ := hv
    refine r_if_ne (tgt := 25) hx hb h dX4_isFor_15 (by decide) (fun h => ?_) (fun h => ?_)
    · refine lv_aload_n hx hb dX4_isFor_25 rfl (lv_at hl 0 rfl) ?_
      refine lv_iload_n hx hb dX4_isFor_26 rfl (lv_at hl 1 rfl) ?_
      obtain ⟨hob, h⟩ := h
      refine r_V C hS (ct_X4_isFor_2 l Z w6 a0 a1 _ h) 1 24 hob ⟨by decide, by decide +kernel⟩ (lw_V q1498 q1500 qs36 q71 q1501) ⟨rfl, by decide, by decide, by decide +kernel⟩ ⟨Nat.le_of_ble_eq_true rfl, Nat.le_of_ble_eq_true rfl⟩ rfl hl.1 rfl (wcat4 (Nat.le_of_ble_eq_true rfl)) dX4_isFor_27 ⟨Nat.le_of_ble_eq_true rfl, Nat.le_of_ble_eq_true rfl⟩ (fun v_ w8 H locs hv hS => ?_)
      obtain ⟨v7, rfl, h⟩ := hv
      refine lv_istore_n (i := 3) (lv' := [(3, .int v7), (0, .ref a0), (1, .int a1), (2, .int a2)]) hx hb dX4_isFor_30 rfl hl (by decide) rfl (fun ls hl => ?_)
      refine lv_aload_n hx hb dX4_isFor_31 rfl (lv_at hl 1 rfl) ?_
      refine r_getG C hS h gk_56 q1355 dX4_isFor_32 (fun v9 h => ?_)
      refine lv_iconst (v := 5) hx hb dX4_isFor_35 (by decide) ?_
      refine lv_iload_n hx hb dX4_isFor_36 rfl (lv_at hl 2 rfl) ?_
      refine lv_imul hx hb dX4_isFor_37 ?_
      refine lv_iconst (v := 4) hx hb dX4_isFor_38 (by decide) ?_
      refine lv_iadd hx hb dX4_isFor_39 ?_
      refine lv_iload_n hx hb dX4_isFor_40 rfl (lv_at hl 3 rfl) ?_
      refine r_iast C hS h dX4_isFor_41 (fun w10 H locs h hS => ?_)
      refine lv_iload_n hx hb dX4_isFor_42 rfl (lv_at hl 0 rfl) ?_
      exact r_iret C hS h rfl rfl (Nat.le_of_ble_eq_true rfl) (Nat.le_of_ble_eq_true rfl) dX4_isFor_43
    · refine lv_aload_n hx hb dX4_isFor_18 rfl (lv_at hl 0 rfl) ?_
      refine lv_bipush (v := -2) hx hb dX4_isFor_19 (by decide) ?_
      obtain ⟨hob, h⟩ := h
      refine r_V C hS (ct_X4_refuse l Z w6 a0 (-2) _ h) 1 24 hob ⟨by decide, by decide +kernel⟩ (lw_V q1442 q1444 qs28 q71 q1445) ⟨rfl, by decide, by decide, by decide +kernel⟩ ⟨Nat.le_of_ble_eq_true rfl, Nat.le_of_ble_eq_true rfl⟩ rfl hl.1 rfl (wcat4 (Nat.le_of_ble_eq_true rfl)) dX4_isFor_21 ⟨Nat.le_of_ble_eq_true rfl, Nat.le_of_ble_eq_true rfl⟩ (fun v_ w12 H locs hv hS => ?_)
      obtain ⟨v11, rfl, h⟩ := hv
      exact r_iret C hS h rfl rfl (Nat.le_of_ble_eq_true rfl) (Nat.le_of_ble_eq_true rfl) dX4_isFor_24
end VX4_isFor
/-! LeftIsAgreedOnModel.put(III)I -/
section VX4_put
variable {p : Program} {l : Launch} {e : Env} {s : State} {m : MethodId} {args : Array Value} {below : List Frame} {meth : Method} {c : Code} {Z : wZ} {A : Nat → Prop}
set_option maxHeartbeats 4000000 in
theorem ct_X4_put (l : Launch) (Z : wZ) (w : Wd) (a0 : Nat) (a1 : Int32) (a2 : Int32) (a3 : Int32) (k : Int32 → Wd → Prop) (h : wp_X4_put w a0 a1 a2 a3 k) : wMet l Z yX4_put cX4_put 5 (some .int) 2 46 0 0 [.ref a0, .int a1, .int a2, .int a3] w (pI k) := by
  refine wM_of (by decide +kernel) (Nat.le_of_ble_eq_true rfl) ?_
  intro p e s m below meth c ls C hS hl
  replace C : wC p l s m _ meth c cX4_put 5 (some .int) RX4 "put" Z _ := C
  have hl : lv_has ls 5 [(0, .ref a0), (1, .int a1), (2, .int a2), (3, .int a3)] := hl
  have hx := C.hx
  have hb := C.hb
  unfold wp_X4_put at h
  generalize wA w = A at C hS ⊢
  refine lv_aload_n hx hb dX4_put_0 rfl (lv_at hl 0 rfl) ?_
  refine lv_iload_n hx hb dX4_put_1 rfl (lv_at hl 1 rfl) ?_
  obtain ⟨hob, h⟩ := h
  refine r_V C hS (ct_X4_isPerson l Z w a0 a1 _ h) 1 24 hob ⟨by decide, by decide +kernel⟩ (lw_V q1494 q1496 qs35 q71 q1497) ⟨rfl, by decide, by decide, by decide +kernel⟩ ⟨Nat.le_of_ble_eq_true rfl, Nat.le_of_ble_eq_true rfl⟩ rfl hl.1 rfl (wcat4 (Nat.le_of_ble_eq_true rfl)) dX4_put_2 ⟨Nat.le_of_ble_eq_true rfl, Nat.le_of_ble_eq_true rfl⟩ (fun v_ w2 H locs hv hS => ?_)
  obtain ⟨v1, rfl, h⟩ := hv
  refine r_if_eq (tgt := 28) hx hb h dX4_put_5 (by decide) (fun h => ?_) (fun h => ?_)
  · refine lv_aload_n hx hb dX4_put_28 rfl (lv_at hl 0 rfl) ?_
    refine lv_bipush (v := -2) hx hb dX4_put_29 (by decide) ?_
    obtain ⟨hob, h⟩ := h
    refine r_V C hS (ct_X4_refuse l Z w2 a0 (-2) _ h) 1 24 hob ⟨by decide, by decide +kernel⟩ (lw_V q1442 q1444 qs28 q71 q1445) ⟨rfl, by decide, by decide, by decide +kernel⟩ ⟨Nat.le_of_ble_eq_true rfl, Nat.le_of_ble_eq_true rfl⟩ rfl hl.1 rfl (wcat4 (Nat.le_of_ble_eq_true rfl)) dX4_put_31 ⟨Nat.le_of_ble_eq_true rfl, Nat.le_of_ble_eq_true rfl⟩ (fun v_ w4 H locs hv hS => ?_)
    obtain ⟨v3, rfl, h⟩ := hv
    exact r_iret C hS h rfl rfl (Nat.le_of_ble_eq_true rfl) (Nat.le_of_ble_eq_true rfl) dX4_put_34
  · refine lv_aload_n hx hb dX4_put_8 rfl (lv_at hl 0 rfl) ?_
    refine lv_iload_n hx hb dX4_put_9 rfl (lv_at hl 2 rfl) ?_
    obtain ⟨hob, h⟩ := h
    refine r_V C hS (ct_X4_isCell l Z w2 a0 a2 _ h) 1 24 hob ⟨by decide, by decide +kernel⟩ (lw_V q1450 q1452 qs29 q71 q1453) ⟨rfl, by decide, by decide, by decide +kernel⟩ ⟨Nat.le_of_ble_eq_true rfl, Nat.le_of_ble_eq_true rfl⟩ rfl hl.1 rfl (wcat4 (Nat.le_of_ble_eq_true rfl)) dX4_put_10 ⟨Nat.le_of_ble_eq_true rfl, Nat.le_of_ble_eq_true rfl⟩ (fun v_ w6 H locs hv hS => ?_)
    obtain ⟨v5, rfl, h⟩ := hv
    refine r_if_eq (tgt := 28) hx hb h dX4_put_13 (by decide) (fun h => ?_) (fun h => ?_)
    · refine lv_aload_n hx hb dX4_put_28 rfl (lv_at hl 0 rfl) ?_
      refine lv_bipush (v := -2) hx hb dX4_put_29 (by decide) ?_
      obtain ⟨hob, h⟩ := h
      refine r_V C hS (ct_X4_refuse l Z w6 a0 (-2) _ h) 1 24 hob ⟨by decide, by decide +kernel⟩ (lw_V q1442 q1444 qs28 q71 q1445) ⟨rfl, by decide, by decide, by decide +kernel⟩ ⟨Nat.le_of_ble_eq_true rfl, Nat.le_of_ble_eq_true rfl⟩ rfl hl.1 rfl (wcat4 (Nat.le_of_ble_eq_true rfl)) dX4_put_31 ⟨Nat.le_of_ble_eq_true rfl, Nat.le_of_ble_eq_true rfl⟩ (fun v_ w8 H locs hv hS => ?_)
      obtain ⟨v7, rfl, h⟩ := hv
      exact r_iret C hS h rfl rfl (Nat.le_of_ble_eq_true rfl) (Nat.le_of_ble_eq_true rfl) dX4_put_34
    · refine lv_iload_n hx hb dX4_put_16 rfl (lv_at hl 3 rfl) ?_
      refine lv_i2l hx hb dX4_put_17 rfl ?_
      refine lv_lconst (v := 0) hx hb dX4_put_18 (by decide) ?_
      refine lv_ldc2 (v := 3) hx hb C.ow (C.hts _ q1475) dX4_put_19 ?_
      refine r_S C hS (ct_X4_isIn l Z w6 (a3.toInt64) 0 3 _ h) 3 (lw_S q1439 q1440 q71 q1441) ⟨by decide, by decide, by decide +kernel⟩ ⟨Nat.le_of_ble_eq_true rfl, Nat.le_of_ble_eq_true rfl⟩ rfl hl.1 rfl (wcat4 (Nat.le_of_ble_eq_true rfl)) dX4_put_22 ⟨Nat.le_of_ble_eq_true rfl, Nat.le_of_ble_eq_true rfl⟩ (fun v_ w10 H locs hv hS => ?_)
      obtain ⟨v9, rfl, h⟩ := hv
      refine r_if_ne (tgt := 35) hx hb h dX4_put_25 (by decide) (fun h => ?_) (fun h => ?_)
      · refine lv_aload_n hx hb dX4_put_35 rfl (lv_at hl 0 rfl) ?_
        refine lv_iload_n hx hb dX4_put_36 rfl (lv_at hl 2 rfl) ?_
        obtain ⟨hob, h⟩ := h
        refine r_V C hS (ct_X4_hasPond l Z w10 a0 a2 _ h) 1 24 hob ⟨by decide, by decide +kernel⟩ (lw_V q1476 q1478 qs33 q71 q1479) ⟨rfl, by decide, by decide, by decide +kernel⟩ ⟨Nat.le_of_ble_eq_true rfl, Nat.le_of_ble_eq_true rfl⟩ rfl hl.1 rfl (wcat4 (Nat.le_of_ble_eq_true rfl)) dX4_put_37 ⟨Nat.le_of_ble_eq_true rfl, Nat.le_of_ble_eq_true rfl⟩ (fun v_ w12 H locs hv hS => ?_)
        obtain ⟨v11, rfl, h⟩ := hv
        refine r_if_eq (tgt := 50) hx hb h dX4_put_40 (by decide) (fun h => ?_) (fun h => ?_)
        · refine lv_aload_n hx hb dX4_put_50 rfl (lv_at hl 0 rfl) ?_
          refine lv_iload_n hx hb dX4_put_51 rfl (lv_at hl 1 rfl) ?_
          obtain ⟨hob, h⟩ := h
          refine r_V C hS (ct_X4_cell l Z w12 a0 a1 _ h) 1 24 hob ⟨by decide, by decide +kernel⟩ (lw_V q1462 q1464 qs32 q71 q1465) ⟨rfl, by decide, by decide, by decide +kernel⟩ ⟨Nat.le_of_ble_eq_true rfl, Nat.le_of_ble_eq_true rfl⟩ rfl hl.1 rfl (wcat4 (Nat.le_of_ble_eq_true rfl)) dX4_put_52 ⟨Nat.le_of_ble_eq_true rfl, Nat.le_of_ble_eq_true rfl⟩ (fun v_ w14 H locs hv hS => ?_)
          obtain ⟨v13, rfl, h⟩ := hv
          refine lv_istore (i := 4) (lv' := [(4, .int v13), (0, .ref a0), (1, .int a1), (2, .int a2), (3, .int a3)]) hx hb dX4_put_55 hl (by decide) rfl (fun ls hl => ?_)
          refine lv_aload_n hx hb dX4_put_57 rfl (lv_at hl 1 rfl) ?_
          refine r_getG C hS h gk_56 q1355 dX4_put_58 (fun v15 h => ?_)
          refine lv_iconst (v := 5) hx hb dX4_put_61 (by decide) ?_
          refine lv_iload_n hx hb dX4_put_62 rfl (lv_at hl 2 rfl) ?_
          refine lv_imul hx hb dX4_put_63 ?_
          refine lv_iconst (v := 2) hx hb dX4_put_64 (by decide) ?_
          refine lv_iadd hx hb dX4_put_65 ?_
          refine lv_iload_n hx hb dX4_put_66 rfl (lv_at hl 3 rfl) ?_
          refine r_iast C hS h dX4_put_67 (fun w16 H locs h hS => ?_)
          refine lv_aload_n hx hb dX4_put_68 rfl (lv_at hl 1 rfl) ?_
          refine r_getG C hS h gk_56 q1355 dX4_put_69 (fun v17 h => ?_)
          refine lv_iconst (v := 5) hx hb dX4_put_72 (by decide) ?_
          refine lv_iload_n hx hb dX4_put_73 rfl (lv_at hl 2 rfl) ?_
          refine lv_imul hx hb dX4_put_74 ?_
          refine lv_iconst (v := 3) hx hb dX4_put_75 (by decide) ?_
          refine lv_iadd hx hb dX4_put_76 ?_
          refine lv_iload_n hx hb dX4_put_77 rfl (lv_at hl 4 rfl) ?_
          refine r_iast C hS h dX4_put_78 (fun w18 H locs h hS => ?_)
          refine lv_iload hx hb dX4_put_79 (lv_at hl 0 rfl) ?_
          exact r_iret C hS h rfl rfl (Nat.le_of_ble_eq_true rfl) (Nat.le_of_ble_eq_true rfl) dX4_put_81
        · refine lv_aload_n hx hb dX4_put_43 rfl (lv_at hl 0 rfl) ?_
          refine lv_bipush (v := -5) hx hb dX4_put_44 (by decide) ?_
          obtain ⟨hob, h⟩ := h
          refine r_V C hS (ct_X4_refuse l Z w12 a0 (-5) _ h) 1 24 hob ⟨by decide, by decide +kernel⟩ (lw_V q1442 q1444 qs28 q71 q1445) ⟨rfl, by decide, by decide, by decide +kernel⟩ ⟨Nat.le_of_ble_eq_true rfl, Nat.le_of_ble_eq_true rfl⟩ rfl hl.1 rfl (wcat4 (Nat.le_of_ble_eq_true rfl)) dX4_put_46 ⟨Nat.le_of_ble_eq_true rfl, Nat.le_of_ble_eq_true rfl⟩ (fun v_ w20 H locs hv hS => ?_)
          obtain ⟨v19, rfl, h⟩ := hv
          exact r_iret C hS h rfl rfl (Nat.le_of_ble_eq_true rfl) (Nat.le_of_ble_eq_true rfl) dX4_put_49
      · refine lv_aload_n hx hb dX4_put_28 rfl (lv_at hl 0 rfl) ?_
        refine lv_bipush (v := -2) hx hb dX4_put_29 (by decide) ?_
        obtain ⟨hob, h⟩ := h
        refine r_V C hS (ct_X4_refuse l Z w10 a0 (-2) _ h) 1 24 hob ⟨by decide, by decide +kernel⟩ (lw_V q1442 q1444 qs28 q71 q1445) ⟨rfl, by decide, by decide, by decide +kernel⟩ ⟨Nat.le_of_ble_eq_true rfl, Nat.le_of_ble_eq_true rfl⟩ rfl hl.1 rfl (wcat4 (Nat.le_of_ble_eq_true rfl)) dX4_put_31 ⟨Nat.le_of_ble_eq_true rfl, Nat.le_of_ble_eq_true rfl⟩ (fun v_ w22 H locs hv hS => ?_)
        obtain ⟨v21, rfl, h⟩ := hv
        exact r_iret C hS h rfl rfl (Nat.le_of_ble_eq_true rfl) (Nat.le_of_ble_eq_true rfl) dX4_put_34
end VX4_put
/-! LeftIsAgreedOnModel.isPond(I)I -/
section VX4_isPond
variable {p : Program} {l : Launch} {e : Env} {s : State} {m : MethodId} {args : Array Value} {below : List Frame} {meth : Method} {c : Code} {Z : wZ} {A : Nat → Prop}
set_option maxHeartbeats 4000000 in
theorem ct_X4_isPond (l : Launch) (Z : wZ) (w : Wd) (a0 : Nat) (a1 : Int32) (k : Int32 → Wd → Prop) (h : wp_X4_isPond w a0 a1 k) : wMet l Z yX4_isPond cX4_isPond 2 (some .int) 1 21 0 0 [.ref a0, .int a1] w (pI k) := by
  refine wM_of (by decide +kernel) (Nat.le_of_ble_eq_true rfl) ?_
  intro p e s m below meth c ls C hS hl
  replace C : wC p l s m _ meth c cX4_isPond 2 (some .int) RX4 "isPond" Z _ := C
  have hl : lv_has ls 2 [(0, .ref a0), (1, .int a1)] := hl
  have hx := C.hx
  have hb := C.hb
  unfold wp_X4_isPond at h
  generalize wA w = A at C hS ⊢
  refine lv_aload_n hx hb dX4_isPond_0 rfl (lv_at hl 0 rfl) ?_
  refine lv_iload_n hx hb dX4_isPond_1 rfl (lv_at hl 1 rfl) ?_
  obtain ⟨hob, h⟩ := h
  refine r_V C hS (ct_X4_isCell l Z w a0 a1 _ h) 1 24 hob ⟨by decide, by decide +kernel⟩ (lw_V q1450 q1452 qs29 q71 q1453) ⟨rfl, by decide, by decide, by decide +kernel⟩ ⟨Nat.le_of_ble_eq_true rfl, Nat.le_of_ble_eq_true rfl⟩ rfl hl.1 rfl (wcat4 (Nat.le_of_ble_eq_true rfl)) dX4_isPond_2 ⟨Nat.le_of_ble_eq_true rfl, Nat.le_of_ble_eq_true rfl⟩ (fun v_ w2 H locs hv hS => ?_)
  obtain ⟨v1, rfl, h⟩ := hv
  refine r_if_eq (tgt := 20) hx hb h dX4_isPond_5 (by decide) (fun h => ?_) (fun h => ?_)
  · refine lv_aload_n hx hb dX4_isPond_20 rfl (lv_at hl 0 rfl) ?_
    refine lv_bipush (v := -2) hx hb dX4_isPond_21 (by decide) ?_
    obtain ⟨hob, h⟩ := h
    refine r_V C hS (ct_X4_refuse l Z w2 a0 (-2) _ h) 1 24 hob ⟨by decide, by decide +kernel⟩ (lw_V q1442 q1444 qs28 q71 q1445) ⟨rfl, by decide, by decide, by decide +kernel⟩ ⟨Nat.le_of_ble_eq_true rfl, Nat.le_of_ble_eq_true rfl⟩ rfl hl.1 rfl (wcat4 (Nat.le_of_ble_eq_true rfl)) dX4_isPond_23 ⟨Nat.le_of_ble_eq_true rfl, Nat.le_of_ble_eq_true rfl⟩ (fun v_ w4 H locs hv hS => ?_)
    obtain ⟨v3, rfl, h⟩ := hv
    exact r_iret C hS h rfl rfl (Nat.le_of_ble_eq_true rfl) (Nat.le_of_ble_eq_true rfl) dX4_isPond_26
  · refine lv_aload_n hx hb dX4_isPond_8 rfl (lv_at hl 0 rfl) ?_
    refine r_getG C hS h gk_56 q1355 dX4_isPond_9 (fun v5 h => ?_)
    refine lv_iload_n hx hb dX4_isPond_12 rfl (lv_at hl 1 rfl) ?_
    refine r_S C hS (ct_X4_pondAt l Z w2 a1 _ h) 1 (lw_S q1466 q1467 q71 q1468) ⟨by decide, by decide, by decide +kernel⟩ ⟨Nat.le_of_ble_eq_true rfl, Nat.le_of_ble_eq_true rfl⟩ rfl hl.1 rfl (wcat4 (Nat.le_of_ble_eq_true rfl)) dX4_isPond_13 ⟨Nat.le_of_ble_eq_true rfl, Nat.le_of_ble_eq_true rfl⟩ (fun v_ w7 H locs hv hS => ?_)
    obtain ⟨v6, rfl, h⟩ := hv
    refine r_iald C hS h dX4_isPond_16 (fun v8 h => ?_)
    refine lv_goto (tgt := 26) hx hb dX4_isPond_17 (by decide) ?_
    exact r_iret C hS h rfl rfl (Nat.le_of_ble_eq_true rfl) (Nat.le_of_ble_eq_true rfl) dX4_isPond_26
end VX4_isPond
/-! LeftIsAgreedOnModel.feed(I)I -/
section VX4_feed
variable {p : Program} {l : Launch} {e : Env} {s : State} {m : MethodId} {args : Array Value} {below : List Frame} {meth : Method} {c : Code} {Z : wZ} {A : Nat → Prop}
set_option maxHeartbeats 4000000 in
theorem ct_X4_feed (l : Launch) (Z : wZ) (w : Wd) (a0 : Nat) (a1 : Int32) (k : Int32 → Wd → Prop) (h : wp_X4_feed w a0 a1 k) : wMet l Z yX4_feed cX4_feed 2 (some .int) 1 25 0 0 [.ref a0, .int a1] w (pI k) := by
  refine wM_of (by decide +kernel) (Nat.le_of_ble_eq_true rfl) ?_
  intro p e s m below meth c ls C hS hl
  replace C : wC p l s m _ meth c cX4_feed 2 (some .int) RX4 "feed" Z _ := C
  have hl : lv_has ls 2 [(0, .ref a0), (1, .int a1)] := hl
  have hx := C.hx
  have hb := C.hb
  unfold wp_X4_feed at h
  generalize wA w = A at C hS ⊢
  refine lv_iload_n hx hb dX4_feed_0 rfl (lv_at hl 1 rfl) ?_
  refine lv_i2l hx hb dX4_feed_1 rfl ?_
  refine lv_lconst (v := 0) hx hb dX4_feed_2 (by decide) ?_
  refine lv_ldc2 (v := 255) hx hb C.ow (C.hts _ q1514) dX4_feed_3 ?_
  refine r_S C hS (ct_X4_isIn l Z w (a1.toInt64) 0 255 _ h) 3 (lw_S q1439 q1440 q71 q1441) ⟨by decide, by decide, by decide +kernel⟩ ⟨Nat.le_of_ble_eq_true rfl, Nat.le_of_ble_eq_true rfl⟩ rfl hl.1 rfl (wcat4 (Nat.le_of_ble_eq_true rfl)) dX4_feed_6 ⟨Nat.le_of_ble_eq_true rfl, Nat.le_of_ble_eq_true rfl⟩ (fun v_ w2 H locs hv hS => ?_)
  obtain ⟨v1, rfl, h⟩ := hv
  refine r_if_ne (tgt := 19) hx hb h dX4_feed_9 (by decide) (fun h => ?_) (fun h => ?_)
  · refine lv_aload_n hx hb dX4_feed_19 rfl (lv_at hl 0 rfl) ?_
    refine r_getF C hS h gk_75 q1360 dX4_feed_20 (fun v3 h => ?_)
    refine lv_sipush (v := 250) hx hb dX4_feed_23 (by decide) ?_
    refine r_icmp_ne (tgt := 36) hx hb h dX4_feed_26 (by decide) (fun h => ?_) (fun h => ?_)
    · refine lv_aload_n hx hb dX4_feed_36 rfl (lv_at hl 0 rfl) ?_
      refine r_getG C hS h gk_59 q1359 dX4_feed_37 (fun v4 h => ?_)
      refine lv_aload_n hx hb dX4_feed_40 rfl (lv_at hl 0 rfl) ?_
      refine r_getF C hS h gk_75 q1360 dX4_feed_41 (fun v5 h => ?_)
      refine lv_iload_n hx hb dX4_feed_44 rfl (lv_at hl 1 rfl) ?_
      refine r_iast C hS h dX4_feed_45 (fun w6 H locs h hS => ?_)
      refine lv_aload_n hx hb dX4_feed_46 rfl (lv_at hl 0 rfl) ?_
      refine lv_dup hx hb dX4_feed_47 rfl ?_
      refine r_getF C hS h gk_75 q1360 dX4_feed_48 (fun v7 h => ?_)
      refine lv_iconst (v := 1) hx hb dX4_feed_51 (by decide) ?_
      refine lv_iadd hx hb dX4_feed_52 ?_
      refine r_putF (fin := false) C hS h gk_75 (ty := .int) (by decide +kernel) ⟨rfl, rfl⟩ gk_75f (fun h => by cases h) q1360 dX4_feed_53 (fun w8 H locs h hS => ?_)
      refine lv_aload_n hx hb dX4_feed_56 rfl (lv_at hl 0 rfl) ?_
      refine r_getF C hS h gk_75 q1360 dX4_feed_57 (fun v9 h => ?_)
      exact r_iret C hS h rfl rfl (Nat.le_of_ble_eq_true rfl) (Nat.le_of_ble_eq_true rfl) dX4_feed_60
    · refine lv_aload_n hx hb dX4_feed_29 rfl (lv_at hl 0 rfl) ?_
      refine lv_bipush (v := -6) hx hb dX4_feed_30 (by decide) ?_
      obtain ⟨hob, h⟩ := h
      refine r_V C hS (ct_X4_refuse l Z w2 a0 (-6) _ h) 1 24 hob ⟨by decide, by decide +kernel⟩ (lw_V q1442 q1444 qs28 q71 q1445) ⟨rfl, by decide, by decide, by decide +kernel⟩ ⟨Nat.le_of_ble_eq_true rfl, Nat.le_of_ble_eq_true rfl⟩ rfl hl.1 rfl (wcat4 (Nat.le_of_ble_eq_true rfl)) dX4_feed_32 ⟨Nat.le_of_ble_eq_true rfl, Nat.le_of_ble_eq_true rfl⟩ (fun v_ w11 H locs hv hS => ?_)
      obtain ⟨v10, rfl, h⟩ := hv
      exact r_iret C hS h rfl rfl (Nat.le_of_ble_eq_true rfl) (Nat.le_of_ble_eq_true rfl) dX4_feed_35
  · refine lv_aload_n hx hb dX4_feed_12 rfl (lv_at hl 0 rfl) ?_
    refine lv_bipush (v := -2) hx hb dX4_feed_13 (by decide) ?_
    obtain ⟨hob, h⟩ := h
    refine r_V C hS (ct_X4_refuse l Z w2 a0 (-2) _ h) 1 24 hob ⟨by decide, by decide +kernel⟩ (lw_V q1442 q1444 qs28 q71 q1445) ⟨rfl, by decide, by decide, by decide +kernel⟩ ⟨Nat.le_of_ble_eq_true rfl, Nat.le_of_ble_eq_true rfl⟩ rfl hl.1 rfl (wcat4 (Nat.le_of_ble_eq_true rfl)) dX4_feed_15 ⟨Nat.le_of_ble_eq_true rfl, Nat.le_of_ble_eq_true rfl⟩ (fun v_ w13 H locs hv hS => ?_)
    obtain ⟨v12, rfl, h⟩ := hv
    exact r_iret C hS h rfl rfl (Nat.le_of_ble_eq_true rfl) (Nat.le_of_ble_eq_true rfl) dX4_feed_18
end VX4_feed
/-! LeftIsAgreedOnModel.wipe()I -/
section VX4_wipe
variable {p : Program} {l : Launch} {e : Env} {s : State} {m : MethodId} {args : Array Value} {below : List Frame} {meth : Method} {c : Code} {Z : wZ} {A : Nat → Prop}
set_option maxHeartbeats 4000000 in
theorem ct_X4_wipe (l : Launch) (Z : wZ) (w : Wd) (a0 : Nat) (k : Int32 → Wd → Prop) (h : wp_X4_wipe w a0 k) : wMet l Z yX4_wipe cX4_wipe 2 (some .int) 0 0 0 0 [.ref a0] w (pI k) := by
  refine wM_of (by decide +kernel) (Nat.le_of_ble_eq_true rfl) ?_
  intro p e s m below meth c ls C hS hl
  replace C : wC p l s m _ meth c cX4_wipe 2 (some .int) RX4 "wipe" Z _ := C
  have hl : lv_has ls 2 [(0, .ref a0)] := hl
  have hx := C.hx
  have hb := C.hb
  unfold wp_X4_wipe at h
  generalize wA w = A at C hS ⊢
  refine lv_aload_n hx hb dX4_wipe_0 rfl (lv_at hl 0 rfl) ?_
  refine r_getF C hS h gk_75 q1360 dX4_wipe_1 (fun v1 h => ?_)
  refine lv_istore_n (i := 1) (lv' := [(1, .int v1), (0, .ref a0)]) hx hb dX4_wipe_4 rfl hl (by decide) rfl (fun ls hl => ?_)
  refine lv_aload_n hx hb dX4_wipe_5 rfl (lv_at hl 1 rfl) ?_
  refine lv_iconst (v := 0) hx hb dX4_wipe_6 (by decide) ?_
  refine r_putF (fin := false) C hS h gk_75 (ty := .int) (by decide +kernel) ⟨rfl, rfl⟩ gk_75f (fun h => by cases h) q1360 dX4_wipe_7 (fun w2 H locs h hS => ?_)
  refine lv_iload_n hx hb dX4_wipe_10 rfl (lv_at hl 0 rfl) ?_
  exact r_iret C hS h rfl rfl (Nat.le_of_ble_eq_true rfl) (Nat.le_of_ble_eq_true rfl) dX4_wipe_11
end VX4_wipe
/-! LeftIsAgreedOnModel.move([I[I)V -/
section VX4_move
variable {p : Program} {l : Launch} {e : Env} {s : State} {m : MethodId} {args : Array Value} {below : List Frame} {meth : Method} {c : Code} {Z : wZ} {A : Nat → Prop}
set_option maxHeartbeats 4000000 in
theorem kb_X4_move_2 (C : wC p l s m args meth c cX4_move 3 none RX4 "move" Z A) (k : Wd → Prop) (L2 : Wd → Option Nat → Option Nat → Int32 → Prop) (hL2 : ∀ (w : Wd) (x0 : Option Nat) (x1 : Option Nat) (x2 : Int32) (H : Heap) (locs : List Loc) (ls : Array Slot), L2 w x0 x1 x2 → wS Z A s w H locs → lv_has ls 3 [(0, va_rf x0), (1, va_rf x1), (2, .int x2)] → W p l e ({ frames := 0, cells := 0, slots := 0, locals := 0 } : Room) s m args below meth c H locs 0 0 (MQ below (wQc Z A (pV k)) args s 0 0 A) (F0 m 2 ls [])) : ∀ (w : Wd) (l0 : Option Nat) (l1 : Option Nat) (l2 : Int32) (H : Heap) (locs : List Loc) (ls : Array Slot), wb_X4_move_2 k L2 w l0 l1 l2 → wS Z A s w H locs → lv_has ls 3 [(0, va_rf l0), (1, va_rf l1), (2, .int l2)] → W p l e ({ frames := 0, cells := 0, slots := 0, locals := 0 } : Room) s m args below meth c H locs 0 0 (MQ below (wQc Z A (pV k)) args s 0 0 A) (F0 m 2 ls []) := by
  intro w l0 l1 l2 H locs ls h hS hl
  have hx := C.hx
  have hb := C.hb
  unfold wb_X4_move_2 at h
  refine lv_iload_n hx hb dX4_move_2 rfl (lv_at hl 2 rfl) ?_
  refine lv_bipush (v := 97) hx hb dX4_move_3 (by decide) ?_
  refine r_icmp_ge (tgt := 20) hx hb h dX4_move_5 (by decide) (fun h => ?_) (fun h => ?_)
  · exact r_vret C hS h rfl (Nat.le_of_ble_eq_true rfl) (Nat.le_of_ble_eq_true rfl) dX4_move_20
  · refine r_aload_n hx hb dX4_move_8 rfl (lv_at hl 1 rfl) ?_
    refine lv_iload_n hx hb dX4_move_9 rfl (lv_at hl 2 rfl) ?_
    refine r_aload_n hx hb dX4_move_10 rfl (lv_at hl 0 rfl) ?_
    refine lv_iload_n hx hb dX4_move_11 rfl (lv_at hl 2 rfl) ?_
    refine r_iald C hS h dX4_move_12 (fun v1 h => ?_)
    refine r_iast C hS h dX4_move_13 (fun w2 H locs h hS => ?_)
    refine lv_iinc (i := 2) (v := (l2 + 1)) (lv' := [(2, .int (l2 + 1)), (0, va_rf l0), (1, va_rf l1)]) hx hb dX4_move_14 hl (k := 2) rfl rfl (by decide) (by first | (simp [List.filter_cons, va_rf_cat]; done) | (simp [List.filter_cons, va_rf_cat]; rfl)) (fun ls hl => ?_)
    refine lv_goto (tgt := 2) hx hb dX4_move_17 (by decide) ?_
    exact hL2 w2 l0 l1 (l2 + 1) _ _ _ h hS (lv_sub hl [1, 2, 0] rfl)
set_option maxHeartbeats 4000000 in
theorem kl_X4_move_2 (C : wC p l s m args meth c cX4_move 3 none RX4 "move" Z A) (k : Wd → Prop) : ∀ (n : Nat), ∀ (w : Wd) (l0 : Option Nat) (l1 : Option Nat) (l2 : Int32) (H : Heap) (locs : List Loc) (ls : Array Slot), wl_X4_move_2 k n w l0 l1 l2 → wS Z A s w H locs → lv_has ls 3 [(0, va_rf l0), (1, va_rf l1), (2, .int l2)] → W p l e ({ frames := 0, cells := 0, slots := 0, locals := 0 } : Room) s m args below meth c H locs 0 0 (MQ below (wQc Z A (pV k)) args s 0 0 A) (F0 m 2 ls []) := by
  intro n
  induction n with
  | zero =>
    intro w l0 l1 l2 H locs ls h
    exact h.elim
  | succ n ih =>
    intro w l0 l1 l2 H locs ls h hS hl
    exact kb_X4_move_2 C k (wl_X4_move_2 k n) ih w l0 l1 l2 H locs ls h hS hl
set_option maxHeartbeats 4000000 in
theorem ct_X4_move (l : Launch) (Z : wZ) (w : Wd) (a0 : Option Nat) (a1 : Option Nat) (k : Wd → Prop) (h : wp_X4_move w a0 a1 k) : wMet l Z yX4_move cX4_move 3 none 0 0 0 0 [va_rf a0, va_rf a1] w (pV k) := by
  refine wM_of (by decide +kernel) (by simp [lg_sl, va_rf_cat, va_cat_i, va_cat_l, va_cat_r]) ?_
  intro p e s m below meth c ls C hS hl
  replace C : wC p l s m _ meth c cX4_move 3 none RX4 "move" Z _ := C
  have hl : lv_has ls 3 [(0, va_rf a0), (1, va_rf a1)] := by simpa [lv_args, va_rf_cat, va_cat_i, va_cat_l, va_cat_r] using hl
  have hx := C.hx
  have hb := C.hb
  unfold wp_X4_move at h
  generalize wA w = A at C hS ⊢
  refine lv_iconst (v := 0) hx hb dX4_move_0 (by decide) ?_
  refine lv_istore_n (i := 2) (lv' := [(2, .int 0), (0, va_rf a0), (1, va_rf a1)]) hx hb dX4_move_1 rfl hl (by decide) (by first | (simp [List.filter_cons, va_rf_cat]; done) | (simp [List.filter_cons, va_rf_cat]; rfl)) (fun ls hl => ?_)
  exact kl_X4_move_2 C k FU w a0 a1 0 _ _ _ h hS (lv_sub hl [1, 2, 0] rfl)
end VX4_move
/-! LeftIsAgreedOnModel.sortAt(I)I -/
section VX4_sortAt
variable {p : Program} {l : Launch} {e : Env} {s : State} {m : MethodId} {args : Array Value} {below : List Frame} {meth : Method} {c : Code} {Z : wZ} {A : Nat → Prop}
set_option maxHeartbeats 4000000 in
theorem ct_X4_sortAt (l : Launch) (Z : wZ) (w : Wd) (a0 : Nat) (a1 : Int32) (k : Int32 → Wd → Prop) (h : wp_X4_sortAt w a0 a1 k) : wMet l Z yX4_sortAt cX4_sortAt 2 (some .int) 1 25 0 0 [.ref a0, .int a1] w (pI k) := by
  refine wM_of (by decide +kernel) (Nat.le_of_ble_eq_true rfl) ?_
  intro p e s m below meth c ls C hS hl
  replace C : wC p l s m _ meth c cX4_sortAt 2 (some .int) RX4 "sortAt" Z _ := C
  have hl : lv_has ls 2 [(0, .ref a0), (1, .int a1)] := hl
  have hx := C.hx
  have hb := C.hb
  unfold wp_X4_sortAt at h
  generalize wA w = A at C hS ⊢
  refine lv_iload_n hx hb dX4_sortAt_0 rfl (lv_at hl 1 rfl) ?_
  refine lv_aload_n hx hb dX4_sortAt_1 rfl (lv_at hl 0 rfl) ?_
  refine r_getF C hS h gk_75 q1360 dX4_sortAt_2 (fun v1 h => ?_)
  refine r_icmp_lt (tgt := 12) hx hb h dX4_sortAt_5 (by decide) (fun h => ?_) (fun h => ?_)
  · refine lv_aload_n hx hb dX4_sortAt_12 rfl (lv_at hl 0 rfl) ?_
    refine r_getG C hS h gk_59 q1359 dX4_sortAt_13 (fun v2 h => ?_)
    refine lv_iload_n hx hb dX4_sortAt_16 rfl (lv_at hl 1 rfl) ?_
    refine r_iald C hS h dX4_sortAt_17 (fun v3 h => ?_)
    refine lv_i2l hx hb dX4_sortAt_18 rfl ?_
    refine lv_ldc2 (v := 97) hx hb C.ow (C.hts _ q1538) dX4_sortAt_19 ?_
    refine lv_ldc2 (v := 122) hx hb C.ow (C.hts _ q1539) dX4_sortAt_22 ?_
    refine r_S C hS (ct_X4_isIn l Z w (v3.toInt64) 97 122 _ h) 3 (lw_S q1439 q1440 q71 q1441) ⟨by decide, by decide, by decide +kernel⟩ ⟨Nat.le_of_ble_eq_true rfl, Nat.le_of_ble_eq_true rfl⟩ rfl hl.1 rfl (wcat4 (Nat.le_of_ble_eq_true rfl)) dX4_sortAt_25 ⟨Nat.le_of_ble_eq_true rfl, Nat.le_of_ble_eq_true rfl⟩ (fun v_ w5 H locs hv hS => ?_)
    obtain ⟨v4, rfl, h⟩ := hv
    refine r_if_eq (tgt := 35) hx hb h dX4_sortAt_28 (by decide) (fun h => ?_) (fun h => ?_)
    · refine lv_aload_n hx hb dX4_sortAt_35 rfl (lv_at hl 0 rfl) ?_
      refine r_getG C hS h gk_59 q1359 dX4_sortAt_36 (fun v6 h => ?_)
      refine lv_iload_n hx hb dX4_sortAt_39 rfl (lv_at hl 1 rfl) ?_
      refine r_iald C hS h dX4_sortAt_40 (fun v7 h => ?_)
      refine lv_i2l hx hb dX4_sortAt_41 rfl ?_
      refine lv_ldc2 (v := 48) hx hb C.ow (C.hts _ q1540) dX4_sortAt_42 ?_
      refine lv_ldc2 (v := 57) hx hb C.ow (C.hts _ q1541) dX4_sortAt_45 ?_
      refine r_S C hS (ct_X4_isIn l Z w5 (v7.toInt64) 48 57 _ h) 3 (lw_S q1439 q1440 q71 q1441) ⟨by decide, by decide, by decide +kernel⟩ ⟨Nat.le_of_ble_eq_true rfl, Nat.le_of_ble_eq_true rfl⟩ rfl hl.1 rfl (wcat4 (Nat.le_of_ble_eq_true rfl)) dX4_sortAt_48 ⟨Nat.le_of_ble_eq_true rfl, Nat.le_of_ble_eq_true rfl⟩ (fun v_ w9 H locs hv hS => ?_)
      obtain ⟨v8, rfl, h⟩ := hv
      refine r_if_eq (tgt := 58) hx hb h dX4_sortAt_51 (by decide) (fun h => ?_) (fun h => ?_)
      · refine lv_aload_n hx hb dX4_sortAt_58 rfl (lv_at hl 0 rfl) ?_
        refine r_getG C hS h gk_59 q1359 dX4_sortAt_59 (fun v10 h => ?_)
        refine lv_iload_n hx hb dX4_sortAt_62 rfl (lv_at hl 1 rfl) ?_
        refine r_iald C hS h dX4_sortAt_63 (fun v11 h => ?_)
        refine lv_bipush (v := 59) hx hb dX4_sortAt_64 (by decide) ?_
        refine r_icmp_ne (tgt := 73) hx hb h dX4_sortAt_66 (by decide) (fun h => ?_) (fun h => ?_)
        · refine lv_iconst (v := 4) hx hb dX4_sortAt_73 (by decide) ?_
          exact r_iret C hS h rfl rfl (Nat.le_of_ble_eq_true rfl) (Nat.le_of_ble_eq_true rfl) dX4_sortAt_74
        · refine lv_iconst (v := 3) hx hb dX4_sortAt_69 (by decide) ?_
          refine lv_goto (tgt := 74) hx hb dX4_sortAt_70 (by decide) ?_
          exact r_iret C hS h rfl rfl (Nat.le_of_ble_eq_true rfl) (Nat.le_of_ble_eq_true rfl) dX4_sortAt_74
      · refine lv_iconst (v := 2) hx hb dX4_sortAt_54 (by decide) ?_
        refine lv_goto (tgt := 74) hx hb dX4_sortAt_55 (by decide) ?_
        exact r_iret C hS h rfl rfl (Nat.le_of_ble_eq_true rfl) (Nat.le_of_ble_eq_true rfl) dX4_sortAt_74
    · refine lv_iconst (v := 1) hx hb dX4_sortAt_31 (by decide) ?_
      refine lv_goto (tgt := 74) hx hb dX4_sortAt_32 (by decide) ?_
      exact r_iret C hS h rfl rfl (Nat.le_of_ble_eq_true rfl) (Nat.le_of_ble_eq_true rfl) dX4_sortAt_74
  · refine lv_iconst (v := 0) hx hb dX4_sortAt_8 (by decide) ?_
    refine lv_goto (tgt := 74) hx hb dX4_sortAt_9 (by decide) ?_
    exact r_iret C hS h rfl rfl (Nat.le_of_ble_eq_true rfl) (Nat.le_of_ble_eq_true rfl) dX4_sortAt_74
end VX4_sortAt
/-! LeftIsAgreedOnModel.next()V -/
section VX4_next
variable {p : Program} {l : Launch} {e : Env} {s : State} {m : MethodId} {args : Array Value} {below : List Frame} {meth : Method} {c : Code} {Z : wZ} {A : Nat → Prop}
set_option maxHeartbeats 4000000 in
theorem kb_X4_next_75 (C : wC p l s m args meth c cX4_next 1 none RX4 "next" Z A) (k : Wd → Prop) (L75 : Wd → Nat → Prop) (hL75 : ∀ (w : Wd) (x0 : Nat) (H : Heap) (locs : List Loc) (ls : Array Slot), L75 w x0 → wS Z A s w H locs → lv_has ls 1 [(0, .ref x0)] → W p l e ({ frames := 2, cells := 0, slots := 0, locals := 46 } : Room) s m args below meth c H locs 0 0 (MQ below (wQc Z A (pV k)) args s 0 0 A) (F0 m 75 ls [])) : ∀ (w : Wd) (a0 : Nat) (H : Heap) (locs : List Loc) (ls : Array Slot), wb_X4_next_75 k L75 w a0 → wS Z A s w H locs → lv_has ls 1 [(0, .ref a0)] → W p l e ({ frames := 2, cells := 0, slots := 0, locals := 46 } : Room) s m args below meth c H locs 0 0 (MQ below (wQc Z A (pV k)) args s 0 0 A) (F0 m 75 ls []) := by
  intro w a0 H locs ls h hS hl
  have hx := C.hx
  have hb := C.hb
  unfold wb_X4_next_75 at h
  refine lv_aload_n hx hb dX4_next_75 rfl (lv_at hl 0 rfl) ?_
  refine r_getF C hS h gk_78 q1363 dX4_next_76 (fun v12 h => ?_)
  refine lv_iconst (v := 3) hx hb dX4_next_79 (by decide) ?_
  refine r_icmp_ge (tgt := 111) hx hb h dX4_next_80 (by decide) (fun h => ?_) (fun h => ?_)
  · exact r_vret C hS h rfl (Nat.le_of_ble_eq_true rfl) (Nat.le_of_ble_eq_true rfl) dX4_next_111
  · refine lv_aload_n hx hb dX4_next_83 rfl (lv_at hl 0 rfl) ?_
    refine lv_aload_n hx hb dX4_next_84 rfl (lv_at hl 0 rfl) ?_
    refine r_getF C hS h gk_76 q1361 dX4_next_85 (fun v13 h => ?_)
    obtain ⟨hob, h⟩ := h
    refine r_V C hS (ct_X4_sortAt l Z w a0 v13 _ h) 1 24 hob ⟨by decide, by decide +kernel⟩ (lw_V q1534 q1536 qs39 q71 q1537) ⟨rfl, by decide, by decide, by decide +kernel⟩ ⟨Nat.le_of_ble_eq_true rfl, Nat.le_of_ble_eq_true rfl⟩ rfl hl.1 rfl (wcat4 (Nat.le_of_ble_eq_true rfl)) dX4_next_88 ⟨Nat.le_of_ble_eq_true rfl, Nat.le_of_ble_eq_true rfl⟩ (fun v_ w15 H locs hv hS => ?_)
    obtain ⟨v14, rfl, h⟩ := hv
    refine lv_aload_n hx hb dX4_next_91 rfl (lv_at hl 0 rfl) ?_
    refine r_getF C hS h gk_78 q1363 dX4_next_92 (fun v16 h => ?_)
    refine r_icmp_ne (tgt := 111) hx hb h dX4_next_95 (by decide) (fun h => ?_) (fun h => ?_)
    · exact r_vret C hS h rfl (Nat.le_of_ble_eq_true rfl) (Nat.le_of_ble_eq_true rfl) dX4_next_111
    · refine lv_aload_n hx hb dX4_next_98 rfl (lv_at hl 0 rfl) ?_
      refine lv_dup hx hb dX4_next_99 rfl ?_
      refine r_getF C hS h gk_76 q1361 dX4_next_100 (fun v17 h => ?_)
      refine lv_iconst (v := 1) hx hb dX4_next_103 (by decide) ?_
      refine lv_iadd hx hb dX4_next_104 ?_
      refine r_putF (fin := false) C hS h gk_76 (ty := .int) (by decide +kernel) ⟨rfl, rfl⟩ gk_76f (fun h => by cases h) q1361 dX4_next_105 (fun w18 H locs h hS => ?_)
      refine lv_goto (tgt := 75) hx hb dX4_next_108 (by decide) ?_
      exact hL75 w18 a0 _ _ _ h hS (lv_sub hl [0] rfl)
set_option maxHeartbeats 4000000 in
theorem kl_X4_next_75 (C : wC p l s m args meth c cX4_next 1 none RX4 "next" Z A) (k : Wd → Prop) : ∀ (n : Nat), ∀ (w : Wd) (a0 : Nat) (H : Heap) (locs : List Loc) (ls : Array Slot), wl_X4_next_75 k n w a0 → wS Z A s w H locs → lv_has ls 1 [(0, .ref a0)] → W p l e ({ frames := 2, cells := 0, slots := 0, locals := 46 } : Room) s m args below meth c H locs 0 0 (MQ below (wQc Z A (pV k)) args s 0 0 A) (F0 m 75 ls []) := by
  intro n
  induction n with
  | zero =>
    intro w a0 H locs ls h
    exact h.elim
  | succ n ih =>
    intro w a0 H locs ls h hS hl
    exact kb_X4_next_75 C k (wl_X4_next_75 k n) ih w a0 H locs ls h hS hl
set_option maxHeartbeats 4000000 in
theorem kb_X4_next_38 (C : wC p l s m args meth c cX4_next 1 none RX4 "next" Z A) (k : Wd → Prop) : ∀ (w : Wd) (a0 : Nat) (H : Heap) (locs : List Loc) (ls : Array Slot), wb_X4_next_38 k w a0 → wS Z A s w H locs → lv_has ls 1 [(0, .ref a0)] → W p l e ({ frames := 2, cells := 0, slots := 0, locals := 46 } : Room) s m args below meth c H locs 0 0 (MQ below (wQc Z A (pV k)) args s 0 0 A) (F0 m 38 ls []) := by
  intro w a0 H locs ls h hS hl
  have hx := C.hx
  have hb := C.hb
  unfold wb_X4_next_38 at h
  refine lv_aload_n hx hb dX4_next_38 rfl (lv_at hl 0 rfl) ?_
  refine lv_aload_n hx hb dX4_next_39 rfl (lv_at hl 0 rfl) ?_
  refine r_getF C hS h gk_76 q1361 dX4_next_40 (fun v3 h => ?_)
  refine r_putF (fin := false) C hS h gk_77 (ty := .int) (by decide +kernel) ⟨rfl, rfl⟩ gk_77f (fun h => by cases h) q1362 dX4_next_43 (fun w4 H locs h hS => ?_)
  refine lv_aload_n hx hb dX4_next_46 rfl (lv_at hl 0 rfl) ?_
  refine lv_aload_n hx hb dX4_next_47 rfl (lv_at hl 0 rfl) ?_
  refine lv_aload_n hx hb dX4_next_48 rfl (lv_at hl 0 rfl) ?_
  refine r_getF C hS h gk_76 q1361 dX4_next_49 (fun v5 h => ?_)
  obtain ⟨hob, h⟩ := h
  refine r_V C hS (ct_X4_sortAt l Z w4 a0 v5 _ h) 1 24 hob ⟨by decide, by decide +kernel⟩ (lw_V q1534 q1536 qs39 q71 q1537) ⟨rfl, by decide, by decide, by decide +kernel⟩ ⟨Nat.le_of_ble_eq_true rfl, Nat.le_of_ble_eq_true rfl⟩ rfl hl.1 rfl (wcat4 (Nat.le_of_ble_eq_true rfl)) dX4_next_52 ⟨Nat.le_of_ble_eq_true rfl, Nat.le_of_ble_eq_true rfl⟩ (fun v_ w7 H locs hv hS => ?_)
  obtain ⟨v6, rfl, h⟩ := hv
  refine r_putF (fin := false) C hS h gk_78 (ty := .int) (by decide +kernel) ⟨rfl, rfl⟩ gk_78f (fun h => by cases h) q1363 dX4_next_55 (fun w8 H locs h hS => ?_)
  refine lv_aload_n hx hb dX4_next_58 rfl (lv_at hl 0 rfl) ?_
  refine r_getF C hS h gk_78 q1363 dX4_next_59 (fun v9 h => ?_)
  refine r_if_le (tgt := 111) hx hb h dX4_next_62 (by decide) (fun h => ?_) (fun h => ?_)
  · exact r_vret C hS h rfl (Nat.le_of_ble_eq_true rfl) (Nat.le_of_ble_eq_true rfl) dX4_next_111
  · refine lv_aload_n hx hb dX4_next_65 rfl (lv_at hl 0 rfl) ?_
    refine lv_dup hx hb dX4_next_66 rfl ?_
    refine r_getF C hS h gk_76 q1361 dX4_next_67 (fun v10 h => ?_)
    refine lv_iconst (v := 1) hx hb dX4_next_70 (by decide) ?_
    refine lv_iadd hx hb dX4_next_71 ?_
    refine r_putF (fin := false) C hS h gk_76 (ty := .int) (by decide +kernel) ⟨rfl, rfl⟩ gk_76f (fun h => by cases h) q1361 dX4_next_72 (fun w11 H locs h hS => ?_)
    exact kl_X4_next_75 C k FU w11 a0 _ _ _ h hS (lv_sub hl [0] rfl)
set_option maxHeartbeats 4000000 in
theorem kb_X4_next_0 (C : wC p l s m args meth c cX4_next 1 none RX4 "next" Z A) (k : Wd → Prop) (L0 : Wd → Nat → Prop) (hL0 : ∀ (w : Wd) (x0 : Nat) (H : Heap) (locs : List Loc) (ls : Array Slot), L0 w x0 → wS Z A s w H locs → lv_has ls 1 [(0, .ref x0)] → W p l e ({ frames := 2, cells := 0, slots := 0, locals := 46 } : Room) s m args below meth c H locs 0 0 (MQ below (wQc Z A (pV k)) args s 0 0 A) (F0 m 0 ls [])) : ∀ (w : Wd) (a0 : Nat) (H : Heap) (locs : List Loc) (ls : Array Slot), wb_X4_next_0 k L0 w a0 → wS Z A s w H locs → lv_has ls 1 [(0, .ref a0)] → W p l e ({ frames := 2, cells := 0, slots := 0, locals := 46 } : Room) s m args below meth c H locs 0 0 (MQ below (wQc Z A (pV k)) args s 0 0 A) (F0 m 0 ls []) := by
  intro w a0 H locs ls h hS hl
  have hx := C.hx
  have hb := C.hb
  unfold wb_X4_next_0 at h
  refine lv_aload_n hx hb dX4_next_0 rfl (lv_at hl 0 rfl) ?_
  refine r_getF C hS h gk_76 q1361 dX4_next_1 (fun v1 h => ?_)
  refine lv_aload_n hx hb dX4_next_4 rfl (lv_at hl 0 rfl) ?_
  refine r_getF C hS h gk_75 q1360 dX4_next_5 (fun v2 h => ?_)
  refine r_icmp_ge (tgt := 38) hx hb h dX4_next_8 (by decide) (fun h => ?_) (fun h => ?_)
  · exact kb_X4_next_38 C k w a0 _ _ _ h hS (lv_sub hl [0] rfl)
  · refine lv_aload_n hx hb dX4_next_11 rfl (lv_at hl 0 rfl) ?_
    refine r_getG C hS h gk_59 q1359 dX4_next_12 (fun v19 h => ?_)
    refine lv_aload_n hx hb dX4_next_15 rfl (lv_at hl 0 rfl) ?_
    refine r_getF C hS h gk_76 q1361 dX4_next_16 (fun v20 h => ?_)
    refine r_iald C hS h dX4_next_19 (fun v21 h => ?_)
    refine lv_bipush (v := 32) hx hb dX4_next_20 (by decide) ?_
    refine r_icmp_ne (tgt := 38) hx hb h dX4_next_22 (by decide) (fun h => ?_) (fun h => ?_)
    · exact kb_X4_next_38 C k w a0 _ _ _ h hS (lv_sub hl [0] rfl)
    · refine lv_aload_n hx hb dX4_next_25 rfl (lv_at hl 0 rfl) ?_
      refine lv_dup hx hb dX4_next_26 rfl ?_
      refine r_getF C hS h gk_76 q1361 dX4_next_27 (fun v22 h => ?_)
      refine lv_iconst (v := 1) hx hb dX4_next_30 (by decide) ?_
      refine lv_iadd hx hb dX4_next_31 ?_
      refine r_putF (fin := false) C hS h gk_76 (ty := .int) (by decide +kernel) ⟨rfl, rfl⟩ gk_76f (fun h => by cases h) q1361 dX4_next_32 (fun w23 H locs h hS => ?_)
      refine lv_goto (tgt := 0) hx hb dX4_next_35 (by decide) ?_
      exact hL0 w23 a0 _ _ _ h hS (lv_sub hl [0] rfl)
set_option maxHeartbeats 4000000 in
theorem kl_X4_next_0 (C : wC p l s m args meth c cX4_next 1 none RX4 "next" Z A) (k : Wd → Prop) : ∀ (n : Nat), ∀ (w : Wd) (a0 : Nat) (H : Heap) (locs : List Loc) (ls : Array Slot), wl_X4_next_0 k n w a0 → wS Z A s w H locs → lv_has ls 1 [(0, .ref a0)] → W p l e ({ frames := 2, cells := 0, slots := 0, locals := 46 } : Room) s m args below meth c H locs 0 0 (MQ below (wQc Z A (pV k)) args s 0 0 A) (F0 m 0 ls []) := by
  intro n
  induction n with
  | zero =>
    intro w a0 H locs ls h
    exact h.elim
  | succ n ih =>
    intro w a0 H locs ls h hS hl
    exact kb_X4_next_0 C k (wl_X4_next_0 k n) ih w a0 H locs ls h hS hl
set_option maxHeartbeats 4000000 in
theorem ct_X4_next (l : Launch) (Z : wZ) (w : Wd) (a0 : Nat) (k : Wd → Prop) (h : wp_X4_next w a0 k) : wMet l Z yX4_next cX4_next 1 none 2 46 0 0 [.ref a0] w (pV k) := by
  refine wM_of (by decide +kernel) (Nat.le_of_ble_eq_true rfl) ?_
  intro p e s m below meth c ls C hS hl
  replace C : wC p l s m _ meth c cX4_next 1 none RX4 "next" Z _ := C
  have hl : lv_has ls 1 [(0, .ref a0)] := hl
  have hx := C.hx
  have hb := C.hb
  unfold wp_X4_next at h
  generalize wA w = A at C hS ⊢
  exact kl_X4_next_0 C k FU w a0 _ _ _ h hS (lv_sub hl [0] rfl)
end VX4_next
/-! LeftIsAgreedOnModel.word()I -/
section VX4_word
variable {p : Program} {l : Launch} {e : Env} {s : State} {m : MethodId} {args : Array Value} {below : List Frame} {meth : Method} {c : Code} {Z : wZ} {A : Nat → Prop}
set_option maxHeartbeats 4000000 in
theorem kb_X4_word_109 (C : wC p l s m args meth c cX4_word 5 (some .int) RX4 "word" Z A) (k : Int32 → Wd → Prop) (L4 : Wd → Nat → Int32 → Int32 → Prop) (hL4 : ∀ (w : Wd) (x0 : Nat) (x1 : Int32) (x2 : Int32) (H : Heap) (locs : List Loc) (ls : Array Slot), L4 w x0 x1 x2 → wS Z A s w H locs → lv_has ls 5 [(0, .ref x0), (1, .int x1), (2, .int x2)] → W p l e ({ frames := 0, cells := 0, slots := 0, locals := 0 } : Room) s m args below meth c H locs 0 0 (MQ below (wQc Z A (pI k)) args s 0 0 A) (F0 m 4 ls [])) : ∀ (w : Wd) (a0 : Nat) (l1 : Int32) (l2 : Int32) (l3 : Int32) (H : Heap) (locs : List Loc) (ls : Array Slot), wb_X4_word_109 k L4 w a0 l1 l2 l3 → wS Z A s w H locs → lv_has ls 5 [(0, .ref a0), (1, .int l1), (2, .int l2), (3, .int l3)] → W p l e ({ frames := 0, cells := 0, slots := 0, locals := 0 } : Room) s m args below meth c H locs 0 0 (MQ below (wQc Z A (pI k)) args s 0 0 A) (F0 m 109 ls []) := by
  intro w a0 l1 l2 l3 H locs ls h hS hl
  have hx := C.hx
  have hb := C.hb
  unfold wb_X4_word_109 at h
  refine lv_iload_n hx hb dX4_word_109 rfl (lv_at hl 3 rfl) ?_
  refine r_if_eq (tgt := 117) hx hb h dX4_word_110 (by decide) (fun h => ?_) (fun h => ?_)
  · refine lv_iload_n hx hb dX4_word_117 rfl (lv_at hl 1 rfl) ?_
    refine lv_istore_n (i := 1) (lv' := [(1, .int l1), (0, .ref a0), (2, .int l2), (3, .int l3)]) hx hb dX4_word_118 rfl hl (by decide) rfl (fun ls hl => ?_)
    refine lv_iinc (i := 2) (v := (l2 + 1)) (lv' := [(2, .int (l2 + 1)), (1, .int l1), (0, .ref a0), (3, .int l3)]) hx hb dX4_word_119 hl (k := 2) rfl rfl (by decide) rfl (fun ls hl => ?_)
    refine lv_goto (tgt := 4) hx hb dX4_word_122 (by decide) ?_
    exact hL4 w a0 l1 (l2 + 1) _ _ _ h hS (lv_sub hl [2, 1, 0] rfl)
  · refine lv_iload_n hx hb dX4_word_113 rfl (lv_at hl 2 rfl) ?_
    refine lv_goto (tgt := 118) hx hb dX4_word_114 (by decide) ?_
    refine lv_istore_n (i := 1) (lv' := [(1, .int l2), (0, .ref a0), (2, .int l2), (3, .int l3)]) hx hb dX4_word_118 rfl hl (by decide) rfl (fun ls hl => ?_)
    refine lv_iinc (i := 2) (v := (l2 + 1)) (lv' := [(2, .int (l2 + 1)), (1, .int l2), (0, .ref a0), (3, .int l3)]) hx hb dX4_word_119 hl (k := 2) rfl rfl (by decide) rfl (fun ls hl => ?_)
    refine lv_goto (tgt := 4) hx hb dX4_word_122 (by decide) ?_
    exact hL4 w a0 l2 (l2 + 1) _ _ _ h hS (lv_sub hl [2, 1, 0] rfl)
set_option maxHeartbeats 4000000 in
theorem kb_X4_word_82 (C : wC p l s m args meth c cX4_word 5 (some .int) RX4 "word" Z A) (k : Int32 → Wd → Prop) (L4 : Wd → Nat → Int32 → Int32 → Prop) (hL4 : ∀ (w : Wd) (x0 : Nat) (x1 : Int32) (x2 : Int32) (H : Heap) (locs : List Loc) (ls : Array Slot), L4 w x0 x1 x2 → wS Z A s w H locs → lv_has ls 5 [(0, .ref x0), (1, .int x1), (2, .int x2)] → W p l e ({ frames := 0, cells := 0, slots := 0, locals := 0 } : Room) s m args below meth c H locs 0 0 (MQ below (wQc Z A (pI k)) args s 0 0 A) (F0 m 4 ls [])) (L41 : Wd → Nat → Int32 → Int32 → Int32 → Int32 → Prop) (hL41 : ∀ (w : Wd) (x0 : Nat) (x1 : Int32) (x2 : Int32) (x3 : Int32) (x4 : Int32) (H : Heap) (locs : List Loc) (ls : Array Slot), L41 w x0 x1 x2 x3 x4 → wS Z A s w H locs → lv_has ls 5 [(0, .ref x0), (1, .int x1), (2, .int x2), (3, .int x3), (4, .int x4)] → W p l e ({ frames := 0, cells := 0, slots := 0, locals := 0 } : Room) s m args below meth c H locs 0 0 (MQ below (wQc Z A (pI k)) args s 0 0 A) (F0 m 41 ls [])) : ∀ (w : Wd) (a0 : Nat) (l1 : Int32) (l2 : Int32) (l4 : Int32) (s0 : Int32) (H : Heap) (locs : List Loc) (ls : Array Slot), wb_X4_word_82 k L4 L41 w a0 l1 l2 l4 s0 → wS Z A s w H locs → lv_has ls 5 [(0, .ref a0), (1, .int l1), (2, .int l2), (4, .int l4)] → W p l e ({ frames := 0, cells := 0, slots := 0, locals := 0 } : Room) s m args below meth c H locs 0 0 (MQ below (wQc Z A (pI k)) args s 0 0 A) (F0 m 82 ls [.int s0]) := by
  intro w a0 l1 l2 l4 s0 H locs ls h hS hl
  have hx := C.hx
  have hb := C.hb
  unfold wb_X4_word_82 at h
  refine lv_aload_n hx hb dX4_word_82 rfl (lv_at hl 0 rfl) ?_
  refine r_getG C hS h gk_60 q1364 dX4_word_83 (fun v4 h => ?_)
  refine lv_bipush (v := 6) hx hb dX4_word_86 (by decide) ?_
  refine lv_iload_n hx hb dX4_word_88 rfl (lv_at hl 2 rfl) ?_
  refine lv_imul hx hb dX4_word_89 ?_
  refine lv_iload hx hb dX4_word_90 (lv_at hl 3 rfl) ?_
  refine lv_iadd hx hb dX4_word_92 ?_
  refine r_cald C hS h dX4_word_93 (fun v5 h => ?_)
  refine r_icmp_ne (tgt := 101) hx hb h dX4_word_94 (by decide) (fun h => ?_) (fun h => ?_)
  · refine lv_iconst (v := 0) hx hb dX4_word_101 (by decide) ?_
    refine lv_istore_n (i := 3) (lv' := [(3, .int 0), (0, .ref a0), (1, .int l1), (2, .int l2), (4, .int l4)]) hx hb dX4_word_102 rfl hl (by decide) rfl (fun ls hl => ?_)
    refine lv_iinc (i := 4) (v := (l4 + 1)) (lv' := [(4, .int (l4 + 1)), (3, .int 0), (0, .ref a0), (1, .int l1), (2, .int l2)]) hx hb dX4_word_103 hl (k := 4) rfl rfl (by decide) rfl (fun ls hl => ?_)
    refine lv_goto (tgt := 41) hx hb dX4_word_106 (by decide) ?_
    exact hL41 w a0 l1 l2 0 (l4 + 1) _ _ _ h hS (lv_sub hl [2, 3, 4, 1, 0] rfl)
  · refine lv_iconst (v := 1) hx hb dX4_word_97 (by decide) ?_
    refine lv_goto (tgt := 102) hx hb dX4_word_98 (by decide) ?_
    refine lv_istore_n (i := 3) (lv' := [(3, .int 1), (0, .ref a0), (1, .int l1), (2, .int l2), (4, .int l4)]) hx hb dX4_word_102 rfl hl (by decide) rfl (fun ls hl => ?_)
    refine lv_iinc (i := 4) (v := (l4 + 1)) (lv' := [(4, .int (l4 + 1)), (3, .int 1), (0, .ref a0), (1, .int l1), (2, .int l2)]) hx hb dX4_word_103 hl (k := 4) rfl rfl (by decide) rfl (fun ls hl => ?_)
    refine lv_goto (tgt := 41) hx hb dX4_word_106 (by decide) ?_
    exact hL41 w a0 l1 l2 1 (l4 + 1) _ _ _ h hS (lv_sub hl [2, 3, 4, 1, 0] rfl)
set_option maxHeartbeats 4000000 in
theorem kb_X4_word_41 (C : wC p l s m args meth c cX4_word 5 (some .int) RX4 "word" Z A) (k : Int32 → Wd → Prop) (L4 : Wd → Nat → Int32 → Int32 → Prop) (hL4 : ∀ (w : Wd) (x0 : Nat) (x1 : Int32) (x2 : Int32) (H : Heap) (locs : List Loc) (ls : Array Slot), L4 w x0 x1 x2 → wS Z A s w H locs → lv_has ls 5 [(0, .ref x0), (1, .int x1), (2, .int x2)] → W p l e ({ frames := 0, cells := 0, slots := 0, locals := 0 } : Room) s m args below meth c H locs 0 0 (MQ below (wQc Z A (pI k)) args s 0 0 A) (F0 m 4 ls [])) (L41 : Wd → Nat → Int32 → Int32 → Int32 → Int32 → Prop) (hL41 : ∀ (w : Wd) (x0 : Nat) (x1 : Int32) (x2 : Int32) (x3 : Int32) (x4 : Int32) (H : Heap) (locs : List Loc) (ls : Array Slot), L41 w x0 x1 x2 x3 x4 → wS Z A s w H locs → lv_has ls 5 [(0, .ref x0), (1, .int x1), (2, .int x2), (3, .int x3), (4, .int x4)] → W p l e ({ frames := 0, cells := 0, slots := 0, locals := 0 } : Room) s m args below meth c H locs 0 0 (MQ below (wQc Z A (pI k)) args s 0 0 A) (F0 m 41 ls [])) : ∀ (w : Wd) (a0 : Nat) (l1 : Int32) (l2 : Int32) (l3 : Int32) (l4 : Int32) (H : Heap) (locs : List Loc) (ls : Array Slot), wb_X4_word_41 k L4 L41 w a0 l1 l2 l3 l4 → wS Z A s w H locs → lv_has ls 5 [(0, .ref a0), (1, .int l1), (2, .int l2), (3, .int l3), (4, .int l4)] → W p l e ({ frames := 0, cells := 0, slots := 0, locals := 0 } : Room) s m args below meth c H locs 0 0 (MQ below (wQc Z A (pI k)) args s 0 0 A) (F0 m 41 ls []) := by
  intro w a0 l1 l2 l3 l4 H locs ls h hS hl
  have hx := C.hx
  have hb := C.hb
  unfold wb_X4_word_41 at h
  refine lv_iload hx hb dX4_word_41 (lv_at hl 4 rfl) ?_
  refine lv_bipush (v := 6) hx hb dX4_word_43 (by decide) ?_
  refine r_icmp_ge (tgt := 109) hx hb h dX4_word_45 (by decide) (fun h => ?_) (fun h => ?_)
  · exact kb_X4_word_109 C k L4 hL4 w a0 l1 l2 l3 _ _ _ h hS (lv_sub hl [0, 1, 2, 3] rfl)
  · refine lv_iload_n hx hb dX4_word_48 rfl (lv_at hl 3 rfl) ?_
    refine r_if_eq (tgt := 109) hx hb h dX4_word_49 (by decide) (fun h => ?_) (fun h => ?_)
    · exact kb_X4_word_109 C k L4 hL4 w a0 l1 l2 l3 _ _ _ h hS (lv_sub hl [0, 1, 2, 3] rfl)
    · refine lv_aload_n hx hb dX4_word_52 rfl (lv_at hl 0 rfl) ?_
      refine r_getF C hS h gk_77 q1362 dX4_word_53 (fun v2 h => ?_)
      refine lv_iload hx hb dX4_word_56 (lv_at hl 4 rfl) ?_
      refine lv_iadd hx hb dX4_word_58 ?_
      refine lv_aload_n hx hb dX4_word_59 rfl (lv_at hl 0 rfl) ?_
      refine r_getF C hS h gk_76 q1361 dX4_word_60 (fun v3 h => ?_)
      refine r_icmp_ge (tgt := 81) hx hb h dX4_word_63 (by decide) (fun h => ?_) (fun h => ?_)
      · refine lv_iconst (v := 0) hx hb dX4_word_81 (by decide) ?_
        exact kb_X4_word_82 C k L4 hL4 L41 hL41 w a0 l1 l2 l4 0 _ _ _ h hS (lv_sub hl [0, 1, 2, 4] rfl)
      · refine lv_aload_n hx hb dX4_word_66 rfl (lv_at hl 0 rfl) ?_
        refine r_getG C hS h gk_59 q1359 dX4_word_67 (fun v6 h => ?_)
        refine lv_aload_n hx hb dX4_word_70 rfl (lv_at hl 0 rfl) ?_
        refine r_getF C hS h gk_77 q1362 dX4_word_71 (fun v7 h => ?_)
        refine lv_iload hx hb dX4_word_74 (lv_at hl 4 rfl) ?_
        refine lv_iadd hx hb dX4_word_76 ?_
        refine r_iald C hS h dX4_word_77 (fun v8 h => ?_)
        refine lv_goto (tgt := 82) hx hb dX4_word_78 (by decide) ?_
        exact kb_X4_word_82 C k L4 hL4 L41 hL41 w a0 l1 l2 l4 v8 _ _ _ h hS (lv_sub hl [0, 1, 2, 4] rfl)
set_option maxHeartbeats 4000000 in
theorem kl_X4_word_41 (C : wC p l s m args meth c cX4_word 5 (some .int) RX4 "word" Z A) (k : Int32 → Wd → Prop) (L4 : Wd → Nat → Int32 → Int32 → Prop) (hL4 : ∀ (w : Wd) (x0 : Nat) (x1 : Int32) (x2 : Int32) (H : Heap) (locs : List Loc) (ls : Array Slot), L4 w x0 x1 x2 → wS Z A s w H locs → lv_has ls 5 [(0, .ref x0), (1, .int x1), (2, .int x2)] → W p l e ({ frames := 0, cells := 0, slots := 0, locals := 0 } : Room) s m args below meth c H locs 0 0 (MQ below (wQc Z A (pI k)) args s 0 0 A) (F0 m 4 ls [])) : ∀ (n : Nat), ∀ (w : Wd) (a0 : Nat) (l1 : Int32) (l2 : Int32) (l3 : Int32) (l4 : Int32) (H : Heap) (locs : List Loc) (ls : Array Slot), wl_X4_word_41 k L4 n w a0 l1 l2 l3 l4 → wS Z A s w H locs → lv_has ls 5 [(0, .ref a0), (1, .int l1), (2, .int l2), (3, .int l3), (4, .int l4)] → W p l e ({ frames := 0, cells := 0, slots := 0, locals := 0 } : Room) s m args below meth c H locs 0 0 (MQ below (wQc Z A (pI k)) args s 0 0 A) (F0 m 41 ls []) := by
  intro n
  induction n with
  | zero =>
    intro w a0 l1 l2 l3 l4 H locs ls h
    exact h.elim
  | succ n ih =>
    intro w a0 l1 l2 l3 l4 H locs ls h hS hl
    exact kb_X4_word_41 C k L4 hL4 (wl_X4_word_41 k L4 n) ih w a0 l1 l2 l3 l4 H locs ls h hS hl
set_option maxHeartbeats 4000000 in
theorem kb_X4_word_4 (C : wC p l s m args meth c cX4_word 5 (some .int) RX4 "word" Z A) (k : Int32 → Wd → Prop) (L4 : Wd → Nat → Int32 → Int32 → Prop) (hL4 : ∀ (w : Wd) (x0 : Nat) (x1 : Int32) (x2 : Int32) (H : Heap) (locs : List Loc) (ls : Array Slot), L4 w x0 x1 x2 → wS Z A s w H locs → lv_has ls 5 [(0, .ref x0), (1, .int x1), (2, .int x2)] → W p l e ({ frames := 0, cells := 0, slots := 0, locals := 0 } : Room) s m args below meth c H locs 0 0 (MQ below (wQc Z A (pI k)) args s 0 0 A) (F0 m 4 ls [])) : ∀ (w : Wd) (a0 : Nat) (l1 : Int32) (l2 : Int32) (H : Heap) (locs : List Loc) (ls : Array Slot), wb_X4_word_4 k L4 w a0 l1 l2 → wS Z A s w H locs → lv_has ls 5 [(0, .ref a0), (1, .int l1), (2, .int l2)] → W p l e ({ frames := 0, cells := 0, slots := 0, locals := 0 } : Room) s m args below meth c H locs 0 0 (MQ below (wQc Z A (pI k)) args s 0 0 A) (F0 m 4 ls []) := by
  intro w a0 l1 l2 H locs ls h hS hl
  have hx := C.hx
  have hb := C.hb
  unfold wb_X4_word_4 at h
  refine lv_iload_n hx hb dX4_word_4 rfl (lv_at hl 2 rfl) ?_
  refine lv_bipush (v := 8) hx hb dX4_word_5 (by decide) ?_
  refine r_icmp_ge (tgt := 125) hx hb h dX4_word_7 (by decide) (fun h => ?_) (fun h => ?_)
  · refine lv_iload_n hx hb dX4_word_125 rfl (lv_at hl 1 rfl) ?_
    exact r_iret C hS h rfl rfl (Nat.le_of_ble_eq_true rfl) (Nat.le_of_ble_eq_true rfl) dX4_word_126
  · refine lv_aload_n hx hb dX4_word_10 rfl (lv_at hl 0 rfl) ?_
    refine r_getF C hS h gk_78 q1363 dX4_word_11 (fun v1 h => ?_)
    refine lv_iconst (v := 1) hx hb dX4_word_14 (by decide) ?_
    refine r_icmp_ne (tgt := 36) hx hb h dX4_word_15 (by decide) (fun h => ?_) (fun h => ?_)
    · refine lv_iconst (v := 0) hx hb dX4_word_36 (by decide) ?_
      refine lv_istore_n (i := 3) (lv' := [(3, .int 0), (0, .ref a0), (1, .int l1), (2, .int l2)]) hx hb dX4_word_37 rfl hl (by decide) rfl (fun ls hl => ?_)
      refine lv_iconst (v := 0) hx hb dX4_word_38 (by decide) ?_
      refine lv_istore (i := 4) (lv' := [(4, .int 0), (3, .int 0), (0, .ref a0), (1, .int l1), (2, .int l2)]) hx hb dX4_word_39 hl (by decide) rfl (fun ls hl => ?_)
      exact kl_X4_word_41 C k L4 hL4 FU w a0 l1 l2 0 0 _ _ _ h hS (lv_sub hl [2, 3, 4, 1, 0] rfl)
    · refine lv_aload_n hx hb dX4_word_18 rfl (lv_at hl 0 rfl) ?_
      refine r_getF C hS h gk_76 q1361 dX4_word_19 (fun v9 h => ?_)
      refine lv_aload_n hx hb dX4_word_22 rfl (lv_at hl 0 rfl) ?_
      refine r_getF C hS h gk_77 q1362 dX4_word_23 (fun v10 h => ?_)
      refine lv_isub hx hb dX4_word_26 ?_
      refine lv_bipush (v := 6) hx hb dX4_word_27 (by decide) ?_
      refine r_icmp_gt (tgt := 36) hx hb h dX4_word_29 (by decide) (fun h => ?_) (fun h => ?_)
      · refine lv_iconst (v := 0) hx hb dX4_word_36 (by decide) ?_
        refine lv_istore_n (i := 3) (lv' := [(3, .int 0), (0, .ref a0), (1, .int l1), (2, .int l2)]) hx hb dX4_word_37 rfl hl (by decide) rfl (fun ls hl => ?_)
        refine lv_iconst (v := 0) hx hb dX4_word_38 (by decide) ?_
        refine lv_istore (i := 4) (lv' := [(4, .int 0), (3, .int 0), (0, .ref a0), (1, .int l1), (2, .int l2)]) hx hb dX4_word_39 hl (by decide) rfl (fun ls hl => ?_)
        exact kl_X4_word_41 C k L4 hL4 FU w a0 l1 l2 0 0 _ _ _ h hS (lv_sub hl [2, 3, 4, 1, 0] rfl)
      · refine lv_iconst (v := 1) hx hb dX4_word_32 (by decide) ?_
        refine lv_goto (tgt := 37) hx hb dX4_word_33 (by decide) ?_
        refine lv_istore_n (i := 3) (lv' := [(3, .int 1), (0, .ref a0), (1, .int l1), (2, .int l2)]) hx hb dX4_word_37 rfl hl (by decide) rfl (fun ls hl => ?_)
        refine lv_iconst (v := 0) hx hb dX4_word_38 (by decide) ?_
        refine lv_istore (i := 4) (lv' := [(4, .int 0), (3, .int 1), (0, .ref a0), (1, .int l1), (2, .int l2)]) hx hb dX4_word_39 hl (by decide) rfl (fun ls hl => ?_)
        exact kl_X4_word_41 C k L4 hL4 FU w a0 l1 l2 1 0 _ _ _ h hS (lv_sub hl [2, 3, 4, 1, 0] rfl)
set_option maxHeartbeats 4000000 in
theorem kl_X4_word_4 (C : wC p l s m args meth c cX4_word 5 (some .int) RX4 "word" Z A) (k : Int32 → Wd → Prop) : ∀ (n : Nat), ∀ (w : Wd) (a0 : Nat) (l1 : Int32) (l2 : Int32) (H : Heap) (locs : List Loc) (ls : Array Slot), wl_X4_word_4 k n w a0 l1 l2 → wS Z A s w H locs → lv_has ls 5 [(0, .ref a0), (1, .int l1), (2, .int l2)] → W p l e ({ frames := 0, cells := 0, slots := 0, locals := 0 } : Room) s m args below meth c H locs 0 0 (MQ below (wQc Z A (pI k)) args s 0 0 A) (F0 m 4 ls []) := by
  intro n
  induction n with
  | zero =>
    intro w a0 l1 l2 H locs ls h
    exact h.elim
  | succ n ih =>
    intro w a0 l1 l2 H locs ls h hS hl
    exact kb_X4_word_4 C k (wl_X4_word_4 k n) ih w a0 l1 l2 H locs ls h hS hl
set_option maxHeartbeats 4000000 in
theorem ct_X4_word (l : Launch) (Z : wZ) (w : Wd) (a0 : Nat) (k : Int32 → Wd → Prop) (h : wp_X4_word w a0 k) : wMet l Z yX4_word cX4_word 5 (some .int) 0 0 0 0 [.ref a0] w (pI k) := by
  refine wM_of (by decide +kernel) (Nat.le_of_ble_eq_true rfl) ?_
  intro p e s m below meth c ls C hS hl
  replace C : wC p l s m _ meth c cX4_word 5 (some .int) RX4 "word" Z _ := C
  have hl : lv_has ls 5 [(0, .ref a0)] := hl
  have hx := C.hx
  have hb := C.hb
  unfold wp_X4_word at h
  generalize wA w = A at C hS ⊢
  refine lv_iconst (v := -1) hx hb dX4_word_0 (by decide) ?_
  refine lv_istore_n (i := 1) (lv' := [(1, .int (-1)), (0, .ref a0)]) hx hb dX4_word_1 rfl hl (by decide) rfl (fun ls hl => ?_)
  refine lv_iconst (v := 0) hx hb dX4_word_2 (by decide) ?_
  refine lv_istore_n (i := 2) (lv' := [(2, .int 0), (1, .int (-1)), (0, .ref a0)]) hx hb dX4_word_3 rfl hl (by decide) rfl (fun ls hl => ?_)
  exact kl_X4_word_4 C k FU w a0 (-1) 0 _ _ _ h hS (lv_sub hl [2, 1, 0] rfl)
end VX4_word
/-! LeftIsAgreedOnModel.number(II)I -/
section VX4_number
variable {p : Program} {l : Launch} {e : Env} {s : State} {m : MethodId} {args : Array Value} {below : List Frame} {meth : Method} {c : Code} {Z : wZ} {A : Nat → Prop}
set_option maxHeartbeats 4000000 in
theorem kb_X4_number_35 (C : wC p l s m args meth c cX4_number 5 (some .int) RX4 "number" Z A) (k : Int32 → Wd → Prop) (L35 : Wd → Nat → Int32 → Int32 → Int32 → Int32 → Prop) (hL35 : ∀ (w : Wd) (x0 : Nat) (x1 : Int32) (x2 : Int32) (x3 : Int32) (x4 : Int32) (H : Heap) (locs : List Loc) (ls : Array Slot), L35 w x0 x1 x2 x3 x4 → wS Z A s w H locs → lv_has ls 5 [(0, .ref x0), (1, .int x1), (2, .int x2), (3, .int x3), (4, .int x4)] → W p l e ({ frames := 3, cells := 0, slots := 0, locals := 66 } : Room) s m args below meth c H locs 0 0 (MQ below (wQc Z A (pI k)) args s 0 0 A) (F0 m 35 ls [])) : ∀ (w : Wd) (a0 : Nat) (l1 : Int32) (l2 : Int32) (l3 : Int32) (l4 : Int32) (H : Heap) (locs : List Loc) (ls : Array Slot), wb_X4_number_35 k L35 w a0 l1 l2 l3 l4 → wS Z A s w H locs → lv_has ls 5 [(0, .ref a0), (1, .int l1), (2, .int l2), (3, .int l3), (4, .int l4)] → W p l e ({ frames := 3, cells := 0, slots := 0, locals := 66 } : Room) s m args below meth c H locs 0 0 (MQ below (wQc Z A (pI k)) args s 0 0 A) (F0 m 35 ls []) := by
  intro w a0 l1 l2 l3 l4 H locs ls h hS hl
  have hx := C.hx
  have hb := C.hb
  unfold wb_X4_number_35 at h
  refine lv_iload hx hb dX4_number_35 (lv_at hl 4 rfl) ?_
  refine lv_aload_n hx hb dX4_number_37 rfl (lv_at hl 0 rfl) ?_
  refine r_getF C hS h gk_76 q1361 dX4_number_38 (fun v6 h => ?_)
  refine r_icmp_ge (tgt := 66) hx hb h dX4_number_41 (by decide) (fun h => ?_) (fun h => ?_)
  · refine lv_iload_n hx hb dX4_number_66 rfl (lv_at hl 3 rfl) ?_
    refine lv_i2l hx hb dX4_number_67 rfl ?_
    refine lv_iload_n hx hb dX4_number_68 rfl (lv_at hl 1 rfl) ?_
    refine lv_i2l hx hb dX4_number_69 rfl ?_
    refine lv_iload_n hx hb dX4_number_70 rfl (lv_at hl 2 rfl) ?_
    refine lv_i2l hx hb dX4_number_71 rfl ?_
    refine r_S C hS (ct_X4_isIn l Z w (l3.toInt64) (l1.toInt64) (l2.toInt64) _ h) 3 (lw_S q1439 q1440 q71 q1441) ⟨by decide, by decide, by decide +kernel⟩ ⟨Nat.le_of_ble_eq_true rfl, Nat.le_of_ble_eq_true rfl⟩ rfl hl.1 rfl (wcat4 (Nat.le_of_ble_eq_true rfl)) dX4_number_72 ⟨Nat.le_of_ble_eq_true rfl, Nat.le_of_ble_eq_true rfl⟩ (fun v_ w8 H locs hv hS => ?_)
    obtain ⟨v7, rfl, h⟩ := hv
    refine r_if_eq (tgt := 82) hx hb h dX4_number_75 (by decide) (fun h => ?_) (fun h => ?_)
    · refine lv_iconst (v := -1) hx hb dX4_number_82 (by decide) ?_
      exact r_iret C hS h rfl rfl (Nat.le_of_ble_eq_true rfl) (Nat.le_of_ble_eq_true rfl) dX4_number_83
    · refine lv_iload_n hx hb dX4_number_78 rfl (lv_at hl 3 rfl) ?_
      refine lv_goto (tgt := 83) hx hb dX4_number_79 (by decide) ?_
      exact r_iret C hS h rfl rfl (Nat.le_of_ble_eq_true rfl) (Nat.le_of_ble_eq_true rfl) dX4_number_83
  · refine lv_bipush (v := 10) hx hb dX4_number_44 (by decide) ?_
    refine lv_iload_n hx hb dX4_number_46 rfl (lv_at hl 3 rfl) ?_
    refine lv_imul hx hb dX4_number_47 ?_
    refine lv_aload_n hx hb dX4_number_48 rfl (lv_at hl 0 rfl) ?_
    refine r_getG C hS h gk_59 q1359 dX4_number_49 (fun v9 h => ?_)
    refine lv_iload hx hb dX4_number_52 (lv_at hl 4 rfl) ?_
    refine r_iald C hS h dX4_number_54 (fun v10 h => ?_)
    refine lv_iadd hx hb dX4_number_55 ?_
    refine lv_bipush (v := 48) hx hb dX4_number_56 (by decide) ?_
    refine lv_isub hx hb dX4_number_58 ?_
    refine lv_istore_n (i := 3) (lv' := [(3, .int (((10 * l3) + v10) - 48)), (0, .ref a0), (1, .int l1), (2, .int l2), (4, .int l4)]) hx hb dX4_number_59 rfl hl (by decide) rfl (fun ls hl => ?_)
    refine lv_iinc (i := 4) (v := (l4 + 1)) (lv' := [(4, .int (l4 + 1)), (3, .int (((10 * l3) + v10) - 48)), (0, .ref a0), (1, .int l1), (2, .int l2)]) hx hb dX4_number_60 hl (k := 4) rfl rfl (by decide) rfl (fun ls hl => ?_)
    refine lv_goto (tgt := 35) hx hb dX4_number_63 (by decide) ?_
    exact hL35 w a0 l1 l2 (((10 * l3) + v10) - 48) (l4 + 1) _ _ _ h hS (lv_sub hl [2, 3, 4, 1, 0] rfl)
set_option maxHeartbeats 4000000 in
theorem kl_X4_number_35 (C : wC p l s m args meth c cX4_number 5 (some .int) RX4 "number" Z A) (k : Int32 → Wd → Prop) : ∀ (n : Nat), ∀ (w : Wd) (a0 : Nat) (l1 : Int32) (l2 : Int32) (l3 : Int32) (l4 : Int32) (H : Heap) (locs : List Loc) (ls : Array Slot), wl_X4_number_35 k n w a0 l1 l2 l3 l4 → wS Z A s w H locs → lv_has ls 5 [(0, .ref a0), (1, .int l1), (2, .int l2), (3, .int l3), (4, .int l4)] → W p l e ({ frames := 3, cells := 0, slots := 0, locals := 66 } : Room) s m args below meth c H locs 0 0 (MQ below (wQc Z A (pI k)) args s 0 0 A) (F0 m 35 ls []) := by
  intro n
  induction n with
  | zero =>
    intro w a0 l1 l2 l3 l4 H locs ls h
    exact h.elim
  | succ n ih =>
    intro w a0 l1 l2 l3 l4 H locs ls h hS hl
    exact kb_X4_number_35 C k (wl_X4_number_35 k n) ih w a0 l1 l2 l3 l4 H locs ls h hS hl
set_option maxHeartbeats 4000000 in
theorem ct_X4_number (l : Launch) (Z : wZ) (w : Wd) (a0 : Nat) (a1 : Int32) (a2 : Int32) (k : Int32 → Wd → Prop) (h : wp_X4_number w a0 a1 a2 k) : wMet l Z yX4_number cX4_number 5 (some .int) 3 66 0 0 [.ref a0, .int a1, .int a2] w (pI k) := by
  refine wM_of (by decide +kernel) (Nat.le_of_ble_eq_true rfl) ?_
  intro p e s m below meth c ls C hS hl
  replace C : wC p l s m _ meth c cX4_number 5 (some .int) RX4 "number" Z _ := C
  have hl : lv_has ls 5 [(0, .ref a0), (1, .int a1), (2, .int a2)] := hl
  have hx := C.hx
  have hb := C.hb
  unfold wp_X4_number at h
  generalize wA w = A at C hS ⊢
  refine lv_aload_n hx hb dX4_number_0 rfl (lv_at hl 0 rfl) ?_
  obtain ⟨hob, h⟩ := h
  refine r_V C hS (ct_X4_next l Z w a0 _ h) 0 24 hob ⟨by decide, by decide +kernel⟩ (lw_V q1530 q1532 qs38 q71 q1533) ⟨rfl, by decide, by decide, by decide +kernel⟩ ⟨Nat.le_of_ble_eq_true rfl, Nat.le_of_ble_eq_true rfl⟩ rfl hl.1 rfl (wcat4 (Nat.le_of_ble_eq_true rfl)) dX4_number_1 ⟨Nat.le_of_ble_eq_true rfl, Nat.le_of_ble_eq_true rfl⟩ (fun v_ w1 H locs hv hS => ?_)
  obtain ⟨rfl, h⟩ := hv
  refine lv_aload_n hx hb dX4_number_4 rfl (lv_at hl 0 rfl) ?_
  refine r_getF C hS h gk_78 q1363 dX4_number_5 (fun v2 h => ?_)
  refine lv_iconst (v := 2) hx hb dX4_number_8 (by decide) ?_
  refine r_icmp_ne (tgt := 25) hx hb h dX4_number_9 (by decide) (fun h => ?_) (fun h => ?_)
  · refine lv_iconst (v := -1) hx hb dX4_number_25 (by decide) ?_
    exact r_iret C hS h rfl rfl (Nat.le_of_ble_eq_true rfl) (Nat.le_of_ble_eq_true rfl) dX4_number_26
  · refine lv_aload_n hx hb dX4_number_12 rfl (lv_at hl 0 rfl) ?_
    refine r_getF C hS h gk_76 q1361 dX4_number_13 (fun v3 h => ?_)
    refine lv_aload_n hx hb dX4_number_16 rfl (lv_at hl 0 rfl) ?_
    refine r_getF C hS h gk_77 q1362 dX4_number_17 (fun v4 h => ?_)
    refine lv_isub hx hb dX4_number_20 ?_
    refine lv_iconst (v := 2) hx hb dX4_number_21 (by decide) ?_
    refine r_icmp_le (tgt := 27) hx hb h dX4_number_22 (by decide) (fun h => ?_) (fun h => ?_)
    · refine lv_iconst (v := 0) hx hb dX4_number_27 (by decide) ?_
      refine lv_istore_n (i := 3) (lv' := [(3, .int 0), (0, .ref a0), (1, .int a1), (2, .int a2)]) hx hb dX4_number_28 rfl hl (by decide) rfl (fun ls hl => ?_)
      refine lv_aload_n hx hb dX4_number_29 rfl (lv_at hl 1 rfl) ?_
      refine r_getF C hS h gk_77 q1362 dX4_number_30 (fun v5 h => ?_)
      refine lv_istore (i := 4) (lv' := [(4, .int v5), (3, .int 0), (0, .ref a0), (1, .int a1), (2, .int a2)]) hx hb dX4_number_33 hl (by decide) rfl (fun ls hl => ?_)
      exact kl_X4_number_35 C k FU w1 a0 a1 a2 0 v5 _ _ _ h hS (lv_sub hl [2, 3, 4, 1, 0] rfl)
    · refine lv_iconst (v := -1) hx hb dX4_number_25 (by decide) ?_
      exact r_iret C hS h rfl rfl (Nat.le_of_ble_eq_true rfl) (Nat.le_of_ble_eq_true rfl) dX4_number_26
end VX4_number
/-! LeftIsAgreedOnModel.cellNumber()I -/
section VX4_cellNumber
variable {p : Program} {l : Launch} {e : Env} {s : State} {m : MethodId} {args : Array Value} {below : List Frame} {meth : Method} {c : Code} {Z : wZ} {A : Nat → Prop}
set_option maxHeartbeats 4000000 in
theorem ct_X4_cellNumber (l : Launch) (Z : wZ) (w : Wd) (a0 : Nat) (k : Int32 → Wd → Prop) (h : wp_X4_cellNumber w a0 k) : wMet l Z yX4_cellNumber cX4_cellNumber 2 (some .int) 4 90 0 0 [.ref a0] w (pI k) := by
  refine wM_of (by decide +kernel) (Nat.le_of_ble_eq_true rfl) ?_
  intro p e s m below meth c ls C hS hl
  replace C : wC p l s m _ meth c cX4_cellNumber 2 (some .int) RX4 "cellNumber" Z _ := C
  have hl : lv_has ls 2 [(0, .ref a0)] := hl
  have hx := C.hx
  have hb := C.hb
  unfold wp_X4_cellNumber at h
  generalize wA w = A at C hS ⊢
  refine lv_aload_n hx hb dX4_cellNumber_0 rfl (lv_at hl 0 rfl) ?_
  refine lv_iconst (v := 0) hx hb dX4_cellNumber_1 (by decide) ?_
  refine lv_bipush (v := 99) hx hb dX4_cellNumber_2 (by decide) ?_
  obtain ⟨hob, h⟩ := h
  refine r_V C hS (ct_X4_number l Z w a0 0 99 _ h) 2 24 hob ⟨by decide, by decide +kernel⟩ (lw_V q1550 q1552 qs42 q71 q1553) ⟨rfl, by decide, by decide, by decide +kernel⟩ ⟨Nat.le_of_ble_eq_true rfl, Nat.le_of_ble_eq_true rfl⟩ rfl hl.1 rfl (wcat4 (Nat.le_of_ble_eq_true rfl)) dX4_cellNumber_4 ⟨Nat.le_of_ble_eq_true rfl, Nat.le_of_ble_eq_true rfl⟩ (fun v_ w2 H locs hv hS => ?_)
  obtain ⟨v1, rfl, h⟩ := hv
  refine lv_istore_n (i := 1) (lv' := [(1, .int v1), (0, .ref a0)]) hx hb dX4_cellNumber_7 rfl hl (by decide) rfl (fun ls hl => ?_)
  refine lv_iload_n hx hb dX4_cellNumber_8 rfl (lv_at hl 0 rfl) ?_
  refine lv_iconst (v := -1) hx hb dX4_cellNumber_9 (by decide) ?_
  refine r_icmp_eq (tgt := 21) hx hb h dX4_cellNumber_10 (by decide) (fun h => ?_) (fun h => ?_)
  · refine lv_iconst (v := -1) hx hb dX4_cellNumber_21 (by decide) ?_
    refine lv_goto (tgt := 26) hx hb dX4_cellNumber_22 (by decide) ?_
    exact r_iret C hS h rfl rfl (Nat.le_of_ble_eq_true rfl) (Nat.le_of_ble_eq_true rfl) dX4_cellNumber_26
  · refine lv_aload_n hx hb dX4_cellNumber_13 rfl (lv_at hl 1 rfl) ?_
    refine lv_iload_n hx hb dX4_cellNumber_14 rfl (lv_at hl 0 rfl) ?_
    obtain ⟨hob, h⟩ := h
    refine r_V C hS (ct_X4_isCell l Z w2 a0 v1 _ h) 1 24 hob ⟨by decide, by decide +kernel⟩ (lw_V q1450 q1452 qs29 q71 q1453) ⟨rfl, by decide, by decide, by decide +kernel⟩ ⟨Nat.le_of_ble_eq_true rfl, Nat.le_of_ble_eq_true rfl⟩ rfl hl.1 rfl (wcat4 (Nat.le_of_ble_eq_true rfl)) dX4_cellNumber_15 ⟨Nat.le_of_ble_eq_true rfl, Nat.le_of_ble_eq_true rfl⟩ (fun v_ w4 H locs hv hS => ?_)
    obtain ⟨v3, rfl, h⟩ := hv
    refine r_if_ne (tgt := 25) hx hb h dX4_cellNumber_18 (by decide) (fun h => ?_) (fun h => ?_)
    · refine lv_iload_n hx hb dX4_cellNumber_25 rfl (lv_at hl 0 rfl) ?_
      exact r_iret C hS h rfl rfl (Nat.le_of_ble_eq_true rfl) (Nat.le_of_ble_eq_true rfl) dX4_cellNumber_26
    · refine lv_iconst (v := -1) hx hb dX4_cellNumber_21 (by decide) ?_
      refine lv_goto (tgt := 26) hx hb dX4_cellNumber_22 (by decide) ?_
      exact r_iret C hS h rfl rfl (Nat.le_of_ble_eq_true rfl) (Nat.le_of_ble_eq_true rfl) dX4_cellNumber_26
end VX4_cellNumber
/-! LeftIsAgreedOnModel.isPersonStatement()Z -/
section VX4_isPersonStatement
variable {p : Program} {l : Launch} {e : Env} {s : State} {m : MethodId} {args : Array Value} {below : List Frame} {meth : Method} {c : Code} {Z : wZ} {A : Nat → Prop}
set_option maxHeartbeats 4000000 in
theorem kb_X4_isPersonStatement_61 (C : wC p l s m args meth c cX4_isPersonStatement 5 (some .boolean) RX4 "isPersonStatement" Z A) (k : Int32 → Wd → Prop) : ∀ (w : Wd) (a0 : Nat) (l1 : Int32) (l2 : Int32) (l3 : Int32) (s0 : Int32) (H : Heap) (locs : List Loc) (ls : Array Slot), wb_X4_isPersonStatement_61 k w a0 l1 l2 l3 s0 → wS Z A s w H locs → lv_has ls 5 [(0, .ref a0), (1, .int l1), (2, .int l2), (3, .int l3)] → W p l e ({ frames := 5, cells := 0, slots := 0, locals := 111 } : Room) s m args below meth c H locs 0 0 (MQ below (wQc Z A (pI k)) args s 0 0 A) (F0 m 61 ls [.int s0]) := by
  intro w a0 l1 l2 l3 s0 H locs ls h hS hl
  have hx := C.hx
  have hb := C.hb
  unfold wb_X4_isPersonStatement_61 at h
  refine lv_istore (i := 4) (lv' := [(4, .int s0), (0, .ref a0), (1, .int l1), (2, .int l2), (3, .int l3)]) hx hb dX4_isPersonStatement_61 hl (by decide) rfl (fun ls hl => ?_)
  refine lv_iload hx hb dX4_isPersonStatement_63 (lv_at hl 0 rfl) ?_
  refine lv_iconst (v := -1) hx hb dX4_isPersonStatement_65 (by decide) ?_
  refine r_icmp_ne (tgt := 71) hx hb h dX4_isPersonStatement_66 (by decide) (fun h => ?_) (fun h => ?_)
  · refine lv_aload_n hx hb dX4_isPersonStatement_71 rfl (lv_at hl 1 rfl) ?_
    refine lv_iload_n hx hb dX4_isPersonStatement_72 rfl (lv_at hl 2 rfl) ?_
    refine lv_iload_n hx hb dX4_isPersonStatement_73 rfl (lv_at hl 3 rfl) ?_
    refine lv_iload_n hx hb dX4_isPersonStatement_74 rfl (lv_at hl 4 rfl) ?_
    refine lv_iload hx hb dX4_isPersonStatement_75 (lv_at hl 0 rfl) ?_
    obtain ⟨hob, h⟩ := h
    refine r_V C hS (ct_X4_add l Z w a0 l1 l2 l3 s0 _ h) 4 24 hob ⟨by decide, by decide +kernel⟩ (lw_V q1480 q1482 qs34 q71 q1483) ⟨rfl, by decide, by decide, by decide +kernel⟩ ⟨Nat.le_of_ble_eq_true rfl, Nat.le_of_ble_eq_true rfl⟩ rfl hl.1 rfl (wcat4 (Nat.le_of_ble_eq_true rfl)) dX4_isPersonStatement_77 ⟨Nat.le_of_ble_eq_true rfl, Nat.le_of_ble_eq_true rfl⟩ (fun v_ w8 H locs hv hS => ?_)
    obtain ⟨v7, rfl, h⟩ := hv
    refine lv_pop hx hb dX4_isPersonStatement_80 rfl ?_
    refine lv_iconst (v := 1) hx hb dX4_isPersonStatement_81 (by decide) ?_
    exact r_iret C hS h rfl (by decide +kernel) (Nat.le_of_ble_eq_true rfl) (Nat.le_of_ble_eq_true rfl) dX4_isPersonStatement_82
  · refine lv_iconst (v := 0) hx hb dX4_isPersonStatement_69 (by decide) ?_
    exact r_iret C hS h rfl (by decide +kernel) (Nat.le_of_ble_eq_true rfl) (Nat.le_of_ble_eq_true rfl) dX4_isPersonStatement_70
set_option maxHeartbeats 4000000 in
theorem kb_X4_isPersonStatement_51 (C : wC p l s m args meth c cX4_isPersonStatement 5 (some .boolean) RX4 "isPersonStatement" Z A) (k : Int32 → Wd → Prop) : ∀ (w : Wd) (a0 : Nat) (l1 : Int32) (l2 : Int32) (l3 : Int32) (H : Heap) (locs : List Loc) (ls : Array Slot), wb_X4_isPersonStatement_51 k w a0 l1 l2 l3 → wS Z A s w H locs → lv_has ls 5 [(0, .ref a0), (1, .int l1), (2, .int l2), (3, .int l3)] → W p l e ({ frames := 5, cells := 0, slots := 0, locals := 111 } : Room) s m args below meth c H locs 0 0 (MQ below (wQc Z A (pI k)) args s 0 0 A) (F0 m 51 ls []) := by
  intro w a0 l1 l2 l3 H locs ls h hS hl
  have hx := C.hx
  have hb := C.hb
  unfold wb_X4_isPersonStatement_51 at h
  refine lv_iconst (v := -1) hx hb dX4_isPersonStatement_51 (by decide) ?_
  refine lv_goto (tgt := 61) hx hb dX4_isPersonStatement_52 (by decide) ?_
  exact kb_X4_isPersonStatement_61 C k w a0 l1 l2 l3 (-1) _ _ _ h hS (lv_sub hl [0, 1, 2, 3] rfl)
set_option maxHeartbeats 4000000 in
theorem kb_X4_isPersonStatement_37 (C : wC p l s m args meth c cX4_isPersonStatement 5 (some .boolean) RX4 "isPersonStatement" Z A) (k : Int32 → Wd → Prop) : ∀ (w : Wd) (a0 : Nat) (l1 : Int32) (l2 : Int32) (s0 : Int32) (H : Heap) (locs : List Loc) (ls : Array Slot), wb_X4_isPersonStatement_37 k w a0 l1 l2 s0 → wS Z A s w H locs → lv_has ls 5 [(0, .ref a0), (1, .int l1), (2, .int l2)] → W p l e ({ frames := 5, cells := 0, slots := 0, locals := 111 } : Room) s m args below meth c H locs 0 0 (MQ below (wQc Z A (pI k)) args s 0 0 A) (F0 m 37 ls [.int s0]) := by
  intro w a0 l1 l2 s0 H locs ls h hS hl
  have hx := C.hx
  have hb := C.hb
  unfold wb_X4_isPersonStatement_37 at h
  refine lv_istore_n (i := 3) (lv' := [(3, .int s0), (0, .ref a0), (1, .int l1), (2, .int l2)]) hx hb dX4_isPersonStatement_37 rfl hl (by decide) rfl (fun ls hl => ?_)
  refine lv_iload_n hx hb dX4_isPersonStatement_38 rfl (lv_at hl 0 rfl) ?_
  refine lv_iconst (v := -1) hx hb dX4_isPersonStatement_39 (by decide) ?_
  refine r_icmp_eq (tgt := 51) hx hb h dX4_isPersonStatement_40 (by decide) (fun h => ?_) (fun h => ?_)
  · exact kb_X4_isPersonStatement_51 C k w a0 l1 l2 s0 _ _ _ h hS (lv_sub hl [1, 2, 3, 0] rfl)
  · refine lv_aload_n hx hb dX4_isPersonStatement_43 rfl (lv_at hl 1 rfl) ?_
    refine lv_iload_n hx hb dX4_isPersonStatement_44 rfl (lv_at hl 0 rfl) ?_
    obtain ⟨hob, h⟩ := h
    refine r_V C hS (ct_X4_hasPond l Z w a0 s0 _ h) 1 24 hob ⟨by decide, by decide +kernel⟩ (lw_V q1476 q1478 qs33 q71 q1479) ⟨rfl, by decide, by decide, by decide +kernel⟩ ⟨Nat.le_of_ble_eq_true rfl, Nat.le_of_ble_eq_true rfl⟩ rfl hl.1 rfl (wcat4 (Nat.le_of_ble_eq_true rfl)) dX4_isPersonStatement_45 ⟨Nat.le_of_ble_eq_true rfl, Nat.le_of_ble_eq_true rfl⟩ (fun v_ w10 H locs hv hS => ?_)
    obtain ⟨v9, rfl, h⟩ := hv
    refine r_if_eq (tgt := 55) hx hb h dX4_isPersonStatement_48 (by decide) (fun h => ?_) (fun h => ?_)
    · refine lv_aload_n hx hb dX4_isPersonStatement_55 rfl (lv_at hl 1 rfl) ?_
      refine lv_iconst (v := 0) hx hb dX4_isPersonStatement_56 (by decide) ?_
      refine lv_iconst (v := 3) hx hb dX4_isPersonStatement_57 (by decide) ?_
      obtain ⟨hob, h⟩ := h
      refine r_V C hS (ct_X4_number l Z w10 a0 0 3 _ h) 2 24 hob ⟨by decide, by decide +kernel⟩ (lw_V q1550 q1552 qs42 q71 q1553) ⟨rfl, by decide, by decide, by decide +kernel⟩ ⟨Nat.le_of_ble_eq_true rfl, Nat.le_of_ble_eq_true rfl⟩ rfl hl.1 rfl (wcat4 (Nat.le_of_ble_eq_true rfl)) dX4_isPersonStatement_58 ⟨Nat.le_of_ble_eq_true rfl, Nat.le_of_ble_eq_true rfl⟩ (fun v_ w12 H locs hv hS => ?_)
      obtain ⟨v11, rfl, h⟩ := hv
      exact kb_X4_isPersonStatement_61 C k w12 a0 l1 l2 s0 v11 _ _ _ h hS (lv_sub hl [1, 2, 3, 0] rfl)
    · exact kb_X4_isPersonStatement_51 C k w10 a0 l1 l2 s0 _ _ _ h hS (lv_sub hl [1, 2, 3, 0] rfl)
set_option maxHeartbeats 4000000 in
theorem kb_X4_isPersonStatement_23 (C : wC p l s m args meth c cX4_isPersonStatement 5 (some .boolean) RX4 "isPersonStatement" Z A) (k : Int32 → Wd → Prop) : ∀ (w : Wd) (a0 : Nat) (l1 : Int32) (s0 : Int32) (H : Heap) (locs : List Loc) (ls : Array Slot), wb_X4_isPersonStatement_23 k w a0 l1 s0 → wS Z A s w H locs → lv_has ls 5 [(0, .ref a0), (1, .int l1)] → W p l e ({ frames := 5, cells := 0, slots := 0, locals := 111 } : Room) s m args below meth c H locs 0 0 (MQ below (wQc Z A (pI k)) args s 0 0 A) (F0 m 23 ls [.int s0]) := by
  intro w a0 l1 s0 H locs ls h hS hl
  have hx := C.hx
  have hb := C.hb
  unfold wb_X4_isPersonStatement_23 at h
  refine lv_istore_n (i := 2) (lv' := [(2, .int s0), (0, .ref a0), (1, .int l1)]) hx hb dX4_isPersonStatement_23 rfl hl (by decide) rfl (fun ls hl => ?_)
  refine lv_iload_n hx hb dX4_isPersonStatement_24 rfl (lv_at hl 0 rfl) ?_
  refine lv_iconst (v := -1) hx hb dX4_isPersonStatement_25 (by decide) ?_
  refine r_icmp_ne (tgt := 33) hx hb h dX4_isPersonStatement_26 (by decide) (fun h => ?_) (fun h => ?_)
  · refine lv_aload_n hx hb dX4_isPersonStatement_33 rfl (lv_at hl 1 rfl) ?_
    obtain ⟨hob, h⟩ := h
    refine r_V C hS (ct_X4_cellNumber l Z w a0 _ h) 0 24 hob ⟨by decide, by decide +kernel⟩ (lw_V q1554 q1556 qs43 q71 q1557) ⟨rfl, by decide, by decide, by decide +kernel⟩ ⟨Nat.le_of_ble_eq_true rfl, Nat.le_of_ble_eq_true rfl⟩ rfl hl.1 rfl (wcat4 (Nat.le_of_ble_eq_true rfl)) dX4_isPersonStatement_34 ⟨Nat.le_of_ble_eq_true rfl, Nat.le_of_ble_eq_true rfl⟩ (fun v_ w6 H locs hv hS => ?_)
    obtain ⟨v5, rfl, h⟩ := hv
    exact kb_X4_isPersonStatement_37 C k w6 a0 l1 s0 v5 _ _ _ h hS (lv_sub hl [1, 2, 0] rfl)
  · refine lv_iconst (v := -1) hx hb dX4_isPersonStatement_29 (by decide) ?_
    refine lv_goto (tgt := 37) hx hb dX4_isPersonStatement_30 (by decide) ?_
    exact kb_X4_isPersonStatement_37 C k w a0 l1 s0 (-1) _ _ _ h hS (lv_sub hl [1, 2, 0] rfl)
set_option maxHeartbeats 4000000 in
theorem ct_X4_isPersonStatement (l : Launch) (Z : wZ) (w : Wd) (a0 : Nat) (k : Int32 → Wd → Prop) (h : wp_X4_isPersonStatement w a0 k) : wMet l Z yX4_isPersonStatement cX4_isPersonStatement 5 (some .boolean) 5 111 0 0 [.ref a0] w (pI k) := by
  refine wM_of (by decide +kernel) (Nat.le_of_ble_eq_true rfl) ?_
  intro p e s m below meth c ls C hS hl
  replace C : wC p l s m _ meth c cX4_isPersonStatement 5 (some .boolean) RX4 "isPersonStatement" Z _ := C
  have hl : lv_has ls 5 [(0, .ref a0)] := hl
  have hx := C.hx
  have hb := C.hb
  unfold wp_X4_isPersonStatement at h
  generalize wA w = A at C hS ⊢
  refine lv_aload_n hx hb dX4_isPersonStatement_0 rfl (lv_at hl 0 rfl) ?_
  refine lv_iconst (v := 0) hx hb dX4_isPersonStatement_1 (by decide) ?_
  refine lv_iconst (v := 5) hx hb dX4_isPersonStatement_2 (by decide) ?_
  obtain ⟨hob, h⟩ := h
  refine r_V C hS (ct_X4_number l Z w a0 0 5 _ h) 2 24 hob ⟨by decide, by decide +kernel⟩ (lw_V q1550 q1552 qs42 q71 q1553) ⟨rfl, by decide, by decide, by decide +kernel⟩ ⟨Nat.le_of_ble_eq_true rfl, Nat.le_of_ble_eq_true rfl⟩ rfl hl.1 rfl (wcat4 (Nat.le_of_ble_eq_true rfl)) dX4_isPersonStatement_3 ⟨Nat.le_of_ble_eq_true rfl, Nat.le_of_ble_eq_true rfl⟩ (fun v_ w2 H locs hv hS => ?_)
  obtain ⟨v1, rfl, h⟩ := hv
  refine lv_istore_n (i := 1) (lv' := [(1, .int v1), (0, .ref a0)]) hx hb dX4_isPersonStatement_6 rfl hl (by decide) rfl (fun ls hl => ?_)
  refine lv_iload_n hx hb dX4_isPersonStatement_7 rfl (lv_at hl 0 rfl) ?_
  refine lv_iconst (v := -1) hx hb dX4_isPersonStatement_8 (by decide) ?_
  refine r_icmp_ne (tgt := 16) hx hb h dX4_isPersonStatement_9 (by decide) (fun h => ?_) (fun h => ?_)
  · refine lv_aload_n hx hb dX4_isPersonStatement_16 rfl (lv_at hl 1 rfl) ?_
    refine lv_iconst (v := 0) hx hb dX4_isPersonStatement_17 (by decide) ?_
    refine lv_bipush (v := 9) hx hb dX4_isPersonStatement_18 (by decide) ?_
    obtain ⟨hob, h⟩ := h
    refine r_V C hS (ct_X4_number l Z w2 a0 0 9 _ h) 2 24 hob ⟨by decide, by decide +kernel⟩ (lw_V q1550 q1552 qs42 q71 q1553) ⟨rfl, by decide, by decide, by decide +kernel⟩ ⟨Nat.le_of_ble_eq_true rfl, Nat.le_of_ble_eq_true rfl⟩ rfl hl.1 rfl (wcat4 (Nat.le_of_ble_eq_true rfl)) dX4_isPersonStatement_20 ⟨Nat.le_of_ble_eq_true rfl, Nat.le_of_ble_eq_true rfl⟩ (fun v_ w4 H locs hv hS => ?_)
    obtain ⟨v3, rfl, h⟩ := hv
    exact kb_X4_isPersonStatement_23 C k w4 a0 v1 v3 _ _ _ h hS (lv_sub hl [1, 0] rfl)
  · refine lv_iconst (v := -1) hx hb dX4_isPersonStatement_12 (by decide) ?_
    refine lv_goto (tgt := 23) hx hb dX4_isPersonStatement_13 (by decide) ?_
    exact kb_X4_isPersonStatement_23 C k w2 a0 v1 (-1) _ _ _ h hS (lv_sub hl [1, 0] rfl)
end VX4_isPersonStatement
/-! LeftIsAgreedOnModel.isStatement()Z -/
section VX4_isStatement
variable {p : Program} {l : Launch} {e : Env} {s : State} {m : MethodId} {args : Array Value} {below : List Frame} {meth : Method} {c : Code} {Z : wZ} {A : Nat → Prop}
set_option maxHeartbeats 4000000 in
theorem kb_X4_isStatement_75 (C : wC p l s m args meth c cX4_isStatement 4 (some .boolean) RX4 "isStatement" Z A) (k : Int32 → Wd → Prop) : ∀ (w : Wd) (a0 : Nat) (l1 : Int32) (l2 : Int32) (H : Heap) (locs : List Loc) (ls : Array Slot), wb_X4_isStatement_75 k w a0 l1 l2 → wS Z A s w H locs → lv_has ls 4 [(0, .ref a0), (1, .int l1), (2, .int l2)] → W p l e ({ frames := 6, cells := 0, slots := 0, locals := 135 } : Room) s m args below meth c H locs 0 0 (MQ below (wQc Z A (pI k)) args s 0 0 A) (F0 m 75 ls []) := by
  intro w a0 l1 l2 H locs ls h hS hl
  have hx := C.hx
  have hb := C.hb
  unfold wb_X4_isStatement_75 at h
  refine lv_aload_n hx hb dX4_isStatement_75 rfl (lv_at hl 0 rfl) ?_
  refine r_getG C hS h gk_56 q1355 dX4_isStatement_76 (fun v6 h => ?_)
  refine lv_iload_n hx hb dX4_isStatement_79 rfl (lv_at hl 2 rfl) ?_
  refine r_S C hS (ct_X4_pondAt l Z w l2 _ h) 1 (lw_S q1466 q1467 q71 q1468) ⟨by decide, by decide, by decide +kernel⟩ ⟨Nat.le_of_ble_eq_true rfl, Nat.le_of_ble_eq_true rfl⟩ rfl hl.1 rfl (wcat4 (Nat.le_of_ble_eq_true rfl)) dX4_isStatement_80 ⟨Nat.le_of_ble_eq_true rfl, Nat.le_of_ble_eq_true rfl⟩ (fun v_ w8 H locs hv hS => ?_)
  obtain ⟨v7, rfl, h⟩ := hv
  refine lv_iconst (v := 2) hx hb dX4_isStatement_83 (by decide) ?_
  refine lv_iload_n hx hb dX4_isStatement_84 rfl (lv_at hl 1 rfl) ?_
  refine lv_isub hx hb dX4_isStatement_85 ?_
  refine r_iast C hS h dX4_isStatement_86 (fun w9 H locs h hS => ?_)
  refine lv_iconst (v := 1) hx hb dX4_isStatement_87 (by decide) ?_
  exact r_iret C hS h rfl (by decide +kernel) (Nat.le_of_ble_eq_true rfl) (Nat.le_of_ble_eq_true rfl) dX4_isStatement_88
set_option maxHeartbeats 4000000 in
theorem kb_X4_isStatement_50 (C : wC p l s m args meth c cX4_isStatement 4 (some .boolean) RX4 "isStatement" Z A) (k : Int32 → Wd → Prop) : ∀ (w : Wd) (a0 : Nat) (l1 : Int32) (H : Heap) (locs : List Loc) (ls : Array Slot), wb_X4_isStatement_50 k w a0 l1 → wS Z A s w H locs → lv_has ls 4 [(0, .ref a0), (1, .int l1)] → W p l e ({ frames := 6, cells := 0, slots := 0, locals := 135 } : Room) s m args below meth c H locs 0 0 (MQ below (wQc Z A (pI k)) args s 0 0 A) (F0 m 50 ls []) := by
  intro w a0 l1 H locs ls h hS hl
  have hx := C.hx
  have hb := C.hb
  unfold wb_X4_isStatement_50 at h
  refine lv_aload_n hx hb dX4_isStatement_50 rfl (lv_at hl 0 rfl) ?_
  obtain ⟨hob, h⟩ := h
  refine r_V C hS (ct_X4_cellNumber l Z w a0 _ h) 0 24 hob ⟨by decide, by decide +kernel⟩ (lw_V q1554 q1556 qs43 q71 q1557) ⟨rfl, by decide, by decide, by decide +kernel⟩ ⟨Nat.le_of_ble_eq_true rfl, Nat.le_of_ble_eq_true rfl⟩ rfl hl.1 rfl (wcat4 (Nat.le_of_ble_eq_true rfl)) dX4_isStatement_51 ⟨Nat.le_of_ble_eq_true rfl, Nat.le_of_ble_eq_true rfl⟩ (fun v_ w5 H locs hv hS => ?_)
  obtain ⟨v4, rfl, h⟩ := hv
  refine lv_istore_n (i := 2) (lv' := [(2, .int v4), (0, .ref a0), (1, .int l1)]) hx hb dX4_isStatement_54 rfl hl (by decide) rfl (fun ls hl => ?_)
  refine lv_iload_n hx hb dX4_isStatement_55 rfl (lv_at hl 0 rfl) ?_
  refine lv_iconst (v := -1) hx hb dX4_isStatement_56 (by decide) ?_
  refine r_icmp_eq (tgt := 73) hx hb h dX4_isStatement_57 (by decide) (fun h => ?_) (fun h => ?_)
  · refine lv_iconst (v := 0) hx hb dX4_isStatement_73 (by decide) ?_
    exact r_iret C hS h rfl (by decide +kernel) (Nat.le_of_ble_eq_true rfl) (Nat.le_of_ble_eq_true rfl) dX4_isStatement_74
  · refine lv_iload_n hx hb dX4_isStatement_60 rfl (lv_at hl 2 rfl) ?_
    refine lv_iconst (v := 1) hx hb dX4_isStatement_61 (by decide) ?_
    refine r_icmp_ne (tgt := 75) hx hb h dX4_isStatement_62 (by decide) (fun h => ?_) (fun h => ?_)
    · exact kb_X4_isStatement_75 C k w5 a0 l1 v4 _ _ _ h hS (lv_sub hl [1, 2, 0] rfl)
    · refine lv_aload_n hx hb dX4_isStatement_65 rfl (lv_at hl 1 rfl) ?_
      refine lv_iload_n hx hb dX4_isStatement_66 rfl (lv_at hl 0 rfl) ?_
      obtain ⟨hob, h⟩ := h
      refine r_V C hS (ct_X4_isSomebody l Z w5 a0 v4 _ h) 1 24 hob ⟨by decide, by decide +kernel⟩ (lw_V q1454 q1456 qs30 q71 q1457) ⟨rfl, by decide, by decide, by decide +kernel⟩ ⟨Nat.le_of_ble_eq_true rfl, Nat.le_of_ble_eq_true rfl⟩ rfl hl.1 rfl (wcat4 (Nat.le_of_ble_eq_true rfl)) dX4_isStatement_67 ⟨Nat.le_of_ble_eq_true rfl, Nat.le_of_ble_eq_true rfl⟩ (fun v_ w11 H locs hv hS => ?_)
      obtain ⟨v10, rfl, h⟩ := hv
      refine r_if_eq (tgt := 75) hx hb h dX4_isStatement_70 (by decide) (fun h => ?_) (fun h => ?_)
      · exact kb_X4_isStatement_75 C k w11 a0 l1 v4 _ _ _ h hS (lv_sub hl [1, 2, 0] rfl)
      · refine lv_iconst (v := 0) hx hb dX4_isStatement_73 (by decide) ?_
        exact r_iret C hS h rfl (by decide +kernel) (Nat.le_of_ble_eq_true rfl) (Nat.le_of_ble_eq_true rfl) dX4_isStatement_74
set_option maxHeartbeats 4000000 in
theorem kb_X4_isStatement_172 (C : wC p l s m args meth c cX4_isStatement 4 (some .boolean) RX4 "isStatement" Z A) (k : Int32 → Wd → Prop) : ∀ (w : Wd) (a0 : Nat) (l2 : Int32) (s0 : Option Nat) (s1 : Int32) (s2 : Int32) (H : Heap) (locs : List Loc) (ls : Array Slot), wb_X4_isStatement_172 k w a0 l2 s0 s1 s2 → wS Z A s w H locs → lv_has ls 4 [(0, .ref a0), (2, .int l2)] → W p l e ({ frames := 6, cells := 0, slots := 0, locals := 135 } : Room) s m args below meth c H locs 0 0 (MQ below (wQc Z A (pI k)) args s 0 0 A) (F0 m 172 ls [.int s2, .int s1, va_rf s0]) := by
  intro w a0 l2 s0 s1 s2 H locs ls h hS hl
  have hx := C.hx
  have hb := C.hb
  unfold wb_X4_isStatement_172 at h
  obtain ⟨b14, hb_, h⟩ := wnn_spec h
  cases hb_
  obtain ⟨hob, h⟩ := h
  refine r_V C hS (ct_X4_number l Z w b14 s1 s2 _ h) 2 24 hob ⟨by decide, by decide +kernel⟩ (lw_V q1550 q1552 qs42 q71 q1553) ⟨rfl, by decide, by decide, by decide +kernel⟩ ⟨Nat.le_of_ble_eq_true rfl, Nat.le_of_ble_eq_true rfl⟩ rfl hl.1 rfl (wcat4 (Nat.le_of_ble_eq_true rfl)) dX4_isStatement_172 ⟨Nat.le_of_ble_eq_true rfl, Nat.le_of_ble_eq_true rfl⟩ (fun v_ w13 H locs hv hS => ?_)
  obtain ⟨v12, rfl, h⟩ := hv
  refine lv_istore_n (i := 3) (lv' := [(3, .int v12), (0, .ref a0), (2, .int l2)]) hx hb dX4_isStatement_175 rfl hl (by decide) rfl (fun ls hl => ?_)
  refine lv_iload_n hx hb dX4_isStatement_176 rfl (lv_at hl 0 rfl) ?_
  refine lv_iconst (v := -1) hx hb dX4_isStatement_177 (by decide) ?_
  refine r_icmp_ne (tgt := 183) hx hb h dX4_isStatement_178 (by decide) (fun h => ?_) (fun h => ?_)
  · refine lv_aload_n hx hb dX4_isStatement_183 rfl (lv_at hl 1 rfl) ?_
    refine r_getG C hS h gk_56 q1355 dX4_isStatement_184 (fun v15 h => ?_)
    refine lv_iload_n hx hb dX4_isStatement_187 rfl (lv_at hl 2 rfl) ?_
    refine lv_iload_n hx hb dX4_isStatement_188 rfl (lv_at hl 0 rfl) ?_
    refine r_iast C hS h dX4_isStatement_189 (fun w16 H locs h hS => ?_)
    refine lv_iconst (v := 1) hx hb dX4_isStatement_190 (by decide) ?_
    exact r_iret C hS h rfl (by decide +kernel) (Nat.le_of_ble_eq_true rfl) (Nat.le_of_ble_eq_true rfl) dX4_isStatement_191
  · refine lv_iconst (v := 0) hx hb dX4_isStatement_181 (by decide) ?_
    exact r_iret C hS h rfl (by decide +kernel) (Nat.le_of_ble_eq_true rfl) (Nat.le_of_ble_eq_true rfl) dX4_isStatement_182
set_option maxHeartbeats 4000000 in
theorem kb_X4_isStatement_151 (C : wC p l s m args meth c cX4_isStatement 4 (some .boolean) RX4 "isStatement" Z A) (k : Int32 → Wd → Prop) : ∀ (w : Wd) (a0 : Nat) (l1 : Int32) (l2 : Int32) (s0 : Option Nat) (s1 : Int32) (H : Heap) (locs : List Loc) (ls : Array Slot), wb_X4_isStatement_151 k w a0 l1 l2 s0 s1 → wS Z A s w H locs → lv_has ls 4 [(0, .ref a0), (1, .int l1), (2, .int l2)] → W p l e ({ frames := 6, cells := 0, slots := 0, locals := 135 } : Room) s m args below meth c H locs 0 0 (MQ below (wQc Z A (pI k)) args s 0 0 A) (F0 m 151 ls [.int s1, va_rf s0]) := by
  intro w a0 l1 l2 s0 s1 H locs ls h hS hl
  have hx := C.hx
  have hb := C.hb
  unfold wb_X4_isStatement_151 at h
  refine lv_iload_n hx hb dX4_isStatement_151 rfl (lv_at hl 1 rfl) ?_
  refine r_if_ne (tgt := 160) hx hb h dX4_isStatement_152 (by decide) (fun h => ?_) (fun h => ?_)
  · refine lv_iload_n hx hb dX4_isStatement_160 rfl (lv_at hl 1 rfl) ?_
    refine lv_bipush (v := 7) hx hb dX4_isStatement_161 (by decide) ?_
    refine r_icmp_ne (tgt := 171) hx hb h dX4_isStatement_163 (by decide) (fun h => ?_) (fun h => ?_)
    · refine lv_iconst (v := 1) hx hb dX4_isStatement_171 (by decide) ?_
      exact kb_X4_isStatement_172 C k w a0 l2 s0 s1 1 _ _ _ h hS (lv_sub hl [0, 2] rfl)
    · refine lv_bipush (v := 12) hx hb dX4_isStatement_166 (by decide) ?_
      refine lv_goto (tgt := 172) hx hb dX4_isStatement_168 (by decide) ?_
      exact kb_X4_isStatement_172 C k w a0 l2 s0 s1 12 _ _ _ h hS (lv_sub hl [0, 2] rfl)
  · refine lv_bipush (v := 7) hx hb dX4_isStatement_155 (by decide) ?_
    refine lv_goto (tgt := 172) hx hb dX4_isStatement_157 (by decide) ?_
    exact kb_X4_isStatement_172 C k w a0 l2 s0 s1 7 _ _ _ h hS (lv_sub hl [0, 2] rfl)
set_option maxHeartbeats 4000000 in
theorem kb_X4_isStatement_135 (C : wC p l s m args meth c cX4_isStatement 4 (some .boolean) RX4 "isStatement" Z A) (k : Int32 → Wd → Prop) : ∀ (w : Wd) (a0 : Nat) (l1 : Int32) (l2 : Int32) (H : Heap) (locs : List Loc) (ls : Array Slot), wb_X4_isStatement_135 k w a0 l1 l2 → wS Z A s w H locs → lv_has ls 4 [(0, .ref a0), (1, .int l1), (2, .int l2)] → W p l e ({ frames := 6, cells := 0, slots := 0, locals := 135 } : Room) s m args below meth c H locs 0 0 (MQ below (wQc Z A (pI k)) args s 0 0 A) (F0 m 135 ls []) := by
  intro w a0 l1 l2 H locs ls h hS hl
  have hx := C.hx
  have hb := C.hb
  unfold wb_X4_isStatement_135 at h
  refine lv_aload_n hx hb dX4_isStatement_135 rfl (lv_at hl 0 rfl) ?_
  refine lv_iload_n hx hb dX4_isStatement_136 rfl (lv_at hl 1 rfl) ?_
  refine r_if_ne (tgt := 150) hx hb h dX4_isStatement_137 (by decide) (fun h => ?_) (fun h => ?_)
  · refine lv_iconst (v := 0) hx hb dX4_isStatement_150 (by decide) ?_
    exact kb_X4_isStatement_151 C k w a0 l1 l2 (some a0) 0 _ _ _ h hS (lv_sub hl [0, 1, 2] rfl)
  · refine lv_aload_n hx hb dX4_isStatement_140 rfl (lv_at hl 0 rfl) ?_
    refine r_getG C hS h gk_56 q1355 dX4_isStatement_141 (fun v17 h => ?_)
    refine lv_bipush (v := 90) hx hb dX4_isStatement_144 (by decide) ?_
    refine r_iald C hS h dX4_isStatement_146 (fun v18 h => ?_)
    refine lv_goto (tgt := 151) hx hb dX4_isStatement_147 (by decide) ?_
    exact kb_X4_isStatement_151 C k w a0 l1 l2 (some a0) v18 _ _ _ h hS (lv_sub hl [0, 1, 2] rfl)
set_option maxHeartbeats 4000000 in
theorem kb_X4_isStatement_104 (C : wC p l s m args meth c cX4_isStatement 4 (some .boolean) RX4 "isStatement" Z A) (k : Int32 → Wd → Prop) : ∀ (w : Wd) (a0 : Nat) (l1 : Int32) (s0 : Int32) (H : Heap) (locs : List Loc) (ls : Array Slot), wb_X4_isStatement_104 k w a0 l1 s0 → wS Z A s w H locs → lv_has ls 4 [(0, .ref a0), (1, .int l1)] → W p l e ({ frames := 6, cells := 0, slots := 0, locals := 135 } : Room) s m args below meth c H locs 0 0 (MQ below (wQc Z A (pI k)) args s 0 0 A) (F0 m 104 ls [.int s0]) := by
  intro w a0 l1 s0 H locs ls h hS hl
  have hx := C.hx
  have hb := C.hb
  unfold wb_X4_isStatement_104 at h
  refine lv_istore_n (i := 2) (lv' := [(2, .int s0), (0, .ref a0), (1, .int l1)]) hx hb dX4_isStatement_104 rfl hl (by decide) rfl (fun ls hl => ?_)
  refine lv_iload_n hx hb dX4_isStatement_105 rfl (lv_at hl 2 rfl) ?_
  refine lv_iconst (v := 4) hx hb dX4_isStatement_106 (by decide) ?_
  refine r_icmp_ne (tgt := 135) hx hb h dX4_isStatement_107 (by decide) (fun h => ?_) (fun h => ?_)
  · exact kb_X4_isStatement_135 C k w a0 l1 s0 _ _ _ h hS (lv_sub hl [1, 2, 0] rfl)
  · refine lv_aload_n hx hb dX4_isStatement_110 rfl (lv_at hl 1 rfl) ?_
    refine lv_iconst (v := 0) hx hb dX4_isStatement_111 (by decide) ?_
    refine lv_aload_n hx hb dX4_isStatement_112 rfl (lv_at hl 1 rfl) ?_
    obtain ⟨hob, h⟩ := h
    refine r_V C hS (ct_X4_many l Z w a0 _ h) 0 24 hob ⟨by decide, by decide +kernel⟩ (lw_V q1458 q1460 qs31 q71 q1461) ⟨rfl, by decide, by decide, by decide +kernel⟩ ⟨Nat.le_of_ble_eq_true rfl, Nat.le_of_ble_eq_true rfl⟩ rfl hl.1 rfl (wcat4 (Nat.le_of_ble_eq_true rfl)) dX4_isStatement_113 ⟨Nat.le_of_ble_eq_true rfl, Nat.le_of_ble_eq_true rfl⟩ (fun v_ w20 H locs hv hS => ?_)
    obtain ⟨v19, rfl, h⟩ := hv
    refine lv_iconst (v := 1) hx hb dX4_isStatement_116 (by decide) ?_
    refine lv_isub hx hb dX4_isStatement_117 ?_
    obtain ⟨hob, h⟩ := h
    refine r_V C hS (ct_X4_number l Z w20 a0 0 (v19 - 1) _ h) 2 24 hob ⟨by decide, by decide +kernel⟩ (lw_V q1550 q1552 qs42 q71 q1553) ⟨rfl, by decide, by decide, by decide +kernel⟩ ⟨Nat.le_of_ble_eq_true rfl, Nat.le_of_ble_eq_true rfl⟩ rfl hl.1 rfl (wcat4 (Nat.le_of_ble_eq_true rfl)) dX4_isStatement_118 ⟨Nat.le_of_ble_eq_true rfl, Nat.le_of_ble_eq_true rfl⟩ (fun v_ w22 H locs hv hS => ?_)
    obtain ⟨v21, rfl, h⟩ := hv
    refine lv_istore_n (i := 3) (lv' := [(3, .int v21), (2, .int s0), (0, .ref a0), (1, .int l1)]) hx hb dX4_isStatement_121 rfl hl (by decide) rfl (fun ls hl => ?_)
    refine lv_iload_n hx hb dX4_isStatement_122 rfl (lv_at hl 0 rfl) ?_
    refine lv_iconst (v := -1) hx hb dX4_isStatement_123 (by decide) ?_
    refine r_icmp_ne (tgt := 129) hx hb h dX4_isStatement_124 (by decide) (fun h => ?_) (fun h => ?_)
    · refine lv_iconst (v := 5) hx hb dX4_isStatement_129 (by decide) ?_
      refine lv_iload_n hx hb dX4_isStatement_130 rfl (lv_at hl 0 rfl) ?_
      refine lv_imul hx hb dX4_isStatement_131 ?_
      refine lv_iconst (v := 4) hx hb dX4_isStatement_132 (by decide) ?_
      refine lv_iadd hx hb dX4_isStatement_133 ?_
      refine lv_istore_n (i := 2) (lv' := [(2, .int ((5 * v21) + 4)), (3, .int v21), (0, .ref a0), (1, .int l1)]) hx hb dX4_isStatement_134 rfl hl (by decide) rfl (fun ls hl => ?_)
      exact kb_X4_isStatement_135 C k w22 a0 l1 ((5 * v21) + 4) _ _ _ h hS (lv_sub hl [2, 3, 0] rfl)
    · refine lv_iconst (v := 0) hx hb dX4_isStatement_127 (by decide) ?_
      exact r_iret C hS h rfl (by decide +kernel) (Nat.le_of_ble_eq_true rfl) (Nat.le_of_ble_eq_true rfl) dX4_isStatement_128
set_option maxHeartbeats 4000000 in
theorem kb_X4_isStatement_30 (C : wC p l s m args meth c cX4_isStatement 4 (some .boolean) RX4 "isStatement" Z A) (k : Int32 → Wd → Prop) : ∀ (w : Wd) (a0 : Nat) (l1 : Int32) (H : Heap) (locs : List Loc) (ls : Array Slot), wb_X4_isStatement_30 k w a0 l1 → wS Z A s w H locs → lv_has ls 4 [(0, .ref a0), (1, .int l1)] → W p l e ({ frames := 6, cells := 0, slots := 0, locals := 135 } : Room) s m args below meth c H locs 0 0 (MQ below (wQc Z A (pI k)) args s 0 0 A) (F0 m 30 ls []) := by
  intro w a0 l1 H locs ls h hS hl
  have hx := C.hx
  have hb := C.hb
  unfold wb_X4_isStatement_30 at h
  refine lv_iload_n hx hb dX4_isStatement_30 rfl (lv_at hl 1 rfl) ?_
  refine lv_iconst (v := 3) hx hb dX4_isStatement_31 (by decide) ?_
  refine r_icmp_ne (tgt := 40) hx hb h dX4_isStatement_32 (by decide) (fun h => ?_) (fun h => ?_)
  · refine lv_iload_n hx hb dX4_isStatement_40 rfl (lv_at hl 1 rfl) ?_
    refine lv_iconst (v := 1) hx hb dX4_isStatement_41 (by decide) ?_
    refine r_icmp_eq (tgt := 50) hx hb h dX4_isStatement_42 (by decide) (fun h => ?_) (fun h => ?_)
    · exact kb_X4_isStatement_50 C k w a0 l1 _ _ _ h hS (lv_sub hl [0, 1] rfl)
    · refine lv_iload_n hx hb dX4_isStatement_45 rfl (lv_at hl 1 rfl) ?_
      refine lv_iconst (v := 2) hx hb dX4_isStatement_46 (by decide) ?_
      refine r_icmp_ne (tgt := 89) hx hb h dX4_isStatement_47 (by decide) (fun h => ?_) (fun h => ?_)
      · refine lv_iload_n hx hb dX4_isStatement_89 rfl (lv_at hl 1 rfl) ?_
        refine r_if_ne (tgt := 98) hx hb h dX4_isStatement_90 (by decide) (fun h => ?_) (fun h => ?_)
        · refine lv_bipush (v := 91) hx hb dX4_isStatement_98 (by decide) ?_
          refine lv_iload_n hx hb dX4_isStatement_100 rfl (lv_at hl 1 rfl) ?_
          refine lv_iadd hx hb dX4_isStatement_101 ?_
          refine lv_iconst (v := 5) hx hb dX4_isStatement_102 (by decide) ?_
          refine lv_isub hx hb dX4_isStatement_103 ?_
          exact kb_X4_isStatement_104 C k w a0 l1 ((91 + l1) - 5) _ _ _ h hS (lv_sub hl [0, 1] rfl)
        · refine lv_bipush (v := 90) hx hb dX4_isStatement_93 (by decide) ?_
          refine lv_goto (tgt := 104) hx hb dX4_isStatement_95 (by decide) ?_
          exact kb_X4_isStatement_104 C k w a0 l1 90 _ _ _ h hS (lv_sub hl [0, 1] rfl)
      · exact kb_X4_isStatement_50 C k w a0 l1 _ _ _ h hS (lv_sub hl [0, 1] rfl)
  · refine lv_aload_n hx hb dX4_isStatement_35 rfl (lv_at hl 0 rfl) ?_
    obtain ⟨hob, h⟩ := h
    refine r_V C hS (ct_X4_isPersonStatement l Z w a0 _ h) 0 24 hob ⟨by decide, by decide +kernel⟩ (lw_V q1546 q1548 qs41 q71 q1549) ⟨rfl, by decide, by decide, by decide +kernel⟩ ⟨Nat.le_of_ble_eq_true rfl, Nat.le_of_ble_eq_true rfl⟩ rfl hl.1 rfl (wcat4 (Nat.le_of_ble_eq_true rfl)) dX4_isStatement_36 ⟨Nat.le_of_ble_eq_true rfl, Nat.le_of_ble_eq_true rfl⟩ (fun v_ w24 H locs hv hS => ?_)
    obtain ⟨v23, rfl, h⟩ := hv
    obtain ⟨hn, h⟩ := h
    exact r_iret C hS h rfl hn (Nat.le_of_ble_eq_true rfl) (Nat.le_of_ble_eq_true rfl) dX4_isStatement_39
set_option maxHeartbeats 4000000 in
theorem ct_X4_isStatement (l : Launch) (Z : wZ) (w : Wd) (a0 : Nat) (k : Int32 → Wd → Prop) (h : wp_X4_isStatement w a0 k) : wMet l Z yX4_isStatement cX4_isStatement 4 (some .boolean) 6 135 0 0 [.ref a0] w (pI k) := by
  refine wM_of (by decide +kernel) (Nat.le_of_ble_eq_true rfl) ?_
  intro p e s m below meth c ls C hS hl
  replace C : wC p l s m _ meth c cX4_isStatement 4 (some .boolean) RX4 "isStatement" Z _ := C
  have hl : lv_has ls 4 [(0, .ref a0)] := hl
  have hx := C.hx
  have hb := C.hb
  unfold wp_X4_isStatement at h
  generalize wA w = A at C hS ⊢
  refine lv_aload_n hx hb dX4_isStatement_0 rfl (lv_at hl 0 rfl) ?_
  obtain ⟨hob, h⟩ := h
  refine r_V C hS (ct_X4_next l Z w a0 _ h) 0 24 hob ⟨by decide, by decide +kernel⟩ (lw_V q1530 q1532 qs38 q71 q1533) ⟨rfl, by decide, by decide, by decide +kernel⟩ ⟨Nat.le_of_ble_eq_true rfl, Nat.le_of_ble_eq_true rfl⟩ rfl hl.1 rfl (wcat4 (Nat.le_of_ble_eq_true rfl)) dX4_isStatement_1 ⟨Nat.le_of_ble_eq_true rfl, Nat.le_of_ble_eq_true rfl⟩ (fun v_ w1 H locs hv hS => ?_)
  obtain ⟨rfl, h⟩ := hv
  refine lv_aload_n hx hb dX4_isStatement_4 rfl (lv_at hl 0 rfl) ?_
  obtain ⟨hob, h⟩ := h
  refine r_V C hS (ct_X4_word l Z w1 a0 _ h) 0 24 hob ⟨by decide, by decide +kernel⟩ (lw_V q1542 q1544 qs40 q71 q1545) ⟨rfl, by decide, by decide, by decide +kernel⟩ ⟨Nat.le_of_ble_eq_true rfl, Nat.le_of_ble_eq_true rfl⟩ rfl hl.1 rfl (wcat4 (Nat.le_of_ble_eq_true rfl)) dX4_isStatement_5 ⟨Nat.le_of_ble_eq_true rfl, Nat.le_of_ble_eq_true rfl⟩ (fun v_ w3 H locs hv hS => ?_)
  obtain ⟨v2, rfl, h⟩ := hv
  refine lv_istore_n (i := 1) (lv' := [(1, .int v2), (0, .ref a0)]) hx hb dX4_isStatement_8 rfl hl (by decide) rfl (fun ls hl => ?_)
  refine lv_iload_n hx hb dX4_isStatement_9 rfl (lv_at hl 0 rfl) ?_
  refine lv_iconst (v := -1) hx hb dX4_isStatement_10 (by decide) ?_
  refine r_icmp_eq (tgt := 28) hx hb h dX4_isStatement_11 (by decide) (fun h => ?_) (fun h => ?_)
  · refine lv_iconst (v := 0) hx hb dX4_isStatement_28 (by decide) ?_
    exact r_iret C hS h rfl (by decide +kernel) (Nat.le_of_ble_eq_true rfl) (Nat.le_of_ble_eq_true rfl) dX4_isStatement_29
  · refine lv_iload_n hx hb dX4_isStatement_14 rfl (lv_at hl 0 rfl) ?_
    refine lv_iconst (v := 3) hx hb dX4_isStatement_15 (by decide) ?_
    refine r_icmp_ne (tgt := 30) hx hb h dX4_isStatement_16 (by decide) (fun h => ?_) (fun h => ?_)
    · exact kb_X4_isStatement_30 C k w3 a0 v2 _ _ _ h hS (lv_sub hl [1, 0] rfl)
    · refine lv_aload_n hx hb dX4_isStatement_19 rfl (lv_at hl 1 rfl) ?_
      obtain ⟨hob, h⟩ := h
      refine r_V C hS (ct_X4_many l Z w3 a0 _ h) 0 24 hob ⟨by decide, by decide +kernel⟩ (lw_V q1458 q1460 qs31 q71 q1461) ⟨rfl, by decide, by decide, by decide +kernel⟩ ⟨Nat.le_of_ble_eq_true rfl, Nat.le_of_ble_eq_true rfl⟩ rfl hl.1 rfl (wcat4 (Nat.le_of_ble_eq_true rfl)) dX4_isStatement_20 ⟨Nat.le_of_ble_eq_true rfl, Nat.le_of_ble_eq_true rfl⟩ (fun v_ w26 H locs hv hS => ?_)
      obtain ⟨v25, rfl, h⟩ := hv
      refine lv_bipush (v := 8) hx hb dX4_isStatement_23 (by decide) ?_
      refine r_icmp_ne (tgt := 30) hx hb h dX4_isStatement_25 (by decide) (fun h => ?_) (fun h => ?_)
      · exact kb_X4_isStatement_30 C k w26 a0 v2 _ _ _ h hS (lv_sub hl [1, 0] rfl)
      · refine lv_iconst (v := 0) hx hb dX4_isStatement_28 (by decide) ?_
        exact r_iret C hS h rfl (by decide +kernel) (Nat.le_of_ble_eq_true rfl) (Nat.le_of_ble_eq_true rfl) dX4_isStatement_29
end VX4_isStatement
/-! LeftIsAgreedOnModel.island()I -/
section VX4_island
variable {p : Program} {l : Launch} {e : Env} {s : State} {m : MethodId} {args : Array Value} {below : List Frame} {meth : Method} {c : Code} {Z : wZ} {A : Nat → Prop}
set_option maxHeartbeats 4000000 in
theorem kb_X4_island_23 (C : wC p l s m args meth c cX4_island 3 (some .int) RX4 "island" Z A) (k : Int32 → Wd → Prop) (L23 : Wd → Nat → Int32 → Int32 → Prop) (hL23 : ∀ (w : Wd) (x0 : Nat) (x1 : Int32) (x2 : Int32) (H : Heap) (locs : List Loc) (ls : Array Slot), L23 w x0 x1 x2 → wS Z A s w H locs → lv_has ls 3 [(0, .ref x0), (1, .int x1), (2, .int x2)] → W p l e ({ frames := 7, cells := 0, slots := 0, locals := 158 } : Room) s m args below meth c H locs 0 0 (MQ below (wQc Z A (pI k)) args s 0 0 A) (F0 m 23 ls [])) : ∀ (w : Wd) (a0 : Nat) (l1 : Int32) (l2 : Int32) (H : Heap) (locs : List Loc) (ls : Array Slot), wb_X4_island_23 k L23 w a0 l1 l2 → wS Z A s w H locs → lv_has ls 3 [(0, .ref a0), (1, .int l1), (2, .int l2)] → W p l e ({ frames := 7, cells := 0, slots := 0, locals := 158 } : Room) s m args below meth c H locs 0 0 (MQ below (wQc Z A (pI k)) args s 0 0 A) (F0 m 23 ls []) := by
  intro w a0 l1 l2 H locs ls h hS hl
  have hx := C.hx
  have hb := C.hb
  unfold wb_X4_island_23 at h
  refine lv_iload_n hx hb dX4_island_23 rfl (lv_at hl 2 rfl) ?_
  refine r_if_eq (tgt := 72) hx hb h dX4_island_24 (by decide) (fun h => ?_) (fun h => ?_)
  · refine lv_aload_n hx hb dX4_island_72 rfl (lv_at hl 0 rfl) ?_
    refine r_getG C hS h gk_58 q1357 dX4_island_73 (fun v7 h => ?_)
    refine lv_aload_n hx hb dX4_island_76 rfl (lv_at hl 0 rfl) ?_
    refine r_getG C hS h gk_56 q1355 dX4_island_77 (fun v8 h => ?_)
    refine r_S C hS (ct_X4_move l Z w v7 v8 _ h) 2 (lw_S q1523 q1524 q71 q1525) ⟨by decide, by decide, by decide +kernel⟩ ⟨Nat.le_of_ble_eq_true rfl, Nat.le_of_ble_eq_true rfl⟩ rfl hl.1 rfl (wcat4 (Nat.le_of_ble_eq_true rfl)) dX4_island_80 ⟨Nat.le_of_ble_eq_true rfl, Nat.le_of_ble_eq_true rfl⟩ (fun v_ w9 H locs hv hS => ?_)
    obtain ⟨rfl, h⟩ := hv
    refine lv_aload_n hx hb dX4_island_83 rfl (lv_at hl 0 rfl) ?_
    refine lv_iconst (v := 0) hx hb dX4_island_84 (by decide) ?_
    refine r_putF (fin := false) C hS h gk_75 (ty := .int) (by decide +kernel) ⟨rfl, rfl⟩ gk_75f (fun h => by cases h) q1360 dX4_island_85 (fun w10 H locs h hS => ?_)
    refine lv_aload_n hx hb dX4_island_88 rfl (lv_at hl 0 rfl) ?_
    refine lv_bipush (v := -2) hx hb dX4_island_89 (by decide) ?_
    obtain ⟨hob, h⟩ := h
    refine r_V C hS (ct_X4_refuse l Z w10 a0 (-2) _ h) 1 24 hob ⟨by decide, by decide +kernel⟩ (lw_V q1442 q1444 qs28 q71 q1445) ⟨rfl, by decide, by decide, by decide +kernel⟩ ⟨Nat.le_of_ble_eq_true rfl, Nat.le_of_ble_eq_true rfl⟩ rfl hl.1 rfl (wcat4 (Nat.le_of_ble_eq_true rfl)) dX4_island_91 ⟨Nat.le_of_ble_eq_true rfl, Nat.le_of_ble_eq_true rfl⟩ (fun v_ w12 H locs hv hS => ?_)
    obtain ⟨v11, rfl, h⟩ := hv
    refine lv_pop hx hb dX4_island_94 rfl ?_
    refine lv_bipush (v := -20) hx hb dX4_island_95 (by decide) ?_
    refine lv_aload_n hx hb dX4_island_97 rfl (lv_at hl 0 rfl) ?_
    refine r_getF C hS h gk_77 q1362 dX4_island_98 (fun v13 h => ?_)
    refine lv_isub hx hb dX4_island_101 ?_
    exact r_iret C hS h rfl rfl (Nat.le_of_ble_eq_true rfl) (Nat.le_of_ble_eq_true rfl) dX4_island_102
  · refine lv_iinc (i := 1) (v := (l1 + 1)) (lv' := [(1, .int (l1 + 1)), (0, .ref a0), (2, .int l2)]) hx hb dX4_island_27 hl (k := 1) rfl rfl (by decide) rfl (fun ls hl => ?_)
    refine lv_aload_n hx hb dX4_island_30 rfl (lv_at hl 1 rfl) ?_
    obtain ⟨hob, h⟩ := h
    refine r_V C hS (ct_X4_next l Z w a0 _ h) 0 24 hob ⟨by decide, by decide +kernel⟩ (lw_V q1530 q1532 qs38 q71 q1533) ⟨rfl, by decide, by decide, by decide +kernel⟩ ⟨Nat.le_of_ble_eq_true rfl, Nat.le_of_ble_eq_true rfl⟩ rfl hl.1 rfl (wcat4 (Nat.le_of_ble_eq_true rfl)) dX4_island_31 ⟨Nat.le_of_ble_eq_true rfl, Nat.le_of_ble_eq_true rfl⟩ (fun v_ w14 H locs hv hS => ?_)
    obtain ⟨rfl, h⟩ := hv
    refine lv_aload_n hx hb dX4_island_34 rfl (lv_at hl 1 rfl) ?_
    refine r_getF C hS h gk_78 q1363 dX4_island_35 (fun v15 h => ?_)
    refine r_if_ne (tgt := 48) hx hb h dX4_island_38 (by decide) (fun h => ?_) (fun h => ?_)
    · refine lv_aload_n hx hb dX4_island_48 rfl (lv_at hl 1 rfl) ?_
      refine r_getF C hS h gk_78 q1363 dX4_island_49 (fun v16 h => ?_)
      refine lv_iconst (v := 3) hx hb dX4_island_52 (by decide) ?_
      refine r_icmp_ne (tgt := 67) hx hb h dX4_island_53 (by decide) (fun h => ?_) (fun h => ?_)
      · refine lv_iconst (v := 0) hx hb dX4_island_67 (by decide) ?_
        refine lv_istore_n (i := 2) (lv' := [(2, .int 0), (1, .int (l1 + 1)), (0, .ref a0)]) hx hb dX4_island_68 rfl hl (by decide) rfl (fun ls hl => ?_)
        refine lv_goto (tgt := 23) hx hb dX4_island_69 (by decide) ?_
        exact hL23 w14 a0 (l1 + 1) 0 _ _ _ h hS (lv_sub hl [2, 1, 0] rfl)
      · refine lv_aload_n hx hb dX4_island_56 rfl (lv_at hl 1 rfl) ?_
        obtain ⟨hob, h⟩ := h
        refine r_V C hS (ct_X4_isStatement l Z w14 a0 _ h) 0 24 hob ⟨by decide, by decide +kernel⟩ (lw_V q1526 q1528 qs37 q71 q1529) ⟨rfl, by decide, by decide, by decide +kernel⟩ ⟨Nat.le_of_ble_eq_true rfl, Nat.le_of_ble_eq_true rfl⟩ rfl hl.1 rfl (wcat4 (Nat.le_of_ble_eq_true rfl)) dX4_island_57 ⟨Nat.le_of_ble_eq_true rfl, Nat.le_of_ble_eq_true rfl⟩ (fun v_ w18 H locs hv hS => ?_)
        obtain ⟨v17, rfl, h⟩ := hv
        refine r_if_eq (tgt := 67) hx hb h dX4_island_60 (by decide) (fun h => ?_) (fun h => ?_)
        · refine lv_iconst (v := 0) hx hb dX4_island_67 (by decide) ?_
          refine lv_istore_n (i := 2) (lv' := [(2, .int 0), (1, .int (l1 + 1)), (0, .ref a0)]) hx hb dX4_island_68 rfl hl (by decide) rfl (fun ls hl => ?_)
          refine lv_goto (tgt := 23) hx hb dX4_island_69 (by decide) ?_
          exact hL23 w18 a0 (l1 + 1) 0 _ _ _ h hS (lv_sub hl [2, 1, 0] rfl)
        · refine lv_iconst (v := 1) hx hb dX4_island_63 (by decide) ?_
          refine lv_goto (tgt := 68) hx hb dX4_island_64 (by decide) ?_
          refine lv_istore_n (i := 2) (lv' := [(2, .int 1), (1, .int (l1 + 1)), (0, .ref a0)]) hx hb dX4_island_68 rfl hl (by decide) rfl (fun ls hl => ?_)
          refine lv_goto (tgt := 23) hx hb dX4_island_69 (by decide) ?_
          exact hL23 w18 a0 (l1 + 1) 1 _ _ _ h hS (lv_sub hl [2, 1, 0] rfl)
    · refine lv_aload_n hx hb dX4_island_41 rfl (lv_at hl 1 rfl) ?_
      refine lv_iconst (v := 0) hx hb dX4_island_42 (by decide) ?_
      refine r_putF (fin := false) C hS h gk_75 (ty := .int) (by decide +kernel) ⟨rfl, rfl⟩ gk_75f (fun h => by cases h) q1360 dX4_island_43 (fun w19 H locs h hS => ?_)
      refine lv_iload_n hx hb dX4_island_46 rfl (lv_at hl 0 rfl) ?_
      exact r_iret C hS h rfl rfl (Nat.le_of_ble_eq_true rfl) (Nat.le_of_ble_eq_true rfl) dX4_island_47
set_option maxHeartbeats 4000000 in
theorem kl_X4_island_23 (C : wC p l s m args meth c cX4_island 3 (some .int) RX4 "island" Z A) (k : Int32 → Wd → Prop) : ∀ (n : Nat), ∀ (w : Wd) (a0 : Nat) (l1 : Int32) (l2 : Int32) (H : Heap) (locs : List Loc) (ls : Array Slot), wl_X4_island_23 k n w a0 l1 l2 → wS Z A s w H locs → lv_has ls 3 [(0, .ref a0), (1, .int l1), (2, .int l2)] → W p l e ({ frames := 7, cells := 0, slots := 0, locals := 158 } : Room) s m args below meth c H locs 0 0 (MQ below (wQc Z A (pI k)) args s 0 0 A) (F0 m 23 ls []) := by
  intro n
  induction n with
  | zero =>
    intro w a0 l1 l2 H locs ls h
    exact h.elim
  | succ n ih =>
    intro w a0 l1 l2 H locs ls h hS hl
    exact kb_X4_island_23 C k (wl_X4_island_23 k n) ih w a0 l1 l2 H locs ls h hS hl
set_option maxHeartbeats 4000000 in
theorem ct_X4_island (l : Launch) (Z : wZ) (w : Wd) (a0 : Nat) (k : Int32 → Wd → Prop) (h : wp_X4_island w a0 k) : wMet l Z yX4_island cX4_island 3 (some .int) 7 158 0 0 [.ref a0] w (pI k) := by
  refine wM_of (by decide +kernel) (Nat.le_of_ble_eq_true rfl) ?_
  intro p e s m below meth c ls C hS hl
  replace C : wC p l s m _ meth c cX4_island 3 (some .int) RX4 "island" Z _ := C
  have hl : lv_has ls 3 [(0, .ref a0)] := hl
  have hx := C.hx
  have hb := C.hb
  unfold wp_X4_island at h
  generalize wA w = A at C hS ⊢
  refine lv_aload_n hx hb dX4_island_0 rfl (lv_at hl 0 rfl) ?_
  refine r_getG C hS h gk_56 q1355 dX4_island_1 (fun v1 h => ?_)
  refine lv_aload_n hx hb dX4_island_4 rfl (lv_at hl 0 rfl) ?_
  refine r_getG C hS h gk_58 q1357 dX4_island_5 (fun v2 h => ?_)
  refine r_S C hS (ct_X4_move l Z w v1 v2 _ h) 2 (lw_S q1523 q1524 q71 q1525) ⟨by decide, by decide, by decide +kernel⟩ ⟨Nat.le_of_ble_eq_true rfl, Nat.le_of_ble_eq_true rfl⟩ rfl hl.1 rfl (wcat4 (Nat.le_of_ble_eq_true rfl)) dX4_island_8 ⟨Nat.le_of_ble_eq_true rfl, Nat.le_of_ble_eq_true rfl⟩ (fun v_ w3 H locs hv hS => ?_)
  obtain ⟨rfl, h⟩ := hv
  refine lv_aload_n hx hb dX4_island_11 rfl (lv_at hl 0 rfl) ?_
  refine lv_iconst (v := 0) hx hb dX4_island_12 (by decide) ?_
  refine r_putF (fin := false) C hS h gk_76 (ty := .int) (by decide +kernel) ⟨rfl, rfl⟩ gk_76f (fun h => by cases h) q1361 dX4_island_13 (fun w4 H locs h hS => ?_)
  refine lv_iconst (v := 0) hx hb dX4_island_16 (by decide) ?_
  refine lv_istore_n (i := 1) (lv' := [(1, .int 0), (0, .ref a0)]) hx hb dX4_island_17 rfl hl (by decide) rfl (fun ls hl => ?_)
  refine lv_aload_n hx hb dX4_island_18 rfl (lv_at hl 1 rfl) ?_
  obtain ⟨hob, h⟩ := h
  refine r_V C hS (ct_X4_isStatement l Z w4 a0 _ h) 0 24 hob ⟨by decide, by decide +kernel⟩ (lw_V q1526 q1528 qs37 q71 q1529) ⟨rfl, by decide, by decide, by decide +kernel⟩ ⟨Nat.le_of_ble_eq_true rfl, Nat.le_of_ble_eq_true rfl⟩ rfl hl.1 rfl (wcat4 (Nat.le_of_ble_eq_true rfl)) dX4_island_19 ⟨Nat.le_of_ble_eq_true rfl, Nat.le_of_ble_eq_true rfl⟩ (fun v_ w6 H locs hv hS => ?_)
  obtain ⟨v5, rfl, h⟩ := hv
  refine lv_istore_n (i := 2) (lv' := [(2, .int v5), (1, .int 0), (0, .ref a0)]) hx hb dX4_island_22 rfl hl (by decide) rfl (fun ls hl => ?_)
  exact kl_X4_island_23 C k FU w6 a0 0 v5 _ _ _ h hS (lv_sub hl [2, 1, 0] rfl)
end VX4_island
/-! LeftIsAgreedOnModel.isShelf(I)Z -/
section VX4_isShelf
variable {p : Program} {l : Launch} {e : Env} {s : State} {m : MethodId} {args : Array Value} {below : List Frame} {meth : Method} {c : Code} {Z : wZ} {A : Nat → Prop}
set_option maxHeartbeats 4000000 in
theorem ct_X4_isShelf (l : Launch) (Z : wZ) (w : Wd) (a0 : Int32) (k : Int32 → Wd → Prop) (h : wp_X4_isShelf w a0 k) : wMet l Z yX4_isShelf cX4_isShelf 1 (some .boolean) 1 25 0 0 [.int a0] w (pI k) := by
  refine wM_of (by decide +kernel) (Nat.le_of_ble_eq_true rfl) ?_
  intro p e s m below meth c ls C hS hl
  replace C : wC p l s m _ meth c cX4_isShelf 1 (some .boolean) RX4 "isShelf" Z _ := C
  have hl : lv_has ls 1 [(0, .int a0)] := hl
  have hx := C.hx
  have hb := C.hb
  unfold wp_X4_isShelf at h
  generalize wA w = A at C hS ⊢
  refine lv_iload_n hx hb dX4_isShelf_0 rfl (lv_at hl 0 rfl) ?_
  refine lv_i2l hx hb dX4_isShelf_1 rfl ?_
  refine lv_lconst (v := 0) hx hb dX4_isShelf_2 (by decide) ?_
  refine lv_ldc2 (v := 7) hx hb C.ow (C.hts _ q1438) dX4_isShelf_3 ?_
  refine r_S C hS (ct_X4_isIn l Z w (a0.toInt64) 0 7 _ h) 3 (lw_S q1439 q1440 q71 q1441) ⟨by decide, by decide, by decide +kernel⟩ ⟨Nat.le_of_ble_eq_true rfl, Nat.le_of_ble_eq_true rfl⟩ rfl hl.1 rfl (wcat4 (Nat.le_of_ble_eq_true rfl)) dX4_isShelf_6 ⟨Nat.le_of_ble_eq_true rfl, Nat.le_of_ble_eq_true rfl⟩ (fun v_ w2 H locs hv hS => ?_)
  obtain ⟨v1, rfl, h⟩ := hv
  obtain ⟨hn, h⟩ := h
  exact r_iret C hS h rfl hn (Nat.le_of_ble_eq_true rfl) (Nat.le_of_ble_eq_true rfl) dX4_isShelf_9
end VX4_isShelf
/-! LeftIsAgreedOnModel.row(III)I -/
section VX4_row
variable {p : Program} {l : Launch} {e : Env} {s : State} {m : MethodId} {args : Array Value} {below : List Frame} {meth : Method} {c : Code} {Z : wZ} {A : Nat → Prop}
set_option maxHeartbeats 4000000 in
theorem kb_X4_row_55 (C : wC p l s m args meth c cX4_row 5 (some .int) RX4 "row" Z A) (k : Int32 → Wd → Prop) (L55 : Wd → Nat → Int32 → Int32 → Prop) (hL55 : ∀ (w : Wd) (x0 : Nat) (x1 : Int32) (x4 : Int32) (H : Heap) (locs : List Loc) (ls : Array Slot), L55 w x0 x1 x4 → wS Z A s w H locs → lv_has ls 5 [(0, .ref x0), (1, .int x1), (4, .int x4)] → W p l e ({ frames := 2, cells := 0, slots := 0, locals := 45 } : Room) s m args below meth c H locs 0 0 (MQ below (wQc Z A (pI k)) args s 0 0 A) (F0 m 55 ls [])) : ∀ (w : Wd) (a0 : Nat) (l1 : Int32) (l4 : Int32) (H : Heap) (locs : List Loc) (ls : Array Slot), wb_X4_row_55 k L55 w a0 l1 l4 → wS Z A s w H locs → lv_has ls 5 [(0, .ref a0), (1, .int l1), (4, .int l4)] → W p l e ({ frames := 2, cells := 0, slots := 0, locals := 45 } : Room) s m args below meth c H locs 0 0 (MQ below (wQc Z A (pI k)) args s 0 0 A) (F0 m 55 ls []) := by
  intro w a0 l1 l4 H locs ls h hS hl
  have hx := C.hx
  have hb := C.hb
  unfold wb_X4_row_55 at h
  refine lv_iload hx hb dX4_row_55 (lv_at hl 2 rfl) ?_
  refine lv_bipush (v := 40) hx hb dX4_row_57 (by decide) ?_
  refine r_icmp_ge (tgt := 81) hx hb h dX4_row_59 (by decide) (fun h => ?_) (fun h => ?_)
  · refine lv_iconst (v := 1) hx hb dX4_row_81 (by decide) ?_
    exact r_iret C hS h rfl rfl (Nat.le_of_ble_eq_true rfl) (Nat.le_of_ble_eq_true rfl) dX4_row_82
  · refine lv_aload_n hx hb dX4_row_62 rfl (lv_at hl 0 rfl) ?_
    refine r_getG C hS h gk_70 q1375 dX4_row_63 (fun v15 h => ?_)
    refine lv_bipush (v := 40) hx hb dX4_row_66 (by decide) ?_
    refine lv_iload_n hx hb dX4_row_68 rfl (lv_at hl 1 rfl) ?_
    refine lv_imul hx hb dX4_row_69 ?_
    refine lv_iload hx hb dX4_row_70 (lv_at hl 2 rfl) ?_
    refine lv_iadd hx hb dX4_row_72 ?_
    refine lv_lconst (v := 0) hx hb dX4_row_73 (by decide) ?_
    refine r_last C hS h dX4_row_74 (fun w16 H locs h hS => ?_)
    refine lv_iinc (i := 4) (v := (l4 + 1)) (lv' := [(4, .int (l4 + 1)), (0, .ref a0), (1, .int l1)]) hx hb dX4_row_75 hl (k := 2) rfl rfl (by decide) rfl (fun ls hl => ?_)
    refine lv_goto (tgt := 55) hx hb dX4_row_78 (by decide) ?_
    exact hL55 w16 a0 l1 (l4 + 1) _ _ _ h hS (lv_sub hl [1, 2, 0] rfl)
set_option maxHeartbeats 4000000 in
theorem kl_X4_row_55 (C : wC p l s m args meth c cX4_row 5 (some .int) RX4 "row" Z A) (k : Int32 → Wd → Prop) : ∀ (n : Nat), ∀ (w : Wd) (a0 : Nat) (l1 : Int32) (l4 : Int32) (H : Heap) (locs : List Loc) (ls : Array Slot), wl_X4_row_55 k n w a0 l1 l4 → wS Z A s w H locs → lv_has ls 5 [(0, .ref a0), (1, .int l1), (4, .int l4)] → W p l e ({ frames := 2, cells := 0, slots := 0, locals := 45 } : Room) s m args below meth c H locs 0 0 (MQ below (wQc Z A (pI k)) args s 0 0 A) (F0 m 55 ls []) := by
  intro n
  induction n with
  | zero =>
    intro w a0 l1 l4 H locs ls h
    exact h.elim
  | succ n ih =>
    intro w a0 l1 l4 H locs ls h hS hl
    exact kb_X4_row_55 C k (wl_X4_row_55 k n) ih w a0 l1 l4 H locs ls h hS hl
set_option maxHeartbeats 4000000 in
theorem ct_X4_row (l : Launch) (Z : wZ) (w : Wd) (a0 : Nat) (a1 : Int32) (a2 : Int32) (a3 : Int32) (k : Int32 → Wd → Prop) (h : wp_X4_row w a0 a1 a2 a3 k) : wMet l Z yX4_row cX4_row 5 (some .int) 2 45 0 0 [.ref a0, .int a1, .int a2, .int a3] w (pI k) := by
  refine wM_of (by decide +kernel) (Nat.le_of_ble_eq_true rfl) ?_
  intro p e s m below meth c ls C hS hl
  replace C : wC p l s m _ meth c cX4_row 5 (some .int) RX4 "row" Z _ := C
  have hl : lv_has ls 5 [(0, .ref a0), (1, .int a1), (2, .int a2), (3, .int a3)] := hl
  have hx := C.hx
  have hb := C.hb
  unfold wp_X4_row at h
  generalize wA w = A at C hS ⊢
  refine lv_iload_n hx hb dX4_row_0 rfl (lv_at hl 1 rfl) ?_
  refine r_S C hS (ct_X4_isShelf l Z w a1 _ h) 1 (lw_S q1562 q1563 q71 q1564) ⟨by decide, by decide, by decide +kernel⟩ ⟨Nat.le_of_ble_eq_true rfl, Nat.le_of_ble_eq_true rfl⟩ rfl hl.1 rfl (wcat4 (Nat.le_of_ble_eq_true rfl)) dX4_row_1 ⟨Nat.le_of_ble_eq_true rfl, Nat.le_of_ble_eq_true rfl⟩ (fun v_ w2 H locs hv hS => ?_)
  obtain ⟨v1, rfl, h⟩ := hv
  refine r_if_eq (tgt := 31) hx hb h dX4_row_4 (by decide) (fun h => ?_) (fun h => ?_)
  · refine lv_aload_n hx hb dX4_row_31 rfl (lv_at hl 0 rfl) ?_
    refine lv_bipush (v := -2) hx hb dX4_row_32 (by decide) ?_
    obtain ⟨hob, h⟩ := h
    refine r_V C hS (ct_X4_refuse l Z w2 a0 (-2) _ h) 1 24 hob ⟨by decide, by decide +kernel⟩ (lw_V q1442 q1444 qs28 q71 q1445) ⟨rfl, by decide, by decide, by decide +kernel⟩ ⟨Nat.le_of_ble_eq_true rfl, Nat.le_of_ble_eq_true rfl⟩ rfl hl.1 rfl (wcat4 (Nat.le_of_ble_eq_true rfl)) dX4_row_34 ⟨Nat.le_of_ble_eq_true rfl, Nat.le_of_ble_eq_true rfl⟩ (fun v_ w4 H locs hv hS => ?_)
    obtain ⟨v3, rfl, h⟩ := hv
    exact r_iret C hS h rfl rfl (Nat.le_of_ble_eq_true rfl) (Nat.le_of_ble_eq_true rfl) dX4_row_37
  · refine lv_iload_n hx hb dX4_row_7 rfl (lv_at hl 2 rfl) ?_
    refine lv_i2l hx hb dX4_row_8 rfl ?_
    refine lv_lconst (v := 0) hx hb dX4_row_9 (by decide) ?_
    refine lv_ldc2 (v := 4) hx hb C.ow (C.hts _ q1565) dX4_row_10 ?_
    refine r_S C hS (ct_X4_isIn l Z w2 (a2.toInt64) 0 4 _ h) 3 (lw_S q1439 q1440 q71 q1441) ⟨by decide, by decide, by decide +kernel⟩ ⟨Nat.le_of_ble_eq_true rfl, Nat.le_of_ble_eq_true rfl⟩ rfl hl.1 rfl (wcat4 (Nat.le_of_ble_eq_true rfl)) dX4_row_13 ⟨Nat.le_of_ble_eq_true rfl, Nat.le_of_ble_eq_true rfl⟩ (fun v_ w6 H locs hv hS => ?_)
    obtain ⟨v5, rfl, h⟩ := hv
    refine r_if_eq (tgt := 31) hx hb h dX4_row_16 (by decide) (fun h => ?_) (fun h => ?_)
    · refine lv_aload_n hx hb dX4_row_31 rfl (lv_at hl 0 rfl) ?_
      refine lv_bipush (v := -2) hx hb dX4_row_32 (by decide) ?_
      obtain ⟨hob, h⟩ := h
      refine r_V C hS (ct_X4_refuse l Z w6 a0 (-2) _ h) 1 24 hob ⟨by decide, by decide +kernel⟩ (lw_V q1442 q1444 qs28 q71 q1445) ⟨rfl, by decide, by decide, by decide +kernel⟩ ⟨Nat.le_of_ble_eq_true rfl, Nat.le_of_ble_eq_true rfl⟩ rfl hl.1 rfl (wcat4 (Nat.le_of_ble_eq_true rfl)) dX4_row_34 ⟨Nat.le_of_ble_eq_true rfl, Nat.le_of_ble_eq_true rfl⟩ (fun v_ w8 H locs hv hS => ?_)
      obtain ⟨v7, rfl, h⟩ := hv
      exact r_iret C hS h rfl rfl (Nat.le_of_ble_eq_true rfl) (Nat.le_of_ble_eq_true rfl) dX4_row_37
    · refine lv_iload_n hx hb dX4_row_19 rfl (lv_at hl 3 rfl) ?_
      refine lv_i2l hx hb dX4_row_20 rfl ?_
      refine lv_lconst (v := 0) hx hb dX4_row_21 (by decide) ?_
      refine lv_ldc2 (v := 40) hx hb C.ow (C.hts _ q1566) dX4_row_22 ?_
      refine r_S C hS (ct_X4_isIn l Z w6 (a3.toInt64) 0 40 _ h) 3 (lw_S q1439 q1440 q71 q1441) ⟨by decide, by decide, by decide +kernel⟩ ⟨Nat.le_of_ble_eq_true rfl, Nat.le_of_ble_eq_true rfl⟩ rfl hl.1 rfl (wcat4 (Nat.le_of_ble_eq_true rfl)) dX4_row_25 ⟨Nat.le_of_ble_eq_true rfl, Nat.le_of_ble_eq_true rfl⟩ (fun v_ w10 H locs hv hS => ?_)
      obtain ⟨v9, rfl, h⟩ := hv
      refine r_if_ne (tgt := 38) hx hb h dX4_row_28 (by decide) (fun h => ?_) (fun h => ?_)
      · refine lv_aload_n hx hb dX4_row_38 rfl (lv_at hl 0 rfl) ?_
        refine r_getG C hS h gk_68 q1373 dX4_row_39 (fun v11 h => ?_)
        refine lv_iload_n hx hb dX4_row_42 rfl (lv_at hl 1 rfl) ?_
        refine lv_iload_n hx hb dX4_row_43 rfl (lv_at hl 2 rfl) ?_
        refine r_iast C hS h dX4_row_44 (fun w12 H locs h hS => ?_)
        refine lv_aload_n hx hb dX4_row_45 rfl (lv_at hl 0 rfl) ?_
        refine r_getG C hS h gk_69 q1374 dX4_row_46 (fun v13 h => ?_)
        refine lv_iload_n hx hb dX4_row_49 rfl (lv_at hl 1 rfl) ?_
        refine lv_iload_n hx hb dX4_row_50 rfl (lv_at hl 3 rfl) ?_
        refine r_iast C hS h dX4_row_51 (fun w14 H locs h hS => ?_)
        refine lv_iconst (v := 0) hx hb dX4_row_52 (by decide) ?_
        refine lv_istore (i := 4) (lv' := [(4, .int 0), (0, .ref a0), (1, .int a1), (2, .int a2), (3, .int a3)]) hx hb dX4_row_53 hl (by decide) rfl (fun ls hl => ?_)
        exact kl_X4_row_55 C k FU w14 a0 a1 0 _ _ _ h hS (lv_sub hl [1, 2, 0] rfl)
      · refine lv_aload_n hx hb dX4_row_31 rfl (lv_at hl 0 rfl) ?_
        refine lv_bipush (v := -2) hx hb dX4_row_32 (by decide) ?_
        obtain ⟨hob, h⟩ := h
        refine r_V C hS (ct_X4_refuse l Z w10 a0 (-2) _ h) 1 24 hob ⟨by decide, by decide +kernel⟩ (lw_V q1442 q1444 qs28 q71 q1445) ⟨rfl, by decide, by decide, by decide +kernel⟩ ⟨Nat.le_of_ble_eq_true rfl, Nat.le_of_ble_eq_true rfl⟩ rfl hl.1 rfl (wcat4 (Nat.le_of_ble_eq_true rfl)) dX4_row_34 ⟨Nat.le_of_ble_eq_true rfl, Nat.le_of_ble_eq_true rfl⟩ (fun v_ w18 H locs hv hS => ?_)
        obtain ⟨v17, rfl, h⟩ := hv
        exact r_iret C hS h rfl rfl (Nat.le_of_ble_eq_true rfl) (Nat.le_of_ble_eq_true rfl) dX4_row_37
end VX4_row
/-! LeftIsAgreedOnModel.rowIn(I)I -/
section VX4_rowIn
variable {p : Program} {l : Launch} {e : Env} {s : State} {m : MethodId} {args : Array Value} {below : List Frame} {meth : Method} {c : Code} {Z : wZ} {A : Nat → Prop}
set_option maxHeartbeats 4000000 in
theorem ct_X4_rowIn (l : Launch) (Z : wZ) (w : Wd) (a0 : Nat) (a1 : Int32) (k : Int32 → Wd → Prop) (h : wp_X4_rowIn w a0 a1 k) : wMet l Z yX4_rowIn cX4_rowIn 2 (some .int) 0 0 0 0 [.ref a0, .int a1] w (pI k) := by
  refine wM_of (by decide +kernel) (Nat.le_of_ble_eq_true rfl) ?_
  intro p e s m below meth c ls C hS hl
  replace C : wC p l s m _ meth c cX4_rowIn 2 (some .int) RX4 "rowIn" Z _ := C
  have hl : lv_has ls 2 [(0, .ref a0), (1, .int a1)] := hl
  have hx := C.hx
  have hb := C.hb
  unfold wp_X4_rowIn at h
  generalize wA w = A at C hS ⊢
  refine lv_aload_n hx hb dX4_rowIn_0 rfl (lv_at hl 0 rfl) ?_
  refine r_getG C hS h gk_68 q1373 dX4_rowIn_1 (fun v1 h => ?_)
  refine lv_iload_n hx hb dX4_rowIn_4 rfl (lv_at hl 1 rfl) ?_
  refine r_iald C hS h dX4_rowIn_5 (fun v2 h => ?_)
  refine lv_bipush (v := 10) hx hb dX4_rowIn_6 (by decide) ?_
  refine r_icmp_lt (tgt := 16) hx hb h dX4_rowIn_8 (by decide) (fun h => ?_) (fun h => ?_)
  · refine lv_aload_n hx hb dX4_rowIn_16 rfl (lv_at hl 0 rfl) ?_
    refine r_getG C hS h gk_68 q1373 dX4_rowIn_17 (fun v3 h => ?_)
    refine lv_iload_n hx hb dX4_rowIn_20 rfl (lv_at hl 1 rfl) ?_
    refine r_iald C hS h dX4_rowIn_21 (fun v4 h => ?_)
    refine lv_iconst (v := -1) hx hb dX4_rowIn_22 (by decide) ?_
    refine r_icmp_ne (tgt := 31) hx hb h dX4_rowIn_23 (by decide) (fun h => ?_) (fun h => ?_)
    · refine lv_iconst (v := 1) hx hb dX4_rowIn_31 (by decide) ?_
      exact r_iret C hS h rfl rfl (Nat.le_of_ble_eq_true rfl) (Nat.le_of_ble_eq_true rfl) dX4_rowIn_32
    · refine lv_bipush (v := -4) hx hb dX4_rowIn_26 (by decide) ?_
      refine lv_goto (tgt := 32) hx hb dX4_rowIn_28 (by decide) ?_
      exact r_iret C hS h rfl rfl (Nat.le_of_ble_eq_true rfl) (Nat.le_of_ble_eq_true rfl) dX4_rowIn_32
  · refine lv_bipush (v := -3) hx hb dX4_rowIn_11 (by decide) ?_
    refine lv_goto (tgt := 32) hx hb dX4_rowIn_13 (by decide) ?_
    exact r_iret C hS h rfl rfl (Nat.le_of_ble_eq_true rfl) (Nat.le_of_ble_eq_true rfl) dX4_rowIn_32
end VX4_rowIn
/-! LeftIsAgreedOnModel.set(IIJ)I -/
section VX4_set
variable {p : Program} {l : Launch} {e : Env} {s : State} {m : MethodId} {args : Array Value} {below : List Frame} {meth : Method} {c : Code} {Z : wZ} {A : Nat → Prop}
set_option maxHeartbeats 4000000 in
theorem ct_X4_set (l : Launch) (Z : wZ) (w : Wd) (a0 : Nat) (a1 : Int32) (a2 : Int32) (a3 : Int64) (k : Int32 → Wd → Prop) (h : wp_X4_set w a0 a1 a2 a3 k) : wMet l Z yX4_set cX4_set 6 (some .int) 2 45 0 0 [.ref a0, .int a1, .int a2, .long a3] w (pI k) := by
  refine wM_of (by decide +kernel) (Nat.le_of_ble_eq_true rfl) ?_
  intro p e s m below meth c ls C hS hl
  replace C : wC p l s m _ meth c cX4_set 6 (some .int) RX4 "set" Z _ := C
  have hl : lv_has ls 6 [(0, .ref a0), (1, .int a1), (2, .int a2), (3, .long a3)] := hl
  have hx := C.hx
  have hb := C.hb
  unfold wp_X4_set at h
  generalize wA w = A at C hS ⊢
  refine lv_iload_n hx hb dX4_set_0 rfl (lv_at hl 1 rfl) ?_
  refine r_S C hS (ct_X4_isShelf l Z w a1 _ h) 1 (lw_S q1562 q1563 q71 q1564) ⟨by decide, by decide, by decide +kernel⟩ ⟨Nat.le_of_ble_eq_true rfl, Nat.le_of_ble_eq_true rfl⟩ rfl hl.1 rfl (wcat4 (Nat.le_of_ble_eq_true rfl)) dX4_set_1 ⟨Nat.le_of_ble_eq_true rfl, Nat.le_of_ble_eq_true rfl⟩ (fun v_ w2 H locs hv hS => ?_)
  obtain ⟨v1, rfl, h⟩ := hv
  refine r_if_ne (tgt := 14) hx hb h dX4_set_4 (by decide) (fun h => ?_) (fun h => ?_)
  · refine lv_aload_n hx hb dX4_set_14 rfl (lv_at hl 0 rfl) ?_
    refine lv_iload_n hx hb dX4_set_15 rfl (lv_at hl 1 rfl) ?_
    obtain ⟨hob, h⟩ := h
    refine r_V C hS (ct_X4_rowIn l Z w2 a0 a1 _ h) 1 24 hob ⟨by decide, by decide +kernel⟩ (lw_V q1571 q1573 qs44 q71 q1574) ⟨rfl, by decide, by decide, by decide +kernel⟩ ⟨Nat.le_of_ble_eq_true rfl, Nat.le_of_ble_eq_true rfl⟩ rfl hl.1 rfl (wcat4 (Nat.le_of_ble_eq_true rfl)) dX4_set_16 ⟨Nat.le_of_ble_eq_true rfl, Nat.le_of_ble_eq_true rfl⟩ (fun v_ w4 H locs hv hS => ?_)
    obtain ⟨v3, rfl, h⟩ := hv
    refine r_if_ge (tgt := 32) hx hb h dX4_set_19 (by decide) (fun h => ?_) (fun h => ?_)
    · refine lv_iload_n hx hb dX4_set_32 rfl (lv_at hl 2 rfl) ?_
      refine lv_i2l hx hb dX4_set_33 rfl ?_
      refine lv_lconst (v := 0) hx hb dX4_set_34 (by decide) ?_
      refine lv_aload_n hx hb dX4_set_35 rfl (lv_at hl 0 rfl) ?_
      refine r_getG C hS h gk_69 q1374 dX4_set_36 (fun v5 h => ?_)
      refine lv_iload_n hx hb dX4_set_39 rfl (lv_at hl 1 rfl) ?_
      refine r_iald C hS h dX4_set_40 (fun v6 h => ?_)
      refine lv_iconst (v := 1) hx hb dX4_set_41 (by decide) ?_
      refine lv_isub hx hb dX4_set_42 ?_
      refine lv_i2l hx hb dX4_set_43 rfl ?_
      refine r_S C hS (ct_X4_isIn l Z w4 (a2.toInt64) 0 ((v6 - 1).toInt64) _ h) 3 (lw_S q1439 q1440 q71 q1441) ⟨by decide, by decide, by decide +kernel⟩ ⟨Nat.le_of_ble_eq_true rfl, Nat.le_of_ble_eq_true rfl⟩ rfl hl.1 rfl (wcat4 (Nat.le_of_ble_eq_true rfl)) dX4_set_44 ⟨Nat.le_of_ble_eq_true rfl, Nat.le_of_ble_eq_true rfl⟩ (fun v_ w8 H locs hv hS => ?_)
      obtain ⟨v7, rfl, h⟩ := hv
      refine r_if_ne (tgt := 57) hx hb h dX4_set_47 (by decide) (fun h => ?_) (fun h => ?_)
      · refine lv_aload_n hx hb dX4_set_57 rfl (lv_at hl 0 rfl) ?_
        refine r_getG C hS h gk_68 q1373 dX4_set_58 (fun v9 h => ?_)
        refine lv_iload_n hx hb dX4_set_61 rfl (lv_at hl 1 rfl) ?_
        refine r_iald C hS h dX4_set_62 (fun v10 h => ?_)
        refine lv_istore (i := 5) (lv' := [(5, .int v10), (0, .ref a0), (1, .int a1), (2, .int a2), (3, .long a3)]) hx hb dX4_set_63 hl (by decide) rfl (fun ls hl => ?_)
        refine lv_aload_n hx hb dX4_set_65 rfl (lv_at hl 1 rfl) ?_
        refine r_getG C hS h gk_70 q1375 dX4_set_66 (fun v11 h => ?_)
        refine lv_bipush (v := 40) hx hb dX4_set_69 (by decide) ?_
        refine lv_iload_n hx hb dX4_set_71 rfl (lv_at hl 2 rfl) ?_
        refine lv_imul hx hb dX4_set_72 ?_
        refine lv_iload_n hx hb dX4_set_73 rfl (lv_at hl 3 rfl) ?_
        refine lv_iadd hx hb dX4_set_74 ?_
        refine lv_iload hx hb dX4_set_75 (lv_at hl 0 rfl) ?_
        refine r_if_ne (tgt := 87) hx hb h dX4_set_77 (by decide) (fun h => ?_) (fun h => ?_)
        · refine lv_iload hx hb dX4_set_87 (lv_at hl 0 rfl) ?_
          refine lv_iconst (v := 1) hx hb dX4_set_89 (by decide) ?_
          refine r_icmp_ne (tgt := 100) hx hb h dX4_set_90 (by decide) (fun h => ?_) (fun h => ?_)
          · refine lv_iload hx hb dX4_set_100 (lv_at hl 0 rfl) ?_
            refine lv_iconst (v := 2) hx hb dX4_set_102 (by decide) ?_
            refine r_icmp_ne (tgt := 112) hx hb h dX4_set_103 (by decide) (fun h => ?_) (fun h => ?_)
            · refine lv_iload hx hb dX4_set_112 (lv_at hl 0 rfl) ?_
              refine lv_iconst (v := 3) hx hb dX4_set_114 (by decide) ?_
              refine r_icmp_ne (tgt := 122) hx hb h dX4_set_115 (by decide) (fun h => ?_) (fun h => ?_)
              · refine lv_lload_n hx hb dX4_set_122 rfl (lv_at hl 4 rfl) ?_
                refine lv_lconst (v := 0) hx hb dX4_set_123 (by decide) ?_
                refine W.lcmp hx hb dX4_set_124 ?_
                refine r_if_eq (tgt := 132) hx hb h dX4_set_125 (by decide) (fun h => ?_) (fun h => ?_)
                · refine lv_lconst (v := 0) hx hb dX4_set_132 (by decide) ?_
                  refine r_last C hS h dX4_set_133 (fun w12 H locs h hS => ?_)
                  refine lv_iconst (v := 1) hx hb dX4_set_134 (by decide) ?_
                  exact r_iret C hS h rfl rfl (Nat.le_of_ble_eq_true rfl) (Nat.le_of_ble_eq_true rfl) dX4_set_135
                · refine lv_lconst (v := 1) hx hb dX4_set_128 (by decide) ?_
                  refine lv_goto (tgt := 133) hx hb dX4_set_129 (by decide) ?_
                  refine r_last C hS h dX4_set_133 (fun w13 H locs h hS => ?_)
                  refine lv_iconst (v := 1) hx hb dX4_set_134 (by decide) ?_
                  exact r_iret C hS h rfl rfl (Nat.le_of_ble_eq_true rfl) (Nat.le_of_ble_eq_true rfl) dX4_set_135
              · refine lv_lload_n hx hb dX4_set_118 rfl (lv_at hl 4 rfl) ?_
                refine lv_goto (tgt := 133) hx hb dX4_set_119 (by decide) ?_
                refine r_last C hS h dX4_set_133 (fun w14 H locs h hS => ?_)
                refine lv_iconst (v := 1) hx hb dX4_set_134 (by decide) ?_
                exact r_iret C hS h rfl rfl (Nat.le_of_ble_eq_true rfl) (Nat.le_of_ble_eq_true rfl) dX4_set_135
            · refine lv_lload_n hx hb dX4_set_106 rfl (lv_at hl 4 rfl) ?_
              refine lv_l2i hx hb dX4_set_107 rfl ?_
              refine lv_i2l hx hb dX4_set_108 rfl ?_
              refine lv_goto (tgt := 133) hx hb dX4_set_109 (by decide) ?_
              refine r_last C hS h dX4_set_133 (fun w15 H locs h hS => ?_)
              refine lv_iconst (v := 1) hx hb dX4_set_134 (by decide) ?_
              exact r_iret C hS h rfl rfl (Nat.le_of_ble_eq_true rfl) (Nat.le_of_ble_eq_true rfl) dX4_set_135
          · refine lv_lload_n hx hb dX4_set_93 rfl (lv_at hl 4 rfl) ?_
            refine lv_l2i hx hb dX4_set_94 rfl ?_
            refine lv_i2s hx hb dX4_set_95 rfl ?_
            refine lv_i2l hx hb dX4_set_96 rfl ?_
            refine lv_goto (tgt := 133) hx hb dX4_set_97 (by decide) ?_
            refine r_last C hS h dX4_set_133 (fun w16 H locs h hS => ?_)
            refine lv_iconst (v := 1) hx hb dX4_set_134 (by decide) ?_
            exact r_iret C hS h rfl rfl (Nat.le_of_ble_eq_true rfl) (Nat.le_of_ble_eq_true rfl) dX4_set_135
        · refine lv_lload_n hx hb dX4_set_80 rfl (lv_at hl 4 rfl) ?_
          refine lv_l2i hx hb dX4_set_81 rfl ?_
          refine lv_i2b hx hb dX4_set_82 rfl ?_
          refine lv_i2l hx hb dX4_set_83 rfl ?_
          refine lv_goto (tgt := 133) hx hb dX4_set_84 (by decide) ?_
          refine r_last C hS h dX4_set_133 (fun w17 H locs h hS => ?_)
          refine lv_iconst (v := 1) hx hb dX4_set_134 (by decide) ?_
          exact r_iret C hS h rfl rfl (Nat.le_of_ble_eq_true rfl) (Nat.le_of_ble_eq_true rfl) dX4_set_135
      · refine lv_aload_n hx hb dX4_set_50 rfl (lv_at hl 0 rfl) ?_
        refine lv_bipush (v := -2) hx hb dX4_set_51 (by decide) ?_
        obtain ⟨hob, h⟩ := h
        refine r_V C hS (ct_X4_refuse l Z w8 a0 (-2) _ h) 1 24 hob ⟨by decide, by decide +kernel⟩ (lw_V q1442 q1444 qs28 q71 q1445) ⟨rfl, by decide, by decide, by decide +kernel⟩ ⟨Nat.le_of_ble_eq_true rfl, Nat.le_of_ble_eq_true rfl⟩ rfl hl.1 rfl (wcat4 (Nat.le_of_ble_eq_true rfl)) dX4_set_53 ⟨Nat.le_of_ble_eq_true rfl, Nat.le_of_ble_eq_true rfl⟩ (fun v_ w19 H locs hv hS => ?_)
        obtain ⟨v18, rfl, h⟩ := hv
        exact r_iret C hS h rfl rfl (Nat.le_of_ble_eq_true rfl) (Nat.le_of_ble_eq_true rfl) dX4_set_56
    · refine lv_aload_n hx hb dX4_set_22 rfl (lv_at hl 0 rfl) ?_
      refine lv_aload_n hx hb dX4_set_23 rfl (lv_at hl 0 rfl) ?_
      refine lv_iload_n hx hb dX4_set_24 rfl (lv_at hl 1 rfl) ?_
      obtain ⟨hob, h⟩ := h
      refine r_V C hS (ct_X4_rowIn l Z w4 a0 a1 _ h) 1 24 hob ⟨by decide, by decide +kernel⟩ (lw_V q1571 q1573 qs44 q71 q1574) ⟨rfl, by decide, by decide, by decide +kernel⟩ ⟨Nat.le_of_ble_eq_true rfl, Nat.le_of_ble_eq_true rfl⟩ rfl hl.1 rfl (wcat4 (Nat.le_of_ble_eq_true rfl)) dX4_set_25 ⟨Nat.le_of_ble_eq_true rfl, Nat.le_of_ble_eq_true rfl⟩ (fun v_ w21 H locs hv hS => ?_)
      obtain ⟨v20, rfl, h⟩ := hv
      obtain ⟨hob, h⟩ := h
      refine r_V C hS (ct_X4_refuse l Z w21 a0 v20 _ h) 1 24 hob ⟨by decide, by decide +kernel⟩ (lw_V q1442 q1444 qs28 q71 q1445) ⟨rfl, by decide, by decide, by decide +kernel⟩ ⟨Nat.le_of_ble_eq_true rfl, Nat.le_of_ble_eq_true rfl⟩ rfl hl.1 rfl (wcat4 (Nat.le_of_ble_eq_true rfl)) dX4_set_28 ⟨Nat.le_of_ble_eq_true rfl, Nat.le_of_ble_eq_true rfl⟩ (fun v_ w23 H locs hv hS => ?_)
      obtain ⟨v22, rfl, h⟩ := hv
      exact r_iret C hS h rfl rfl (Nat.le_of_ble_eq_true rfl) (Nat.le_of_ble_eq_true rfl) dX4_set_31
  · refine lv_aload_n hx hb dX4_set_7 rfl (lv_at hl 0 rfl) ?_
    refine lv_bipush (v := -2) hx hb dX4_set_8 (by decide) ?_
    obtain ⟨hob, h⟩ := h
    refine r_V C hS (ct_X4_refuse l Z w2 a0 (-2) _ h) 1 24 hob ⟨by decide, by decide +kernel⟩ (lw_V q1442 q1444 qs28 q71 q1445) ⟨rfl, by decide, by decide, by decide +kernel⟩ ⟨Nat.le_of_ble_eq_true rfl, Nat.le_of_ble_eq_true rfl⟩ rfl hl.1 rfl (wcat4 (Nat.le_of_ble_eq_true rfl)) dX4_set_10 ⟨Nat.le_of_ble_eq_true rfl, Nat.le_of_ble_eq_true rfl⟩ (fun v_ w25 H locs hv hS => ?_)
    obtain ⟨v24, rfl, h⟩ := hv
    exact r_iret C hS h rfl rfl (Nat.le_of_ble_eq_true rfl) (Nat.le_of_ble_eq_true rfl) dX4_set_13
end VX4_set
/-! LeftIsAgreedOnModel.copy(IIIII)I -/
section VX4_copy
variable {p : Program} {l : Launch} {e : Env} {s : State} {m : MethodId} {args : Array Value} {below : List Frame} {meth : Method} {c : Code} {Z : wZ} {A : Nat → Prop}
set_option maxHeartbeats 4000000 in
theorem kb_X4_copy_197 (C : wC p l s m args meth c cX4_copy 8 (some .int) RX4 "copy" Z A) (k : Int32 → Wd → Prop) (L197 : Wd → Nat → Int32 → Int32 → Int32 → Int32 → Prop) (hL197 : ∀ (w : Wd) (x0 : Nat) (x2 : Int32) (x4 : Int32) (x5 : Int32) (x7 : Int32) (H : Heap) (locs : List Loc) (ls : Array Slot), L197 w x0 x2 x4 x5 x7 → wS Z A s w H locs → lv_has ls 8 [(0, .ref x0), (2, .int x2), (4, .int x4), (5, .int x5), (7, .int x7)] → W p l e ({ frames := 2, cells := 0, slots := 0, locals := 45 } : Room) s m args below meth c H locs 0 0 (MQ below (wQc Z A (pI k)) args s 0 0 A) (F0 m 197 ls [])) : ∀ (w : Wd) (a0 : Nat) (l2 : Int32) (l4 : Int32) (l5 : Int32) (l7 : Int32) (H : Heap) (locs : List Loc) (ls : Array Slot), wb_X4_copy_197 k L197 w a0 l2 l4 l5 l7 → wS Z A s w H locs → lv_has ls 8 [(0, .ref a0), (2, .int l2), (4, .int l4), (5, .int l5), (7, .int l7)] → W p l e ({ frames := 2, cells := 0, slots := 0, locals := 45 } : Room) s m args below meth c H locs 0 0 (MQ below (wQc Z A (pI k)) args s 0 0 A) (F0 m 197 ls []) := by
  intro w a0 l2 l4 l5 l7 H locs ls h hS hl
  have hx := C.hx
  have hb := C.hb
  unfold wb_X4_copy_197 at h
  refine lv_iload hx hb dX4_copy_197 (lv_at hl 4 rfl) ?_
  refine lv_iload hx hb dX4_copy_199 (lv_at hl 3 rfl) ?_
  refine r_icmp_ge (tgt := 232) hx hb h dX4_copy_201 (by decide) (fun h => ?_) (fun h => ?_)
  · refine lv_iload hx hb dX4_copy_232 (lv_at hl 3 rfl) ?_
    exact r_iret C hS h rfl rfl (Nat.le_of_ble_eq_true rfl) (Nat.le_of_ble_eq_true rfl) dX4_copy_234
  · refine lv_aload_n hx hb dX4_copy_204 rfl (lv_at hl 0 rfl) ?_
    refine r_getG C hS h gk_70 q1375 dX4_copy_205 (fun v29 h => ?_)
    refine lv_bipush (v := 40) hx hb dX4_copy_208 (by decide) ?_
    refine lv_iload_n hx hb dX4_copy_210 rfl (lv_at hl 1 rfl) ?_
    refine lv_imul hx hb dX4_copy_211 ?_
    refine lv_iload hx hb dX4_copy_212 (lv_at hl 2 rfl) ?_
    refine lv_iadd hx hb dX4_copy_214 ?_
    refine lv_iload hx hb dX4_copy_215 (lv_at hl 4 rfl) ?_
    refine lv_iadd hx hb dX4_copy_217 ?_
    refine lv_aload_n hx hb dX4_copy_218 rfl (lv_at hl 0 rfl) ?_
    refine r_getG C hS h gk_71 q1376 dX4_copy_219 (fun v30 h => ?_)
    refine lv_iload hx hb dX4_copy_222 (lv_at hl 4 rfl) ?_
    refine r_lald C hS h dX4_copy_224 (fun v31 h => ?_)
    refine r_last C hS h dX4_copy_225 (fun w32 H locs h hS => ?_)
    refine lv_iinc (i := 7) (v := (l7 + 1)) (lv' := [(7, .int (l7 + 1)), (0, .ref a0), (2, .int l2), (4, .int l4), (5, .int l5)]) hx hb dX4_copy_226 hl (k := 4) rfl rfl (by decide) rfl (fun ls hl => ?_)
    refine lv_goto (tgt := 197) hx hb dX4_copy_229 (by decide) ?_
    exact hL197 w32 a0 l2 l4 l5 (l7 + 1) _ _ _ h hS (lv_sub hl [1, 2, 3, 4, 0] rfl)
set_option maxHeartbeats 4000000 in
theorem kl_X4_copy_197 (C : wC p l s m args meth c cX4_copy 8 (some .int) RX4 "copy" Z A) (k : Int32 → Wd → Prop) : ∀ (n : Nat), ∀ (w : Wd) (a0 : Nat) (l2 : Int32) (l4 : Int32) (l5 : Int32) (l7 : Int32) (H : Heap) (locs : List Loc) (ls : Array Slot), wl_X4_copy_197 k n w a0 l2 l4 l5 l7 → wS Z A s w H locs → lv_has ls 8 [(0, .ref a0), (2, .int l2), (4, .int l4), (5, .int l5), (7, .int l7)] → W p l e ({ frames := 2, cells := 0, slots := 0, locals := 45 } : Room) s m args below meth c H locs 0 0 (MQ below (wQc Z A (pI k)) args s 0 0 A) (F0 m 197 ls []) := by
  intro n
  induction n with
  | zero =>
    intro w a0 l2 l4 l5 l7 H locs ls h
    exact h.elim
  | succ n ih =>
    intro w a0 l2 l4 l5 l7 H locs ls h hS hl
    exact kb_X4_copy_197 C k (wl_X4_copy_197 k n) ih w a0 l2 l4 l5 l7 H locs ls h hS hl
set_option maxHeartbeats 4000000 in
theorem kb_X4_copy_160 (C : wC p l s m args meth c cX4_copy 8 (some .int) RX4 "copy" Z A) (k : Int32 → Wd → Prop) (L160 : Wd → Nat → Int32 → Int32 → Int32 → Int32 → Int32 → Int32 → Prop) (hL160 : ∀ (w : Wd) (x0 : Nat) (x1 : Int32) (x2 : Int32) (x3 : Int32) (x4 : Int32) (x5 : Int32) (x7 : Int32) (H : Heap) (locs : List Loc) (ls : Array Slot), L160 w x0 x1 x2 x3 x4 x5 x7 → wS Z A s w H locs → lv_has ls 8 [(0, .ref x0), (1, .int x1), (2, .int x2), (3, .int x3), (4, .int x4), (5, .int x5), (7, .int x7)] → W p l e ({ frames := 2, cells := 0, slots := 0, locals := 45 } : Room) s m args below meth c H locs 0 0 (MQ below (wQc Z A (pI k)) args s 0 0 A) (F0 m 160 ls [])) : ∀ (w : Wd) (a0 : Nat) (l1 : Int32) (l2 : Int32) (l3 : Int32) (l4 : Int32) (l5 : Int32) (l7 : Int32) (H : Heap) (locs : List Loc) (ls : Array Slot), wb_X4_copy_160 k L160 w a0 l1 l2 l3 l4 l5 l7 → wS Z A s w H locs → lv_has ls 8 [(0, .ref a0), (1, .int l1), (2, .int l2), (3, .int l3), (4, .int l4), (5, .int l5), (7, .int l7)] → W p l e ({ frames := 2, cells := 0, slots := 0, locals := 45 } : Room) s m args below meth c H locs 0 0 (MQ below (wQc Z A (pI k)) args s 0 0 A) (F0 m 160 ls []) := by
  intro w a0 l1 l2 l3 l4 l5 l7 H locs ls h hS hl
  have hx := C.hx
  have hb := C.hb
  unfold wb_X4_copy_160 at h
  refine lv_iload hx hb dX4_copy_160 (lv_at hl 6 rfl) ?_
  refine lv_iload hx hb dX4_copy_162 (lv_at hl 5 rfl) ?_
  refine r_icmp_ge (tgt := 194) hx hb h dX4_copy_164 (by decide) (fun h => ?_) (fun h => ?_)
  · refine lv_iconst (v := 0) hx hb dX4_copy_194 (by decide) ?_
    refine lv_istore (i := 7) (lv' := [(7, .int 0), (0, .ref a0), (1, .int l1), (2, .int l2), (3, .int l3), (4, .int l4), (5, .int l5)]) hx hb dX4_copy_195 hl (by decide) rfl (fun ls hl => ?_)
    exact kl_X4_copy_197 C k FU w a0 l2 l4 l5 0 _ _ _ h hS (lv_sub hl [1, 3, 5, 6, 0] rfl)
  · refine lv_aload_n hx hb dX4_copy_167 rfl (lv_at hl 0 rfl) ?_
    refine r_getG C hS h gk_71 q1376 dX4_copy_168 (fun v33 h => ?_)
    refine lv_iload hx hb dX4_copy_171 (lv_at hl 6 rfl) ?_
    refine lv_aload_n hx hb dX4_copy_173 rfl (lv_at hl 0 rfl) ?_
    refine r_getG C hS h gk_70 q1375 dX4_copy_174 (fun v34 h => ?_)
    refine lv_bipush (v := 40) hx hb dX4_copy_177 (by decide) ?_
    refine lv_iload_n hx hb dX4_copy_179 rfl (lv_at hl 1 rfl) ?_
    refine lv_imul hx hb dX4_copy_180 ?_
    refine lv_iload_n hx hb dX4_copy_181 rfl (lv_at hl 3 rfl) ?_
    refine lv_iadd hx hb dX4_copy_182 ?_
    refine lv_iload hx hb dX4_copy_183 (lv_at hl 6 rfl) ?_
    refine lv_iadd hx hb dX4_copy_185 ?_
    refine r_lald C hS h dX4_copy_186 (fun v35 h => ?_)
    refine r_last C hS h dX4_copy_187 (fun w36 H locs h hS => ?_)
    refine lv_iinc (i := 7) (v := (l7 + 1)) (lv' := [(7, .int (l7 + 1)), (0, .ref a0), (1, .int l1), (2, .int l2), (3, .int l3), (4, .int l4), (5, .int l5)]) hx hb dX4_copy_188 hl (k := 6) rfl rfl (by decide) rfl (fun ls hl => ?_)
    refine lv_goto (tgt := 160) hx hb dX4_copy_191 (by decide) ?_
    exact hL160 w36 a0 l1 l2 l3 l4 l5 (l7 + 1) _ _ _ h hS (lv_sub hl [1, 2, 3, 4, 5, 6, 0] rfl)
set_option maxHeartbeats 4000000 in
theorem kl_X4_copy_160 (C : wC p l s m args meth c cX4_copy 8 (some .int) RX4 "copy" Z A) (k : Int32 → Wd → Prop) : ∀ (n : Nat), ∀ (w : Wd) (a0 : Nat) (l1 : Int32) (l2 : Int32) (l3 : Int32) (l4 : Int32) (l5 : Int32) (l7 : Int32) (H : Heap) (locs : List Loc) (ls : Array Slot), wl_X4_copy_160 k n w a0 l1 l2 l3 l4 l5 l7 → wS Z A s w H locs → lv_has ls 8 [(0, .ref a0), (1, .int l1), (2, .int l2), (3, .int l3), (4, .int l4), (5, .int l5), (7, .int l7)] → W p l e ({ frames := 2, cells := 0, slots := 0, locals := 45 } : Room) s m args below meth c H locs 0 0 (MQ below (wQc Z A (pI k)) args s 0 0 A) (F0 m 160 ls []) := by
  intro n
  induction n with
  | zero =>
    intro w a0 l1 l2 l3 l4 l5 l7 H locs ls h
    exact h.elim
  | succ n ih =>
    intro w a0 l1 l2 l3 l4 l5 l7 H locs ls h hS hl
    exact kb_X4_copy_160 C k (wl_X4_copy_160 k n) ih w a0 l1 l2 l3 l4 l5 l7 H locs ls h hS hl
set_option maxHeartbeats 4000000 in
theorem kb_X4_copy_97 (C : wC p l s m args meth c cX4_copy 8 (some .int) RX4 "copy" Z A) (k : Int32 → Wd → Prop) : ∀ (w : Wd) (a0 : Nat) (l1 : Int32) (l2 : Int32) (l3 : Int32) (l4 : Int32) (l5 : Int32) (l6 : Int32) (H : Heap) (locs : List Loc) (ls : Array Slot), wb_X4_copy_97 k w a0 l1 l2 l3 l4 l5 l6 → wS Z A s w H locs → lv_has ls 8 [(0, .ref a0), (1, .int l1), (2, .int l2), (3, .int l3), (4, .int l4), (5, .int l5), (6, .int l6)] → W p l e ({ frames := 2, cells := 0, slots := 0, locals := 45 } : Room) s m args below meth c H locs 0 0 (MQ below (wQc Z A (pI k)) args s 0 0 A) (F0 m 97 ls []) := by
  intro w a0 l1 l2 l3 l4 l5 l6 H locs ls h hS hl
  have hx := C.hx
  have hb := C.hb
  unfold wb_X4_copy_97 at h
  refine lv_iload hx hb dX4_copy_97 (lv_at hl 6 rfl) ?_
  refine r_if_ne (tgt := 109) hx hb h dX4_copy_99 (by decide) (fun h => ?_) (fun h => ?_)
  · refine lv_iload hx hb dX4_copy_109 (lv_at hl 5 rfl) ?_
    refine r_if_lt (tgt := 150) hx hb h dX4_copy_111 (by decide) (fun h => ?_) (fun h => ?_)
    · refine lv_aload_n hx hb dX4_copy_150 rfl (lv_at hl 0 rfl) ?_
      refine lv_bipush (v := -2) hx hb dX4_copy_151 (by decide) ?_
      obtain ⟨hob, h⟩ := h
      refine r_V C hS (ct_X4_refuse l Z w a0 (-2) _ h) 1 24 hob ⟨by decide, by decide +kernel⟩ (lw_V q1442 q1444 qs28 q71 q1445) ⟨rfl, by decide, by decide, by decide +kernel⟩ ⟨Nat.le_of_ble_eq_true rfl, Nat.le_of_ble_eq_true rfl⟩ rfl hl.1 rfl (wcat4 (Nat.le_of_ble_eq_true rfl)) dX4_copy_153 ⟨Nat.le_of_ble_eq_true rfl, Nat.le_of_ble_eq_true rfl⟩ (fun v_ w18 H locs hv hS => ?_)
      obtain ⟨v17, rfl, h⟩ := hv
      exact r_iret C hS h rfl rfl (Nat.le_of_ble_eq_true rfl) (Nat.le_of_ble_eq_true rfl) dX4_copy_156
    · refine lv_iload_n hx hb dX4_copy_114 rfl (lv_at hl 3 rfl) ?_
      refine r_if_lt (tgt := 150) hx hb h dX4_copy_115 (by decide) (fun h => ?_) (fun h => ?_)
      · refine lv_aload_n hx hb dX4_copy_150 rfl (lv_at hl 0 rfl) ?_
        refine lv_bipush (v := -2) hx hb dX4_copy_151 (by decide) ?_
        obtain ⟨hob, h⟩ := h
        refine r_V C hS (ct_X4_refuse l Z w a0 (-2) _ h) 1 24 hob ⟨by decide, by decide +kernel⟩ (lw_V q1442 q1444 qs28 q71 q1445) ⟨rfl, by decide, by decide, by decide +kernel⟩ ⟨Nat.le_of_ble_eq_true rfl, Nat.le_of_ble_eq_true rfl⟩ rfl hl.1 rfl (wcat4 (Nat.le_of_ble_eq_true rfl)) dX4_copy_153 ⟨Nat.le_of_ble_eq_true rfl, Nat.le_of_ble_eq_true rfl⟩ (fun v_ w20 H locs hv hS => ?_)
        obtain ⟨v19, rfl, h⟩ := hv
        exact r_iret C hS h rfl rfl (Nat.le_of_ble_eq_true rfl) (Nat.le_of_ble_eq_true rfl) dX4_copy_156
      · refine lv_iload hx hb dX4_copy_118 (lv_at hl 4 rfl) ?_
        refine r_if_lt (tgt := 150) hx hb h dX4_copy_120 (by decide) (fun h => ?_) (fun h => ?_)
        · refine lv_aload_n hx hb dX4_copy_150 rfl (lv_at hl 0 rfl) ?_
          refine lv_bipush (v := -2) hx hb dX4_copy_151 (by decide) ?_
          obtain ⟨hob, h⟩ := h
          refine r_V C hS (ct_X4_refuse l Z w a0 (-2) _ h) 1 24 hob ⟨by decide, by decide +kernel⟩ (lw_V q1442 q1444 qs28 q71 q1445) ⟨rfl, by decide, by decide, by decide +kernel⟩ ⟨Nat.le_of_ble_eq_true rfl, Nat.le_of_ble_eq_true rfl⟩ rfl hl.1 rfl (wcat4 (Nat.le_of_ble_eq_true rfl)) dX4_copy_153 ⟨Nat.le_of_ble_eq_true rfl, Nat.le_of_ble_eq_true rfl⟩ (fun v_ w22 H locs hv hS => ?_)
          obtain ⟨v21, rfl, h⟩ := hv
          exact r_iret C hS h rfl rfl (Nat.le_of_ble_eq_true rfl) (Nat.le_of_ble_eq_true rfl) dX4_copy_156
        · refine lv_iload hx hb dX4_copy_123 (lv_at hl 5 rfl) ?_
          refine lv_aload_n hx hb dX4_copy_125 rfl (lv_at hl 0 rfl) ?_
          refine r_getG C hS h gk_69 q1374 dX4_copy_126 (fun v23 h => ?_)
          refine lv_iload_n hx hb dX4_copy_129 rfl (lv_at hl 1 rfl) ?_
          refine r_iald C hS h dX4_copy_130 (fun v24 h => ?_)
          refine lv_iload_n hx hb dX4_copy_131 rfl (lv_at hl 3 rfl) ?_
          refine lv_isub hx hb dX4_copy_132 ?_
          refine r_icmp_gt (tgt := 150) hx hb h dX4_copy_133 (by decide) (fun h => ?_) (fun h => ?_)
          · refine lv_aload_n hx hb dX4_copy_150 rfl (lv_at hl 0 rfl) ?_
            refine lv_bipush (v := -2) hx hb dX4_copy_151 (by decide) ?_
            obtain ⟨hob, h⟩ := h
            refine r_V C hS (ct_X4_refuse l Z w a0 (-2) _ h) 1 24 hob ⟨by decide, by decide +kernel⟩ (lw_V q1442 q1444 qs28 q71 q1445) ⟨rfl, by decide, by decide, by decide +kernel⟩ ⟨Nat.le_of_ble_eq_true rfl, Nat.le_of_ble_eq_true rfl⟩ rfl hl.1 rfl (wcat4 (Nat.le_of_ble_eq_true rfl)) dX4_copy_153 ⟨Nat.le_of_ble_eq_true rfl, Nat.le_of_ble_eq_true rfl⟩ (fun v_ w26 H locs hv hS => ?_)
            obtain ⟨v25, rfl, h⟩ := hv
            exact r_iret C hS h rfl rfl (Nat.le_of_ble_eq_true rfl) (Nat.le_of_ble_eq_true rfl) dX4_copy_156
          · refine lv_iload hx hb dX4_copy_136 (lv_at hl 5 rfl) ?_
            refine lv_aload_n hx hb dX4_copy_138 rfl (lv_at hl 0 rfl) ?_
            refine r_getG C hS h gk_69 q1374 dX4_copy_139 (fun v27 h => ?_)
            refine lv_iload_n hx hb dX4_copy_142 rfl (lv_at hl 2 rfl) ?_
            refine r_iald C hS h dX4_copy_143 (fun v28 h => ?_)
            refine lv_iload hx hb dX4_copy_144 (lv_at hl 4 rfl) ?_
            refine lv_isub hx hb dX4_copy_146 ?_
            refine r_icmp_le (tgt := 157) hx hb h dX4_copy_147 (by decide) (fun h => ?_) (fun h => ?_)
            · refine lv_iconst (v := 0) hx hb dX4_copy_157 (by decide) ?_
              refine lv_istore (i := 7) (lv' := [(7, .int 0), (0, .ref a0), (1, .int l1), (2, .int l2), (3, .int l3), (4, .int l4), (5, .int l5), (6, .int l6)]) hx hb dX4_copy_158 hl (by decide) rfl (fun ls hl => ?_)
              exact kl_X4_copy_160 C k FU w a0 l1 l2 l3 l4 l5 0 _ _ _ h hS (lv_sub hl [1, 2, 3, 4, 5, 6, 0] rfl)
            · refine lv_aload_n hx hb dX4_copy_150 rfl (lv_at hl 0 rfl) ?_
              refine lv_bipush (v := -2) hx hb dX4_copy_151 (by decide) ?_
              obtain ⟨hob, h⟩ := h
              refine r_V C hS (ct_X4_refuse l Z w a0 (-2) _ h) 1 24 hob ⟨by decide, by decide +kernel⟩ (lw_V q1442 q1444 qs28 q71 q1445) ⟨rfl, by decide, by decide, by decide +kernel⟩ ⟨Nat.le_of_ble_eq_true rfl, Nat.le_of_ble_eq_true rfl⟩ rfl hl.1 rfl (wcat4 (Nat.le_of_ble_eq_true rfl)) dX4_copy_153 ⟨Nat.le_of_ble_eq_true rfl, Nat.le_of_ble_eq_true rfl⟩ (fun v_ w38 H locs hv hS => ?_)
              obtain ⟨v37, rfl, h⟩ := hv
              exact r_iret C hS h rfl rfl (Nat.le_of_ble_eq_true rfl) (Nat.le_of_ble_eq_true rfl) dX4_copy_156
  · refine lv_aload_n hx hb dX4_copy_102 rfl (lv_at hl 0 rfl) ?_
    refine lv_bipush (v := -4) hx hb dX4_copy_103 (by decide) ?_
    obtain ⟨hob, h⟩ := h
    refine r_V C hS (ct_X4_refuse l Z w a0 (-4) _ h) 1 24 hob ⟨by decide, by decide +kernel⟩ (lw_V q1442 q1444 qs28 q71 q1445) ⟨rfl, by decide, by decide, by decide +kernel⟩ ⟨Nat.le_of_ble_eq_true rfl, Nat.le_of_ble_eq_true rfl⟩ rfl hl.1 rfl (wcat4 (Nat.le_of_ble_eq_true rfl)) dX4_copy_105 ⟨Nat.le_of_ble_eq_true rfl, Nat.le_of_ble_eq_true rfl⟩ (fun v_ w40 H locs hv hS => ?_)
    obtain ⟨v39, rfl, h⟩ := hv
    exact r_iret C hS h rfl rfl (Nat.le_of_ble_eq_true rfl) (Nat.le_of_ble_eq_true rfl) dX4_copy_108
set_option maxHeartbeats 4000000 in
theorem kb_X4_copy_46 (C : wC p l s m args meth c cX4_copy 8 (some .int) RX4 "copy" Z A) (k : Int32 → Wd → Prop) : ∀ (w : Wd) (a0 : Nat) (l1 : Int32) (l2 : Int32) (l3 : Int32) (l4 : Int32) (l5 : Int32) (s0 : Int32) (H : Heap) (locs : List Loc) (ls : Array Slot), wb_X4_copy_46 k w a0 l1 l2 l3 l4 l5 s0 → wS Z A s w H locs → lv_has ls 8 [(0, .ref a0), (1, .int l1), (2, .int l2), (3, .int l3), (4, .int l4), (5, .int l5)] → W p l e ({ frames := 2, cells := 0, slots := 0, locals := 45 } : Room) s m args below meth c H locs 0 0 (MQ below (wQc Z A (pI k)) args s 0 0 A) (F0 m 46 ls [.int s0]) := by
  intro w a0 l1 l2 l3 l4 l5 s0 H locs ls h hS hl
  have hx := C.hx
  have hb := C.hb
  unfold wb_X4_copy_46 at h
  refine lv_istore (i := 6) (lv' := [(6, .int s0), (0, .ref a0), (1, .int l1), (2, .int l2), (3, .int l3), (4, .int l4), (5, .int l5)]) hx hb dX4_copy_46 hl (by decide) rfl (fun ls hl => ?_)
  refine lv_aload_n hx hb dX4_copy_48 rfl (lv_at hl 1 rfl) ?_
  refine r_getG C hS h gk_68 q1373 dX4_copy_49 (fun v9 h => ?_)
  refine lv_iload_n hx hb dX4_copy_52 rfl (lv_at hl 2 rfl) ?_
  refine r_iald C hS h dX4_copy_53 (fun v10 h => ?_)
  refine lv_bipush (v := 10) hx hb dX4_copy_54 (by decide) ?_
  refine r_icmp_ge (tgt := 90) hx hb h dX4_copy_56 (by decide) (fun h => ?_) (fun h => ?_)
  · refine lv_aload_n hx hb dX4_copy_90 rfl (lv_at hl 1 rfl) ?_
    refine lv_bipush (v := -3) hx hb dX4_copy_91 (by decide) ?_
    obtain ⟨hob, h⟩ := h
    refine r_V C hS (ct_X4_refuse l Z w a0 (-3) _ h) 1 24 hob ⟨by decide, by decide +kernel⟩ (lw_V q1442 q1444 qs28 q71 q1445) ⟨rfl, by decide, by decide, by decide +kernel⟩ ⟨Nat.le_of_ble_eq_true rfl, Nat.le_of_ble_eq_true rfl⟩ rfl hl.1 rfl (wcat4 (Nat.le_of_ble_eq_true rfl)) dX4_copy_93 ⟨Nat.le_of_ble_eq_true rfl, Nat.le_of_ble_eq_true rfl⟩ (fun v_ w12 H locs hv hS => ?_)
    obtain ⟨v11, rfl, h⟩ := hv
    exact r_iret C hS h rfl rfl (Nat.le_of_ble_eq_true rfl) (Nat.le_of_ble_eq_true rfl) dX4_copy_96
  · refine lv_aload_n hx hb dX4_copy_59 rfl (lv_at hl 1 rfl) ?_
    refine r_getG C hS h gk_68 q1373 dX4_copy_60 (fun v13 h => ?_)
    refine lv_iload_n hx hb dX4_copy_63 rfl (lv_at hl 3 rfl) ?_
    refine r_iald C hS h dX4_copy_64 (fun v14 h => ?_)
    refine lv_bipush (v := 10) hx hb dX4_copy_65 (by decide) ?_
    refine r_icmp_ge (tgt := 90) hx hb h dX4_copy_67 (by decide) (fun h => ?_) (fun h => ?_)
    · refine lv_aload_n hx hb dX4_copy_90 rfl (lv_at hl 1 rfl) ?_
      refine lv_bipush (v := -3) hx hb dX4_copy_91 (by decide) ?_
      obtain ⟨hob, h⟩ := h
      refine r_V C hS (ct_X4_refuse l Z w a0 (-3) _ h) 1 24 hob ⟨by decide, by decide +kernel⟩ (lw_V q1442 q1444 qs28 q71 q1445) ⟨rfl, by decide, by decide, by decide +kernel⟩ ⟨Nat.le_of_ble_eq_true rfl, Nat.le_of_ble_eq_true rfl⟩ rfl hl.1 rfl (wcat4 (Nat.le_of_ble_eq_true rfl)) dX4_copy_93 ⟨Nat.le_of_ble_eq_true rfl, Nat.le_of_ble_eq_true rfl⟩ (fun v_ w16 H locs hv hS => ?_)
      obtain ⟨v15, rfl, h⟩ := hv
      exact r_iret C hS h rfl rfl (Nat.le_of_ble_eq_true rfl) (Nat.le_of_ble_eq_true rfl) dX4_copy_96
    · refine lv_iload hx hb dX4_copy_70 (lv_at hl 0 rfl) ?_
      refine r_if_eq (tgt := 97) hx hb h dX4_copy_72 (by decide) (fun h => ?_) (fun h => ?_)
      · exact kb_X4_copy_97 C k w a0 l1 l2 l3 l4 l5 s0 _ _ _ h hS (lv_sub hl [1, 2, 3, 4, 5, 6, 0] rfl)
      · refine lv_aload_n hx hb dX4_copy_75 rfl (lv_at hl 1 rfl) ?_
        refine r_getG C hS h gk_68 q1373 dX4_copy_76 (fun v41 h => ?_)
        refine lv_iload_n hx hb dX4_copy_79 rfl (lv_at hl 2 rfl) ?_
        refine r_iald C hS h dX4_copy_80 (fun v42 h => ?_)
        refine lv_aload_n hx hb dX4_copy_81 rfl (lv_at hl 1 rfl) ?_
        refine r_getG C hS h gk_68 q1373 dX4_copy_82 (fun v43 h => ?_)
        refine lv_iload_n hx hb dX4_copy_85 rfl (lv_at hl 3 rfl) ?_
        refine r_iald C hS h dX4_copy_86 (fun v44 h => ?_)
        refine r_icmp_eq (tgt := 97) hx hb h dX4_copy_87 (by decide) (fun h => ?_) (fun h => ?_)
        · exact kb_X4_copy_97 C k w a0 l1 l2 l3 l4 l5 s0 _ _ _ h hS (lv_sub hl [1, 2, 3, 4, 5, 6, 0] rfl)
        · refine lv_aload_n hx hb dX4_copy_90 rfl (lv_at hl 1 rfl) ?_
          refine lv_bipush (v := -3) hx hb dX4_copy_91 (by decide) ?_
          obtain ⟨hob, h⟩ := h
          refine r_V C hS (ct_X4_refuse l Z w a0 (-3) _ h) 1 24 hob ⟨by decide, by decide +kernel⟩ (lw_V q1442 q1444 qs28 q71 q1445) ⟨rfl, by decide, by decide, by decide +kernel⟩ ⟨Nat.le_of_ble_eq_true rfl, Nat.le_of_ble_eq_true rfl⟩ rfl hl.1 rfl (wcat4 (Nat.le_of_ble_eq_true rfl)) dX4_copy_93 ⟨Nat.le_of_ble_eq_true rfl, Nat.le_of_ble_eq_true rfl⟩ (fun v_ w46 H locs hv hS => ?_)
          obtain ⟨v45, rfl, h⟩ := hv
          exact r_iret C hS h rfl rfl (Nat.le_of_ble_eq_true rfl) (Nat.le_of_ble_eq_true rfl) dX4_copy_96
set_option maxHeartbeats 4000000 in
theorem kb_X4_copy_45 (C : wC p l s m args meth c cX4_copy 8 (some .int) RX4 "copy" Z A) (k : Int32 → Wd → Prop) : ∀ (w : Wd) (a0 : Nat) (l1 : Int32) (l2 : Int32) (l3 : Int32) (l4 : Int32) (l5 : Int32) (H : Heap) (locs : List Loc) (ls : Array Slot), wb_X4_copy_45 k w a0 l1 l2 l3 l4 l5 → wS Z A s w H locs → lv_has ls 8 [(0, .ref a0), (1, .int l1), (2, .int l2), (3, .int l3), (4, .int l4), (5, .int l5)] → W p l e ({ frames := 2, cells := 0, slots := 0, locals := 45 } : Room) s m args below meth c H locs 0 0 (MQ below (wQc Z A (pI k)) args s 0 0 A) (F0 m 45 ls []) := by
  intro w a0 l1 l2 l3 l4 l5 H locs ls h hS hl
  have hx := C.hx
  have hb := C.hb
  unfold wb_X4_copy_45 at h
  refine lv_iconst (v := 0) hx hb dX4_copy_45 (by decide) ?_
  exact kb_X4_copy_46 C k w a0 l1 l2 l3 l4 l5 0 _ _ _ h hS (lv_sub hl [0, 1, 2, 3, 4, 5] rfl)
set_option maxHeartbeats 4000000 in
theorem ct_X4_copy (l : Launch) (Z : wZ) (w : Wd) (a0 : Nat) (a1 : Int32) (a2 : Int32) (a3 : Int32) (a4 : Int32) (a5 : Int32) (k : Int32 → Wd → Prop) (h : wp_X4_copy w a0 a1 a2 a3 a4 a5 k) : wMet l Z yX4_copy cX4_copy 8 (some .int) 2 45 0 0 [.ref a0, .int a1, .int a2, .int a3, .int a4, .int a5] w (pI k) := by
  refine wM_of (by decide +kernel) (Nat.le_of_ble_eq_true rfl) ?_
  intro p e s m below meth c ls C hS hl
  replace C : wC p l s m _ meth c cX4_copy 8 (some .int) RX4 "copy" Z _ := C
  have hl : lv_has ls 8 [(0, .ref a0), (1, .int a1), (2, .int a2), (3, .int a3), (4, .int a4), (5, .int a5)] := hl
  have hx := C.hx
  have hb := C.hb
  unfold wp_X4_copy at h
  generalize wA w = A at C hS ⊢
  refine lv_iload_n hx hb dX4_copy_0 rfl (lv_at hl 1 rfl) ?_
  refine r_S C hS (ct_X4_isShelf l Z w a1 _ h) 1 (lw_S q1562 q1563 q71 q1564) ⟨by decide, by decide, by decide +kernel⟩ ⟨Nat.le_of_ble_eq_true rfl, Nat.le_of_ble_eq_true rfl⟩ rfl hl.1 rfl (wcat4 (Nat.le_of_ble_eq_true rfl)) dX4_copy_1 ⟨Nat.le_of_ble_eq_true rfl, Nat.le_of_ble_eq_true rfl⟩ (fun v_ w2 H locs hv hS => ?_)
  obtain ⟨v1, rfl, h⟩ := hv
  refine r_if_eq (tgt := 14) hx hb h dX4_copy_4 (by decide) (fun h => ?_) (fun h => ?_)
  · refine lv_aload_n hx hb dX4_copy_14 rfl (lv_at hl 0 rfl) ?_
    refine lv_bipush (v := -2) hx hb dX4_copy_15 (by decide) ?_
    obtain ⟨hob, h⟩ := h
    refine r_V C hS (ct_X4_refuse l Z w2 a0 (-2) _ h) 1 24 hob ⟨by decide, by decide +kernel⟩ (lw_V q1442 q1444 qs28 q71 q1445) ⟨rfl, by decide, by decide, by decide +kernel⟩ ⟨Nat.le_of_ble_eq_true rfl, Nat.le_of_ble_eq_true rfl⟩ rfl hl.1 rfl (wcat4 (Nat.le_of_ble_eq_true rfl)) dX4_copy_17 ⟨Nat.le_of_ble_eq_true rfl, Nat.le_of_ble_eq_true rfl⟩ (fun v_ w4 H locs hv hS => ?_)
    obtain ⟨v3, rfl, h⟩ := hv
    exact r_iret C hS h rfl rfl (Nat.le_of_ble_eq_true rfl) (Nat.le_of_ble_eq_true rfl) dX4_copy_20
  · refine lv_iload_n hx hb dX4_copy_7 rfl (lv_at hl 2 rfl) ?_
    refine r_S C hS (ct_X4_isShelf l Z w2 a2 _ h) 1 (lw_S q1562 q1563 q71 q1564) ⟨by decide, by decide, by decide +kernel⟩ ⟨Nat.le_of_ble_eq_true rfl, Nat.le_of_ble_eq_true rfl⟩ rfl hl.1 rfl (wcat4 (Nat.le_of_ble_eq_true rfl)) dX4_copy_8 ⟨Nat.le_of_ble_eq_true rfl, Nat.le_of_ble_eq_true rfl⟩ (fun v_ w6 H locs hv hS => ?_)
    obtain ⟨v5, rfl, h⟩ := hv
    refine r_if_ne (tgt := 21) hx hb h dX4_copy_11 (by decide) (fun h => ?_) (fun h => ?_)
    · refine lv_aload_n hx hb dX4_copy_21 rfl (lv_at hl 0 rfl) ?_
      refine r_getG C hS h gk_68 q1373 dX4_copy_22 (fun v7 h => ?_)
      refine lv_iload_n hx hb dX4_copy_25 rfl (lv_at hl 1 rfl) ?_
      refine r_iald C hS h dX4_copy_26 (fun v8 h => ?_)
      refine lv_iconst (v := -1) hx hb dX4_copy_27 (by decide) ?_
      refine r_icmp_eq (tgt := 45) hx hb h dX4_copy_28 (by decide) (fun h => ?_) (fun h => ?_)
      · exact kb_X4_copy_45 C k w6 a0 a1 a2 a3 a4 a5 _ _ _ h hS (lv_sub hl [0, 1, 2, 3, 4, 5] rfl)
      · refine lv_aload_n hx hb dX4_copy_31 rfl (lv_at hl 0 rfl) ?_
        refine r_getG C hS h gk_68 q1373 dX4_copy_32 (fun v47 h => ?_)
        refine lv_iload_n hx hb dX4_copy_35 rfl (lv_at hl 2 rfl) ?_
        refine r_iald C hS h dX4_copy_36 (fun v48 h => ?_)
        refine lv_iconst (v := -1) hx hb dX4_copy_37 (by decide) ?_
        refine r_icmp_eq (tgt := 45) hx hb h dX4_copy_38 (by decide) (fun h => ?_) (fun h => ?_)
        · exact kb_X4_copy_45 C k w6 a0 a1 a2 a3 a4 a5 _ _ _ h hS (lv_sub hl [0, 1, 2, 3, 4, 5] rfl)
        · refine lv_iconst (v := 1) hx hb dX4_copy_41 (by decide) ?_
          refine lv_goto (tgt := 46) hx hb dX4_copy_42 (by decide) ?_
          exact kb_X4_copy_46 C k w6 a0 a1 a2 a3 a4 a5 1 _ _ _ h hS (lv_sub hl [0, 1, 2, 3, 4, 5] rfl)
    · refine lv_aload_n hx hb dX4_copy_14 rfl (lv_at hl 0 rfl) ?_
      refine lv_bipush (v := -2) hx hb dX4_copy_15 (by decide) ?_
      obtain ⟨hob, h⟩ := h
      refine r_V C hS (ct_X4_refuse l Z w6 a0 (-2) _ h) 1 24 hob ⟨by decide, by decide +kernel⟩ (lw_V q1442 q1444 qs28 q71 q1445) ⟨rfl, by decide, by decide, by decide +kernel⟩ ⟨Nat.le_of_ble_eq_true rfl, Nat.le_of_ble_eq_true rfl⟩ rfl hl.1 rfl (wcat4 (Nat.le_of_ble_eq_true rfl)) dX4_copy_17 ⟨Nat.le_of_ble_eq_true rfl, Nat.le_of_ble_eq_true rfl⟩ (fun v_ w50 H locs hv hS => ?_)
      obtain ⟨v49, rfl, h⟩ := hv
      exact r_iret C hS h rfl rfl (Nat.le_of_ble_eq_true rfl) (Nat.le_of_ble_eq_true rfl) dX4_copy_20
end VX4_copy
/-! LeftIsAgreedOnModel.element(II)J -/
section VX4_element
variable {p : Program} {l : Launch} {e : Env} {s : State} {m : MethodId} {args : Array Value} {below : List Frame} {meth : Method} {c : Code} {Z : wZ} {A : Nat → Prop}
set_option maxHeartbeats 4000000 in
theorem ct_X4_element (l : Launch) (Z : wZ) (w : Wd) (a0 : Nat) (a1 : Int32) (a2 : Int32) (k : Int64 → Wd → Prop) (h : wp_X4_element w a0 a1 a2 k) : wMet l Z yX4_element cX4_element 3 (some .long) 2 45 0 0 [.ref a0, .int a1, .int a2] w (pL k) := by
  refine wM_of (by decide +kernel) (Nat.le_of_ble_eq_true rfl) ?_
  intro p e s m below meth c ls C hS hl
  replace C : wC p l s m _ meth c cX4_element 3 (some .long) RX4 "element" Z _ := C
  have hl : lv_has ls 3 [(0, .ref a0), (1, .int a1), (2, .int a2)] := hl
  have hx := C.hx
  have hb := C.hb
  unfold wp_X4_element at h
  generalize wA w = A at C hS ⊢
  refine lv_iload_n hx hb dX4_element_0 rfl (lv_at hl 1 rfl) ?_
  refine r_S C hS (ct_X4_isShelf l Z w a1 _ h) 1 (lw_S q1562 q1563 q71 q1564) ⟨by decide, by decide, by decide +kernel⟩ ⟨Nat.le_of_ble_eq_true rfl, Nat.le_of_ble_eq_true rfl⟩ rfl hl.1 rfl (wcat4 (Nat.le_of_ble_eq_true rfl)) dX4_element_1 ⟨Nat.le_of_ble_eq_true rfl, Nat.le_of_ble_eq_true rfl⟩ (fun v_ w2 H locs hv hS => ?_)
  obtain ⟨v1, rfl, h⟩ := hv
  refine r_if_eq (tgt := 56) hx hb h dX4_element_4 (by decide) (fun h => ?_) (fun h => ?_)
  · refine lv_lconst (v := 0) hx hb dX4_element_56 (by decide) ?_
    exact r_lret C hS h rfl (Nat.le_of_ble_eq_true rfl) (Nat.le_of_ble_eq_true rfl) dX4_element_57
  · refine lv_aload_n hx hb dX4_element_7 rfl (lv_at hl 0 rfl) ?_
    refine r_getG C hS h gk_68 q1373 dX4_element_8 (fun v3 h => ?_)
    refine lv_iload_n hx hb dX4_element_11 rfl (lv_at hl 1 rfl) ?_
    refine r_iald C hS h dX4_element_12 (fun v4 h => ?_)
    refine lv_i2l hx hb dX4_element_13 rfl ?_
    refine lv_lconst (v := 0) hx hb dX4_element_14 (by decide) ?_
    refine lv_ldc2 (v := 4) hx hb C.ow (C.hts _ q1565) dX4_element_15 ?_
    refine r_S C hS (ct_X4_isIn l Z w2 (v4.toInt64) 0 4 _ h) 3 (lw_S q1439 q1440 q71 q1441) ⟨by decide, by decide, by decide +kernel⟩ ⟨Nat.le_of_ble_eq_true rfl, Nat.le_of_ble_eq_true rfl⟩ rfl hl.1 rfl (wcat4 (Nat.le_of_ble_eq_true rfl)) dX4_element_18 ⟨Nat.le_of_ble_eq_true rfl, Nat.le_of_ble_eq_true rfl⟩ (fun v_ w6 H locs hv hS => ?_)
    obtain ⟨v5, rfl, h⟩ := hv
    refine r_if_eq (tgt := 56) hx hb h dX4_element_21 (by decide) (fun h => ?_) (fun h => ?_)
    · refine lv_lconst (v := 0) hx hb dX4_element_56 (by decide) ?_
      exact r_lret C hS h rfl (Nat.le_of_ble_eq_true rfl) (Nat.le_of_ble_eq_true rfl) dX4_element_57
    · refine lv_iload_n hx hb dX4_element_24 rfl (lv_at hl 2 rfl) ?_
      refine lv_i2l hx hb dX4_element_25 rfl ?_
      refine lv_lconst (v := 0) hx hb dX4_element_26 (by decide) ?_
      refine lv_aload_n hx hb dX4_element_27 rfl (lv_at hl 0 rfl) ?_
      refine r_getG C hS h gk_69 q1374 dX4_element_28 (fun v7 h => ?_)
      refine lv_iload_n hx hb dX4_element_31 rfl (lv_at hl 1 rfl) ?_
      refine r_iald C hS h dX4_element_32 (fun v8 h => ?_)
      refine lv_iconst (v := 1) hx hb dX4_element_33 (by decide) ?_
      refine lv_isub hx hb dX4_element_34 ?_
      refine lv_i2l hx hb dX4_element_35 rfl ?_
      refine r_S C hS (ct_X4_isIn l Z w6 (a2.toInt64) 0 ((v8 - 1).toInt64) _ h) 3 (lw_S q1439 q1440 q71 q1441) ⟨by decide, by decide, by decide +kernel⟩ ⟨Nat.le_of_ble_eq_true rfl, Nat.le_of_ble_eq_true rfl⟩ rfl hl.1 rfl (wcat4 (Nat.le_of_ble_eq_true rfl)) dX4_element_36 ⟨Nat.le_of_ble_eq_true rfl, Nat.le_of_ble_eq_true rfl⟩ (fun v_ w10 H locs hv hS => ?_)
      obtain ⟨v9, rfl, h⟩ := hv
      refine r_if_eq (tgt := 56) hx hb h dX4_element_39 (by decide) (fun h => ?_) (fun h => ?_)
      · refine lv_lconst (v := 0) hx hb dX4_element_56 (by decide) ?_
        exact r_lret C hS h rfl (Nat.le_of_ble_eq_true rfl) (Nat.le_of_ble_eq_true rfl) dX4_element_57
      · refine lv_aload_n hx hb dX4_element_42 rfl (lv_at hl 0 rfl) ?_
        refine r_getG C hS h gk_70 q1375 dX4_element_43 (fun v11 h => ?_)
        refine lv_bipush (v := 40) hx hb dX4_element_46 (by decide) ?_
        refine lv_iload_n hx hb dX4_element_48 rfl (lv_at hl 1 rfl) ?_
        refine lv_imul hx hb dX4_element_49 ?_
        refine lv_iload_n hx hb dX4_element_50 rfl (lv_at hl 2 rfl) ?_
        refine lv_iadd hx hb dX4_element_51 ?_
        refine r_lald C hS h dX4_element_52 (fun v12 h => ?_)
        refine lv_goto (tgt := 57) hx hb dX4_element_53 (by decide) ?_
        exact r_lret C hS h rfl (Nat.le_of_ble_eq_true rfl) (Nat.le_of_ble_eq_true rfl) dX4_element_57
end VX4_element
/-! LeftIsAgreedOnModel.holds(I)I -/
section VX4_holds
variable {p : Program} {l : Launch} {e : Env} {s : State} {m : MethodId} {args : Array Value} {below : List Frame} {meth : Method} {c : Code} {Z : wZ} {A : Nat → Prop}
set_option maxHeartbeats 4000000 in
theorem ct_X4_holds (l : Launch) (Z : wZ) (w : Wd) (a0 : Nat) (a1 : Int32) (k : Int32 → Wd → Prop) (h : wp_X4_holds w a0 a1 k) : wMet l Z yX4_holds cX4_holds 2 (some .int) 2 45 0 0 [.ref a0, .int a1] w (pI k) := by
  refine wM_of (by decide +kernel) (Nat.le_of_ble_eq_true rfl) ?_
  intro p e s m below meth c ls C hS hl
  replace C : wC p l s m _ meth c cX4_holds 2 (some .int) RX4 "holds" Z _ := C
  have hl : lv_has ls 2 [(0, .ref a0), (1, .int a1)] := hl
  have hx := C.hx
  have hb := C.hb
  unfold wp_X4_holds at h
  generalize wA w = A at C hS ⊢
  refine lv_iload_n hx hb dX4_holds_0 rfl (lv_at hl 1 rfl) ?_
  refine r_S C hS (ct_X4_isShelf l Z w a1 _ h) 1 (lw_S q1562 q1563 q71 q1564) ⟨by decide, by decide, by decide +kernel⟩ ⟨Nat.le_of_ble_eq_true rfl, Nat.le_of_ble_eq_true rfl⟩ rfl hl.1 rfl (wcat4 (Nat.le_of_ble_eq_true rfl)) dX4_holds_1 ⟨Nat.le_of_ble_eq_true rfl, Nat.le_of_ble_eq_true rfl⟩ (fun v_ w2 H locs hv hS => ?_)
  obtain ⟨v1, rfl, h⟩ := hv
  refine r_if_eq (tgt := 16) hx hb h dX4_holds_4 (by decide) (fun h => ?_) (fun h => ?_)
  · refine lv_iconst (v := -1) hx hb dX4_holds_16 (by decide) ?_
    exact r_iret C hS h rfl rfl (Nat.le_of_ble_eq_true rfl) (Nat.le_of_ble_eq_true rfl) dX4_holds_17
  · refine lv_aload_n hx hb dX4_holds_7 rfl (lv_at hl 0 rfl) ?_
    refine r_getG C hS h gk_68 q1373 dX4_holds_8 (fun v3 h => ?_)
    refine lv_iload_n hx hb dX4_holds_11 rfl (lv_at hl 1 rfl) ?_
    refine r_iald C hS h dX4_holds_12 (fun v4 h => ?_)
    refine lv_goto (tgt := 17) hx hb dX4_holds_13 (by decide) ?_
    exact r_iret C hS h rfl rfl (Nat.le_of_ble_eq_true rfl) (Nat.le_of_ble_eq_true rfl) dX4_holds_17
end VX4_holds
/-! LeftIsAgreedOnModel.show(II)I -/
section VX4_show
variable {p : Program} {l : Launch} {e : Env} {s : State} {m : MethodId} {args : Array Value} {below : List Frame} {meth : Method} {c : Code} {Z : wZ} {A : Nat → Prop}
set_option maxHeartbeats 4000000 in
theorem kb_X4_show_27 (C : wC p l s m args meth c cX4_show 3 (some .int) RX4 "show" Z A) (k : Int32 → Wd → Prop) : ∀ (w : Wd) (a0 : Nat) (l1 : Int32) (l2 : Int32) (H : Heap) (locs : List Loc) (ls : Array Slot), wb_X4_show_27 k w a0 l1 l2 → wS Z A s w H locs → lv_has ls 3 [(0, .ref a0), (1, .int l1), (2, .int l2)] → W p l e ({ frames := 2, cells := 0, slots := 0, locals := 46 } : Room) s m args below meth c H locs 0 0 (MQ below (wQc Z A (pI k)) args s 0 0 A) (F0 m 27 ls []) := by
  intro w a0 l1 l2 H locs ls h hS hl
  have hx := C.hx
  have hb := C.hb
  unfold wb_X4_show_27 at h
  refine lv_aload_n hx hb dX4_show_27 rfl (lv_at hl 0 rfl) ?_
  refine r_getG C hS h gk_68 q1373 dX4_show_28 (fun v5 h => ?_)
  refine lv_iload_n hx hb dX4_show_31 rfl (lv_at hl 1 rfl) ?_
  refine lv_iload_n hx hb dX4_show_32 rfl (lv_at hl 2 rfl) ?_
  refine lv_iconst (v := -1) hx hb dX4_show_33 (by decide) ?_
  refine r_icmp_ne (tgt := 41) hx hb h dX4_show_34 (by decide) (fun h => ?_) (fun h => ?_)
  · refine lv_bipush (v := 10) hx hb dX4_show_41 (by decide) ?_
    refine lv_iload_n hx hb dX4_show_43 rfl (lv_at hl 2 rfl) ?_
    refine lv_iadd hx hb dX4_show_44 ?_
    refine r_iast C hS h dX4_show_45 (fun w6 H locs h hS => ?_)
    refine lv_iconst (v := 1) hx hb dX4_show_46 (by decide) ?_
    exact r_iret C hS h rfl rfl (Nat.le_of_ble_eq_true rfl) (Nat.le_of_ble_eq_true rfl) dX4_show_47
  · refine lv_iconst (v := -1) hx hb dX4_show_37 (by decide) ?_
    refine lv_goto (tgt := 45) hx hb dX4_show_38 (by decide) ?_
    refine r_iast C hS h dX4_show_45 (fun w7 H locs h hS => ?_)
    refine lv_iconst (v := 1) hx hb dX4_show_46 (by decide) ?_
    exact r_iret C hS h rfl rfl (Nat.le_of_ble_eq_true rfl) (Nat.le_of_ble_eq_true rfl) dX4_show_47
set_option maxHeartbeats 4000000 in
theorem ct_X4_show (l : Launch) (Z : wZ) (w : Wd) (a0 : Nat) (a1 : Int32) (a2 : Int32) (k : Int32 → Wd → Prop) (h : wp_X4_show w a0 a1 a2 k) : wMet l Z yX4_show cX4_show 3 (some .int) 2 46 0 0 [.ref a0, .int a1, .int a2] w (pI k) := by
  refine wM_of (by decide +kernel) (Nat.le_of_ble_eq_true rfl) ?_
  intro p e s m below meth c ls C hS hl
  replace C : wC p l s m _ meth c cX4_show 3 (some .int) RX4 "show" Z _ := C
  have hl : lv_has ls 3 [(0, .ref a0), (1, .int a1), (2, .int a2)] := hl
  have hx := C.hx
  have hb := C.hb
  unfold wp_X4_show at h
  generalize wA w = A at C hS ⊢
  refine lv_iload_n hx hb dX4_show_0 rfl (lv_at hl 1 rfl) ?_
  refine r_S C hS (ct_X4_isShelf l Z w a1 _ h) 1 (lw_S q1562 q1563 q71 q1564) ⟨by decide, by decide, by decide +kernel⟩ ⟨Nat.le_of_ble_eq_true rfl, Nat.le_of_ble_eq_true rfl⟩ rfl hl.1 rfl (wcat4 (Nat.le_of_ble_eq_true rfl)) dX4_show_1 ⟨Nat.le_of_ble_eq_true rfl, Nat.le_of_ble_eq_true rfl⟩ (fun v_ w2 H locs hv hS => ?_)
  obtain ⟨v1, rfl, h⟩ := hv
  refine r_if_eq (tgt := 20) hx hb h dX4_show_4 (by decide) (fun h => ?_) (fun h => ?_)
  · refine lv_aload_n hx hb dX4_show_20 rfl (lv_at hl 0 rfl) ?_
    refine lv_bipush (v := -2) hx hb dX4_show_21 (by decide) ?_
    obtain ⟨hob, h⟩ := h
    refine r_V C hS (ct_X4_refuse l Z w2 a0 (-2) _ h) 1 24 hob ⟨by decide, by decide +kernel⟩ (lw_V q1442 q1444 qs28 q71 q1445) ⟨rfl, by decide, by decide, by decide +kernel⟩ ⟨Nat.le_of_ble_eq_true rfl, Nat.le_of_ble_eq_true rfl⟩ rfl hl.1 rfl (wcat4 (Nat.le_of_ble_eq_true rfl)) dX4_show_23 ⟨Nat.le_of_ble_eq_true rfl, Nat.le_of_ble_eq_true rfl⟩ (fun v_ w4 H locs hv hS => ?_)
    obtain ⟨v3, rfl, h⟩ := hv
    exact r_iret C hS h rfl rfl (Nat.le_of_ble_eq_true rfl) (Nat.le_of_ble_eq_true rfl) dX4_show_26
  · refine lv_iload_n hx hb dX4_show_7 rfl (lv_at hl 2 rfl) ?_
    refine lv_iconst (v := -1) hx hb dX4_show_8 (by decide) ?_
    refine r_icmp_eq (tgt := 27) hx hb h dX4_show_9 (by decide) (fun h => ?_) (fun h => ?_)
    · exact kb_X4_show_27 C k w2 a0 a1 a2 _ _ _ h hS (lv_sub hl [0, 1, 2] rfl)
    · refine lv_aload_n hx hb dX4_show_12 rfl (lv_at hl 0 rfl) ?_
      refine lv_iload_n hx hb dX4_show_13 rfl (lv_at hl 2 rfl) ?_
      obtain ⟨hob, h⟩ := h
      refine r_V C hS (ct_X4_isPerson l Z w2 a0 a2 _ h) 1 24 hob ⟨by decide, by decide +kernel⟩ (lw_V q1494 q1496 qs35 q71 q1497) ⟨rfl, by decide, by decide, by decide +kernel⟩ ⟨Nat.le_of_ble_eq_true rfl, Nat.le_of_ble_eq_true rfl⟩ rfl hl.1 rfl (wcat4 (Nat.le_of_ble_eq_true rfl)) dX4_show_14 ⟨Nat.le_of_ble_eq_true rfl, Nat.le_of_ble_eq_true rfl⟩ (fun v_ w9 H locs hv hS => ?_)
      obtain ⟨v8, rfl, h⟩ := hv
      refine r_if_ne (tgt := 27) hx hb h dX4_show_17 (by decide) (fun h => ?_) (fun h => ?_)
      · exact kb_X4_show_27 C k w9 a0 a1 a2 _ _ _ h hS (lv_sub hl [0, 1, 2] rfl)
      · refine lv_aload_n hx hb dX4_show_20 rfl (lv_at hl 0 rfl) ?_
        refine lv_bipush (v := -2) hx hb dX4_show_21 (by decide) ?_
        obtain ⟨hob, h⟩ := h
        refine r_V C hS (ct_X4_refuse l Z w9 a0 (-2) _ h) 1 24 hob ⟨by decide, by decide +kernel⟩ (lw_V q1442 q1444 qs28 q71 q1445) ⟨rfl, by decide, by decide, by decide +kernel⟩ ⟨Nat.le_of_ble_eq_true rfl, Nat.le_of_ble_eq_true rfl⟩ rfl hl.1 rfl (wcat4 (Nat.le_of_ble_eq_true rfl)) dX4_show_23 ⟨Nat.le_of_ble_eq_true rfl, Nat.le_of_ble_eq_true rfl⟩ (fun v_ w11 H locs hv hS => ?_)
        obtain ⟨v10, rfl, h⟩ := hv
        exact r_iret C hS h rfl rfl (Nat.le_of_ble_eq_true rfl) (Nat.le_of_ble_eq_true rfl) dX4_show_26
end VX4_show
/-! LeftIsAgreedOnModel.kind(I)I -/
section VX4_kind
variable {p : Program} {l : Launch} {e : Env} {s : State} {m : MethodId} {args : Array Value} {below : List Frame} {meth : Method} {c : Code} {Z : wZ} {A : Nat → Prop}
set_option maxHeartbeats 4000000 in
theorem ct_X4_kind (l : Launch) (Z : wZ) (w : Wd) (a0 : Nat) (a1 : Int32) (k : Int32 → Wd → Prop) (h : wp_X4_kind w a0 a1 k) : wMet l Z yX4_kind cX4_kind 2 (some .int) 0 0 0 0 [.ref a0, .int a1] w (pI k) := by
  refine wM_of (by decide +kernel) (Nat.le_of_ble_eq_true rfl) ?_
  intro p e s m below meth c ls C hS hl
  replace C : wC p l s m _ meth c cX4_kind 2 (some .int) RX4 "kind" Z _ := C
  have hl : lv_has ls 2 [(0, .ref a0), (1, .int a1)] := hl
  have hx := C.hx
  have hb := C.hb
  unfold wp_X4_kind at h
  generalize wA w = A at C hS ⊢
  refine lv_aload_n hx hb dX4_kind_0 rfl (lv_at hl 0 rfl) ?_
  refine r_getG C hS h gk_56 q1355 dX4_kind_1 (fun v1 h => ?_)
  refine lv_iconst (v := 5) hx hb dX4_kind_4 (by decide) ?_
  refine lv_iload_n hx hb dX4_kind_5 rfl (lv_at hl 1 rfl) ?_
  refine lv_imul hx hb dX4_kind_6 ?_
  refine r_iald C hS h dX4_kind_7 (fun v2 h => ?_)
  exact r_iret C hS h rfl rfl (Nat.le_of_ble_eq_true rfl) (Nat.le_of_ble_eq_true rfl) dX4_kind_8
end VX4_kind
/-! LeftIsAgreedOnModel.faces(I)I -/
section VX4_faces
variable {p : Program} {l : Launch} {e : Env} {s : State} {m : MethodId} {args : Array Value} {below : List Frame} {meth : Method} {c : Code} {Z : wZ} {A : Nat → Prop}
set_option maxHeartbeats 4000000 in
theorem ct_X4_faces (l : Launch) (Z : wZ) (w : Wd) (a0 : Nat) (a1 : Int32) (k : Int32 → Wd → Prop) (h : wp_X4_faces w a0 a1 k) : wMet l Z yX4_faces cX4_faces 2 (some .int) 0 0 0 0 [.ref a0, .int a1] w (pI k) := by
  refine wM_of (by decide +kernel) (Nat.le_of_ble_eq_true rfl) ?_
  intro p e s m below meth c ls C hS hl
  replace C : wC p l s m _ meth c cX4_faces 2 (some .int) RX4 "faces" Z _ := C
  have hl : lv_has ls 2 [(0, .ref a0), (1, .int a1)] := hl
  have hx := C.hx
  have hb := C.hb
  unfold wp_X4_faces at h
  generalize wA w = A at C hS ⊢
  refine lv_aload_n hx hb dX4_faces_0 rfl (lv_at hl 0 rfl) ?_
  refine r_getG C hS h gk_56 q1355 dX4_faces_1 (fun v1 h => ?_)
  refine lv_iconst (v := 5) hx hb dX4_faces_4 (by decide) ?_
  refine lv_iload_n hx hb dX4_faces_5 rfl (lv_at hl 1 rfl) ?_
  refine lv_imul hx hb dX4_faces_6 ?_
  refine lv_iconst (v := 3) hx hb dX4_faces_7 (by decide) ?_
  refine lv_iadd hx hb dX4_faces_8 ?_
  refine r_iald C hS h dX4_faces_9 (fun v2 h => ?_)
  exact r_iret C hS h rfl rfl (Nat.le_of_ble_eq_true rfl) (Nat.le_of_ble_eq_true rfl) dX4_faces_10
end VX4_faces
/-! LeftIsAgreedOnModel.start(III)V -/
section VX4_start
variable {p : Program} {l : Launch} {e : Env} {s : State} {m : MethodId} {args : Array Value} {below : List Frame} {meth : Method} {c : Code} {Z : wZ} {A : Nat → Prop}
set_option maxHeartbeats 4000000 in
theorem ct_X4_start (l : Launch) (Z : wZ) (w : Wd) (a0 : Nat) (a1 : Int32) (a2 : Int32) (a3 : Int32) (k : Wd → Prop) (h : wp_X4_start w a0 a1 a2 a3 k) : wMet l Z yX4_start cX4_start 4 none 0 0 0 0 [.ref a0, .int a1, .int a2, .int a3] w (pV k) := by
  refine wM_of (by decide +kernel) (Nat.le_of_ble_eq_true rfl) ?_
  intro p e s m below meth c ls C hS hl
  replace C : wC p l s m _ meth c cX4_start 4 none RX4 "start" Z _ := C
  have hl : lv_has ls 4 [(0, .ref a0), (1, .int a1), (2, .int a2), (3, .int a3)] := hl
  have hx := C.hx
  have hb := C.hb
  unfold wp_X4_start at h
  generalize wA w = A at C hS ⊢
  refine lv_aload_n hx hb dX4_start_0 rfl (lv_at hl 0 rfl) ?_
  refine r_getG C hS h gk_61 q1365 dX4_start_1 (fun v1 h => ?_)
  refine lv_iload_n hx hb dX4_start_4 rfl (lv_at hl 1 rfl) ?_
  refine lv_iload_n hx hb dX4_start_5 rfl (lv_at hl 2 rfl) ?_
  refine r_iast C hS h dX4_start_6 (fun w2 H locs h hS => ?_)
  refine lv_aload_n hx hb dX4_start_7 rfl (lv_at hl 0 rfl) ?_
  refine r_getG C hS h gk_62 q1366 dX4_start_8 (fun v3 h => ?_)
  refine lv_iload_n hx hb dX4_start_11 rfl (lv_at hl 1 rfl) ?_
  refine lv_iload_n hx hb dX4_start_12 rfl (lv_at hl 3 rfl) ?_
  refine r_iast C hS h dX4_start_13 (fun w4 H locs h hS => ?_)
  refine lv_aload_n hx hb dX4_start_14 rfl (lv_at hl 0 rfl) ?_
  refine r_getG C hS h gk_63 q1367 dX4_start_15 (fun v5 h => ?_)
  refine lv_iload_n hx hb dX4_start_18 rfl (lv_at hl 1 rfl) ?_
  refine lv_iconst (v := 0) hx hb dX4_start_19 (by decide) ?_
  refine r_iast C hS h dX4_start_20 (fun w6 H locs h hS => ?_)
  refine lv_aload_n hx hb dX4_start_21 rfl (lv_at hl 0 rfl) ?_
  refine r_getG C hS h gk_66 q1370 dX4_start_22 (fun v7 h => ?_)
  refine lv_iload_n hx hb dX4_start_25 rfl (lv_at hl 1 rfl) ?_
  refine lv_iconst (v := -1) hx hb dX4_start_26 (by decide) ?_
  refine r_iast C hS h dX4_start_27 (fun w8 H locs h hS => ?_)
  exact r_vret C hS h rfl (Nat.le_of_ble_eq_true rfl) (Nat.le_of_ble_eq_true rfl) dX4_start_28
end VX4_start
/-! LeftIsAgreedOnModel.beside(II)I -/
section VX4_beside
variable {p : Program} {l : Launch} {e : Env} {s : State} {m : MethodId} {args : Array Value} {below : List Frame} {meth : Method} {c : Code} {Z : wZ} {A : Nat → Prop}
set_option maxHeartbeats 4000000 in
theorem kb_X4_beside_47 (C : wC p l s m args meth c cX4_beside 5 (some .int) RX4 "beside" Z A) (k : Int32 → Wd → Prop) : ∀ (w : Wd) (a0 : Nat) (l3 : Int32) (s0 : Int32) (s1 : Int32) (H : Heap) (locs : List Loc) (ls : Array Slot), wb_X4_beside_47 k w a0 l3 s0 s1 → wS Z A s w H locs → lv_has ls 5 [(0, .ref a0), (3, .int l3)] → W p l e ({ frames := 1, cells := 0, slots := 0, locals := 25 } : Room) s m args below meth c H locs 0 0 (MQ below (wQc Z A (pI k)) args s 0 0 A) (F0 m 47 ls [.int s1, .int s0]) := by
  intro w a0 l3 s0 s1 H locs ls h hS hl
  have hx := C.hx
  have hb := C.hb
  unfold wb_X4_beside_47 at h
  refine lv_iadd hx hb dX4_beside_47 ?_
  refine lv_istore (i := 4) (lv' := [(4, .int (s0 + s1)), (0, .ref a0), (3, .int l3)]) hx hb dX4_beside_48 hl (by decide) rfl (fun ls hl => ?_)
  refine lv_iload_n hx hb dX4_beside_50 rfl (lv_at hl 2 rfl) ?_
  refine lv_i2l hx hb dX4_beside_51 rfl ?_
  refine lv_lconst (v := 0) hx hb dX4_beside_52 (by decide) ?_
  refine lv_aload_n hx hb dX4_beside_53 rfl (lv_at hl 1 rfl) ?_
  refine r_getG C hS h gk_56 q1355 dX4_beside_54 (fun v1 h => ?_)
  refine lv_bipush (v := 90) hx hb dX4_beside_57 (by decide) ?_
  refine r_iald C hS h dX4_beside_59 (fun v2 h => ?_)
  refine lv_iconst (v := 1) hx hb dX4_beside_60 (by decide) ?_
  refine lv_isub hx hb dX4_beside_61 ?_
  refine lv_i2l hx hb dX4_beside_62 rfl ?_
  refine r_S C hS (ct_X4_isIn l Z w (l3.toInt64) 0 ((v2 - 1).toInt64) _ h) 3 (lw_S q1439 q1440 q71 q1441) ⟨by decide, by decide, by decide +kernel⟩ ⟨Nat.le_of_ble_eq_true rfl, Nat.le_of_ble_eq_true rfl⟩ rfl hl.1 rfl (wcat4 (Nat.le_of_ble_eq_true rfl)) dX4_beside_63 ⟨Nat.le_of_ble_eq_true rfl, Nat.le_of_ble_eq_true rfl⟩ (fun v_ w4 H locs hv hS => ?_)
  obtain ⟨v3, rfl, h⟩ := hv
  refine r_if_eq (tgt := 99) hx hb h dX4_beside_66 (by decide) (fun h => ?_) (fun h => ?_)
  · refine lv_iconst (v := -1) hx hb dX4_beside_99 (by decide) ?_
    exact r_iret C hS h rfl rfl (Nat.le_of_ble_eq_true rfl) (Nat.le_of_ble_eq_true rfl) dX4_beside_100
  · refine lv_iload hx hb dX4_beside_69 (lv_at hl 0 rfl) ?_
    refine lv_i2l hx hb dX4_beside_71 rfl ?_
    refine lv_lconst (v := 0) hx hb dX4_beside_72 (by decide) ?_
    refine lv_aload_n hx hb dX4_beside_73 rfl (lv_at hl 1 rfl) ?_
    refine r_getG C hS h gk_56 q1355 dX4_beside_74 (fun v5 h => ?_)
    refine lv_bipush (v := 90) hx hb dX4_beside_77 (by decide) ?_
    refine r_iald C hS h dX4_beside_79 (fun v6 h => ?_)
    refine lv_iconst (v := 1) hx hb dX4_beside_80 (by decide) ?_
    refine lv_isub hx hb dX4_beside_81 ?_
    refine lv_i2l hx hb dX4_beside_82 rfl ?_
    refine r_S C hS (ct_X4_isIn l Z w4 ((s0 + s1).toInt64) 0 ((v6 - 1).toInt64) _ h) 3 (lw_S q1439 q1440 q71 q1441) ⟨by decide, by decide, by decide +kernel⟩ ⟨Nat.le_of_ble_eq_true rfl, Nat.le_of_ble_eq_true rfl⟩ rfl hl.1 rfl (wcat4 (Nat.le_of_ble_eq_true rfl)) dX4_beside_83 ⟨Nat.le_of_ble_eq_true rfl, Nat.le_of_ble_eq_true rfl⟩ (fun v_ w8 H locs hv hS => ?_)
    obtain ⟨v7, rfl, h⟩ := hv
    refine r_if_eq (tgt := 99) hx hb h dX4_beside_86 (by decide) (fun h => ?_) (fun h => ?_)
    · refine lv_iconst (v := -1) hx hb dX4_beside_99 (by decide) ?_
      exact r_iret C hS h rfl rfl (Nat.le_of_ble_eq_true rfl) (Nat.le_of_ble_eq_true rfl) dX4_beside_100
    · refine lv_bipush (v := 10) hx hb dX4_beside_89 (by decide) ?_
      refine lv_iload_n hx hb dX4_beside_91 rfl (lv_at hl 2 rfl) ?_
      refine lv_imul hx hb dX4_beside_92 ?_
      refine lv_iload hx hb dX4_beside_93 (lv_at hl 0 rfl) ?_
      refine lv_iadd hx hb dX4_beside_95 ?_
      refine lv_goto (tgt := 100) hx hb dX4_beside_96 (by decide) ?_
      exact r_iret C hS h rfl rfl (Nat.le_of_ble_eq_true rfl) (Nat.le_of_ble_eq_true rfl) dX4_beside_100
set_option maxHeartbeats 4000000 in
theorem kb_X4_beside_22 (C : wC p l s m args meth c cX4_beside 5 (some .int) RX4 "beside" Z A) (k : Int32 → Wd → Prop) : ∀ (w : Wd) (a0 : Nat) (l1 : Int32) (l2 : Int32) (s0 : Int32) (s1 : Int32) (H : Heap) (locs : List Loc) (ls : Array Slot), wb_X4_beside_22 k w a0 l1 l2 s0 s1 → wS Z A s w H locs → lv_has ls 5 [(0, .ref a0), (1, .int l1), (2, .int l2)] → W p l e ({ frames := 1, cells := 0, slots := 0, locals := 25 } : Room) s m args below meth c H locs 0 0 (MQ below (wQc Z A (pI k)) args s 0 0 A) (F0 m 22 ls [.int s1, .int s0]) := by
  intro w a0 l1 l2 s0 s1 H locs ls h hS hl
  have hx := C.hx
  have hb := C.hb
  unfold wb_X4_beside_22 at h
  refine lv_iadd hx hb dX4_beside_22 ?_
  refine lv_istore_n (i := 3) (lv' := [(3, .int (s0 + s1)), (0, .ref a0), (1, .int l1), (2, .int l2)]) hx hb dX4_beside_23 rfl hl (by decide) rfl (fun ls hl => ?_)
  refine lv_iload_n hx hb dX4_beside_24 rfl (lv_at hl 2 rfl) ?_
  refine lv_bipush (v := 10) hx hb dX4_beside_25 (by decide) ?_
  refine lv_irem hx hb dX4_beside_27 (by decide) ?_
  refine lv_iload_n hx hb dX4_beside_28 rfl (lv_at hl 3 rfl) ?_
  refine lv_iconst (v := 3) hx hb dX4_beside_29 (by decide) ?_
  refine r_icmp_ne (tgt := 37) hx hb h dX4_beside_30 (by decide) (fun h => ?_) (fun h => ?_)
  · refine lv_iload_n hx hb dX4_beside_37 rfl (lv_at hl 3 rfl) ?_
    refine lv_iconst (v := 1) hx hb dX4_beside_38 (by decide) ?_
    refine r_icmp_ne (tgt := 46) hx hb h dX4_beside_39 (by decide) (fun h => ?_) (fun h => ?_)
    · refine lv_iconst (v := 0) hx hb dX4_beside_46 (by decide) ?_
      exact kb_X4_beside_47 C k w a0 (s0 + s1) (l1 - l1 / 10 * 10) 0 _ _ _ h hS (lv_sub hl [1, 0] rfl)
    · refine lv_iconst (v := 1) hx hb dX4_beside_42 (by decide) ?_
      refine lv_goto (tgt := 47) hx hb dX4_beside_43 (by decide) ?_
      exact kb_X4_beside_47 C k w a0 (s0 + s1) (l1 - l1 / 10 * 10) 1 _ _ _ h hS (lv_sub hl [1, 0] rfl)
  · refine lv_iconst (v := -1) hx hb dX4_beside_33 (by decide) ?_
    refine lv_goto (tgt := 47) hx hb dX4_beside_34 (by decide) ?_
    exact kb_X4_beside_47 C k w a0 (s0 + s1) (l1 - l1 / 10 * 10) (-1) _ _ _ h hS (lv_sub hl [1, 0] rfl)
set_option maxHeartbeats 4000000 in
theorem ct_X4_beside (l : Launch) (Z : wZ) (w : Wd) (a0 : Nat) (a1 : Int32) (a2 : Int32) (k : Int32 → Wd → Prop) (h : wp_X4_beside w a0 a1 a2 k) : wMet l Z yX4_beside cX4_beside 5 (some .int) 1 25 0 0 [.ref a0, .int a1, .int a2] w (pI k) := by
  refine wM_of (by decide +kernel) (Nat.le_of_ble_eq_true rfl) ?_
  intro p e s m below meth c ls C hS hl
  replace C : wC p l s m _ meth c cX4_beside 5 (some .int) RX4 "beside" Z _ := C
  have hl : lv_has ls 5 [(0, .ref a0), (1, .int a1), (2, .int a2)] := hl
  have hx := C.hx
  have hb := C.hb
  unfold wp_X4_beside at h
  generalize wA w = A at C hS ⊢
  refine lv_iload_n hx hb dX4_beside_0 rfl (lv_at hl 1 rfl) ?_
  refine lv_bipush (v := 10) hx hb dX4_beside_1 (by decide) ?_
  refine lv_idiv hx hb dX4_beside_3 (by decide) ?_
  refine lv_iload_n hx hb dX4_beside_4 rfl (lv_at hl 2 rfl) ?_
  refine r_if_ne (tgt := 12) hx hb h dX4_beside_5 (by decide) (fun h => ?_) (fun h => ?_)
  · refine lv_iload_n hx hb dX4_beside_12 rfl (lv_at hl 2 rfl) ?_
    refine lv_iconst (v := 2) hx hb dX4_beside_13 (by decide) ?_
    refine r_icmp_ne (tgt := 21) hx hb h dX4_beside_14 (by decide) (fun h => ?_) (fun h => ?_)
    · refine lv_iconst (v := 0) hx hb dX4_beside_21 (by decide) ?_
      exact kb_X4_beside_22 C k w a0 a1 a2 (a1 / 10) 0 _ _ _ h hS (lv_sub hl [0, 1, 2] rfl)
    · refine lv_iconst (v := 1) hx hb dX4_beside_17 (by decide) ?_
      refine lv_goto (tgt := 22) hx hb dX4_beside_18 (by decide) ?_
      exact kb_X4_beside_22 C k w a0 a1 a2 (a1 / 10) 1 _ _ _ h hS (lv_sub hl [0, 1, 2] rfl)
  · refine lv_iconst (v := -1) hx hb dX4_beside_8 (by decide) ?_
    refine lv_goto (tgt := 22) hx hb dX4_beside_9 (by decide) ?_
    exact kb_X4_beside_22 C k w a0 a1 a2 (a1 / 10) (-1) _ _ _ h hS (lv_sub hl [0, 1, 2] rfl)
end VX4_beside
/-! LeftIsAgreedOnModel.isShore(I)Z -/
section VX4_isShore
variable {p : Program} {l : Launch} {e : Env} {s : State} {m : MethodId} {args : Array Value} {below : List Frame} {meth : Method} {c : Code} {Z : wZ} {A : Nat → Prop}
set_option maxHeartbeats 4000000 in
theorem kb_X4_isShore_4 (C : wC p l s m args meth c cX4_isShore 5 (some .boolean) RX4 "isShore" Z A) (k : Int32 → Wd → Prop) (L4 : Wd → Nat → Int32 → Int32 → Int32 → Prop) (hL4 : ∀ (w : Wd) (x0 : Nat) (x1 : Int32) (x2 : Int32) (x3 : Int32) (H : Heap) (locs : List Loc) (ls : Array Slot), L4 w x0 x1 x2 x3 → wS Z A s w H locs → lv_has ls 5 [(0, .ref x0), (1, .int x1), (2, .int x2), (3, .int x3)] → W p l e ({ frames := 2, cells := 0, slots := 0, locals := 49 } : Room) s m args below meth c H locs 0 0 (MQ below (wQc Z A (pI k)) args s 0 0 A) (F0 m 4 ls [])) : ∀ (w : Wd) (a0 : Nat) (l1 : Int32) (l2 : Int32) (l3 : Int32) (H : Heap) (locs : List Loc) (ls : Array Slot), wb_X4_isShore_4 k L4 w a0 l1 l2 l3 → wS Z A s w H locs → lv_has ls 5 [(0, .ref a0), (1, .int l1), (2, .int l2), (3, .int l3)] → W p l e ({ frames := 2, cells := 0, slots := 0, locals := 49 } : Room) s m args below meth c H locs 0 0 (MQ below (wQc Z A (pI k)) args s 0 0 A) (F0 m 4 ls []) := by
  intro w a0 l1 l2 l3 H locs ls h hS hl
  have hx := C.hx
  have hb := C.hb
  unfold wb_X4_isShore_4 at h
  refine lv_iload_n hx hb dX4_isShore_4 rfl (lv_at hl 3 rfl) ?_
  refine lv_iconst (v := 4) hx hb dX4_isShore_5 (by decide) ?_
  refine r_icmp_ge (tgt := 48) hx hb h dX4_isShore_6 (by decide) (fun h => ?_) (fun h => ?_)
  · refine lv_iload_n hx hb dX4_isShore_48 rfl (lv_at hl 2 rfl) ?_
    obtain ⟨hn, h⟩ := h
    exact r_iret C hS h rfl hn (Nat.le_of_ble_eq_true rfl) (Nat.le_of_ble_eq_true rfl) dX4_isShore_49
  · refine lv_aload_n hx hb dX4_isShore_9 rfl (lv_at hl 0 rfl) ?_
    refine lv_iload_n hx hb dX4_isShore_10 rfl (lv_at hl 1 rfl) ?_
    refine lv_iload_n hx hb dX4_isShore_11 rfl (lv_at hl 3 rfl) ?_
    obtain ⟨hob, h⟩ := h
    refine r_V C hS (ct_X4_beside l Z w a0 l1 l3 _ h) 2 24 hob ⟨by decide, by decide +kernel⟩ (lw_V q1615 q1617 qs50 q71 q1618) ⟨rfl, by decide, by decide, by decide +kernel⟩ ⟨Nat.le_of_ble_eq_true rfl, Nat.le_of_ble_eq_true rfl⟩ rfl hl.1 rfl (wcat4 (Nat.le_of_ble_eq_true rfl)) dX4_isShore_12 ⟨Nat.le_of_ble_eq_true rfl, Nat.le_of_ble_eq_true rfl⟩ (fun v_ w2 H locs hv hS => ?_)
    obtain ⟨v1, rfl, h⟩ := hv
    refine lv_istore (i := 4) (lv' := [(4, .int v1), (0, .ref a0), (1, .int l1), (2, .int l2), (3, .int l3)]) hx hb dX4_isShore_15 hl (by decide) rfl (fun ls hl => ?_)
    refine lv_iload_n hx hb dX4_isShore_17 rfl (lv_at hl 3 rfl) ?_
    refine r_if_ne (tgt := 36) hx hb h dX4_isShore_18 (by decide) (fun h => ?_) (fun h => ?_)
    · refine lv_iconst (v := 1) hx hb dX4_isShore_36 (by decide) ?_
      refine lv_goto (tgt := 41) hx hb dX4_isShore_37 (by decide) ?_
      refine lv_istore_n (i := 2) (lv' := [(2, .int 1), (4, .int v1), (0, .ref a0), (1, .int l1), (3, .int l3)]) hx hb dX4_isShore_41 rfl hl (by decide) rfl (fun ls hl => ?_)
      refine lv_iinc (i := 3) (v := (l3 + 1)) (lv' := [(3, .int (l3 + 1)), (2, .int 1), (4, .int v1), (0, .ref a0), (1, .int l1)]) hx hb dX4_isShore_42 hl (k := 4) rfl rfl (by decide) rfl (fun ls hl => ?_)
      refine lv_goto (tgt := 4) hx hb dX4_isShore_45 (by decide) ?_
      exact hL4 w2 a0 l1 1 (l3 + 1) _ _ _ h hS (lv_sub hl [3, 4, 1, 0] rfl)
    · refine lv_iload hx hb dX4_isShore_21 (lv_at hl 0 rfl) ?_
      refine lv_iconst (v := -1) hx hb dX4_isShore_23 (by decide) ?_
      refine r_icmp_eq (tgt := 40) hx hb h dX4_isShore_24 (by decide) (fun h => ?_) (fun h => ?_)
      · refine lv_iconst (v := 0) hx hb dX4_isShore_40 (by decide) ?_
        refine lv_istore_n (i := 2) (lv' := [(2, .int 0), (4, .int v1), (0, .ref a0), (1, .int l1), (3, .int l3)]) hx hb dX4_isShore_41 rfl hl (by decide) rfl (fun ls hl => ?_)
        refine lv_iinc (i := 3) (v := (l3 + 1)) (lv' := [(3, .int (l3 + 1)), (2, .int 0), (4, .int v1), (0, .ref a0), (1, .int l1)]) hx hb dX4_isShore_42 hl (k := 4) rfl rfl (by decide) rfl (fun ls hl => ?_)
        refine lv_goto (tgt := 4) hx hb dX4_isShore_45 (by decide) ?_
        exact hL4 w2 a0 l1 0 (l3 + 1) _ _ _ h hS (lv_sub hl [3, 4, 1, 0] rfl)
      · refine lv_aload_n hx hb dX4_isShore_27 rfl (lv_at hl 1 rfl) ?_
        refine lv_iload hx hb dX4_isShore_28 (lv_at hl 0 rfl) ?_
        obtain ⟨hob, h⟩ := h
        refine r_V C hS (ct_X4_hasPond l Z w2 a0 v1 _ h) 1 24 hob ⟨by decide, by decide +kernel⟩ (lw_V q1476 q1478 qs33 q71 q1479) ⟨rfl, by decide, by decide, by decide +kernel⟩ ⟨Nat.le_of_ble_eq_true rfl, Nat.le_of_ble_eq_true rfl⟩ rfl hl.1 rfl (wcat4 (Nat.le_of_ble_eq_true rfl)) dX4_isShore_30 ⟨Nat.le_of_ble_eq_true rfl, Nat.le_of_ble_eq_true rfl⟩ (fun v_ w4 H locs hv hS => ?_)
        obtain ⟨v3, rfl, h⟩ := hv
        refine r_if_eq (tgt := 40) hx hb h dX4_isShore_33 (by decide) (fun h => ?_) (fun h => ?_)
        · refine lv_iconst (v := 0) hx hb dX4_isShore_40 (by decide) ?_
          refine lv_istore_n (i := 2) (lv' := [(2, .int 0), (4, .int v1), (0, .ref a0), (1, .int l1), (3, .int l3)]) hx hb dX4_isShore_41 rfl hl (by decide) rfl (fun ls hl => ?_)
          refine lv_iinc (i := 3) (v := (l3 + 1)) (lv' := [(3, .int (l3 + 1)), (2, .int 0), (4, .int v1), (0, .ref a0), (1, .int l1)]) hx hb dX4_isShore_42 hl (k := 4) rfl rfl (by decide) rfl (fun ls hl => ?_)
          refine lv_goto (tgt := 4) hx hb dX4_isShore_45 (by decide) ?_
          exact hL4 w4 a0 l1 0 (l3 + 1) _ _ _ h hS (lv_sub hl [3, 4, 1, 0] rfl)
        · refine lv_iconst (v := 1) hx hb dX4_isShore_36 (by decide) ?_
          refine lv_goto (tgt := 41) hx hb dX4_isShore_37 (by decide) ?_
          refine lv_istore_n (i := 2) (lv' := [(2, .int 1), (4, .int v1), (0, .ref a0), (1, .int l1), (3, .int l3)]) hx hb dX4_isShore_41 rfl hl (by decide) rfl (fun ls hl => ?_)
          refine lv_iinc (i := 3) (v := (l3 + 1)) (lv' := [(3, .int (l3 + 1)), (2, .int 1), (4, .int v1), (0, .ref a0), (1, .int l1)]) hx hb dX4_isShore_42 hl (k := 4) rfl rfl (by decide) rfl (fun ls hl => ?_)
          refine lv_goto (tgt := 4) hx hb dX4_isShore_45 (by decide) ?_
          exact hL4 w4 a0 l1 1 (l3 + 1) _ _ _ h hS (lv_sub hl [3, 4, 1, 0] rfl)
set_option maxHeartbeats 4000000 in
theorem kl_X4_isShore_4 (C : wC p l s m args meth c cX4_isShore 5 (some .boolean) RX4 "isShore" Z A) (k : Int32 → Wd → Prop) : ∀ (n : Nat), ∀ (w : Wd) (a0 : Nat) (l1 : Int32) (l2 : Int32) (l3 : Int32) (H : Heap) (locs : List Loc) (ls : Array Slot), wl_X4_isShore_4 k n w a0 l1 l2 l3 → wS Z A s w H locs → lv_has ls 5 [(0, .ref a0), (1, .int l1), (2, .int l2), (3, .int l3)] → W p l e ({ frames := 2, cells := 0, slots := 0, locals := 49 } : Room) s m args below meth c H locs 0 0 (MQ below (wQc Z A (pI k)) args s 0 0 A) (F0 m 4 ls []) := by
  intro n
  induction n with
  | zero =>
    intro w a0 l1 l2 l3 H locs ls h
    exact h.elim
  | succ n ih =>
    intro w a0 l1 l2 l3 H locs ls h hS hl
    exact kb_X4_isShore_4 C k (wl_X4_isShore_4 k n) ih w a0 l1 l2 l3 H locs ls h hS hl
set_option maxHeartbeats 4000000 in
theorem ct_X4_isShore (l : Launch) (Z : wZ) (w : Wd) (a0 : Nat) (a1 : Int32) (k : Int32 → Wd → Prop) (h : wp_X4_isShore w a0 a1 k) : wMet l Z yX4_isShore cX4_isShore 5 (some .boolean) 2 49 0 0 [.ref a0, .int a1] w (pI k) := by
  refine wM_of (by decide +kernel) (Nat.le_of_ble_eq_true rfl) ?_
  intro p e s m below meth c ls C hS hl
  replace C : wC p l s m _ meth c cX4_isShore 5 (some .boolean) RX4 "isShore" Z _ := C
  have hl : lv_has ls 5 [(0, .ref a0), (1, .int a1)] := hl
  have hx := C.hx
  have hb := C.hb
  unfold wp_X4_isShore at h
  generalize wA w = A at C hS ⊢
  refine lv_iconst (v := 0) hx hb dX4_isShore_0 (by decide) ?_
  refine lv_istore_n (i := 2) (lv' := [(2, .int 0), (0, .ref a0), (1, .int a1)]) hx hb dX4_isShore_1 rfl hl (by decide) rfl (fun ls hl => ?_)
  refine lv_iconst (v := 0) hx hb dX4_isShore_2 (by decide) ?_
  refine lv_istore_n (i := 3) (lv' := [(3, .int 0), (2, .int 0), (0, .ref a0), (1, .int a1)]) hx hb dX4_isShore_3 rfl hl (by decide) rfl (fun ls hl => ?_)
  exact kl_X4_isShore_4 C k FU w a0 a1 0 0 _ _ _ h hS (lv_sub hl [2, 3, 1, 0] rfl)
end VX4_isShore
/-! LeftIsAgreedOnModel.goesBy(III)I -/
section VX4_goesBy
variable {p : Program} {l : Launch} {e : Env} {s : State} {m : MethodId} {args : Array Value} {below : List Frame} {meth : Method} {c : Code} {Z : wZ} {A : Nat → Prop}
set_option maxHeartbeats 4000000 in
theorem ct_X4_goesBy (l : Launch) (Z : wZ) (w : Wd) (a0 : Nat) (a1 : Int32) (a2 : Int32) (a3 : Int32) (k : Int32 → Wd → Prop) (h : wp_X4_goesBy w a0 a1 a2 a3 k) : wMet l Z yX4_goesBy cX4_goesBy 5 (some .int) 3 73 0 0 [.ref a0, .int a1, .int a2, .int a3] w (pI k) := by
  refine wM_of (by decide +kernel) (Nat.le_of_ble_eq_true rfl) ?_
  intro p e s m below meth c ls C hS hl
  replace C : wC p l s m _ meth c cX4_goesBy 5 (some .int) RX4 "goesBy" Z _ := C
  have hl : lv_has ls 5 [(0, .ref a0), (1, .int a1), (2, .int a2), (3, .int a3)] := hl
  have hx := C.hx
  have hb := C.hb
  unfold wp_X4_goesBy at h
  generalize wA w = A at C hS ⊢
  refine lv_aload_n hx hb dX4_goesBy_0 rfl (lv_at hl 0 rfl) ?_
  refine r_getG C hS h gk_56 q1355 dX4_goesBy_1 (fun v1 h => ?_)
  refine lv_bipush (v := 91) hx hb dX4_goesBy_4 (by decide) ?_
  refine r_iald C hS h dX4_goesBy_6 (fun v2 h => ?_)
  refine lv_istore (i := 4) (lv' := [(4, .int v2), (0, .ref a0), (1, .int a1), (2, .int a2), (3, .int a3)]) hx hb dX4_goesBy_7 hl (by decide) rfl (fun ls hl => ?_)
  refine lv_aload_n hx hb dX4_goesBy_9 rfl (lv_at hl 1 rfl) ?_
  refine lv_iload_n hx hb dX4_goesBy_10 rfl (lv_at hl 3 rfl) ?_
  obtain ⟨hob, h⟩ := h
  refine r_V C hS (ct_X4_kind l Z w a0 a2 _ h) 1 24 hob ⟨by decide, by decide +kernel⟩ (lw_V q1595 q1597 qs45 q71 q1598) ⟨rfl, by decide, by decide, by decide +kernel⟩ ⟨Nat.le_of_ble_eq_true rfl, Nat.le_of_ble_eq_true rfl⟩ rfl hl.1 rfl (wcat4 (Nat.le_of_ble_eq_true rfl)) dX4_goesBy_11 ⟨Nat.le_of_ble_eq_true rfl, Nat.le_of_ble_eq_true rfl⟩ (fun v_ w4 H locs hv hS => ?_)
  obtain ⟨v3, rfl, h⟩ := hv
  by_cases c14_0 : v3 = 0
  · rw [if_pos c14_0] at h
    refine lv_tableIn (tgt := 48) hx hb dX4_goesBy_14 (by rw [c14_0]; decide) (by rw [c14_0]; decide) (by rw [c14_0]; rfl) (by decide) ?_
    refine lv_iload hx hb dX4_goesBy_48 (lv_at hl 0 rfl) ?_
    exact r_iret C hS h rfl rfl (Nat.le_of_ble_eq_true rfl) (Nat.le_of_ble_eq_true rfl) dX4_goesBy_50
  rw [if_neg c14_0] at h
  by_cases c14_1 : v3 = 1
  · rw [if_pos c14_1] at h
    refine lv_tableIn (tgt := 51) hx hb dX4_goesBy_14 (by rw [c14_1]; decide) (by rw [c14_1]; decide) (by rw [c14_1]; rfl) (by decide) ?_
    refine lv_aload_n hx hb dX4_goesBy_51 rfl (lv_at hl 1 rfl) ?_
    refine r_getG C hS h gk_56 q1355 dX4_goesBy_52 (fun v5 h => ?_)
    refine lv_bipush (v := 92) hx hb dX4_goesBy_55 (by decide) ?_
    refine r_iald C hS h dX4_goesBy_57 (fun v6 h => ?_)
    exact r_iret C hS h rfl rfl (Nat.le_of_ble_eq_true rfl) (Nat.le_of_ble_eq_true rfl) dX4_goesBy_58
  rw [if_neg c14_1] at h
  by_cases c14_2 : v3 = 2
  · rw [if_pos c14_2] at h
    refine lv_tableIn (tgt := 59) hx hb dX4_goesBy_14 (by rw [c14_2]; decide) (by rw [c14_2]; decide) (by rw [c14_2]; rfl) (by decide) ?_
    refine lv_aload_n hx hb dX4_goesBy_59 rfl (lv_at hl 1 rfl) ?_
    refine r_getG C hS h gk_63 q1367 dX4_goesBy_60 (fun v7 h => ?_)
    refine lv_iload_n hx hb dX4_goesBy_63 rfl (lv_at hl 2 rfl) ?_
    refine r_iald C hS h dX4_goesBy_64 (fun v8 h => ?_)
    refine lv_iconst (v := 2) hx hb dX4_goesBy_65 (by decide) ?_
    refine lv_irem hx hb dX4_goesBy_66 (by decide) ?_
    refine r_if_ne (tgt := 75) hx hb h dX4_goesBy_67 (by decide) (fun h => ?_) (fun h => ?_)
    · refine lv_iconst (v := 1) hx hb dX4_goesBy_75 (by decide) ?_
      refine lv_iload hx hb dX4_goesBy_76 (lv_at hl 0 rfl) ?_
      refine lv_isub hx hb dX4_goesBy_78 ?_
      exact r_iret C hS h rfl rfl (Nat.le_of_ble_eq_true rfl) (Nat.le_of_ble_eq_true rfl) dX4_goesBy_79
    · refine lv_iload hx hb dX4_goesBy_70 (lv_at hl 0 rfl) ?_
      refine lv_goto (tgt := 79) hx hb dX4_goesBy_72 (by decide) ?_
      exact r_iret C hS h rfl rfl (Nat.le_of_ble_eq_true rfl) (Nat.le_of_ble_eq_true rfl) dX4_goesBy_79
  rw [if_neg c14_2] at h
  by_cases c14_3 : v3 = 3
  · rw [if_pos c14_3] at h
    refine lv_tableIn (tgt := 80) hx hb dX4_goesBy_14 (by rw [c14_3]; decide) (by rw [c14_3]; decide) (by rw [c14_3]; rfl) (by decide) ?_
    refine lv_aload_n hx hb dX4_goesBy_80 rfl (lv_at hl 1 rfl) ?_
    refine lv_iload_n hx hb dX4_goesBy_81 rfl (lv_at hl 3 rfl) ?_
    obtain ⟨hob, h⟩ := h
    refine r_V C hS (ct_X4_isFor_2 l Z w4 a0 a2 _ h) 1 24 hob ⟨by decide, by decide +kernel⟩ (lw_V q1498 q1500 qs36 q71 q1501) ⟨rfl, by decide, by decide, by decide +kernel⟩ ⟨Nat.le_of_ble_eq_true rfl, Nat.le_of_ble_eq_true rfl⟩ rfl hl.1 rfl (wcat4 (Nat.le_of_ble_eq_true rfl)) dX4_goesBy_82 ⟨Nat.le_of_ble_eq_true rfl, Nat.le_of_ble_eq_true rfl⟩ (fun v_ w10 H locs hv hS => ?_)
    obtain ⟨v9, rfl, h⟩ := hv
    exact r_iret C hS h rfl rfl (Nat.le_of_ble_eq_true rfl) (Nat.le_of_ble_eq_true rfl) dX4_goesBy_85
  rw [if_neg c14_3] at h
  by_cases c14_4 : v3 = 4
  · rw [if_pos c14_4] at h
    refine lv_tableIn (tgt := 86) hx hb dX4_goesBy_14 (by rw [c14_4]; decide) (by rw [c14_4]; decide) (by rw [c14_4]; rfl) (by decide) ?_
    refine lv_aload_n hx hb dX4_goesBy_86 rfl (lv_at hl 1 rfl) ?_
    refine lv_aload_n hx hb dX4_goesBy_87 rfl (lv_at hl 1 rfl) ?_
    refine r_getG C hS h gk_61 q1365 dX4_goesBy_88 (fun v11 h => ?_)
    refine lv_iload_n hx hb dX4_goesBy_91 rfl (lv_at hl 2 rfl) ?_
    refine r_iald C hS h dX4_goesBy_92 (fun v12 h => ?_)
    obtain ⟨hob, h⟩ := h
    refine r_V C hS (ct_X4_isShore l Z w4 a0 v12 _ h) 1 24 hob ⟨by decide, by decide +kernel⟩ (lw_V q1623 q1625 qs52 q71 q1626) ⟨rfl, by decide, by decide, by decide +kernel⟩ ⟨Nat.le_of_ble_eq_true rfl, Nat.le_of_ble_eq_true rfl⟩ rfl hl.1 rfl (wcat4 (Nat.le_of_ble_eq_true rfl)) dX4_goesBy_93 ⟨Nat.le_of_ble_eq_true rfl, Nat.le_of_ble_eq_true rfl⟩ (fun v_ w14 H locs hv hS => ?_)
    obtain ⟨v13, rfl, h⟩ := hv
    refine r_if_eq (tgt := 106) hx hb h dX4_goesBy_96 (by decide) (fun h => ?_) (fun h => ?_)
    · refine lv_iload hx hb dX4_goesBy_106 (lv_at hl 0 rfl) ?_
      exact r_iret C hS h rfl rfl (Nat.le_of_ble_eq_true rfl) (Nat.le_of_ble_eq_true rfl) dX4_goesBy_108
    · refine lv_iconst (v := 1) hx hb dX4_goesBy_99 (by decide) ?_
      refine lv_iload hx hb dX4_goesBy_100 (lv_at hl 0 rfl) ?_
      refine lv_isub hx hb dX4_goesBy_102 ?_
      refine lv_goto (tgt := 108) hx hb dX4_goesBy_103 (by decide) ?_
      exact r_iret C hS h rfl rfl (Nat.le_of_ble_eq_true rfl) (Nat.le_of_ble_eq_true rfl) dX4_goesBy_108
  rw [if_neg c14_4] at h
  have e14_0 := lv_neT c14_0 (show Int32.toInt 0 = 0 by decide)
  have e14_1 := lv_neT c14_1 (show Int32.toInt 1 = 1 by decide)
  have e14_2 := lv_neT c14_2 (show Int32.toInt 2 = 2 by decide)
  have e14_3 := lv_neT c14_3 (show Int32.toInt 3 = 3 by decide)
  have e14_4 := lv_neT c14_4 (show Int32.toInt 4 = 4 by decide)
  refine lv_tableOut (tgt := 109) hx hb dX4_goesBy_14 (by omega) (by decide) ?_
  refine lv_aload_n hx hb dX4_goesBy_109 rfl (lv_at hl 1 rfl) ?_
  refine r_getG C hS h gk_63 q1367 dX4_goesBy_110 (fun v15 h => ?_)
  refine lv_iload_n hx hb dX4_goesBy_113 rfl (lv_at hl 2 rfl) ?_
  refine r_iald C hS h dX4_goesBy_114 (fun v16 h => ?_)
  refine r_if_ne (tgt := 123) hx hb h dX4_goesBy_115 (by decide) (fun h => ?_) (fun h => ?_)
  · refine lv_aload_n hx hb dX4_goesBy_123 rfl (lv_at hl 1 rfl) ?_
    refine r_getG C hS h gk_64 q1368 dX4_goesBy_124 (fun v17 h => ?_)
    refine lv_iload_n hx hb dX4_goesBy_127 rfl (lv_at hl 2 rfl) ?_
    refine r_iald C hS h dX4_goesBy_128 (fun v18 h => ?_)
    refine lv_iload_n hx hb dX4_goesBy_129 rfl (lv_at hl 4 rfl) ?_
    refine r_icmp_ne (tgt := 144) hx hb h dX4_goesBy_130 (by decide) (fun h => ?_) (fun h => ?_)
    · refine lv_aload_n hx hb dX4_goesBy_144 rfl (lv_at hl 1 rfl) ?_
      refine r_getG C hS h gk_65 q1369 dX4_goesBy_145 (fun v19 h => ?_)
      refine lv_iload_n hx hb dX4_goesBy_148 rfl (lv_at hl 2 rfl) ?_
      refine r_iald C hS h dX4_goesBy_149 (fun v20 h => ?_)
      exact r_iret C hS h rfl rfl (Nat.le_of_ble_eq_true rfl) (Nat.le_of_ble_eq_true rfl) dX4_goesBy_150
    · refine lv_iconst (v := 1) hx hb dX4_goesBy_133 (by decide) ?_
      refine lv_aload_n hx hb dX4_goesBy_134 rfl (lv_at hl 1 rfl) ?_
      refine r_getG C hS h gk_65 q1369 dX4_goesBy_135 (fun v21 h => ?_)
      refine lv_iload_n hx hb dX4_goesBy_138 rfl (lv_at hl 2 rfl) ?_
      refine r_iald C hS h dX4_goesBy_139 (fun v22 h => ?_)
      refine lv_isub hx hb dX4_goesBy_140 ?_
      refine lv_goto (tgt := 150) hx hb dX4_goesBy_141 (by decide) ?_
      exact r_iret C hS h rfl rfl (Nat.le_of_ble_eq_true rfl) (Nat.le_of_ble_eq_true rfl) dX4_goesBy_150
  · refine lv_iload hx hb dX4_goesBy_118 (lv_at hl 0 rfl) ?_
    refine lv_goto (tgt := 150) hx hb dX4_goesBy_120 (by decide) ?_
    exact r_iret C hS h rfl rfl (Nat.le_of_ble_eq_true rfl) (Nat.le_of_ble_eq_true rfl) dX4_goesBy_150
end VX4_goesBy
/-! LeftIsAgreedOnModel.step(IIII)V -/
section VX4_step
variable {p : Program} {l : Launch} {e : Env} {s : State} {m : MethodId} {args : Array Value} {below : List Frame} {meth : Method} {c : Code} {Z : wZ} {A : Nat → Prop}
set_option maxHeartbeats 4000000 in
theorem kb_X4_step_133 (C : wC p l s m args meth c cX4_step 6 none RX4 "step" Z A) (k : Wd → Prop) : ∀ (w : Wd) (a0 : Nat) (l1 : Int32) (l3 : Int32) (l5 : Int32) (s0 : Option Nat) (s1 : Int32) (s2 : Int32) (s3 : Int32) (H : Heap) (locs : List Loc) (ls : Array Slot), wb_X4_step_133 k w a0 l1 l3 l5 s0 s1 s2 s3 → wS Z A s w H locs → lv_has ls 6 [(0, .ref a0), (1, .int l1), (3, .int l3), (5, .int l5)] → W p l e ({ frames := 4, cells := 0, slots := 0, locals := 97 } : Room) s m args below meth c H locs 0 0 (MQ below (wQc Z A (pV k)) args s 0 0 A) (F0 m 133 ls [.int s3, .int s2, .int s1, va_rf s0]) := by
  intro w a0 l1 l3 l5 s0 s1 s2 s3 H locs ls h hS hl
  have hx := C.hx
  have hb := C.hb
  unfold wb_X4_step_133 at h
  refine lv_iadd hx hb dX4_step_133 ?_
  refine lv_iconst (v := 4) hx hb dX4_step_134 (by decide) ?_
  refine lv_irem hx hb dX4_step_135 (by decide) ?_
  refine r_iast C hS h dX4_step_136 (fun w8 H locs h hS => ?_)
  refine lv_aload_n hx hb dX4_step_137 rfl (lv_at hl 0 rfl) ?_
  refine r_getG C hS h gk_63 q1367 dX4_step_138 (fun v9 h => ?_)
  refine lv_iload_n hx hb dX4_step_141 rfl (lv_at hl 1 rfl) ?_
  refine lv_dup2_11 hx hb dX4_step_142 rfl (va_rf_cat _) ?_
  refine r_iald C hS h dX4_step_143 (fun v10 h => ?_)
  refine lv_iconst (v := 1) hx hb dX4_step_144 (by decide) ?_
  refine lv_iadd hx hb dX4_step_145 ?_
  refine r_iast C hS h dX4_step_146 (fun w11 H locs h hS => ?_)
  refine lv_aload_n hx hb dX4_step_147 rfl (lv_at hl 0 rfl) ?_
  refine r_getG C hS h gk_64 q1368 dX4_step_148 (fun v12 h => ?_)
  refine lv_iload_n hx hb dX4_step_151 rfl (lv_at hl 1 rfl) ?_
  refine lv_iload_n hx hb dX4_step_152 rfl (lv_at hl 2 rfl) ?_
  refine r_iast C hS h dX4_step_153 (fun w13 H locs h hS => ?_)
  refine lv_aload_n hx hb dX4_step_154 rfl (lv_at hl 0 rfl) ?_
  refine r_getG C hS h gk_65 q1369 dX4_step_155 (fun v14 h => ?_)
  refine lv_iload_n hx hb dX4_step_158 rfl (lv_at hl 1 rfl) ?_
  refine lv_iload hx hb dX4_step_159 (lv_at hl 3 rfl) ?_
  refine r_iast C hS h dX4_step_161 (fun w15 H locs h hS => ?_)
  exact r_vret C hS h rfl (Nat.le_of_ble_eq_true rfl) (Nat.le_of_ble_eq_true rfl) dX4_step_162
set_option maxHeartbeats 4000000 in
theorem kb_X4_step_125 (C : wC p l s m args meth c cX4_step 6 none RX4 "step" Z A) (k : Wd → Prop) : ∀ (w : Wd) (a0 : Nat) (l1 : Int32) (l3 : Int32) (l5 : Int32) (s0 : Option Nat) (s1 : Int32) (s2 : Int32) (s3 : Int32) (s4 : Int32) (H : Heap) (locs : List Loc) (ls : Array Slot), wb_X4_step_125 k w a0 l1 l3 l5 s0 s1 s2 s3 s4 → wS Z A s w H locs → lv_has ls 6 [(0, .ref a0), (1, .int l1), (3, .int l3), (5, .int l5)] → W p l e ({ frames := 4, cells := 0, slots := 0, locals := 97 } : Room) s m args below meth c H locs 0 0 (MQ below (wQc Z A (pV k)) args s 0 0 A) (F0 m 125 ls [.int s4, .int s3, .int s2, .int s1, va_rf s0]) := by
  intro w a0 l1 l3 l5 s0 s1 s2 s3 s4 H locs ls h hS hl
  have hx := C.hx
  have hb := C.hb
  unfold wb_X4_step_125 at h
  refine r_icmp_ne (tgt := 132) hx hb h dX4_step_125 (by decide) (fun h => ?_) (fun h => ?_)
  · refine lv_iconst (v := 3) hx hb dX4_step_132 (by decide) ?_
    exact kb_X4_step_133 C k w a0 l1 l3 l5 s0 s1 s2 3 _ _ _ h hS (lv_sub hl [0, 1, 2, 3] rfl)
  · refine lv_iconst (v := 1) hx hb dX4_step_128 (by decide) ?_
    refine lv_goto (tgt := 133) hx hb dX4_step_129 (by decide) ?_
    exact kb_X4_step_133 C k w a0 l1 l3 l5 s0 s1 s2 1 _ _ _ h hS (lv_sub hl [0, 1, 2, 3] rfl)
set_option maxHeartbeats 4000000 in
theorem kb_X4_step_115 (C : wC p l s m args meth c cX4_step 6 none RX4 "step" Z A) (k : Wd → Prop) : ∀ (w : Wd) (a0 : Nat) (l1 : Int32) (l3 : Int32) (l5 : Int32) (s0 : Option Nat) (s1 : Int32) (s2 : Int32) (s3 : Int32) (H : Heap) (locs : List Loc) (ls : Array Slot), wb_X4_step_115 k w a0 l1 l3 l5 s0 s1 s2 s3 → wS Z A s w H locs → lv_has ls 6 [(0, .ref a0), (1, .int l1), (3, .int l3), (5, .int l5)] → W p l e ({ frames := 4, cells := 0, slots := 0, locals := 97 } : Room) s m args below meth c H locs 0 0 (MQ below (wQc Z A (pV k)) args s 0 0 A) (F0 m 115 ls [.int s3, .int s2, .int s1, va_rf s0]) := by
  intro w a0 l1 l3 l5 s0 s1 s2 s3 H locs ls h hS hl
  have hx := C.hx
  have hb := C.hb
  unfold wb_X4_step_115 at h
  refine lv_iload_n hx hb dX4_step_115 rfl (lv_at hl 2 rfl) ?_
  refine lv_iconst (v := 1) hx hb dX4_step_116 (by decide) ?_
  refine r_icmp_ne (tgt := 124) hx hb h dX4_step_117 (by decide) (fun h => ?_) (fun h => ?_)
  · refine lv_iconst (v := 0) hx hb dX4_step_124 (by decide) ?_
    exact kb_X4_step_125 C k w a0 l1 l3 l5 s0 s1 s2 s3 0 _ _ _ h hS (lv_sub hl [0, 1, 2, 3] rfl)
  · refine lv_iconst (v := 1) hx hb dX4_step_120 (by decide) ?_
    refine lv_goto (tgt := 125) hx hb dX4_step_121 (by decide) ?_
    exact kb_X4_step_125 C k w a0 l1 l3 l5 s0 s1 s2 s3 1 _ _ _ h hS (lv_sub hl [0, 1, 2, 3] rfl)
set_option maxHeartbeats 4000000 in
theorem ct_X4_step (l : Launch) (Z : wZ) (w : Wd) (a0 : Nat) (a1 : Int32) (a2 : Int32) (a3 : Int32) (a4 : Int32) (k : Wd → Prop) (h : wp_X4_step w a0 a1 a2 a3 a4 k) : wMet l Z yX4_step cX4_step 6 none 4 97 0 0 [.ref a0, .int a1, .int a2, .int a3, .int a4] w (pV k) := by
  refine wM_of (by decide +kernel) (Nat.le_of_ble_eq_true rfl) ?_
  intro p e s m below meth c ls C hS hl
  replace C : wC p l s m _ meth c cX4_step 6 none RX4 "step" Z _ := C
  have hl : lv_has ls 6 [(0, .ref a0), (1, .int a1), (2, .int a2), (3, .int a3), (4, .int a4)] := hl
  have hx := C.hx
  have hb := C.hb
  unfold wp_X4_step at h
  generalize wA w = A at C hS ⊢
  refine lv_aload_n hx hb dX4_step_0 rfl (lv_at hl 0 rfl) ?_
  refine r_getG C hS h gk_66 q1370 dX4_step_1 (fun v1 h => ?_)
  refine lv_iload_n hx hb dX4_step_4 rfl (lv_at hl 1 rfl) ?_
  refine r_iald C hS h dX4_step_5 (fun v2 h => ?_)
  refine lv_iconst (v := -1) hx hb dX4_step_6 (by decide) ?_
  refine r_icmp_ne (tgt := 15) hx hb h dX4_step_7 (by decide) (fun h => ?_) (fun h => ?_)
  · exact r_vret C hS h rfl (Nat.le_of_ble_eq_true rfl) (Nat.le_of_ble_eq_true rfl) dX4_step_15
  · refine lv_iload_n hx hb dX4_step_10 rfl (lv_at hl 3 rfl) ?_
    refine lv_iconst (v := 3) hx hb dX4_step_11 (by decide) ?_
    refine r_icmp_ne (tgt := 16) hx hb h dX4_step_12 (by decide) (fun h => ?_) (fun h => ?_)
    · refine lv_iload_n hx hb dX4_step_16 rfl (lv_at hl 3 rfl) ?_
      refine r_if_ne (tgt := 84) hx hb h dX4_step_17 (by decide) (fun h => ?_) (fun h => ?_)
      · refine lv_aload_n hx hb dX4_step_84 rfl (lv_at hl 0 rfl) ?_
        refine lv_iload_n hx hb dX4_step_85 rfl (lv_at hl 1 rfl) ?_
        refine lv_iload_n hx hb dX4_step_86 rfl (lv_at hl 2 rfl) ?_
        refine lv_iload_n hx hb dX4_step_87 rfl (lv_at hl 3 rfl) ?_
        obtain ⟨hob, h⟩ := h
        refine r_V C hS (ct_X4_goesBy l Z w a0 a1 a2 a3 _ h) 3 24 hob ⟨by decide, by decide +kernel⟩ (lw_V q1619 q1621 qs51 q71 q1622) ⟨rfl, by decide, by decide, by decide +kernel⟩ ⟨Nat.le_of_ble_eq_true rfl, Nat.le_of_ble_eq_true rfl⟩ rfl hl.1 rfl (wcat4 (Nat.le_of_ble_eq_true rfl)) dX4_step_88 ⟨Nat.le_of_ble_eq_true rfl, Nat.le_of_ble_eq_true rfl⟩ (fun v_ w4 H locs hv hS => ?_)
        obtain ⟨v3, rfl, h⟩ := hv
        refine lv_istore (i := 5) (lv' := [(5, .int v3), (0, .ref a0), (1, .int a1), (2, .int a2), (3, .int a3), (4, .int a4)]) hx hb dX4_step_91 hl (by decide) rfl (fun ls hl => ?_)
        refine lv_aload_n hx hb dX4_step_93 rfl (lv_at hl 1 rfl) ?_
        refine r_getG C hS h gk_62 q1366 dX4_step_94 (fun v5 h => ?_)
        refine lv_iload_n hx hb dX4_step_97 rfl (lv_at hl 2 rfl) ?_
        refine lv_aload_n hx hb dX4_step_98 rfl (lv_at hl 1 rfl) ?_
        refine r_getG C hS h gk_62 q1366 dX4_step_99 (fun v6 h => ?_)
        refine lv_iload_n hx hb dX4_step_102 rfl (lv_at hl 2 rfl) ?_
        refine r_iald C hS h dX4_step_103 (fun v7 h => ?_)
        refine lv_iload hx hb dX4_step_104 (lv_at hl 0 rfl) ?_
        refine lv_iconst (v := 1) hx hb dX4_step_106 (by decide) ?_
        refine r_icmp_ne (tgt := 114) hx hb h dX4_step_107 (by decide) (fun h => ?_) (fun h => ?_)
        · refine lv_iconst (v := 0) hx hb dX4_step_114 (by decide) ?_
          exact kb_X4_step_115 C k w4 a0 a1 a3 v3 v5 a1 v7 0 _ _ _ h hS (lv_sub hl [1, 2, 4, 0] rfl)
        · refine lv_iconst (v := 1) hx hb dX4_step_110 (by decide) ?_
          refine lv_goto (tgt := 115) hx hb dX4_step_111 (by decide) ?_
          exact kb_X4_step_115 C k w4 a0 a1 a3 v3 v5 a1 v7 1 _ _ _ h hS (lv_sub hl [1, 2, 4, 0] rfl)
      · refine lv_aload_n hx hb dX4_step_20 rfl (lv_at hl 0 rfl) ?_
        refine lv_aload_n hx hb dX4_step_21 rfl (lv_at hl 0 rfl) ?_
        refine r_getG C hS h gk_61 q1365 dX4_step_22 (fun v16 h => ?_)
        refine lv_iload_n hx hb dX4_step_25 rfl (lv_at hl 1 rfl) ?_
        refine r_iald C hS h dX4_step_26 (fun v17 h => ?_)
        refine lv_aload_n hx hb dX4_step_27 rfl (lv_at hl 0 rfl) ?_
        refine r_getG C hS h gk_62 q1366 dX4_step_28 (fun v18 h => ?_)
        refine lv_iload_n hx hb dX4_step_31 rfl (lv_at hl 1 rfl) ?_
        refine r_iald C hS h dX4_step_32 (fun v19 h => ?_)
        obtain ⟨hob, h⟩ := h
        refine r_V C hS (ct_X4_beside l Z w a0 v17 v19 _ h) 2 24 hob ⟨by decide, by decide +kernel⟩ (lw_V q1615 q1617 qs50 q71 q1618) ⟨rfl, by decide, by decide, by decide +kernel⟩ ⟨Nat.le_of_ble_eq_true rfl, Nat.le_of_ble_eq_true rfl⟩ rfl hl.1 rfl (wcat4 (Nat.le_of_ble_eq_true rfl)) dX4_step_33 ⟨Nat.le_of_ble_eq_true rfl, Nat.le_of_ble_eq_true rfl⟩ (fun v_ w21 H locs hv hS => ?_)
        obtain ⟨v20, rfl, h⟩ := hv
        refine lv_istore (i := 5) (lv' := [(5, .int v20), (0, .ref a0), (1, .int a1), (2, .int a2), (3, .int a3), (4, .int a4)]) hx hb dX4_step_36 hl (by decide) rfl (fun ls hl => ?_)
        refine lv_iload hx hb dX4_step_38 (lv_at hl 0 rfl) ?_
        refine lv_iconst (v := -1) hx hb dX4_step_40 (by decide) ?_
        refine r_icmp_eq (tgt := 83) hx hb h dX4_step_41 (by decide) (fun h => ?_) (fun h => ?_)
        · exact r_vret C hS h rfl (Nat.le_of_ble_eq_true rfl) (Nat.le_of_ble_eq_true rfl) dX4_step_83
        · refine lv_aload_n hx hb dX4_step_44 rfl (lv_at hl 1 rfl) ?_
          refine lv_aload_n hx hb dX4_step_45 rfl (lv_at hl 1 rfl) ?_
          refine r_getG C hS h gk_61 q1365 dX4_step_46 (fun v22 h => ?_)
          refine lv_iload_n hx hb dX4_step_49 rfl (lv_at hl 2 rfl) ?_
          refine r_iald C hS h dX4_step_50 (fun v23 h => ?_)
          refine r_putF (fin := false) C hS h gk_79 (ty := .int) (by decide +kernel) ⟨rfl, rfl⟩ gk_79f (fun h => by cases h) q1371 dX4_step_51 (fun w24 H locs h hS => ?_)
          refine lv_aload_n hx hb dX4_step_54 rfl (lv_at hl 1 rfl) ?_
          refine r_getG C hS h gk_61 q1365 dX4_step_55 (fun v25 h => ?_)
          refine lv_iload_n hx hb dX4_step_58 rfl (lv_at hl 2 rfl) ?_
          refine lv_iload hx hb dX4_step_59 (lv_at hl 0 rfl) ?_
          refine r_iast C hS h dX4_step_61 (fun w26 H locs h hS => ?_)
          refine lv_aload_n hx hb dX4_step_62 rfl (lv_at hl 1 rfl) ?_
          refine r_getG C hS h gk_66 q1370 dX4_step_63 (fun v27 h => ?_)
          refine lv_iload_n hx hb dX4_step_66 rfl (lv_at hl 2 rfl) ?_
          refine lv_aload_n hx hb dX4_step_67 rfl (lv_at hl 1 rfl) ?_
          refine lv_iload hx hb dX4_step_68 (lv_at hl 0 rfl) ?_
          obtain ⟨hob, h⟩ := h
          refine r_V C hS (ct_X4_hasPond l Z w26 a0 v20 _ h) 1 24 hob ⟨by decide, by decide +kernel⟩ (lw_V q1476 q1478 qs33 q71 q1479) ⟨rfl, by decide, by decide, by decide +kernel⟩ ⟨Nat.le_of_ble_eq_true rfl, Nat.le_of_ble_eq_true rfl⟩ rfl hl.1 rfl (wcat4 (Nat.le_of_ble_eq_true rfl)) dX4_step_70 ⟨Nat.le_of_ble_eq_true rfl, Nat.le_of_ble_eq_true rfl⟩ (fun v_ w29 H locs hv hS => ?_)
          obtain ⟨v28, rfl, h⟩ := hv
          refine r_if_eq (tgt := 81) hx hb h dX4_step_73 (by decide) (fun h => ?_) (fun h => ?_)
          · refine lv_iconst (v := -1) hx hb dX4_step_81 (by decide) ?_
            refine r_iast C hS h dX4_step_82 (fun w30 H locs h hS => ?_)
            exact r_vret C hS h rfl (Nat.le_of_ble_eq_true rfl) (Nat.le_of_ble_eq_true rfl) dX4_step_83
          · refine lv_iload hx hb dX4_step_76 (lv_at hl 5 rfl) ?_
            refine lv_goto (tgt := 82) hx hb dX4_step_78 (by decide) ?_
            refine r_iast C hS h dX4_step_82 (fun w31 H locs h hS => ?_)
            exact r_vret C hS h rfl (Nat.le_of_ble_eq_true rfl) (Nat.le_of_ble_eq_true rfl) dX4_step_83
    · exact r_vret C hS h rfl (Nat.le_of_ble_eq_true rfl) (Nat.le_of_ble_eq_true rfl) dX4_step_15
end VX4_step
/-! LeftIsAgreedOnModel.a(I)I -/
section VX4_a
variable {p : Program} {l : Launch} {e : Env} {s : State} {m : MethodId} {args : Array Value} {below : List Frame} {meth : Method} {c : Code} {Z : wZ} {A : Nat → Prop}
set_option maxHeartbeats 4000000 in
theorem ct_X4_a (l : Launch) (Z : wZ) (w : Wd) (a0 : Nat) (a1 : Int32) (k : Int32 → Wd → Prop) (h : wp_X4_a w a0 a1 k) : wMet l Z yX4_a cX4_a 2 (some .int) 0 0 0 0 [.ref a0, .int a1] w (pI k) := by
  refine wM_of (by decide +kernel) (Nat.le_of_ble_eq_true rfl) ?_
  intro p e s m below meth c ls C hS hl
  replace C : wC p l s m _ meth c cX4_a 2 (some .int) RX4 "a" Z _ := C
  have hl : lv_has ls 2 [(0, .ref a0), (1, .int a1)] := hl
  have hx := C.hx
  have hb := C.hb
  unfold wp_X4_a at h
  generalize wA w = A at C hS ⊢
  refine lv_aload_n hx hb dX4_a_0 rfl (lv_at hl 0 rfl) ?_
  refine r_getG C hS h gk_56 q1355 dX4_a_1 (fun v1 h => ?_)
  refine lv_iconst (v := 5) hx hb dX4_a_4 (by decide) ?_
  refine lv_iload_n hx hb dX4_a_5 rfl (lv_at hl 1 rfl) ?_
  refine lv_imul hx hb dX4_a_6 ?_
  refine lv_iconst (v := 1) hx hb dX4_a_7 (by decide) ?_
  refine lv_iadd hx hb dX4_a_8 ?_
  refine r_iald C hS h dX4_a_9 (fun v2 h => ?_)
  exact r_iret C hS h rfl rfl (Nat.le_of_ble_eq_true rfl) (Nat.le_of_ble_eq_true rfl) dX4_a_10
end VX4_a
/-! LeftIsAgreedOnModel.says(II)I -/
section VX4_says
variable {p : Program} {l : Launch} {e : Env} {s : State} {m : MethodId} {args : Array Value} {below : List Frame} {meth : Method} {c : Code} {Z : wZ} {A : Nat → Prop}
set_option maxHeartbeats 4000000 in
theorem kb_X4_says_92 (C : wC p l s m args meth c cX4_says 5 (some .int) RX4 "says" Z A) (k : Int32 → Wd → Prop) : ∀ (w : Wd) (a0 : Nat) (l2 : Int32) (l3 : Int32) (l4 : Int32) (H : Heap) (locs : List Loc) (ls : Array Slot), wb_X4_says_92 k w a0 l2 l3 l4 → wS Z A s w H locs → lv_has ls 5 [(0, .ref a0), (2, .int l2), (3, .int l3), (4, .int l4)] → W p l e ({ frames := 5, cells := 0, slots := 0, locals := 122 } : Room) s m args below meth c H locs 0 0 (MQ below (wQc Z A (pI k)) args s 0 0 A) (F0 m 92 ls []) := by
  intro w a0 l2 l3 l4 H locs ls h hS hl
  have hx := C.hx
  have hb := C.hb
  unfold wb_X4_says_92 at h
  refine lv_iload hx hb dX4_says_92 (lv_at hl 3 rfl) ?_
  refine lv_iconst (v := -1) hx hb dX4_says_94 (by decide) ?_
  refine r_icmp_ne (tgt := 105) hx hb h dX4_says_95 (by decide) (fun h => ?_) (fun h => ?_)
  · refine lv_iload_n hx hb dX4_says_105 rfl (lv_at hl 1 rfl) ?_
    refine r_if_ne (tgt := 115) hx hb h dX4_says_106 (by decide) (fun h => ?_) (fun h => ?_)
    · refine lv_aload_n hx hb dX4_says_115 rfl (lv_at hl 0 rfl) ?_
      refine lv_iconst (v := 0) hx hb dX4_says_116 (by decide) ?_
      refine lv_aload_n hx hb dX4_says_117 rfl (lv_at hl 0 rfl) ?_
      refine lv_iload_n hx hb dX4_says_118 rfl (lv_at hl 2 rfl) ?_
      obtain ⟨hob, h⟩ := h
      refine r_V C hS (ct_X4_cell l Z w a0 l3 _ h) 1 24 hob ⟨by decide, by decide +kernel⟩ (lw_V q1462 q1464 qs32 q71 q1465) ⟨rfl, by decide, by decide, by decide +kernel⟩ ⟨Nat.le_of_ble_eq_true rfl, Nat.le_of_ble_eq_true rfl⟩ rfl hl.1 rfl (wcat4 (Nat.le_of_ble_eq_true rfl)) dX4_says_119 ⟨Nat.le_of_ble_eq_true rfl, Nat.le_of_ble_eq_true rfl⟩ (fun v_ w14 H locs hv hS => ?_)
      obtain ⟨v13, rfl, h⟩ := hv
      refine lv_aload_n hx hb dX4_says_122 rfl (lv_at hl 0 rfl) ?_
      refine lv_iload_n hx hb dX4_says_123 rfl (lv_at hl 2 rfl) ?_
      obtain ⟨hob, h⟩ := h
      refine r_V C hS (ct_X4_faces l Z w14 a0 l3 _ h) 1 24 hob ⟨by decide, by decide +kernel⟩ (lw_V q1603 q1605 qs47 q71 q1606) ⟨rfl, by decide, by decide, by decide +kernel⟩ ⟨Nat.le_of_ble_eq_true rfl, Nat.le_of_ble_eq_true rfl⟩ rfl hl.1 rfl (wcat4 (Nat.le_of_ble_eq_true rfl)) dX4_says_124 ⟨Nat.le_of_ble_eq_true rfl, Nat.le_of_ble_eq_true rfl⟩ (fun v_ w16 H locs hv hS => ?_)
      obtain ⟨v15, rfl, h⟩ := hv
      obtain ⟨hob, h⟩ := h
      refine r_V C hS (ct_X4_start l Z w16 a0 0 v13 v15 _ h) 3 24 hob ⟨by decide, by decide +kernel⟩ (lw_V q1607 q1609 qs48 q71 q1610) ⟨rfl, by decide, by decide, by decide +kernel⟩ ⟨Nat.le_of_ble_eq_true rfl, Nat.le_of_ble_eq_true rfl⟩ rfl hl.1 rfl (wcat4 (Nat.le_of_ble_eq_true rfl)) dX4_says_127 ⟨Nat.le_of_ble_eq_true rfl, Nat.le_of_ble_eq_true rfl⟩ (fun v_ w17 H locs hv hS => ?_)
      obtain ⟨rfl, h⟩ := hv
      refine lv_aload_n hx hb dX4_says_130 rfl (lv_at hl 0 rfl) ?_
      refine lv_iconst (v := 0) hx hb dX4_says_131 (by decide) ?_
      refine lv_iload_n hx hb dX4_says_132 rfl (lv_at hl 2 rfl) ?_
      refine lv_iconst (v := 1) hx hb dX4_says_133 (by decide) ?_
      refine lv_iconst (v := 0) hx hb dX4_says_134 (by decide) ?_
      obtain ⟨hob, h⟩ := h
      refine r_V C hS (ct_X4_step l Z w17 a0 0 l3 1 0 _ h) 4 24 hob ⟨by decide, by decide +kernel⟩ (lw_V q1611 q1613 qs49 q71 q1614) ⟨rfl, by decide, by decide, by decide +kernel⟩ ⟨Nat.le_of_ble_eq_true rfl, Nat.le_of_ble_eq_true rfl⟩ rfl hl.1 rfl (wcat4 (Nat.le_of_ble_eq_true rfl)) dX4_says_135 ⟨Nat.le_of_ble_eq_true rfl, Nat.le_of_ble_eq_true rfl⟩ (fun v_ w18 H locs hv hS => ?_)
      obtain ⟨rfl, h⟩ := hv
      refine lv_aload_n hx hb dX4_says_138 rfl (lv_at hl 0 rfl) ?_
      refine r_getG C hS h gk_62 q1366 dX4_says_139 (fun v19 h => ?_)
      refine lv_iconst (v := 0) hx hb dX4_says_142 (by decide) ?_
      refine r_iald C hS h dX4_says_143 (fun v20 h => ?_)
      exact r_iret C hS h rfl rfl (Nat.le_of_ble_eq_true rfl) (Nat.le_of_ble_eq_true rfl) dX4_says_144
    · refine lv_aload_n hx hb dX4_says_109 rfl (lv_at hl 0 rfl) ?_
      refine lv_iload_n hx hb dX4_says_110 rfl (lv_at hl 2 rfl) ?_
      obtain ⟨hob, h⟩ := h
      refine r_V C hS (ct_X4_a l Z w a0 l3 _ h) 1 24 hob ⟨by decide, by decide +kernel⟩ (lw_V q1599 q1601 qs46 q71 q1602) ⟨rfl, by decide, by decide, by decide +kernel⟩ ⟨Nat.le_of_ble_eq_true rfl, Nat.le_of_ble_eq_true rfl⟩ rfl hl.1 rfl (wcat4 (Nat.le_of_ble_eq_true rfl)) dX4_says_111 ⟨Nat.le_of_ble_eq_true rfl, Nat.le_of_ble_eq_true rfl⟩ (fun v_ w22 H locs hv hS => ?_)
      obtain ⟨v21, rfl, h⟩ := hv
      exact r_iret C hS h rfl rfl (Nat.le_of_ble_eq_true rfl) (Nat.le_of_ble_eq_true rfl) dX4_says_114
  · refine lv_aload_n hx hb dX4_says_98 rfl (lv_at hl 0 rfl) ?_
    refine lv_bipush (v := -3) hx hb dX4_says_99 (by decide) ?_
    obtain ⟨hob, h⟩ := h
    refine r_V C hS (ct_X4_refuse l Z w a0 (-3) _ h) 1 24 hob ⟨by decide, by decide +kernel⟩ (lw_V q1442 q1444 qs28 q71 q1445) ⟨rfl, by decide, by decide, by decide +kernel⟩ ⟨Nat.le_of_ble_eq_true rfl, Nat.le_of_ble_eq_true rfl⟩ rfl hl.1 rfl (wcat4 (Nat.le_of_ble_eq_true rfl)) dX4_says_101 ⟨Nat.le_of_ble_eq_true rfl, Nat.le_of_ble_eq_true rfl⟩ (fun v_ w24 H locs hv hS => ?_)
    obtain ⟨v23, rfl, h⟩ := hv
    exact r_iret C hS h rfl rfl (Nat.le_of_ble_eq_true rfl) (Nat.le_of_ble_eq_true rfl) dX4_says_104
set_option maxHeartbeats 4000000 in
theorem kb_X4_says_68 (C : wC p l s m args meth c cX4_says 5 (some .int) RX4 "says" Z A) (k : Int32 → Wd → Prop) (L68 : Wd → Nat → Int32 → Int32 → Int32 → Prop) (hL68 : ∀ (w : Wd) (x0 : Nat) (x2 : Int32) (x3 : Int32) (x4 : Int32) (H : Heap) (locs : List Loc) (ls : Array Slot), L68 w x0 x2 x3 x4 → wS Z A s w H locs → lv_has ls 5 [(0, .ref x0), (2, .int x2), (3, .int x3), (4, .int x4)] → W p l e ({ frames := 5, cells := 0, slots := 0, locals := 122 } : Room) s m args below meth c H locs 0 0 (MQ below (wQc Z A (pI k)) args s 0 0 A) (F0 m 68 ls [])) : ∀ (w : Wd) (a0 : Nat) (l2 : Int32) (l3 : Int32) (l4 : Int32) (H : Heap) (locs : List Loc) (ls : Array Slot), wb_X4_says_68 k L68 w a0 l2 l3 l4 → wS Z A s w H locs → lv_has ls 5 [(0, .ref a0), (2, .int l2), (3, .int l3), (4, .int l4)] → W p l e ({ frames := 5, cells := 0, slots := 0, locals := 122 } : Room) s m args below meth c H locs 0 0 (MQ below (wQc Z A (pI k)) args s 0 0 A) (F0 m 68 ls []) := by
  intro w a0 l2 l3 l4 H locs ls h hS hl
  have hx := C.hx
  have hb := C.hb
  unfold wb_X4_says_68 at h
  refine lv_iload hx hb dX4_says_68 (lv_at hl 3 rfl) ?_
  refine lv_iconst (v := -1) hx hb dX4_says_70 (by decide) ?_
  refine r_icmp_eq (tgt := 92) hx hb h dX4_says_71 (by decide) (fun h => ?_) (fun h => ?_)
  · exact kb_X4_says_92 C k w a0 l2 l3 l4 _ _ _ h hS (lv_sub hl [0, 1, 2, 3] rfl)
  · refine lv_iload hx hb dX4_says_74 (lv_at hl 3 rfl) ?_
    refine lv_iload_n hx hb dX4_says_76 rfl (lv_at hl 1 rfl) ?_
    refine r_icmp_eq (tgt := 92) hx hb h dX4_says_77 (by decide) (fun h => ?_) (fun h => ?_)
    · exact kb_X4_says_92 C k w a0 l2 l3 l4 _ _ _ h hS (lv_sub hl [0, 1, 2, 3] rfl)
    · refine lv_aload_n hx hb dX4_says_80 rfl (lv_at hl 0 rfl) ?_
      refine r_getG C hS h gk_72 q1377 dX4_says_81 (fun v25 h => ?_)
      refine lv_iload hx hb dX4_says_84 (lv_at hl 3 rfl) ?_
      refine r_iald C hS h dX4_says_86 (fun v26 h => ?_)
      refine lv_istore (i := 4) (lv' := [(4, .int v26), (0, .ref a0), (2, .int l2), (3, .int l3)]) hx hb dX4_says_87 hl (by decide) rfl (fun ls hl => ?_)
      refine lv_goto (tgt := 68) hx hb dX4_says_89 (by decide) ?_
      exact hL68 w a0 l2 l3 v26 _ _ _ h hS (lv_sub hl [1, 2, 3, 0] rfl)
set_option maxHeartbeats 4000000 in
theorem kl_X4_says_68 (C : wC p l s m args meth c cX4_says 5 (some .int) RX4 "says" Z A) (k : Int32 → Wd → Prop) : ∀ (n : Nat), ∀ (w : Wd) (a0 : Nat) (l2 : Int32) (l3 : Int32) (l4 : Int32) (H : Heap) (locs : List Loc) (ls : Array Slot), wl_X4_says_68 k n w a0 l2 l3 l4 → wS Z A s w H locs → lv_has ls 5 [(0, .ref a0), (2, .int l2), (3, .int l3), (4, .int l4)] → W p l e ({ frames := 5, cells := 0, slots := 0, locals := 122 } : Room) s m args below meth c H locs 0 0 (MQ below (wQc Z A (pI k)) args s 0 0 A) (F0 m 68 ls []) := by
  intro n
  induction n with
  | zero =>
    intro w a0 l2 l3 l4 H locs ls h
    exact h.elim
  | succ n ih =>
    intro w a0 l2 l3 l4 H locs ls h hS hl
    exact kb_X4_says_68 C k (wl_X4_says_68 k n) ih w a0 l2 l3 l4 H locs ls h hS hl
set_option maxHeartbeats 4000000 in
theorem ct_X4_says (l : Launch) (Z : wZ) (w : Wd) (a0 : Nat) (a1 : Int32) (a2 : Int32) (k : Int32 → Wd → Prop) (h : wp_X4_says w a0 a1 a2 k) : wMet l Z yX4_says cX4_says 5 (some .int) 5 122 0 0 [.ref a0, .int a1, .int a2] w (pI k) := by
  refine wM_of (by decide +kernel) (Nat.le_of_ble_eq_true rfl) ?_
  intro p e s m below meth c ls C hS hl
  replace C : wC p l s m _ meth c cX4_says 5 (some .int) RX4 "says" Z _ := C
  have hl : lv_has ls 5 [(0, .ref a0), (1, .int a1), (2, .int a2)] := hl
  have hx := C.hx
  have hb := C.hb
  unfold wp_X4_says at h
  generalize wA w = A at C hS ⊢
  refine lv_iload_n hx hb dX4_says_0 rfl (lv_at hl 1 rfl) ?_
  refine r_S C hS (ct_X4_isShelf l Z w a1 _ h) 1 (lw_S q1562 q1563 q71 q1564) ⟨by decide, by decide, by decide +kernel⟩ ⟨Nat.le_of_ble_eq_true rfl, Nat.le_of_ble_eq_true rfl⟩ rfl hl.1 rfl (wcat4 (Nat.le_of_ble_eq_true rfl)) dX4_says_1 ⟨Nat.le_of_ble_eq_true rfl, Nat.le_of_ble_eq_true rfl⟩ (fun v_ w2 H locs hv hS => ?_)
  obtain ⟨v1, rfl, h⟩ := hv
  refine r_if_eq (tgt := 19) hx hb h dX4_says_4 (by decide) (fun h => ?_) (fun h => ?_)
  · refine lv_aload_n hx hb dX4_says_19 rfl (lv_at hl 0 rfl) ?_
    refine lv_bipush (v := -2) hx hb dX4_says_20 (by decide) ?_
    obtain ⟨hob, h⟩ := h
    refine r_V C hS (ct_X4_refuse l Z w2 a0 (-2) _ h) 1 24 hob ⟨by decide, by decide +kernel⟩ (lw_V q1442 q1444 qs28 q71 q1445) ⟨rfl, by decide, by decide, by decide +kernel⟩ ⟨Nat.le_of_ble_eq_true rfl, Nat.le_of_ble_eq_true rfl⟩ rfl hl.1 rfl (wcat4 (Nat.le_of_ble_eq_true rfl)) dX4_says_22 ⟨Nat.le_of_ble_eq_true rfl, Nat.le_of_ble_eq_true rfl⟩ (fun v_ w4 H locs hv hS => ?_)
    obtain ⟨v3, rfl, h⟩ := hv
    exact r_iret C hS h rfl rfl (Nat.le_of_ble_eq_true rfl) (Nat.le_of_ble_eq_true rfl) dX4_says_25
  · refine lv_iload_n hx hb dX4_says_7 rfl (lv_at hl 2 rfl) ?_
    refine lv_i2l hx hb dX4_says_8 rfl ?_
    refine lv_lconst (v := 0) hx hb dX4_says_9 (by decide) ?_
    refine lv_ldc2 (v := 5) hx hb C.ow (C.hts _ q1473) dX4_says_10 ?_
    refine r_S C hS (ct_X4_isIn l Z w2 (a2.toInt64) 0 5 _ h) 3 (lw_S q1439 q1440 q71 q1441) ⟨by decide, by decide, by decide +kernel⟩ ⟨Nat.le_of_ble_eq_true rfl, Nat.le_of_ble_eq_true rfl⟩ rfl hl.1 rfl (wcat4 (Nat.le_of_ble_eq_true rfl)) dX4_says_13 ⟨Nat.le_of_ble_eq_true rfl, Nat.le_of_ble_eq_true rfl⟩ (fun v_ w6 H locs hv hS => ?_)
    obtain ⟨v5, rfl, h⟩ := hv
    refine r_if_ne (tgt := 26) hx hb h dX4_says_16 (by decide) (fun h => ?_) (fun h => ?_)
    · refine lv_aload_n hx hb dX4_says_26 rfl (lv_at hl 0 rfl) ?_
      refine r_getG C hS h gk_68 q1373 dX4_says_27 (fun v7 h => ?_)
      refine lv_iload_n hx hb dX4_says_30 rfl (lv_at hl 1 rfl) ?_
      refine r_iald C hS h dX4_says_31 (fun v8 h => ?_)
      refine lv_iconst (v := -1) hx hb dX4_says_32 (by decide) ?_
      refine r_icmp_ne (tgt := 43) hx hb h dX4_says_33 (by decide) (fun h => ?_) (fun h => ?_)
      · refine lv_aload_n hx hb dX4_says_43 rfl (lv_at hl 0 rfl) ?_
        refine r_getG C hS h gk_68 q1373 dX4_says_44 (fun v9 h => ?_)
        refine lv_iload_n hx hb dX4_says_47 rfl (lv_at hl 1 rfl) ?_
        refine r_iald C hS h dX4_says_48 (fun v10 h => ?_)
        refine lv_bipush (v := 10) hx hb dX4_says_49 (by decide) ?_
        refine lv_isub hx hb dX4_says_51 ?_
        refine lv_istore_n (i := 3) (lv' := [(3, .int (v10 - 10)), (0, .ref a0), (1, .int a1), (2, .int a2)]) hx hb dX4_says_52 rfl hl (by decide) rfl (fun ls hl => ?_)
        refine lv_iload_n hx hb dX4_says_53 rfl (lv_at hl 0 rfl) ?_
        refine r_if_ge (tgt := 61) hx hb h dX4_says_54 (by decide) (fun h => ?_) (fun h => ?_)
        · refine lv_aload_n hx hb dX4_says_61 rfl (lv_at hl 1 rfl) ?_
          refine lv_iload_n hx hb dX4_says_62 rfl (lv_at hl 0 rfl) ?_
          obtain ⟨hob, h⟩ := h
          refine r_V C hS (ct_X4_kind l Z w6 a0 (v10 - 10) _ h) 1 24 hob ⟨by decide, by decide +kernel⟩ (lw_V q1595 q1597 qs45 q71 q1598) ⟨rfl, by decide, by decide, by decide +kernel⟩ ⟨Nat.le_of_ble_eq_true rfl, Nat.le_of_ble_eq_true rfl⟩ rfl hl.1 rfl (wcat4 (Nat.le_of_ble_eq_true rfl)) dX4_says_63 ⟨Nat.le_of_ble_eq_true rfl, Nat.le_of_ble_eq_true rfl⟩ (fun v_ w12 H locs hv hS => ?_)
          obtain ⟨v11, rfl, h⟩ := hv
          refine lv_istore (i := 4) (lv' := [(4, .int v11), (3, .int (v10 - 10)), (0, .ref a0), (1, .int a1), (2, .int a2)]) hx hb dX4_says_66 hl (by decide) rfl (fun ls hl => ?_)
          exact kl_X4_says_68 C k FU w12 a0 a2 (v10 - 10) v11 _ _ _ h hS (lv_sub hl [2, 4, 1, 0] rfl)
        · refine lv_iconst (v := -1) hx hb dX4_says_57 (by decide) ?_
          refine lv_goto (tgt := 66) hx hb dX4_says_58 (by decide) ?_
          refine lv_istore (i := 4) (lv' := [(4, .int (-1)), (3, .int (v10 - 10)), (0, .ref a0), (1, .int a1), (2, .int a2)]) hx hb dX4_says_66 hl (by decide) rfl (fun ls hl => ?_)
          exact kl_X4_says_68 C k FU w6 a0 a2 (v10 - 10) (-1) _ _ _ h hS (lv_sub hl [2, 4, 1, 0] rfl)
      · refine lv_aload_n hx hb dX4_says_36 rfl (lv_at hl 0 rfl) ?_
        refine lv_bipush (v := -4) hx hb dX4_says_37 (by decide) ?_
        obtain ⟨hob, h⟩ := h
        refine r_V C hS (ct_X4_refuse l Z w6 a0 (-4) _ h) 1 24 hob ⟨by decide, by decide +kernel⟩ (lw_V q1442 q1444 qs28 q71 q1445) ⟨rfl, by decide, by decide, by decide +kernel⟩ ⟨Nat.le_of_ble_eq_true rfl, Nat.le_of_ble_eq_true rfl⟩ rfl hl.1 rfl (wcat4 (Nat.le_of_ble_eq_true rfl)) dX4_says_39 ⟨Nat.le_of_ble_eq_true rfl, Nat.le_of_ble_eq_true rfl⟩ (fun v_ w28 H locs hv hS => ?_)
        obtain ⟨v27, rfl, h⟩ := hv
        exact r_iret C hS h rfl rfl (Nat.le_of_ble_eq_true rfl) (Nat.le_of_ble_eq_true rfl) dX4_says_42
    · refine lv_aload_n hx hb dX4_says_19 rfl (lv_at hl 0 rfl) ?_
      refine lv_bipush (v := -2) hx hb dX4_says_20 (by decide) ?_
      obtain ⟨hob, h⟩ := h
      refine r_V C hS (ct_X4_refuse l Z w6 a0 (-2) _ h) 1 24 hob ⟨by decide, by decide +kernel⟩ (lw_V q1442 q1444 qs28 q71 q1445) ⟨rfl, by decide, by decide, by decide +kernel⟩ ⟨Nat.le_of_ble_eq_true rfl, Nat.le_of_ble_eq_true rfl⟩ rfl hl.1 rfl (wcat4 (Nat.le_of_ble_eq_true rfl)) dX4_says_22 ⟨Nat.le_of_ble_eq_true rfl, Nat.le_of_ble_eq_true rfl⟩ (fun v_ w30 H locs hv hS => ?_)
      obtain ⟨v29, rfl, h⟩ := hv
      exact r_iret C hS h rfl rfl (Nat.le_of_ble_eq_true rfl) (Nat.le_of_ble_eq_true rfl) dX4_says_25
end VX4_says
/-! LeftIsAgreedOnModel.load(II)I -/
section VX4_load
variable {p : Program} {l : Launch} {e : Env} {s : State} {m : MethodId} {args : Array Value} {below : List Frame} {meth : Method} {c : Code} {Z : wZ} {A : Nat → Prop}
set_option maxHeartbeats 4000000 in
theorem kb_X4_load_29 (C : wC p l s m args meth c cX4_load 4 (some .int) RX4 "load" Z A) (k : Int32 → Wd → Prop) (L29 : Wd → Nat → Int32 → Int32 → Int32 → Prop) (hL29 : ∀ (w : Wd) (x0 : Nat) (x1 : Int32) (x2 : Int32) (x3 : Int32) (H : Heap) (locs : List Loc) (ls : Array Slot), L29 w x0 x1 x2 x3 → wS Z A s w H locs → lv_has ls 4 [(0, .ref x0), (1, .int x1), (2, .int x2), (3, .int x3)] → W p l e ({ frames := 1, cells := 0, slots := 0, locals := 25 } : Room) s m args below meth c H locs 0 0 (MQ below (wQc Z A (pI k)) args s 0 0 A) (F0 m 29 ls [])) : ∀ (w : Wd) (a0 : Nat) (l1 : Int32) (l2 : Int32) (l3 : Int32) (H : Heap) (locs : List Loc) (ls : Array Slot), wb_X4_load_29 k L29 w a0 l1 l2 l3 → wS Z A s w H locs → lv_has ls 4 [(0, .ref a0), (1, .int l1), (2, .int l2), (3, .int l3)] → W p l e ({ frames := 1, cells := 0, slots := 0, locals := 25 } : Room) s m args below meth c H locs 0 0 (MQ below (wQc Z A (pI k)) args s 0 0 A) (F0 m 29 ls []) := by
  intro w a0 l1 l2 l3 H locs ls h hS hl
  have hx := C.hx
  have hb := C.hb
  unfold wb_X4_load_29 at h
  refine lv_iload_n hx hb dX4_load_29 rfl (lv_at hl 3 rfl) ?_
  refine lv_iload_n hx hb dX4_load_30 rfl (lv_at hl 2 rfl) ?_
  refine r_icmp_ge (tgt := 82) hx hb h dX4_load_31 (by decide) (fun h => ?_) (fun h => ?_)
  · refine lv_iconst (v := 1) hx hb dX4_load_82 (by decide) ?_
    exact r_iret C hS h rfl rfl (Nat.le_of_ble_eq_true rfl) (Nat.le_of_ble_eq_true rfl) dX4_load_83
  · refine lv_aload_n hx hb dX4_load_34 rfl (lv_at hl 0 rfl) ?_
    refine r_getG C hS h gk_70 q1375 dX4_load_35 (fun v5 h => ?_)
    refine lv_bipush (v := 40) hx hb dX4_load_38 (by decide) ?_
    refine lv_iload_n hx hb dX4_load_40 rfl (lv_at hl 1 rfl) ?_
    refine lv_imul hx hb dX4_load_41 ?_
    refine lv_iload_n hx hb dX4_load_42 rfl (lv_at hl 3 rfl) ?_
    refine lv_iadd hx hb dX4_load_43 ?_
    refine r_lald C hS h dX4_load_44 (fun v6 h => ?_)
    refine lv_lconst (v := 0) hx hb dX4_load_45 (by decide) ?_
    refine lv_ldc2 (v := 3) hx hb C.ow (C.hts _ q1475) dX4_load_46 ?_
    refine r_S C hS (ct_X4_isIn l Z w v6 0 3 _ h) 3 (lw_S q1439 q1440 q71 q1441) ⟨by decide, by decide, by decide +kernel⟩ ⟨Nat.le_of_ble_eq_true rfl, Nat.le_of_ble_eq_true rfl⟩ rfl hl.1 rfl (wcat4 (Nat.le_of_ble_eq_true rfl)) dX4_load_49 ⟨Nat.le_of_ble_eq_true rfl, Nat.le_of_ble_eq_true rfl⟩ (fun v_ w8 H locs hv hS => ?_)
    obtain ⟨v7, rfl, h⟩ := hv
    refine r_if_ne (tgt := 58) hx hb h dX4_load_52 (by decide) (fun h => ?_) (fun h => ?_)
    · refine lv_aload_n hx hb dX4_load_58 rfl (lv_at hl 0 rfl) ?_
      refine r_getG C hS h gk_67 q1372 dX4_load_59 (fun v9 h => ?_)
      refine lv_iload_n hx hb dX4_load_62 rfl (lv_at hl 3 rfl) ?_
      refine lv_aload_n hx hb dX4_load_63 rfl (lv_at hl 0 rfl) ?_
      refine r_getG C hS h gk_70 q1375 dX4_load_64 (fun v10 h => ?_)
      refine lv_bipush (v := 40) hx hb dX4_load_67 (by decide) ?_
      refine lv_iload_n hx hb dX4_load_69 rfl (lv_at hl 1 rfl) ?_
      refine lv_imul hx hb dX4_load_70 ?_
      refine lv_iload_n hx hb dX4_load_71 rfl (lv_at hl 3 rfl) ?_
      refine lv_iadd hx hb dX4_load_72 ?_
      refine r_lald C hS h dX4_load_73 (fun v11 h => ?_)
      refine lv_l2i hx hb dX4_load_74 rfl ?_
      refine r_iast C hS h dX4_load_75 (fun w12 H locs h hS => ?_)
      refine lv_iinc (i := 3) (v := (l3 + 1)) (lv' := [(3, .int (l3 + 1)), (0, .ref a0), (1, .int l1), (2, .int l2)]) hx hb dX4_load_76 hl (k := 3) rfl rfl (by decide) rfl (fun ls hl => ?_)
      refine lv_goto (tgt := 29) hx hb dX4_load_79 (by decide) ?_
      exact hL29 w12 a0 l1 l2 (l3 + 1) _ _ _ h hS (lv_sub hl [1, 2, 3, 0] rfl)
    · refine lv_bipush (v := -5) hx hb dX4_load_55 (by decide) ?_
      exact r_iret C hS h rfl rfl (Nat.le_of_ble_eq_true rfl) (Nat.le_of_ble_eq_true rfl) dX4_load_57
set_option maxHeartbeats 4000000 in
theorem kl_X4_load_29 (C : wC p l s m args meth c cX4_load 4 (some .int) RX4 "load" Z A) (k : Int32 → Wd → Prop) : ∀ (n : Nat), ∀ (w : Wd) (a0 : Nat) (l1 : Int32) (l2 : Int32) (l3 : Int32) (H : Heap) (locs : List Loc) (ls : Array Slot), wl_X4_load_29 k n w a0 l1 l2 l3 → wS Z A s w H locs → lv_has ls 4 [(0, .ref a0), (1, .int l1), (2, .int l2), (3, .int l3)] → W p l e ({ frames := 1, cells := 0, slots := 0, locals := 25 } : Room) s m args below meth c H locs 0 0 (MQ below (wQc Z A (pI k)) args s 0 0 A) (F0 m 29 ls []) := by
  intro n
  induction n with
  | zero =>
    intro w a0 l1 l2 l3 H locs ls h
    exact h.elim
  | succ n ih =>
    intro w a0 l1 l2 l3 H locs ls h hS hl
    exact kb_X4_load_29 C k (wl_X4_load_29 k n) ih w a0 l1 l2 l3 H locs ls h hS hl
set_option maxHeartbeats 4000000 in
theorem ct_X4_load (l : Launch) (Z : wZ) (w : Wd) (a0 : Nat) (a1 : Int32) (a2 : Int32) (k : Int32 → Wd → Prop) (h : wp_X4_load w a0 a1 a2 k) : wMet l Z yX4_load cX4_load 4 (some .int) 1 25 0 0 [.ref a0, .int a1, .int a2] w (pI k) := by
  refine wM_of (by decide +kernel) (Nat.le_of_ble_eq_true rfl) ?_
  intro p e s m below meth c ls C hS hl
  replace C : wC p l s m _ meth c cX4_load 4 (some .int) RX4 "load" Z _ := C
  have hl : lv_has ls 4 [(0, .ref a0), (1, .int a1), (2, .int a2)] := hl
  have hx := C.hx
  have hb := C.hb
  unfold wp_X4_load at h
  generalize wA w = A at C hS ⊢
  refine lv_aload_n hx hb dX4_load_0 rfl (lv_at hl 0 rfl) ?_
  refine lv_iload_n hx hb dX4_load_1 rfl (lv_at hl 1 rfl) ?_
  obtain ⟨hob, h⟩ := h
  refine r_V C hS (ct_X4_rowIn l Z w a0 a1 _ h) 1 24 hob ⟨by decide, by decide +kernel⟩ (lw_V q1571 q1573 qs44 q71 q1574) ⟨rfl, by decide, by decide, by decide +kernel⟩ ⟨Nat.le_of_ble_eq_true rfl, Nat.le_of_ble_eq_true rfl⟩ rfl hl.1 rfl (wcat4 (Nat.le_of_ble_eq_true rfl)) dX4_load_2 ⟨Nat.le_of_ble_eq_true rfl, Nat.le_of_ble_eq_true rfl⟩ (fun v_ w2 H locs hv hS => ?_)
  obtain ⟨v1, rfl, h⟩ := hv
  refine r_if_ge (tgt := 14) hx hb h dX4_load_5 (by decide) (fun h => ?_) (fun h => ?_)
  · refine lv_iload_n hx hb dX4_load_14 rfl (lv_at hl 2 rfl) ?_
    refine lv_aload_n hx hb dX4_load_15 rfl (lv_at hl 0 rfl) ?_
    refine r_getG C hS h gk_69 q1374 dX4_load_16 (fun v3 h => ?_)
    refine lv_iload_n hx hb dX4_load_19 rfl (lv_at hl 1 rfl) ?_
    refine r_iald C hS h dX4_load_20 (fun v4 h => ?_)
    refine r_icmp_le (tgt := 27) hx hb h dX4_load_21 (by decide) (fun h => ?_) (fun h => ?_)
    · refine lv_iconst (v := 0) hx hb dX4_load_27 (by decide) ?_
      refine lv_istore_n (i := 3) (lv' := [(3, .int 0), (0, .ref a0), (1, .int a1), (2, .int a2)]) hx hb dX4_load_28 rfl hl (by decide) rfl (fun ls hl => ?_)
      exact kl_X4_load_29 C k FU w2 a0 a1 a2 0 _ _ _ h hS (lv_sub hl [1, 2, 3, 0] rfl)
    · refine lv_bipush (v := -2) hx hb dX4_load_24 (by decide) ?_
      exact r_iret C hS h rfl rfl (Nat.le_of_ble_eq_true rfl) (Nat.le_of_ble_eq_true rfl) dX4_load_26
  · refine lv_aload_n hx hb dX4_load_8 rfl (lv_at hl 0 rfl) ?_
    refine lv_iload_n hx hb dX4_load_9 rfl (lv_at hl 1 rfl) ?_
    obtain ⟨hob, h⟩ := h
    refine r_V C hS (ct_X4_rowIn l Z w2 a0 a1 _ h) 1 24 hob ⟨by decide, by decide +kernel⟩ (lw_V q1571 q1573 qs44 q71 q1574) ⟨rfl, by decide, by decide, by decide +kernel⟩ ⟨Nat.le_of_ble_eq_true rfl, Nat.le_of_ble_eq_true rfl⟩ rfl hl.1 rfl (wcat4 (Nat.le_of_ble_eq_true rfl)) dX4_load_10 ⟨Nat.le_of_ble_eq_true rfl, Nat.le_of_ble_eq_true rfl⟩ (fun v_ w14 H locs hv hS => ?_)
    obtain ⟨v13, rfl, h⟩ := hv
    exact r_iret C hS h rfl rfl (Nat.le_of_ble_eq_true rfl) (Nat.le_of_ble_eq_true rfl) dX4_load_13
end VX4_load
/-! LeftIsAgreedOnModel.loadIf(ZII)I -/
section VX4_loadIf
variable {p : Program} {l : Launch} {e : Env} {s : State} {m : MethodId} {args : Array Value} {below : List Frame} {meth : Method} {c : Code} {Z : wZ} {A : Nat → Prop}
set_option maxHeartbeats 4000000 in
theorem ct_X4_loadIf (l : Launch) (Z : wZ) (w : Wd) (a0 : Nat) (a1 : Int32) (a2 : Int32) (a3 : Int32) (k : Int32 → Wd → Prop) (h : wp_X4_loadIf w a0 a1 a2 a3 k) : wMet l Z yX4_loadIf cX4_loadIf 4 (some .int) 2 48 0 0 [.ref a0, .int a1, .int a2, .int a3] w (pI k) := by
  refine wM_of (by decide +kernel) (Nat.le_of_ble_eq_true rfl) ?_
  intro p e s m below meth c ls C hS hl
  replace C : wC p l s m _ meth c cX4_loadIf 4 (some .int) RX4 "loadIf" Z _ := C
  have hl : lv_has ls 4 [(0, .ref a0), (1, .int a1), (2, .int a2), (3, .int a3)] := hl
  have hx := C.hx
  have hb := C.hb
  unfold wp_X4_loadIf at h
  generalize wA w = A at C hS ⊢
  refine lv_iload_n hx hb dX4_loadIf_0 rfl (lv_at hl 2 rfl) ?_
  refine r_S C hS (ct_X4_isShelf l Z w a2 _ h) 1 (lw_S q1562 q1563 q71 q1564) ⟨by decide, by decide, by decide +kernel⟩ ⟨Nat.le_of_ble_eq_true rfl, Nat.le_of_ble_eq_true rfl⟩ rfl hl.1 rfl (wcat4 (Nat.le_of_ble_eq_true rfl)) dX4_loadIf_1 ⟨Nat.le_of_ble_eq_true rfl, Nat.le_of_ble_eq_true rfl⟩ (fun v_ w2 H locs hv hS => ?_)
  obtain ⟨v1, rfl, h⟩ := hv
  refine r_if_eq (tgt := 23) hx hb h dX4_loadIf_4 (by decide) (fun h => ?_) (fun h => ?_)
  · refine lv_bipush (v := -2) hx hb dX4_loadIf_23 (by decide) ?_
    refine lv_goto (tgt := 34) hx hb dX4_loadIf_25 (by decide) ?_
    exact r_iret C hS h rfl rfl (Nat.le_of_ble_eq_true rfl) (Nat.le_of_ble_eq_true rfl) dX4_loadIf_34
  · refine lv_iload_n hx hb dX4_loadIf_7 rfl (lv_at hl 3 rfl) ?_
    refine lv_i2l hx hb dX4_loadIf_8 rfl ?_
    refine lv_lconst (v := 0) hx hb dX4_loadIf_9 (by decide) ?_
    refine lv_ldc2 (v := 40) hx hb C.ow (C.hts _ q1566) dX4_loadIf_10 ?_
    refine r_S C hS (ct_X4_isIn l Z w2 (a3.toInt64) 0 40 _ h) 3 (lw_S q1439 q1440 q71 q1441) ⟨by decide, by decide, by decide +kernel⟩ ⟨Nat.le_of_ble_eq_true rfl, Nat.le_of_ble_eq_true rfl⟩ rfl hl.1 rfl (wcat4 (Nat.le_of_ble_eq_true rfl)) dX4_loadIf_13 ⟨Nat.le_of_ble_eq_true rfl, Nat.le_of_ble_eq_true rfl⟩ (fun v_ w4 H locs hv hS => ?_)
    obtain ⟨v3, rfl, h⟩ := hv
    refine r_if_eq (tgt := 23) hx hb h dX4_loadIf_16 (by decide) (fun h => ?_) (fun h => ?_)
    · refine lv_bipush (v := -2) hx hb dX4_loadIf_23 (by decide) ?_
      refine lv_goto (tgt := 34) hx hb dX4_loadIf_25 (by decide) ?_
      exact r_iret C hS h rfl rfl (Nat.le_of_ble_eq_true rfl) (Nat.le_of_ble_eq_true rfl) dX4_loadIf_34
    · refine lv_iload_n hx hb dX4_loadIf_19 rfl (lv_at hl 1 rfl) ?_
      refine r_if_ne (tgt := 28) hx hb h dX4_loadIf_20 (by decide) (fun h => ?_) (fun h => ?_)
      · refine lv_aload_n hx hb dX4_loadIf_28 rfl (lv_at hl 0 rfl) ?_
        refine lv_iload_n hx hb dX4_loadIf_29 rfl (lv_at hl 2 rfl) ?_
        refine lv_iload_n hx hb dX4_loadIf_30 rfl (lv_at hl 3 rfl) ?_
        obtain ⟨hob, h⟩ := h
        refine r_V C hS (ct_X4_load l Z w4 a0 a2 a3 _ h) 2 24 hob ⟨by decide, by decide +kernel⟩ (lw_V q1635 q1637 qs54 q71 q1638) ⟨rfl, by decide, by decide, by decide +kernel⟩ ⟨Nat.le_of_ble_eq_true rfl, Nat.le_of_ble_eq_true rfl⟩ rfl hl.1 rfl (wcat4 (Nat.le_of_ble_eq_true rfl)) dX4_loadIf_31 ⟨Nat.le_of_ble_eq_true rfl, Nat.le_of_ble_eq_true rfl⟩ (fun v_ w6 H locs hv hS => ?_)
        obtain ⟨v5, rfl, h⟩ := hv
        exact r_iret C hS h rfl rfl (Nat.le_of_ble_eq_true rfl) (Nat.le_of_ble_eq_true rfl) dX4_loadIf_34
      · refine lv_bipush (v := -2) hx hb dX4_loadIf_23 (by decide) ?_
        refine lv_goto (tgt := 34) hx hb dX4_loadIf_25 (by decide) ?_
        exact r_iret C hS h rfl rfl (Nat.le_of_ble_eq_true rfl) (Nat.le_of_ble_eq_true rfl) dX4_loadIf_34
end VX4_loadIf
/-! LeftIsAgreedOnModel.go(II)V -/
section VX4_go
variable {p : Program} {l : Launch} {e : Env} {s : State} {m : MethodId} {args : Array Value} {below : List Frame} {meth : Method} {c : Code} {Z : wZ} {A : Nat → Prop}
set_option maxHeartbeats 4000000 in
theorem kb_X4_go_17 (C : wC p l s m args meth c cX4_go 4 none RX4 "go" Z A) (k : Wd → Prop) (L17 : Wd → Nat → Int32 → Int32 → Int32 → Prop) (hL17 : ∀ (w : Wd) (x0 : Nat) (x1 : Int32) (x2 : Int32) (x3 : Int32) (H : Heap) (locs : List Loc) (ls : Array Slot), L17 w x0 x1 x2 x3 → wS Z A s w H locs → lv_has ls 4 [(0, .ref x0), (1, .int x1), (2, .int x2), (3, .int x3)] → W p l e ({ frames := 5, cells := 0, slots := 0, locals := 122 } : Room) s m args below meth c H locs 0 0 (MQ below (wQc Z A (pV k)) args s 0 0 A) (F0 m 17 ls [])) : ∀ (w : Wd) (a0 : Nat) (l1 : Int32) (l2 : Int32) (l3 : Int32) (H : Heap) (locs : List Loc) (ls : Array Slot), wb_X4_go_17 k L17 w a0 l1 l2 l3 → wS Z A s w H locs → lv_has ls 4 [(0, .ref a0), (1, .int l1), (2, .int l2), (3, .int l3)] → W p l e ({ frames := 5, cells := 0, slots := 0, locals := 122 } : Room) s m args below meth c H locs 0 0 (MQ below (wQc Z A (pV k)) args s 0 0 A) (F0 m 17 ls []) := by
  intro w a0 l1 l2 l3 H locs ls h hS hl
  have hx := C.hx
  have hb := C.hb
  unfold wb_X4_go_17 at h
  refine lv_iload_n hx hb dX4_go_17 rfl (lv_at hl 3 rfl) ?_
  refine lv_iload_n hx hb dX4_go_18 rfl (lv_at hl 2 rfl) ?_
  refine r_icmp_ge (tgt := 41) hx hb h dX4_go_19 (by decide) (fun h => ?_) (fun h => ?_)
  · exact r_vret C hS h rfl (Nat.le_of_ble_eq_true rfl) (Nat.le_of_ble_eq_true rfl) dX4_go_41
  · refine lv_aload_n hx hb dX4_go_22 rfl (lv_at hl 0 rfl) ?_
    refine lv_iconst (v := 0) hx hb dX4_go_23 (by decide) ?_
    refine lv_iload_n hx hb dX4_go_24 rfl (lv_at hl 1 rfl) ?_
    refine lv_aload_n hx hb dX4_go_25 rfl (lv_at hl 0 rfl) ?_
    refine r_getG C hS h gk_67 q1372 dX4_go_26 (fun v6 h => ?_)
    refine lv_iload_n hx hb dX4_go_29 rfl (lv_at hl 3 rfl) ?_
    refine r_iald C hS h dX4_go_30 (fun v7 h => ?_)
    refine lv_iload_n hx hb dX4_go_31 rfl (lv_at hl 3 rfl) ?_
    obtain ⟨hob, h⟩ := h
    refine r_V C hS (ct_X4_step l Z w a0 0 l1 v7 l3 _ h) 4 24 hob ⟨by decide, by decide +kernel⟩ (lw_V q1611 q1613 qs49 q71 q1614) ⟨rfl, by decide, by decide, by decide +kernel⟩ ⟨Nat.le_of_ble_eq_true rfl, Nat.le_of_ble_eq_true rfl⟩ rfl hl.1 rfl (wcat4 (Nat.le_of_ble_eq_true rfl)) dX4_go_32 ⟨Nat.le_of_ble_eq_true rfl, Nat.le_of_ble_eq_true rfl⟩ (fun v_ w8 H locs hv hS => ?_)
    obtain ⟨rfl, h⟩ := hv
    refine lv_iinc (i := 3) (v := (l3 + 1)) (lv' := [(3, .int (l3 + 1)), (0, .ref a0), (1, .int l1), (2, .int l2)]) hx hb dX4_go_35 hl (k := 3) rfl rfl (by decide) rfl (fun ls hl => ?_)
    refine lv_goto (tgt := 17) hx hb dX4_go_38 (by decide) ?_
    exact hL17 w8 a0 l1 l2 (l3 + 1) _ _ _ h hS (lv_sub hl [1, 2, 3, 0] rfl)
set_option maxHeartbeats 4000000 in
theorem kl_X4_go_17 (C : wC p l s m args meth c cX4_go 4 none RX4 "go" Z A) (k : Wd → Prop) : ∀ (n : Nat), ∀ (w : Wd) (a0 : Nat) (l1 : Int32) (l2 : Int32) (l3 : Int32) (H : Heap) (locs : List Loc) (ls : Array Slot), wl_X4_go_17 k n w a0 l1 l2 l3 → wS Z A s w H locs → lv_has ls 4 [(0, .ref a0), (1, .int l1), (2, .int l2), (3, .int l3)] → W p l e ({ frames := 5, cells := 0, slots := 0, locals := 122 } : Room) s m args below meth c H locs 0 0 (MQ below (wQc Z A (pV k)) args s 0 0 A) (F0 m 17 ls []) := by
  intro n
  induction n with
  | zero =>
    intro w a0 l1 l2 l3 H locs ls h
    exact h.elim
  | succ n ih =>
    intro w a0 l1 l2 l3 H locs ls h hS hl
    exact kb_X4_go_17 C k (wl_X4_go_17 k n) ih w a0 l1 l2 l3 H locs ls h hS hl
set_option maxHeartbeats 4000000 in
theorem ct_X4_go (l : Launch) (Z : wZ) (w : Wd) (a0 : Nat) (a1 : Int32) (a2 : Int32) (k : Wd → Prop) (h : wp_X4_go w a0 a1 a2 k) : wMet l Z yX4_go cX4_go 4 none 5 122 0 0 [.ref a0, .int a1, .int a2] w (pV k) := by
  refine wM_of (by decide +kernel) (Nat.le_of_ble_eq_true rfl) ?_
  intro p e s m below meth c ls C hS hl
  replace C : wC p l s m _ meth c cX4_go 4 none RX4 "go" Z _ := C
  have hl : lv_has ls 4 [(0, .ref a0), (1, .int a1), (2, .int a2)] := hl
  have hx := C.hx
  have hb := C.hb
  unfold wp_X4_go at h
  generalize wA w = A at C hS ⊢
  refine lv_aload_n hx hb dX4_go_0 rfl (lv_at hl 0 rfl) ?_
  refine lv_iconst (v := 0) hx hb dX4_go_1 (by decide) ?_
  refine lv_aload_n hx hb dX4_go_2 rfl (lv_at hl 0 rfl) ?_
  refine lv_iload_n hx hb dX4_go_3 rfl (lv_at hl 1 rfl) ?_
  obtain ⟨hob, h⟩ := h
  refine r_V C hS (ct_X4_cell l Z w a0 a1 _ h) 1 24 hob ⟨by decide, by decide +kernel⟩ (lw_V q1462 q1464 qs32 q71 q1465) ⟨rfl, by decide, by decide, by decide +kernel⟩ ⟨Nat.le_of_ble_eq_true rfl, Nat.le_of_ble_eq_true rfl⟩ rfl hl.1 rfl (wcat4 (Nat.le_of_ble_eq_true rfl)) dX4_go_4 ⟨Nat.le_of_ble_eq_true rfl, Nat.le_of_ble_eq_true rfl⟩ (fun v_ w2 H locs hv hS => ?_)
  obtain ⟨v1, rfl, h⟩ := hv
  refine lv_aload_n hx hb dX4_go_7 rfl (lv_at hl 0 rfl) ?_
  refine lv_iload_n hx hb dX4_go_8 rfl (lv_at hl 1 rfl) ?_
  obtain ⟨hob, h⟩ := h
  refine r_V C hS (ct_X4_faces l Z w2 a0 a1 _ h) 1 24 hob ⟨by decide, by decide +kernel⟩ (lw_V q1603 q1605 qs47 q71 q1606) ⟨rfl, by decide, by decide, by decide +kernel⟩ ⟨Nat.le_of_ble_eq_true rfl, Nat.le_of_ble_eq_true rfl⟩ rfl hl.1 rfl (wcat4 (Nat.le_of_ble_eq_true rfl)) dX4_go_9 ⟨Nat.le_of_ble_eq_true rfl, Nat.le_of_ble_eq_true rfl⟩ (fun v_ w4 H locs hv hS => ?_)
  obtain ⟨v3, rfl, h⟩ := hv
  obtain ⟨hob, h⟩ := h
  refine r_V C hS (ct_X4_start l Z w4 a0 0 v1 v3 _ h) 3 24 hob ⟨by decide, by decide +kernel⟩ (lw_V q1607 q1609 qs48 q71 q1610) ⟨rfl, by decide, by decide, by decide +kernel⟩ ⟨Nat.le_of_ble_eq_true rfl, Nat.le_of_ble_eq_true rfl⟩ rfl hl.1 rfl (wcat4 (Nat.le_of_ble_eq_true rfl)) dX4_go_12 ⟨Nat.le_of_ble_eq_true rfl, Nat.le_of_ble_eq_true rfl⟩ (fun v_ w5 H locs hv hS => ?_)
  obtain ⟨rfl, h⟩ := hv
  refine lv_iconst (v := 0) hx hb dX4_go_15 (by decide) ?_
  refine lv_istore_n (i := 3) (lv' := [(3, .int 0), (0, .ref a0), (1, .int a1), (2, .int a2)]) hx hb dX4_go_16 rfl hl (by decide) rfl (fun ls hl => ?_)
  exact kl_X4_go_17 C k FU w5 a0 a1 a2 0 _ _ _ h hS (lv_sub hl [1, 2, 3, 0] rfl)
end VX4_go
/-! LeftIsAgreedOnModel.comes(IIII)I -/
section VX4_comes
variable {p : Program} {l : Launch} {e : Env} {s : State} {m : MethodId} {args : Array Value} {below : List Frame} {meth : Method} {c : Code} {Z : wZ} {A : Nat → Prop}
set_option maxHeartbeats 4000000 in
theorem kb_X4_comes_27 (C : wC p l s m args meth c cX4_comes 6 (some .int) RX4 "comes" Z A) (k : Int32 → Wd → Prop) : ∀ (w : Wd) (a0 : Nat) (l1 : Int32) (l2 : Int32) (l3 : Int32) (l4 : Int32) (s0 : Option Nat) (s1 : Int32) (H : Heap) (locs : List Loc) (ls : Array Slot), wb_X4_comes_27 k w a0 l1 l2 l3 l4 s0 s1 → wS Z A s w H locs → lv_has ls 6 [(0, .ref a0), (1, .int l1), (2, .int l2), (3, .int l3), (4, .int l4)] → W p l e ({ frames := 6, cells := 0, slots := 0, locals := 145 } : Room) s m args below meth c H locs 0 0 (MQ below (wQc Z A (pI k)) args s 0 0 A) (F0 m 27 ls [.int s1, va_rf s0]) := by
  intro w a0 l1 l2 l3 l4 s0 s1 H locs ls h hS hl
  have hx := C.hx
  have hb := C.hb
  unfold wb_X4_comes_27 at h
  refine lv_iload_n hx hb dX4_comes_27 rfl (lv_at hl 1 rfl) ?_
  refine lv_iload_n hx hb dX4_comes_28 rfl (lv_at hl 2 rfl) ?_
  obtain ⟨b5, hb_, h⟩ := wnn_spec h
  cases hb_
  obtain ⟨hob, h⟩ := h
  refine r_V C hS (ct_X4_loadIf l Z w b5 s1 l1 l2 _ h) 3 24 hob ⟨by decide, by decide +kernel⟩ (lw_V q1631 q1633 qs53 q71 q1634) ⟨rfl, by decide, by decide, by decide +kernel⟩ ⟨Nat.le_of_ble_eq_true rfl, Nat.le_of_ble_eq_true rfl⟩ rfl hl.1 rfl (wcat4 (Nat.le_of_ble_eq_true rfl)) dX4_comes_29 ⟨Nat.le_of_ble_eq_true rfl, Nat.le_of_ble_eq_true rfl⟩ (fun v_ w4 H locs hv hS => ?_)
  obtain ⟨v3, rfl, h⟩ := hv
  refine lv_istore (i := 5) (lv' := [(5, .int v3), (0, .ref a0), (1, .int l1), (2, .int l2), (3, .int l3), (4, .int l4)]) hx hb dX4_comes_32 hl (by decide) rfl (fun ls hl => ?_)
  refine lv_iload hx hb dX4_comes_34 (lv_at hl 0 rfl) ?_
  refine r_if_ge (tgt := 46) hx hb h dX4_comes_36 (by decide) (fun h => ?_) (fun h => ?_)
  · refine lv_aload_n hx hb dX4_comes_46 rfl (lv_at hl 1 rfl) ?_
    refine lv_iload_n hx hb dX4_comes_47 rfl (lv_at hl 4 rfl) ?_
    refine lv_iload_n hx hb dX4_comes_48 rfl (lv_at hl 3 rfl) ?_
    obtain ⟨hob, h⟩ := h
    refine r_V C hS (ct_X4_go l Z w4 a0 l3 l2 _ h) 2 24 hob ⟨by decide, by decide +kernel⟩ (lw_V q1639 q1641 qs55 q71 q1642) ⟨rfl, by decide, by decide, by decide +kernel⟩ ⟨Nat.le_of_ble_eq_true rfl, Nat.le_of_ble_eq_true rfl⟩ rfl hl.1 rfl (wcat4 (Nat.le_of_ble_eq_true rfl)) dX4_comes_49 ⟨Nat.le_of_ble_eq_true rfl, Nat.le_of_ble_eq_true rfl⟩ (fun v_ w6 H locs hv hS => ?_)
    obtain ⟨rfl, h⟩ := hv
    refine lv_iload hx hb dX4_comes_52 (lv_at hl 5 rfl) ?_
    refine r_if_ne (tgt := 66) hx hb h dX4_comes_54 (by decide) (fun h => ?_) (fun h => ?_)
    · refine lv_iload hx hb dX4_comes_66 (lv_at hl 5 rfl) ?_
      refine lv_iconst (v := 1) hx hb dX4_comes_68 (by decide) ?_
      refine r_icmp_ne (tgt := 81) hx hb h dX4_comes_69 (by decide) (fun h => ?_) (fun h => ?_)
      · refine lv_aload_n hx hb dX4_comes_81 rfl (lv_at hl 1 rfl) ?_
        refine r_getG C hS h gk_66 q1370 dX4_comes_82 (fun v7 h => ?_)
        refine lv_iconst (v := 0) hx hb dX4_comes_85 (by decide) ?_
        refine r_iald C hS h dX4_comes_86 (fun v8 h => ?_)
        exact r_iret C hS h rfl rfl (Nat.le_of_ble_eq_true rfl) (Nat.le_of_ble_eq_true rfl) dX4_comes_87
      · refine lv_aload_n hx hb dX4_comes_72 rfl (lv_at hl 1 rfl) ?_
        refine r_getG C hS h gk_62 q1366 dX4_comes_73 (fun v9 h => ?_)
        refine lv_iconst (v := 0) hx hb dX4_comes_76 (by decide) ?_
        refine r_iald C hS h dX4_comes_77 (fun v10 h => ?_)
        refine lv_goto (tgt := 87) hx hb dX4_comes_78 (by decide) ?_
        exact r_iret C hS h rfl rfl (Nat.le_of_ble_eq_true rfl) (Nat.le_of_ble_eq_true rfl) dX4_comes_87
    · refine lv_aload_n hx hb dX4_comes_57 rfl (lv_at hl 1 rfl) ?_
      refine r_getG C hS h gk_61 q1365 dX4_comes_58 (fun v11 h => ?_)
      refine lv_iconst (v := 0) hx hb dX4_comes_61 (by decide) ?_
      refine r_iald C hS h dX4_comes_62 (fun v12 h => ?_)
      refine lv_goto (tgt := 87) hx hb dX4_comes_63 (by decide) ?_
      exact r_iret C hS h rfl rfl (Nat.le_of_ble_eq_true rfl) (Nat.le_of_ble_eq_true rfl) dX4_comes_87
  · refine lv_aload_n hx hb dX4_comes_39 rfl (lv_at hl 1 rfl) ?_
    refine lv_iload hx hb dX4_comes_40 (lv_at hl 0 rfl) ?_
    obtain ⟨hob, h⟩ := h
    refine r_V C hS (ct_X4_refuse l Z w4 a0 v3 _ h) 1 24 hob ⟨by decide, by decide +kernel⟩ (lw_V q1442 q1444 qs28 q71 q1445) ⟨rfl, by decide, by decide, by decide +kernel⟩ ⟨Nat.le_of_ble_eq_true rfl, Nat.le_of_ble_eq_true rfl⟩ rfl hl.1 rfl (wcat4 (Nat.le_of_ble_eq_true rfl)) dX4_comes_42 ⟨Nat.le_of_ble_eq_true rfl, Nat.le_of_ble_eq_true rfl⟩ (fun v_ w14 H locs hv hS => ?_)
    obtain ⟨v13, rfl, h⟩ := hv
    exact r_iret C hS h rfl rfl (Nat.le_of_ble_eq_true rfl) (Nat.le_of_ble_eq_true rfl) dX4_comes_45
set_option maxHeartbeats 4000000 in
theorem kb_X4_comes_26 (C : wC p l s m args meth c cX4_comes 6 (some .int) RX4 "comes" Z A) (k : Int32 → Wd → Prop) : ∀ (w : Wd) (a0 : Nat) (l1 : Int32) (l2 : Int32) (l3 : Int32) (l4 : Int32) (s0 : Option Nat) (H : Heap) (locs : List Loc) (ls : Array Slot), wb_X4_comes_26 k w a0 l1 l2 l3 l4 s0 → wS Z A s w H locs → lv_has ls 6 [(0, .ref a0), (1, .int l1), (2, .int l2), (3, .int l3), (4, .int l4)] → W p l e ({ frames := 6, cells := 0, slots := 0, locals := 145 } : Room) s m args below meth c H locs 0 0 (MQ below (wQc Z A (pI k)) args s 0 0 A) (F0 m 26 ls [va_rf s0]) := by
  intro w a0 l1 l2 l3 l4 s0 H locs ls h hS hl
  have hx := C.hx
  have hb := C.hb
  unfold wb_X4_comes_26 at h
  refine lv_iconst (v := 0) hx hb dX4_comes_26 (by decide) ?_
  exact kb_X4_comes_27 C k w a0 l1 l2 l3 l4 s0 0 _ _ _ h hS (lv_sub hl [0, 1, 2, 3, 4] rfl)
set_option maxHeartbeats 4000000 in
theorem ct_X4_comes (l : Launch) (Z : wZ) (w : Wd) (a0 : Nat) (a1 : Int32) (a2 : Int32) (a3 : Int32) (a4 : Int32) (k : Int32 → Wd → Prop) (h : wp_X4_comes w a0 a1 a2 a3 a4 k) : wMet l Z yX4_comes cX4_comes 6 (some .int) 6 145 0 0 [.ref a0, .int a1, .int a2, .int a3, .int a4] w (pI k) := by
  refine wM_of (by decide +kernel) (Nat.le_of_ble_eq_true rfl) ?_
  intro p e s m below meth c ls C hS hl
  replace C : wC p l s m _ meth c cX4_comes 6 (some .int) RX4 "comes" Z _ := C
  have hl : lv_has ls 6 [(0, .ref a0), (1, .int a1), (2, .int a2), (3, .int a3), (4, .int a4)] := hl
  have hx := C.hx
  have hb := C.hb
  unfold wp_X4_comes at h
  generalize wA w = A at C hS ⊢
  refine lv_aload_n hx hb dX4_comes_0 rfl (lv_at hl 0 rfl) ?_
  refine lv_aload_n hx hb dX4_comes_1 rfl (lv_at hl 0 rfl) ?_
  refine lv_iload_n hx hb dX4_comes_2 rfl (lv_at hl 3 rfl) ?_
  obtain ⟨hob, h⟩ := h
  refine r_V C hS (ct_X4_isPerson l Z w a0 a3 _ h) 1 24 hob ⟨by decide, by decide +kernel⟩ (lw_V q1494 q1496 qs35 q71 q1497) ⟨rfl, by decide, by decide, by decide +kernel⟩ ⟨Nat.le_of_ble_eq_true rfl, Nat.le_of_ble_eq_true rfl⟩ rfl hl.1 rfl (wcat4 (Nat.le_of_ble_eq_true rfl)) dX4_comes_3 ⟨Nat.le_of_ble_eq_true rfl, Nat.le_of_ble_eq_true rfl⟩ (fun v_ w2 H locs hv hS => ?_)
  obtain ⟨v1, rfl, h⟩ := hv
  refine r_if_eq (tgt := 26) hx hb h dX4_comes_6 (by decide) (fun h => ?_) (fun h => ?_)
  · exact kb_X4_comes_26 C k w2 a0 a1 a2 a3 a4 (some a0) _ _ _ h hS (lv_sub hl [0, 1, 2, 3, 4] rfl)
  · refine lv_iload hx hb dX4_comes_9 (lv_at hl 4 rfl) ?_
    refine lv_i2l hx hb dX4_comes_11 rfl ?_
    refine lv_lconst (v := 0) hx hb dX4_comes_12 (by decide) ?_
    refine lv_ldc2 (v := 2) hx hb C.ow (C.hts _ q1488) dX4_comes_13 ?_
    refine r_S C hS (ct_X4_isIn l Z w2 (a4.toInt64) 0 2 _ h) 3 (lw_S q1439 q1440 q71 q1441) ⟨by decide, by decide, by decide +kernel⟩ ⟨Nat.le_of_ble_eq_true rfl, Nat.le_of_ble_eq_true rfl⟩ rfl hl.1 rfl (wcat4 (Nat.le_of_ble_eq_true rfl)) dX4_comes_16 ⟨Nat.le_of_ble_eq_true rfl, Nat.le_of_ble_eq_true rfl⟩ (fun v_ w16 H locs hv hS => ?_)
    obtain ⟨v15, rfl, h⟩ := hv
    refine r_if_eq (tgt := 26) hx hb h dX4_comes_19 (by decide) (fun h => ?_) (fun h => ?_)
    · exact kb_X4_comes_26 C k w16 a0 a1 a2 a3 a4 (some a0) _ _ _ h hS (lv_sub hl [0, 1, 2, 3, 4] rfl)
    · refine lv_iconst (v := 1) hx hb dX4_comes_22 (by decide) ?_
      refine lv_goto (tgt := 27) hx hb dX4_comes_23 (by decide) ?_
      exact kb_X4_comes_27 C k w16 a0 a1 a2 a3 a4 (some a0) 1 _ _ _ h hS (lv_sub hl [0, 1, 2, 3, 4] rfl)
end VX4_comes
/-! LeftIsAgreedOnModel.fell(II)I -/
section VX4_fell
variable {p : Program} {l : Launch} {e : Env} {s : State} {m : MethodId} {args : Array Value} {below : List Frame} {meth : Method} {c : Code} {Z : wZ} {A : Nat → Prop}
set_option maxHeartbeats 4000000 in
theorem kb_X4_fell_24 (C : wC p l s m args meth c cX4_fell 6 (some .int) RX4 "fell" Z A) (k : Int32 → Wd → Prop) (L24 : Wd → Nat → Int32 → Int32 → Int32 → Prop) (hL24 : ∀ (w : Wd) (x0 : Nat) (x2 : Int32) (x4 : Int32) (x5 : Int32) (H : Heap) (locs : List Loc) (ls : Array Slot), L24 w x0 x2 x4 x5 → wS Z A s w H locs → lv_has ls 6 [(0, .ref x0), (2, .int x2), (4, .int x4), (5, .int x5)] → W p l e ({ frames := 6, cells := 0, slots := 0, locals := 145 } : Room) s m args below meth c H locs 0 0 (MQ below (wQc Z A (pI k)) args s 0 0 A) (F0 m 24 ls [])) : ∀ (w : Wd) (a0 : Nat) (l2 : Int32) (l4 : Int32) (l5 : Int32) (H : Heap) (locs : List Loc) (ls : Array Slot), wb_X4_fell_24 k L24 w a0 l2 l4 l5 → wS Z A s w H locs → lv_has ls 6 [(0, .ref a0), (2, .int l2), (4, .int l4), (5, .int l5)] → W p l e ({ frames := 6, cells := 0, slots := 0, locals := 145 } : Room) s m args below meth c H locs 0 0 (MQ below (wQc Z A (pI k)) args s 0 0 A) (F0 m 24 ls []) := by
  intro w a0 l2 l4 l5 H locs ls h hS hl
  have hx := C.hx
  have hb := C.hb
  unfold wb_X4_fell_24 at h
  refine lv_iload hx hb dX4_fell_24 (lv_at hl 3 rfl) ?_
  refine lv_aload_n hx hb dX4_fell_26 rfl (lv_at hl 0 rfl) ?_
  obtain ⟨hob, h⟩ := h
  refine r_V C hS (ct_X4_many l Z w a0 _ h) 0 24 hob ⟨by decide, by decide +kernel⟩ (lw_V q1458 q1460 qs31 q71 q1461) ⟨rfl, by decide, by decide, by decide +kernel⟩ ⟨Nat.le_of_ble_eq_true rfl, Nat.le_of_ble_eq_true rfl⟩ rfl hl.1 rfl (wcat4 (Nat.le_of_ble_eq_true rfl)) dX4_fell_27 ⟨Nat.le_of_ble_eq_true rfl, Nat.le_of_ble_eq_true rfl⟩ (fun v_ w4 H locs hv hS => ?_)
  obtain ⟨v3, rfl, h⟩ := hv
  refine r_icmp_ge (tgt := 66) hx hb h dX4_fell_30 (by decide) (fun h => ?_) (fun h => ?_)
  · refine lv_iload hx hb dX4_fell_66 (lv_at hl 2 rfl) ?_
    exact r_iret C hS h rfl rfl (Nat.le_of_ble_eq_true rfl) (Nat.le_of_ble_eq_true rfl) dX4_fell_68
  · refine lv_aload_n hx hb dX4_fell_33 rfl (lv_at hl 0 rfl) ?_
    refine lv_iload hx hb dX4_fell_34 (lv_at hl 3 rfl) ?_
    refine lv_iload_n hx hb dX4_fell_36 rfl (lv_at hl 1 rfl) ?_
    obtain ⟨hob, h⟩ := h
    refine r_V C hS (ct_X4_go l Z w4 a0 l5 l2 _ h) 2 24 hob ⟨by decide, by decide +kernel⟩ (lw_V q1639 q1641 qs55 q71 q1642) ⟨rfl, by decide, by decide, by decide +kernel⟩ ⟨Nat.le_of_ble_eq_true rfl, Nat.le_of_ble_eq_true rfl⟩ rfl hl.1 rfl (wcat4 (Nat.le_of_ble_eq_true rfl)) dX4_fell_37 ⟨Nat.le_of_ble_eq_true rfl, Nat.le_of_ble_eq_true rfl⟩ (fun v_ w5 H locs hv hS => ?_)
    obtain ⟨rfl, h⟩ := hv
    refine lv_iload hx hb dX4_fell_40 (lv_at hl 2 rfl) ?_
    refine lv_aload_n hx hb dX4_fell_42 rfl (lv_at hl 0 rfl) ?_
    refine r_getG C hS h gk_66 q1370 dX4_fell_43 (fun v6 h => ?_)
    refine lv_iconst (v := 0) hx hb dX4_fell_46 (by decide) ?_
    refine r_iald C hS h dX4_fell_47 (fun v7 h => ?_)
    refine lv_iconst (v := -1) hx hb dX4_fell_48 (by decide) ?_
    refine r_icmp_ne (tgt := 56) hx hb h dX4_fell_49 (by decide) (fun h => ?_) (fun h => ?_)
    · refine lv_iconst (v := 1) hx hb dX4_fell_56 (by decide) ?_
      refine lv_iadd hx hb dX4_fell_57 ?_
      refine lv_istore (i := 4) (lv' := [(4, .int (l4 + 1)), (0, .ref a0), (2, .int l2), (5, .int l5)]) hx hb dX4_fell_58 hl (by decide) rfl (fun ls hl => ?_)
      refine lv_iinc (i := 5) (v := (l5 + 1)) (lv' := [(5, .int (l5 + 1)), (4, .int (l4 + 1)), (0, .ref a0), (2, .int l2)]) hx hb dX4_fell_60 hl (k := 3) rfl rfl (by decide) rfl (fun ls hl => ?_)
      refine lv_goto (tgt := 24) hx hb dX4_fell_63 (by decide) ?_
      exact hL24 w5 a0 l2 (l4 + 1) (l5 + 1) _ _ _ h hS (lv_sub hl [2, 3, 1, 0] rfl)
    · refine lv_iconst (v := 0) hx hb dX4_fell_52 (by decide) ?_
      refine lv_goto (tgt := 57) hx hb dX4_fell_53 (by decide) ?_
      refine lv_iadd hx hb dX4_fell_57 ?_
      refine lv_istore (i := 4) (lv' := [(4, .int (l4 + 0)), (0, .ref a0), (2, .int l2), (5, .int l5)]) hx hb dX4_fell_58 hl (by decide) rfl (fun ls hl => ?_)
      refine lv_iinc (i := 5) (v := (l5 + 1)) (lv' := [(5, .int (l5 + 1)), (4, .int (l4 + 0)), (0, .ref a0), (2, .int l2)]) hx hb dX4_fell_60 hl (k := 3) rfl rfl (by decide) rfl (fun ls hl => ?_)
      refine lv_goto (tgt := 24) hx hb dX4_fell_63 (by decide) ?_
      exact hL24 w5 a0 l2 (l4 + 0) (l5 + 1) _ _ _ h hS (lv_sub hl [2, 3, 1, 0] rfl)
set_option maxHeartbeats 4000000 in
theorem kl_X4_fell_24 (C : wC p l s m args meth c cX4_fell 6 (some .int) RX4 "fell" Z A) (k : Int32 → Wd → Prop) : ∀ (n : Nat), ∀ (w : Wd) (a0 : Nat) (l2 : Int32) (l4 : Int32) (l5 : Int32) (H : Heap) (locs : List Loc) (ls : Array Slot), wl_X4_fell_24 k n w a0 l2 l4 l5 → wS Z A s w H locs → lv_has ls 6 [(0, .ref a0), (2, .int l2), (4, .int l4), (5, .int l5)] → W p l e ({ frames := 6, cells := 0, slots := 0, locals := 145 } : Room) s m args below meth c H locs 0 0 (MQ below (wQc Z A (pI k)) args s 0 0 A) (F0 m 24 ls []) := by
  intro n
  induction n with
  | zero =>
    intro w a0 l2 l4 l5 H locs ls h
    exact h.elim
  | succ n ih =>
    intro w a0 l2 l4 l5 H locs ls h hS hl
    exact kb_X4_fell_24 C k (wl_X4_fell_24 k n) ih w a0 l2 l4 l5 H locs ls h hS hl
set_option maxHeartbeats 4000000 in
theorem ct_X4_fell (l : Launch) (Z : wZ) (w : Wd) (a0 : Nat) (a1 : Int32) (a2 : Int32) (k : Int32 → Wd → Prop) (h : wp_X4_fell w a0 a1 a2 k) : wMet l Z yX4_fell cX4_fell 6 (some .int) 6 145 0 0 [.ref a0, .int a1, .int a2] w (pI k) := by
  refine wM_of (by decide +kernel) (Nat.le_of_ble_eq_true rfl) ?_
  intro p e s m below meth c ls C hS hl
  replace C : wC p l s m _ meth c cX4_fell 6 (some .int) RX4 "fell" Z _ := C
  have hl : lv_has ls 6 [(0, .ref a0), (1, .int a1), (2, .int a2)] := hl
  have hx := C.hx
  have hb := C.hb
  unfold wp_X4_fell at h
  generalize wA w = A at C hS ⊢
  refine lv_aload_n hx hb dX4_fell_0 rfl (lv_at hl 0 rfl) ?_
  refine lv_iconst (v := 1) hx hb dX4_fell_1 (by decide) ?_
  refine lv_iload_n hx hb dX4_fell_2 rfl (lv_at hl 1 rfl) ?_
  refine lv_iload_n hx hb dX4_fell_3 rfl (lv_at hl 2 rfl) ?_
  obtain ⟨hob, h⟩ := h
  refine r_V C hS (ct_X4_loadIf l Z w a0 1 a1 a2 _ h) 3 24 hob ⟨by decide, by decide +kernel⟩ (lw_V q1631 q1633 qs53 q71 q1634) ⟨rfl, by decide, by decide, by decide +kernel⟩ ⟨Nat.le_of_ble_eq_true rfl, Nat.le_of_ble_eq_true rfl⟩ rfl hl.1 rfl (wcat4 (Nat.le_of_ble_eq_true rfl)) dX4_fell_4 ⟨Nat.le_of_ble_eq_true rfl, Nat.le_of_ble_eq_true rfl⟩ (fun v_ w2 H locs hv hS => ?_)
  obtain ⟨v1, rfl, h⟩ := hv
  refine lv_istore_n (i := 3) (lv' := [(3, .int v1), (0, .ref a0), (1, .int a1), (2, .int a2)]) hx hb dX4_fell_7 rfl hl (by decide) rfl (fun ls hl => ?_)
  refine lv_iload_n hx hb dX4_fell_8 rfl (lv_at hl 0 rfl) ?_
  refine r_if_ge (tgt := 18) hx hb h dX4_fell_9 (by decide) (fun h => ?_) (fun h => ?_)
  · refine lv_iconst (v := 0) hx hb dX4_fell_18 (by decide) ?_
    refine lv_istore (i := 4) (lv' := [(4, .int 0), (3, .int v1), (0, .ref a0), (1, .int a1), (2, .int a2)]) hx hb dX4_fell_19 hl (by decide) rfl (fun ls hl => ?_)
    refine lv_iconst (v := 0) hx hb dX4_fell_21 (by decide) ?_
    refine lv_istore (i := 5) (lv' := [(5, .int 0), (4, .int 0), (3, .int v1), (0, .ref a0), (1, .int a1), (2, .int a2)]) hx hb dX4_fell_22 hl (by decide) rfl (fun ls hl => ?_)
    exact kl_X4_fell_24 C k FU w2 a0 a2 0 0 _ _ _ h hS (lv_sub hl [3, 5, 1, 0] rfl)
  · refine lv_aload_n hx hb dX4_fell_12 rfl (lv_at hl 1 rfl) ?_
    refine lv_iload_n hx hb dX4_fell_13 rfl (lv_at hl 0 rfl) ?_
    obtain ⟨hob, h⟩ := h
    refine r_V C hS (ct_X4_refuse l Z w2 a0 v1 _ h) 1 24 hob ⟨by decide, by decide +kernel⟩ (lw_V q1442 q1444 qs28 q71 q1445) ⟨rfl, by decide, by decide, by decide +kernel⟩ ⟨Nat.le_of_ble_eq_true rfl, Nat.le_of_ble_eq_true rfl⟩ rfl hl.1 rfl (wcat4 (Nat.le_of_ble_eq_true rfl)) dX4_fell_14 ⟨Nat.le_of_ble_eq_true rfl, Nat.le_of_ble_eq_true rfl⟩ (fun v_ w9 H locs hv hS => ?_)
    obtain ⟨v8, rfl, h⟩ := hv
    exact r_iret C hS h rfl rfl (Nat.le_of_ble_eq_true rfl) (Nat.le_of_ble_eq_true rfl) dX4_fell_17
end VX4_fell
/-! LeftIsAgreedOnModel.ponds(III)I -/
section VX4_ponds
variable {p : Program} {l : Launch} {e : Env} {s : State} {m : MethodId} {args : Array Value} {below : List Frame} {meth : Method} {c : Code} {Z : wZ} {A : Nat → Prop}
set_option maxHeartbeats 4000000 in
theorem kb_X4_ponds_38 (C : wC p l s m args meth c cX4_ponds 8 (some .int) RX4 "ponds" Z A) (k : Int32 → Wd → Prop) (L38 : Wd → Nat → Int32 → Int32 → Int32 → Int32 → Int32 → Prop) (hL38 : ∀ (w : Wd) (x0 : Nat) (x2 : Int32) (x3 : Int32) (x5 : Int32) (x6 : Int32) (x7 : Int32) (H : Heap) (locs : List Loc) (ls : Array Slot), L38 w x0 x2 x3 x5 x6 x7 → wS Z A s w H locs → lv_has ls 8 [(0, .ref x0), (2, .int x2), (3, .int x3), (5, .int x5), (6, .int x6), (7, .int x7)] → W p l e ({ frames := 6, cells := 0, slots := 0, locals := 145 } : Room) s m args below meth c H locs 0 0 (MQ below (wQc Z A (pI k)) args s 0 0 A) (F0 m 38 ls [])) : ∀ (w : Wd) (a0 : Nat) (l2 : Int32) (l3 : Int32) (l5 : Int32) (l6 : Int32) (l7 : Int32) (H : Heap) (locs : List Loc) (ls : Array Slot), wb_X4_ponds_38 k L38 w a0 l2 l3 l5 l6 l7 → wS Z A s w H locs → lv_has ls 8 [(0, .ref a0), (2, .int l2), (3, .int l3), (5, .int l5), (6, .int l6), (7, .int l7)] → W p l e ({ frames := 6, cells := 0, slots := 0, locals := 145 } : Room) s m args below meth c H locs 0 0 (MQ below (wQc Z A (pI k)) args s 0 0 A) (F0 m 38 ls []) := by
  intro w a0 l2 l3 l5 l6 l7 H locs ls h hS hl
  have hx := C.hx
  have hb := C.hb
  unfold wb_X4_ponds_38 at h
  refine lv_iload hx hb dX4_ponds_38 (lv_at hl 5 rfl) ?_
  refine lv_bipush (v := 67) hx hb dX4_ponds_40 (by decide) ?_
  refine r_icmp_ge (tgt := 107) hx hb h dX4_ponds_42 (by decide) (fun h => ?_) (fun h => ?_)
  · refine lv_aload_n hx hb dX4_ponds_107 rfl (lv_at hl 0 rfl) ?_
    refine r_getG C hS h gk_56 q1355 dX4_ponds_108 (fun v7 h => ?_)
    refine lv_iconst (v := 5) hx hb dX4_ponds_111 (by decide) ?_
    refine lv_iload_n hx hb dX4_ponds_112 rfl (lv_at hl 2 rfl) ?_
    refine lv_imul hx hb dX4_ponds_113 ?_
    refine lv_iconst (v := 2) hx hb dX4_ponds_114 (by decide) ?_
    refine lv_iadd hx hb dX4_ponds_115 ?_
    refine lv_iload hx hb dX4_ponds_116 (lv_at hl 3 rfl) ?_
    refine r_iast C hS h dX4_ponds_118 (fun w8 H locs h hS => ?_)
    refine lv_iload hx hb dX4_ponds_119 (lv_at hl 4 rfl) ?_
    exact r_iret C hS h rfl rfl (Nat.le_of_ble_eq_true rfl) (Nat.le_of_ble_eq_true rfl) dX4_ponds_121
  · refine lv_aload_n hx hb dX4_ponds_45 rfl (lv_at hl 0 rfl) ?_
    refine lv_iload hx hb dX4_ponds_46 (lv_at hl 5 rfl) ?_
    obtain ⟨hob, h⟩ := h
    refine r_V C hS (ct_X4_isCell l Z w a0 l7 _ h) 1 24 hob ⟨by decide, by decide +kernel⟩ (lw_V q1450 q1452 qs29 q71 q1453) ⟨rfl, by decide, by decide, by decide +kernel⟩ ⟨Nat.le_of_ble_eq_true rfl, Nat.le_of_ble_eq_true rfl⟩ rfl hl.1 rfl (wcat4 (Nat.le_of_ble_eq_true rfl)) dX4_ponds_48 ⟨Nat.le_of_ble_eq_true rfl, Nat.le_of_ble_eq_true rfl⟩ (fun v_ w10 H locs hv hS => ?_)
    obtain ⟨v9, rfl, h⟩ := hv
    refine r_if_eq (tgt := 101) hx hb h dX4_ponds_51 (by decide) (fun h => ?_) (fun h => ?_)
    · refine lv_iinc (i := 7) (v := (l7 + 1)) (lv' := [(7, .int (l7 + 1)), (0, .ref a0), (2, .int l2), (3, .int l3), (5, .int l5), (6, .int l6)]) hx hb dX4_ponds_101 hl (k := 5) rfl rfl (by decide) rfl (fun ls hl => ?_)
      refine lv_goto (tgt := 38) hx hb dX4_ponds_104 (by decide) ?_
      exact hL38 w10 a0 l2 l3 l5 l6 (l7 + 1) _ _ _ h hS (lv_sub hl [1, 2, 3, 4, 5, 0] rfl)
    · refine lv_aload_n hx hb dX4_ponds_54 rfl (lv_at hl 0 rfl) ?_
      refine lv_iload hx hb dX4_ponds_55 (lv_at hl 5 rfl) ?_
      obtain ⟨hob, h⟩ := h
      refine r_V C hS (ct_X4_hasPond l Z w10 a0 l7 _ h) 1 24 hob ⟨by decide, by decide +kernel⟩ (lw_V q1476 q1478 qs33 q71 q1479) ⟨rfl, by decide, by decide, by decide +kernel⟩ ⟨Nat.le_of_ble_eq_true rfl, Nat.le_of_ble_eq_true rfl⟩ rfl hl.1 rfl (wcat4 (Nat.le_of_ble_eq_true rfl)) dX4_ponds_57 ⟨Nat.le_of_ble_eq_true rfl, Nat.le_of_ble_eq_true rfl⟩ (fun v_ w12 H locs hv hS => ?_)
      obtain ⟨v11, rfl, h⟩ := hv
      refine r_if_ne (tgt := 101) hx hb h dX4_ponds_60 (by decide) (fun h => ?_) (fun h => ?_)
      · refine lv_iinc (i := 7) (v := (l7 + 1)) (lv' := [(7, .int (l7 + 1)), (0, .ref a0), (2, .int l2), (3, .int l3), (5, .int l5), (6, .int l6)]) hx hb dX4_ponds_101 hl (k := 5) rfl rfl (by decide) rfl (fun ls hl => ?_)
        refine lv_goto (tgt := 38) hx hb dX4_ponds_104 (by decide) ?_
        exact hL38 w12 a0 l2 l3 l5 l6 (l7 + 1) _ _ _ h hS (lv_sub hl [1, 2, 3, 4, 5, 0] rfl)
      · refine lv_aload_n hx hb dX4_ponds_63 rfl (lv_at hl 0 rfl) ?_
        refine r_getG C hS h gk_56 q1355 dX4_ponds_64 (fun v13 h => ?_)
        refine lv_iconst (v := 5) hx hb dX4_ponds_67 (by decide) ?_
        refine lv_iload_n hx hb dX4_ponds_68 rfl (lv_at hl 2 rfl) ?_
        refine lv_imul hx hb dX4_ponds_69 ?_
        refine lv_iconst (v := 2) hx hb dX4_ponds_70 (by decide) ?_
        refine lv_iadd hx hb dX4_ponds_71 ?_
        refine lv_iload hx hb dX4_ponds_72 (lv_at hl 5 rfl) ?_
        refine r_iast C hS h dX4_ponds_74 (fun w14 H locs h hS => ?_)
        refine lv_aload_n hx hb dX4_ponds_75 rfl (lv_at hl 0 rfl) ?_
        refine lv_iload_n hx hb dX4_ponds_76 rfl (lv_at hl 2 rfl) ?_
        refine lv_iload_n hx hb dX4_ponds_77 rfl (lv_at hl 1 rfl) ?_
        obtain ⟨hob, h⟩ := h
        refine r_V C hS (ct_X4_go l Z w14 a0 l3 l2 _ h) 2 24 hob ⟨by decide, by decide +kernel⟩ (lw_V q1639 q1641 qs55 q71 q1642) ⟨rfl, by decide, by decide, by decide +kernel⟩ ⟨Nat.le_of_ble_eq_true rfl, Nat.le_of_ble_eq_true rfl⟩ rfl hl.1 rfl (wcat4 (Nat.le_of_ble_eq_true rfl)) dX4_ponds_78 ⟨Nat.le_of_ble_eq_true rfl, Nat.le_of_ble_eq_true rfl⟩ (fun v_ w15 H locs hv hS => ?_)
        obtain ⟨rfl, h⟩ := hv
        refine lv_iload hx hb dX4_ponds_81 (lv_at hl 4 rfl) ?_
        refine lv_aload_n hx hb dX4_ponds_83 rfl (lv_at hl 0 rfl) ?_
        refine r_getG C hS h gk_66 q1370 dX4_ponds_84 (fun v16 h => ?_)
        refine lv_iconst (v := 0) hx hb dX4_ponds_87 (by decide) ?_
        refine r_iald C hS h dX4_ponds_88 (fun v17 h => ?_)
        refine lv_iconst (v := -1) hx hb dX4_ponds_89 (by decide) ?_
        refine r_icmp_ne (tgt := 97) hx hb h dX4_ponds_90 (by decide) (fun h => ?_) (fun h => ?_)
        · refine lv_iconst (v := 1) hx hb dX4_ponds_97 (by decide) ?_
          refine lv_iadd hx hb dX4_ponds_98 ?_
          refine lv_istore (i := 6) (lv' := [(6, .int (l6 + 1)), (0, .ref a0), (2, .int l2), (3, .int l3), (5, .int l5), (7, .int l7)]) hx hb dX4_ponds_99 hl (by decide) rfl (fun ls hl => ?_)
          refine lv_iinc (i := 7) (v := (l7 + 1)) (lv' := [(7, .int (l7 + 1)), (6, .int (l6 + 1)), (0, .ref a0), (2, .int l2), (3, .int l3), (5, .int l5)]) hx hb dX4_ponds_101 hl (k := 5) rfl rfl (by decide) rfl (fun ls hl => ?_)
          refine lv_goto (tgt := 38) hx hb dX4_ponds_104 (by decide) ?_
          exact hL38 w15 a0 l2 l3 l5 (l6 + 1) (l7 + 1) _ _ _ h hS (lv_sub hl [2, 3, 4, 5, 1, 0] rfl)
        · refine lv_iconst (v := 0) hx hb dX4_ponds_93 (by decide) ?_
          refine lv_goto (tgt := 98) hx hb dX4_ponds_94 (by decide) ?_
          refine lv_iadd hx hb dX4_ponds_98 ?_
          refine lv_istore (i := 6) (lv' := [(6, .int (l6 + 0)), (0, .ref a0), (2, .int l2), (3, .int l3), (5, .int l5), (7, .int l7)]) hx hb dX4_ponds_99 hl (by decide) rfl (fun ls hl => ?_)
          refine lv_iinc (i := 7) (v := (l7 + 1)) (lv' := [(7, .int (l7 + 1)), (6, .int (l6 + 0)), (0, .ref a0), (2, .int l2), (3, .int l3), (5, .int l5)]) hx hb dX4_ponds_101 hl (k := 5) rfl rfl (by decide) rfl (fun ls hl => ?_)
          refine lv_goto (tgt := 38) hx hb dX4_ponds_104 (by decide) ?_
          exact hL38 w15 a0 l2 l3 l5 (l6 + 0) (l7 + 1) _ _ _ h hS (lv_sub hl [2, 3, 4, 5, 1, 0] rfl)
set_option maxHeartbeats 4000000 in
theorem kl_X4_ponds_38 (C : wC p l s m args meth c cX4_ponds 8 (some .int) RX4 "ponds" Z A) (k : Int32 → Wd → Prop) : ∀ (n : Nat), ∀ (w : Wd) (a0 : Nat) (l2 : Int32) (l3 : Int32) (l5 : Int32) (l6 : Int32) (l7 : Int32) (H : Heap) (locs : List Loc) (ls : Array Slot), wl_X4_ponds_38 k n w a0 l2 l3 l5 l6 l7 → wS Z A s w H locs → lv_has ls 8 [(0, .ref a0), (2, .int l2), (3, .int l3), (5, .int l5), (6, .int l6), (7, .int l7)] → W p l e ({ frames := 6, cells := 0, slots := 0, locals := 145 } : Room) s m args below meth c H locs 0 0 (MQ below (wQc Z A (pI k)) args s 0 0 A) (F0 m 38 ls []) := by
  intro n
  induction n with
  | zero =>
    intro w a0 l2 l3 l5 l6 l7 H locs ls h
    exact h.elim
  | succ n ih =>
    intro w a0 l2 l3 l5 l6 l7 H locs ls h hS hl
    exact kb_X4_ponds_38 C k (wl_X4_ponds_38 k n) ih w a0 l2 l3 l5 l6 l7 H locs ls h hS hl
set_option maxHeartbeats 4000000 in
theorem ct_X4_ponds (l : Launch) (Z : wZ) (w : Wd) (a0 : Nat) (a1 : Int32) (a2 : Int32) (a3 : Int32) (k : Int32 → Wd → Prop) (h : wp_X4_ponds w a0 a1 a2 a3 k) : wMet l Z yX4_ponds cX4_ponds 8 (some .int) 6 145 0 0 [.ref a0, .int a1, .int a2, .int a3] w (pI k) := by
  refine wM_of (by decide +kernel) (Nat.le_of_ble_eq_true rfl) ?_
  intro p e s m below meth c ls C hS hl
  replace C : wC p l s m _ meth c cX4_ponds 8 (some .int) RX4 "ponds" Z _ := C
  have hl : lv_has ls 8 [(0, .ref a0), (1, .int a1), (2, .int a2), (3, .int a3)] := hl
  have hx := C.hx
  have hb := C.hb
  unfold wp_X4_ponds at h
  generalize wA w = A at C hS ⊢
  refine lv_aload_n hx hb dX4_ponds_0 rfl (lv_at hl 0 rfl) ?_
  refine lv_aload_n hx hb dX4_ponds_1 rfl (lv_at hl 0 rfl) ?_
  refine lv_iload_n hx hb dX4_ponds_2 rfl (lv_at hl 3 rfl) ?_
  obtain ⟨hob, h⟩ := h
  refine r_V C hS (ct_X4_isPerson l Z w a0 a3 _ h) 1 24 hob ⟨by decide, by decide +kernel⟩ (lw_V q1494 q1496 qs35 q71 q1497) ⟨rfl, by decide, by decide, by decide +kernel⟩ ⟨Nat.le_of_ble_eq_true rfl, Nat.le_of_ble_eq_true rfl⟩ rfl hl.1 rfl (wcat4 (Nat.le_of_ble_eq_true rfl)) dX4_ponds_3 ⟨Nat.le_of_ble_eq_true rfl, Nat.le_of_ble_eq_true rfl⟩ (fun v_ w2 H locs hv hS => ?_)
  obtain ⟨v1, rfl, h⟩ := hv
  refine lv_iload_n hx hb dX4_ponds_6 rfl (lv_at hl 1 rfl) ?_
  refine lv_iload_n hx hb dX4_ponds_7 rfl (lv_at hl 2 rfl) ?_
  obtain ⟨hob, h⟩ := h
  refine r_V C hS (ct_X4_loadIf l Z w2 a0 v1 a1 a2 _ h) 3 24 hob ⟨by decide, by decide +kernel⟩ (lw_V q1631 q1633 qs53 q71 q1634) ⟨rfl, by decide, by decide, by decide +kernel⟩ ⟨Nat.le_of_ble_eq_true rfl, Nat.le_of_ble_eq_true rfl⟩ rfl hl.1 rfl (wcat4 (Nat.le_of_ble_eq_true rfl)) dX4_ponds_8 ⟨Nat.le_of_ble_eq_true rfl, Nat.le_of_ble_eq_true rfl⟩ (fun v_ w4 H locs hv hS => ?_)
  obtain ⟨v3, rfl, h⟩ := hv
  refine lv_istore (i := 4) (lv' := [(4, .int v3), (0, .ref a0), (1, .int a1), (2, .int a2), (3, .int a3)]) hx hb dX4_ponds_11 hl (by decide) rfl (fun ls hl => ?_)
  refine lv_iload hx hb dX4_ponds_13 (lv_at hl 0 rfl) ?_
  refine r_if_ge (tgt := 25) hx hb h dX4_ponds_15 (by decide) (fun h => ?_) (fun h => ?_)
  · refine lv_aload_n hx hb dX4_ponds_25 rfl (lv_at hl 1 rfl) ?_
    refine lv_iload_n hx hb dX4_ponds_26 rfl (lv_at hl 4 rfl) ?_
    obtain ⟨hob, h⟩ := h
    refine r_V C hS (ct_X4_cell l Z w4 a0 a3 _ h) 1 24 hob ⟨by decide, by decide +kernel⟩ (lw_V q1462 q1464 qs32 q71 q1465) ⟨rfl, by decide, by decide, by decide +kernel⟩ ⟨Nat.le_of_ble_eq_true rfl, Nat.le_of_ble_eq_true rfl⟩ rfl hl.1 rfl (wcat4 (Nat.le_of_ble_eq_true rfl)) dX4_ponds_27 ⟨Nat.le_of_ble_eq_true rfl, Nat.le_of_ble_eq_true rfl⟩ (fun v_ w6 H locs hv hS => ?_)
    obtain ⟨v5, rfl, h⟩ := hv
    refine lv_istore (i := 5) (lv' := [(5, .int v5), (4, .int v3), (0, .ref a0), (1, .int a1), (2, .int a2), (3, .int a3)]) hx hb dX4_ponds_30 hl (by decide) rfl (fun ls hl => ?_)
    refine lv_iconst (v := 0) hx hb dX4_ponds_32 (by decide) ?_
    refine lv_istore (i := 6) (lv' := [(6, .int 0), (5, .int v5), (4, .int v3), (0, .ref a0), (1, .int a1), (2, .int a2), (3, .int a3)]) hx hb dX4_ponds_33 hl (by decide) rfl (fun ls hl => ?_)
    refine lv_iconst (v := 0) hx hb dX4_ponds_35 (by decide) ?_
    refine lv_istore (i := 7) (lv' := [(7, .int 0), (6, .int 0), (5, .int v5), (4, .int v3), (0, .ref a0), (1, .int a1), (2, .int a2), (3, .int a3)]) hx hb dX4_ponds_36 hl (by decide) rfl (fun ls hl => ?_)
    exact kl_X4_ponds_38 C k FU w6 a0 a2 a3 v5 0 0 _ _ _ h hS (lv_sub hl [4, 6, 7, 2, 1, 0] rfl)
  · refine lv_aload_n hx hb dX4_ponds_18 rfl (lv_at hl 1 rfl) ?_
    refine lv_iload hx hb dX4_ponds_19 (lv_at hl 0 rfl) ?_
    obtain ⟨hob, h⟩ := h
    refine r_V C hS (ct_X4_refuse l Z w4 a0 v3 _ h) 1 24 hob ⟨by decide, by decide +kernel⟩ (lw_V q1442 q1444 qs28 q71 q1445) ⟨rfl, by decide, by decide, by decide +kernel⟩ ⟨Nat.le_of_ble_eq_true rfl, Nat.le_of_ble_eq_true rfl⟩ rfl hl.1 rfl (wcat4 (Nat.le_of_ble_eq_true rfl)) dX4_ponds_21 ⟨Nat.le_of_ble_eq_true rfl, Nat.le_of_ble_eq_true rfl⟩ (fun v_ w19 H locs hv hS => ?_)
    obtain ⟨v18, rfl, h⟩ := hv
    exact r_iret C hS h rfl rfl (Nat.le_of_ble_eq_true rfl) (Nat.le_of_ble_eq_true rfl) dX4_ponds_24
end VX4_ponds
/-! LeftIsAgreedOnModel.spell(II)V -/
section VX4_spell
variable {p : Program} {l : Launch} {e : Env} {s : State} {m : MethodId} {args : Array Value} {below : List Frame} {meth : Method} {c : Code} {Z : wZ} {A : Nat → Prop}
set_option maxHeartbeats 4000000 in
theorem kb_X4_spell_7 (C : wC p l s m args meth c cX4_spell 5 none RX4 "spell" Z A) (k : Wd → Prop) (L7 : Wd → Nat → Int32 → Int32 → Prop) (hL7 : ∀ (w : Wd) (x0 : Nat) (x3 : Int32) (x4 : Int32) (H : Heap) (locs : List Loc) (ls : Array Slot), L7 w x0 x3 x4 → wS Z A s w H locs → lv_has ls 5 [(0, .ref x0), (3, .int x3), (4, .int x4)] → W p l e ({ frames := 0, cells := 0, slots := 0, locals := 0 } : Room) s m args below meth c H locs 0 0 (MQ below (wQc Z A (pV k)) args s 0 0 A) (F0 m 7 ls [])) : ∀ (w : Wd) (a0 : Nat) (l3 : Int32) (l4 : Int32) (H : Heap) (locs : List Loc) (ls : Array Slot), wb_X4_spell_7 k L7 w a0 l3 l4 → wS Z A s w H locs → lv_has ls 5 [(0, .ref a0), (3, .int l3), (4, .int l4)] → W p l e ({ frames := 0, cells := 0, slots := 0, locals := 0 } : Room) s m args below meth c H locs 0 0 (MQ below (wQc Z A (pV k)) args s 0 0 A) (F0 m 7 ls []) := by
  intro w a0 l3 l4 H locs ls h hS hl
  have hx := C.hx
  have hb := C.hb
  unfold wb_X4_spell_7 at h
  refine lv_iload hx hb dX4_spell_7 (lv_at hl 2 rfl) ?_
  refine r_if_lt (tgt := 32) hx hb h dX4_spell_9 (by decide) (fun h => ?_) (fun h => ?_)
  · exact r_vret C hS h rfl (Nat.le_of_ble_eq_true rfl) (Nat.le_of_ble_eq_true rfl) dX4_spell_32
  · refine lv_aload_n hx hb dX4_spell_12 rfl (lv_at hl 0 rfl) ?_
    refine r_getG C hS h gk_67 q1372 dX4_spell_13 (fun v1 h => ?_)
    refine lv_iload hx hb dX4_spell_16 (lv_at hl 2 rfl) ?_
    refine lv_iload_n hx hb dX4_spell_18 rfl (lv_at hl 1 rfl) ?_
    refine lv_iconst (v := 3) hx hb dX4_spell_19 (by decide) ?_
    refine lv_irem hx hb dX4_spell_20 (by decide) ?_
    refine r_iast C hS h dX4_spell_21 (fun w2 H locs h hS => ?_)
    refine lv_iload_n hx hb dX4_spell_22 rfl (lv_at hl 1 rfl) ?_
    refine lv_iconst (v := 3) hx hb dX4_spell_23 (by decide) ?_
    refine lv_idiv hx hb dX4_spell_24 (by decide) ?_
    refine lv_istore_n (i := 3) (lv' := [(3, .int (l3 / 3)), (0, .ref a0), (4, .int l4)]) hx hb dX4_spell_25 rfl hl (by decide) rfl (fun ls hl => ?_)
    refine lv_iinc (i := 4) (v := (l4 + (-1))) (lv' := [(4, .int (l4 + (-1))), (3, .int (l3 / 3)), (0, .ref a0)]) hx hb dX4_spell_26 hl (k := 2) rfl rfl (by decide) rfl (fun ls hl => ?_)
    refine lv_goto (tgt := 7) hx hb dX4_spell_29 (by decide) ?_
    exact hL7 w2 a0 (l3 / 3) (l4 + (-1)) _ _ _ h hS (lv_sub hl [2, 1, 0] rfl)
set_option maxHeartbeats 4000000 in
theorem kl_X4_spell_7 (C : wC p l s m args meth c cX4_spell 5 none RX4 "spell" Z A) (k : Wd → Prop) : ∀ (n : Nat), ∀ (w : Wd) (a0 : Nat) (l3 : Int32) (l4 : Int32) (H : Heap) (locs : List Loc) (ls : Array Slot), wl_X4_spell_7 k n w a0 l3 l4 → wS Z A s w H locs → lv_has ls 5 [(0, .ref a0), (3, .int l3), (4, .int l4)] → W p l e ({ frames := 0, cells := 0, slots := 0, locals := 0 } : Room) s m args below meth c H locs 0 0 (MQ below (wQc Z A (pV k)) args s 0 0 A) (F0 m 7 ls []) := by
  intro n
  induction n with
  | zero =>
    intro w a0 l3 l4 H locs ls h
    exact h.elim
  | succ n ih =>
    intro w a0 l3 l4 H locs ls h hS hl
    exact kb_X4_spell_7 C k (wl_X4_spell_7 k n) ih w a0 l3 l4 H locs ls h hS hl
set_option maxHeartbeats 4000000 in
theorem ct_X4_spell (l : Launch) (Z : wZ) (w : Wd) (a0 : Nat) (a1 : Int32) (a2 : Int32) (k : Wd → Prop) (h : wp_X4_spell w a0 a1 a2 k) : wMet l Z yX4_spell cX4_spell 5 none 0 0 0 0 [.ref a0, .int a1, .int a2] w (pV k) := by
  refine wM_of (by decide +kernel) (Nat.le_of_ble_eq_true rfl) ?_
  intro p e s m below meth c ls C hS hl
  replace C : wC p l s m _ meth c cX4_spell 5 none RX4 "spell" Z _ := C
  have hl : lv_has ls 5 [(0, .ref a0), (1, .int a1), (2, .int a2)] := hl
  have hx := C.hx
  have hb := C.hb
  unfold wp_X4_spell at h
  generalize wA w = A at C hS ⊢
  refine lv_iload_n hx hb dX4_spell_0 rfl (lv_at hl 1 rfl) ?_
  refine lv_istore_n (i := 3) (lv' := [(3, .int a1), (0, .ref a0), (1, .int a1), (2, .int a2)]) hx hb dX4_spell_1 rfl hl (by decide) rfl (fun ls hl => ?_)
  refine lv_iload_n hx hb dX4_spell_2 rfl (lv_at hl 3 rfl) ?_
  refine lv_iconst (v := 1) hx hb dX4_spell_3 (by decide) ?_
  refine lv_isub hx hb dX4_spell_4 ?_
  refine lv_istore (i := 4) (lv' := [(4, .int (a2 - 1)), (3, .int a1), (0, .ref a0), (1, .int a1), (2, .int a2)]) hx hb dX4_spell_5 hl (by decide) rfl (fun ls hl => ?_)
  exact kl_X4_spell_7 C k FU w a0 a1 (a2 - 1) _ _ _ h hS (lv_sub hl [2, 1, 0] rfl)
end VX4_spell
/-! LeftIsAgreedOnModel.brings(IIII)Z -/
section VX4_brings
variable {p : Program} {l : Launch} {e : Env} {s : State} {m : MethodId} {args : Array Value} {below : List Frame} {meth : Method} {c : Code} {Z : wZ} {A : Nat → Prop}
set_option maxHeartbeats 4000000 in
theorem ct_X4_brings (l : Launch) (Z : wZ) (w : Wd) (a0 : Nat) (a1 : Int32) (a2 : Int32) (a3 : Int32) (a4 : Int32) (k : Int32 → Wd → Prop) (h : wp_X4_brings w a0 a1 a2 a3 a4 k) : wMet l Z yX4_brings cX4_brings 6 (some .boolean) 6 145 0 0 [.ref a0, .int a1, .int a2, .int a3, .int a4] w (pI k) := by
  refine wM_of (by decide +kernel) (Nat.le_of_ble_eq_true rfl) ?_
  intro p e s m below meth c ls C hS hl
  replace C : wC p l s m _ meth c cX4_brings 6 (some .boolean) RX4 "brings" Z _ := C
  have hl : lv_has ls 6 [(0, .ref a0), (1, .int a1), (2, .int a2), (3, .int a3), (4, .int a4)] := hl
  have hx := C.hx
  have hb := C.hb
  unfold wp_X4_brings at h
  generalize wA w = A at C hS ⊢
  refine lv_aload_n hx hb dX4_brings_0 rfl (lv_at hl 0 rfl) ?_
  refine r_getG C hS h gk_56 q1355 dX4_brings_1 (fun v1 h => ?_)
  refine lv_bipush (v := 91) hx hb dX4_brings_4 (by decide) ?_
  refine r_iald C hS h dX4_brings_6 (fun v2 h => ?_)
  refine lv_istore (i := 5) (lv' := [(5, .int v2), (0, .ref a0), (1, .int a1), (2, .int a2), (3, .int a3), (4, .int a4)]) hx hb dX4_brings_7 hl (by decide) rfl (fun ls hl => ?_)
  refine lv_aload_n hx hb dX4_brings_9 rfl (lv_at hl 1 rfl) ?_
  refine r_getG C hS h gk_56 q1355 dX4_brings_10 (fun v3 h => ?_)
  refine lv_bipush (v := 91) hx hb dX4_brings_13 (by decide) ?_
  refine lv_iload hx hb dX4_brings_15 (lv_at hl 5 rfl) ?_
  refine r_iast C hS h dX4_brings_17 (fun w4 H locs h hS => ?_)
  refine lv_aload_n hx hb dX4_brings_18 rfl (lv_at hl 1 rfl) ?_
  refine lv_iload_n hx hb dX4_brings_19 rfl (lv_at hl 2 rfl) ?_
  refine lv_iload_n hx hb dX4_brings_20 rfl (lv_at hl 3 rfl) ?_
  obtain ⟨hob, h⟩ := h
  refine r_V C hS (ct_X4_go l Z w4 a0 a1 a2 _ h) 2 24 hob ⟨by decide, by decide +kernel⟩ (lw_V q1639 q1641 qs55 q71 q1642) ⟨rfl, by decide, by decide, by decide +kernel⟩ ⟨Nat.le_of_ble_eq_true rfl, Nat.le_of_ble_eq_true rfl⟩ rfl hl.1 rfl (wcat4 (Nat.le_of_ble_eq_true rfl)) dX4_brings_21 ⟨Nat.le_of_ble_eq_true rfl, Nat.le_of_ble_eq_true rfl⟩ (fun v_ w5 H locs hv hS => ?_)
  obtain ⟨rfl, h⟩ := hv
  refine lv_aload_n hx hb dX4_brings_24 rfl (lv_at hl 1 rfl) ?_
  refine r_getG C hS h gk_56 q1355 dX4_brings_25 (fun v6 h => ?_)
  refine lv_bipush (v := 91) hx hb dX4_brings_28 (by decide) ?_
  refine lv_iload hx hb dX4_brings_30 (lv_at hl 0 rfl) ?_
  refine r_iast C hS h dX4_brings_32 (fun w7 H locs h hS => ?_)
  refine lv_aload_n hx hb dX4_brings_33 rfl (lv_at hl 1 rfl) ?_
  refine r_getG C hS h gk_61 q1365 dX4_brings_34 (fun v8 h => ?_)
  refine lv_iconst (v := 0) hx hb dX4_brings_37 (by decide) ?_
  refine r_iald C hS h dX4_brings_38 (fun v9 h => ?_)
  refine lv_iload_n hx hb dX4_brings_39 rfl (lv_at hl 4 rfl) ?_
  refine r_icmp_ne (tgt := 57) hx hb h dX4_brings_40 (by decide) (fun h => ?_) (fun h => ?_)
  · refine lv_iconst (v := 0) hx hb dX4_brings_57 (by decide) ?_
    exact r_iret C hS h rfl (by decide +kernel) (Nat.le_of_ble_eq_true rfl) (Nat.le_of_ble_eq_true rfl) dX4_brings_58
  · refine lv_aload_n hx hb dX4_brings_43 rfl (lv_at hl 1 rfl) ?_
    refine r_getG C hS h gk_66 q1370 dX4_brings_44 (fun v10 h => ?_)
    refine lv_iconst (v := 0) hx hb dX4_brings_47 (by decide) ?_
    refine r_iald C hS h dX4_brings_48 (fun v11 h => ?_)
    refine lv_iconst (v := -1) hx hb dX4_brings_49 (by decide) ?_
    refine r_icmp_ne (tgt := 57) hx hb h dX4_brings_50 (by decide) (fun h => ?_) (fun h => ?_)
    · refine lv_iconst (v := 0) hx hb dX4_brings_57 (by decide) ?_
      exact r_iret C hS h rfl (by decide +kernel) (Nat.le_of_ble_eq_true rfl) (Nat.le_of_ble_eq_true rfl) dX4_brings_58
    · refine lv_iconst (v := 1) hx hb dX4_brings_53 (by decide) ?_
      refine lv_goto (tgt := 58) hx hb dX4_brings_54 (by decide) ?_
      exact r_iret C hS h rfl (by decide +kernel) (Nat.le_of_ble_eq_true rfl) (Nat.le_of_ble_eq_true rfl) dX4_brings_58
end VX4_brings
/-! LeftIsAgreedOnModel.safe(IIII)I -/
section VX4_safe
variable {p : Program} {l : Launch} {e : Env} {s : State} {m : MethodId} {args : Array Value} {below : List Frame} {meth : Method} {c : Code} {Z : wZ} {A : Nat → Prop}
set_option maxHeartbeats 4000000 in
theorem kb_X4_safe_113 (C : wC p l s m args meth c cX4_safe 8 (some .int) RX4 "safe" Z A) (k : Int32 → Wd → Prop) : ∀ (w : Wd) (a0 : Nat) (l4 : Int32) (l6 : Int32) (H : Heap) (locs : List Loc) (ls : Array Slot), wb_X4_safe_113 k w a0 l4 l6 → wS Z A s w H locs → lv_has ls 8 [(0, .ref a0), (4, .int l4), (6, .int l6)] → W p l e ({ frames := 7, cells := 0, slots := 0, locals := 170 } : Room) s m args below meth c H locs 0 0 (MQ below (wQc Z A (pI k)) args s 0 0 A) (F0 m 113 ls []) := by
  intro w a0 l4 l6 H locs ls h hS hl
  have hx := C.hx
  have hb := C.hb
  unfold wb_X4_safe_113 at h
  refine lv_iload hx hb dX4_safe_113 (lv_at hl 1 rfl) ?_
  refine lv_iconst (v := -1) hx hb dX4_safe_115 (by decide) ?_
  refine r_icmp_ne (tgt := 124) hx hb h dX4_safe_116 (by decide) (fun h => ?_) (fun h => ?_)
  · refine lv_iload hx hb dX4_safe_124 (lv_at hl 1 rfl) ?_
    refine lv_iload hx hb dX4_safe_126 (lv_at hl 2 rfl) ?_
    refine r_icmp_ge (tgt := 141) hx hb h dX4_safe_128 (by decide) (fun h => ?_) (fun h => ?_)
    · refine lv_aload_n hx hb dX4_safe_141 rfl (lv_at hl 0 rfl) ?_
      refine lv_bipush (v := -5) hx hb dX4_safe_142 (by decide) ?_
      obtain ⟨hob, h⟩ := h
      refine r_V C hS (ct_X4_refuse l Z w a0 (-5) _ h) 1 24 hob ⟨by decide, by decide +kernel⟩ (lw_V q1442 q1444 qs28 q71 q1445) ⟨rfl, by decide, by decide, by decide +kernel⟩ ⟨Nat.le_of_ble_eq_true rfl, Nat.le_of_ble_eq_true rfl⟩ rfl hl.1 rfl (wcat4 (Nat.le_of_ble_eq_true rfl)) dX4_safe_144 ⟨Nat.le_of_ble_eq_true rfl, Nat.le_of_ble_eq_true rfl⟩ (fun v_ w21 H locs hv hS => ?_)
      obtain ⟨v20, rfl, h⟩ := hv
      exact r_iret C hS h rfl rfl (Nat.le_of_ble_eq_true rfl) (Nat.le_of_ble_eq_true rfl) dX4_safe_147
    · refine lv_aload_n hx hb dX4_safe_131 rfl (lv_at hl 0 rfl) ?_
      refine r_getG C hS h gk_67 q1372 dX4_safe_132 (fun v22 h => ?_)
      refine lv_iload hx hb dX4_safe_135 (lv_at hl 1 rfl) ?_
      refine r_iald C hS h dX4_safe_137 (fun v23 h => ?_)
      refine lv_goto (tgt := 147) hx hb dX4_safe_138 (by decide) ?_
      exact r_iret C hS h rfl rfl (Nat.le_of_ble_eq_true rfl) (Nat.le_of_ble_eq_true rfl) dX4_safe_147
  · refine lv_iload hx hb dX4_safe_119 (lv_at hl 2 rfl) ?_
    refine lv_goto (tgt := 147) hx hb dX4_safe_121 (by decide) ?_
    exact r_iret C hS h rfl rfl (Nat.le_of_ble_eq_true rfl) (Nat.le_of_ble_eq_true rfl) dX4_safe_147
set_option maxHeartbeats 4000000 in
theorem kb_X4_safe_55 (C : wC p l s m args meth c cX4_safe 8 (some .int) RX4 "safe" Z A) (k : Int32 → Wd → Prop) (L45 : Wd → Nat → Int32 → Int32 → Int32 → Int32 → Int32 → Int32 → Prop) (hL45 : ∀ (w : Wd) (x0 : Nat) (x1 : Int32) (x2 : Int32) (x3 : Int32) (x4 : Int32) (x5 : Int32) (x6 : Int32) (H : Heap) (locs : List Loc) (ls : Array Slot), L45 w x0 x1 x2 x3 x4 x5 x6 → wS Z A s w H locs → lv_has ls 8 [(0, .ref x0), (1, .int x1), (2, .int x2), (3, .int x3), (4, .int x4), (5, .int x5), (6, .int x6)] → W p l e ({ frames := 7, cells := 0, slots := 0, locals := 170 } : Room) s m args below meth c H locs 0 0 (MQ below (wQc Z A (pI k)) args s 0 0 A) (F0 m 45 ls [])) (L55 : Wd → Nat → Int32 → Int32 → Int32 → Int32 → Int32 → Int32 → Int32 → Prop) (hL55 : ∀ (w : Wd) (x0 : Nat) (x1 : Int32) (x2 : Int32) (x3 : Int32) (x4 : Int32) (x5 : Int32) (x6 : Int32) (x7 : Int32) (H : Heap) (locs : List Loc) (ls : Array Slot), L55 w x0 x1 x2 x3 x4 x5 x6 x7 → wS Z A s w H locs → lv_has ls 8 [(0, .ref x0), (1, .int x1), (2, .int x2), (3, .int x3), (4, .int x4), (5, .int x5), (6, .int x6), (7, .int x7)] → W p l e ({ frames := 7, cells := 0, slots := 0, locals := 170 } : Room) s m args below meth c H locs 0 0 (MQ below (wQc Z A (pI k)) args s 0 0 A) (F0 m 55 ls [])) : ∀ (w : Wd) (a0 : Nat) (l1 : Int32) (l2 : Int32) (l3 : Int32) (l4 : Int32) (l5 : Int32) (l6 : Int32) (l7 : Int32) (H : Heap) (locs : List Loc) (ls : Array Slot), wb_X4_safe_55 k L45 L55 w a0 l1 l2 l3 l4 l5 l6 l7 → wS Z A s w H locs → lv_has ls 8 [(0, .ref a0), (1, .int l1), (2, .int l2), (3, .int l3), (4, .int l4), (5, .int l5), (6, .int l6), (7, .int l7)] → W p l e ({ frames := 7, cells := 0, slots := 0, locals := 170 } : Room) s m args below meth c H locs 0 0 (MQ below (wQc Z A (pI k)) args s 0 0 A) (F0 m 55 ls []) := by
  intro w a0 l1 l2 l3 l4 l5 l6 l7 H locs ls h hS hl
  have hx := C.hx
  have hb := C.hb
  unfold wb_X4_safe_55 at h
  refine lv_iload hx hb dX4_safe_55 (lv_at hl 7 rfl) ?_
  refine lv_iload hx hb dX4_safe_57 (lv_at hl 5 rfl) ?_
  refine r_icmp_ge (tgt := 154) hx hb h dX4_safe_59 (by decide) (fun h => ?_) (fun h => ?_)
  · refine lv_iload hx hb dX4_safe_154 (lv_at hl 5 rfl) ?_
    refine lv_iconst (v := 3) hx hb dX4_safe_156 (by decide) ?_
    refine lv_imul hx hb dX4_safe_157 ?_
    refine lv_istore (i := 5) (lv' := [(5, .int (l5 * 3)), (0, .ref a0), (1, .int l1), (2, .int l2), (3, .int l3), (4, .int l4), (6, .int l6), (7, .int l7)]) hx hb dX4_safe_158 hl (by decide) rfl (fun ls hl => ?_)
    refine lv_iinc (i := 6) (v := (l6 + 1)) (lv' := [(6, .int (l6 + 1)), (5, .int (l5 * 3)), (0, .ref a0), (1, .int l1), (2, .int l2), (3, .int l3), (4, .int l4), (7, .int l7)]) hx hb dX4_safe_160 hl (k := 6) rfl rfl (by decide) rfl (fun ls hl => ?_)
    refine lv_goto (tgt := 45) hx hb dX4_safe_163 (by decide) ?_
    exact hL45 w a0 l1 l2 l3 l4 (l5 * 3) (l6 + 1) _ _ _ h hS (lv_sub hl [2, 3, 4, 5, 6, 1, 0] rfl)
  · refine lv_aload_n hx hb dX4_safe_62 rfl (lv_at hl 0 rfl) ?_
    refine lv_iload hx hb dX4_safe_63 (lv_at hl 7 rfl) ?_
    refine lv_iload hx hb dX4_safe_65 (lv_at hl 6 rfl) ?_
    obtain ⟨hob, h⟩ := h
    refine r_V C hS (ct_X4_spell l Z w a0 l7 l6 _ h) 2 24 hob ⟨by decide, by decide +kernel⟩ (lw_V q1655 q1657 qs56 q71 q1658) ⟨rfl, by decide, by decide, by decide +kernel⟩ ⟨Nat.le_of_ble_eq_true rfl, Nat.le_of_ble_eq_true rfl⟩ rfl hl.1 rfl (wcat4 (Nat.le_of_ble_eq_true rfl)) dX4_safe_67 ⟨Nat.le_of_ble_eq_true rfl, Nat.le_of_ble_eq_true rfl⟩ (fun v_ w15 H locs hv hS => ?_)
    obtain ⟨rfl, h⟩ := hv
    refine lv_aload_n hx hb dX4_safe_70 rfl (lv_at hl 0 rfl) ?_
    refine lv_iload_n hx hb dX4_safe_71 rfl (lv_at hl 1 rfl) ?_
    refine lv_iload hx hb dX4_safe_72 (lv_at hl 6 rfl) ?_
    refine lv_iload_n hx hb dX4_safe_74 rfl (lv_at hl 2 rfl) ?_
    refine lv_aload_n hx hb dX4_safe_75 rfl (lv_at hl 0 rfl) ?_
    refine r_getG C hS h gk_56 q1355 dX4_safe_76 (fun v16 h => ?_)
    refine lv_bipush (v := 91) hx hb dX4_safe_79 (by decide) ?_
    refine r_iald C hS h dX4_safe_81 (fun v17 h => ?_)
    obtain ⟨hob, h⟩ := h
    refine r_V C hS (ct_X4_brings l Z w15 a0 l1 l6 l2 v17 _ h) 4 24 hob ⟨by decide, by decide +kernel⟩ (lw_V q1659 q1661 qs57 q71 q1662) ⟨rfl, by decide, by decide, by decide +kernel⟩ ⟨Nat.le_of_ble_eq_true rfl, Nat.le_of_ble_eq_true rfl⟩ rfl hl.1 rfl (wcat4 (Nat.le_of_ble_eq_true rfl)) dX4_safe_82 ⟨Nat.le_of_ble_eq_true rfl, Nat.le_of_ble_eq_true rfl⟩ (fun v_ w19 H locs hv hS => ?_)
    obtain ⟨v18, rfl, h⟩ := hv
    refine r_if_eq (tgt := 148) hx hb h dX4_safe_85 (by decide) (fun h => ?_) (fun h => ?_)
    · refine lv_iinc (i := 7) (v := (l7 + 1)) (lv' := [(7, .int (l7 + 1)), (0, .ref a0), (1, .int l1), (2, .int l2), (3, .int l3), (4, .int l4), (5, .int l5), (6, .int l6)]) hx hb dX4_safe_148 hl (k := 7) rfl rfl (by decide) rfl (fun ls hl => ?_)
      refine lv_goto (tgt := 55) hx hb dX4_safe_151 (by decide) ?_
      exact hL55 w19 a0 l1 l2 l3 l4 l5 l6 (l7 + 1) _ _ _ h hS (lv_sub hl [1, 2, 3, 4, 5, 6, 7, 0] rfl)
    · refine lv_iload_n hx hb dX4_safe_88 rfl (lv_at hl 3 rfl) ?_
      refine lv_iconst (v := 1) hx hb dX4_safe_89 (by decide) ?_
      refine r_icmp_eq (tgt := 113) hx hb h dX4_safe_90 (by decide) (fun h => ?_) (fun h => ?_)
      · exact kb_X4_safe_113 C k w19 a0 l4 l6 _ _ _ h hS (lv_sub hl [0, 4, 6] rfl)
      · refine lv_aload_n hx hb dX4_safe_93 rfl (lv_at hl 0 rfl) ?_
        refine lv_iload_n hx hb dX4_safe_94 rfl (lv_at hl 1 rfl) ?_
        refine lv_iload hx hb dX4_safe_95 (lv_at hl 6 rfl) ?_
        refine lv_iload_n hx hb dX4_safe_97 rfl (lv_at hl 2 rfl) ?_
        refine lv_iconst (v := 1) hx hb dX4_safe_98 (by decide) ?_
        refine lv_aload_n hx hb dX4_safe_99 rfl (lv_at hl 0 rfl) ?_
        refine r_getG C hS h gk_56 q1355 dX4_safe_100 (fun v24 h => ?_)
        refine lv_bipush (v := 91) hx hb dX4_safe_103 (by decide) ?_
        refine r_iald C hS h dX4_safe_105 (fun v25 h => ?_)
        refine lv_isub hx hb dX4_safe_106 ?_
        obtain ⟨hob, h⟩ := h
        refine r_V C hS (ct_X4_brings l Z w19 a0 l1 l6 l2 (1 - v25) _ h) 4 24 hob ⟨by decide, by decide +kernel⟩ (lw_V q1659 q1661 qs57 q71 q1662) ⟨rfl, by decide, by decide, by decide +kernel⟩ ⟨Nat.le_of_ble_eq_true rfl, Nat.le_of_ble_eq_true rfl⟩ rfl hl.1 rfl (wcat4 (Nat.le_of_ble_eq_true rfl)) dX4_safe_107 ⟨Nat.le_of_ble_eq_true rfl, Nat.le_of_ble_eq_true rfl⟩ (fun v_ w27 H locs hv hS => ?_)
        obtain ⟨v26, rfl, h⟩ := hv
        refine r_if_eq (tgt := 148) hx hb h dX4_safe_110 (by decide) (fun h => ?_) (fun h => ?_)
        · refine lv_iinc (i := 7) (v := (l7 + 1)) (lv' := [(7, .int (l7 + 1)), (0, .ref a0), (1, .int l1), (2, .int l2), (3, .int l3), (4, .int l4), (5, .int l5), (6, .int l6)]) hx hb dX4_safe_148 hl (k := 7) rfl rfl (by decide) rfl (fun ls hl => ?_)
          refine lv_goto (tgt := 55) hx hb dX4_safe_151 (by decide) ?_
          exact hL55 w27 a0 l1 l2 l3 l4 l5 l6 (l7 + 1) _ _ _ h hS (lv_sub hl [1, 2, 3, 4, 5, 6, 7, 0] rfl)
        · exact kb_X4_safe_113 C k w27 a0 l4 l6 _ _ _ h hS (lv_sub hl [0, 4, 6] rfl)
set_option maxHeartbeats 4000000 in
theorem kl_X4_safe_55 (C : wC p l s m args meth c cX4_safe 8 (some .int) RX4 "safe" Z A) (k : Int32 → Wd → Prop) (L45 : Wd → Nat → Int32 → Int32 → Int32 → Int32 → Int32 → Int32 → Prop) (hL45 : ∀ (w : Wd) (x0 : Nat) (x1 : Int32) (x2 : Int32) (x3 : Int32) (x4 : Int32) (x5 : Int32) (x6 : Int32) (H : Heap) (locs : List Loc) (ls : Array Slot), L45 w x0 x1 x2 x3 x4 x5 x6 → wS Z A s w H locs → lv_has ls 8 [(0, .ref x0), (1, .int x1), (2, .int x2), (3, .int x3), (4, .int x4), (5, .int x5), (6, .int x6)] → W p l e ({ frames := 7, cells := 0, slots := 0, locals := 170 } : Room) s m args below meth c H locs 0 0 (MQ below (wQc Z A (pI k)) args s 0 0 A) (F0 m 45 ls [])) : ∀ (n : Nat), ∀ (w : Wd) (a0 : Nat) (l1 : Int32) (l2 : Int32) (l3 : Int32) (l4 : Int32) (l5 : Int32) (l6 : Int32) (l7 : Int32) (H : Heap) (locs : List Loc) (ls : Array Slot), wl_X4_safe_55 k L45 n w a0 l1 l2 l3 l4 l5 l6 l7 → wS Z A s w H locs → lv_has ls 8 [(0, .ref a0), (1, .int l1), (2, .int l2), (3, .int l3), (4, .int l4), (5, .int l5), (6, .int l6), (7, .int l7)] → W p l e ({ frames := 7, cells := 0, slots := 0, locals := 170 } : Room) s m args below meth c H locs 0 0 (MQ below (wQc Z A (pI k)) args s 0 0 A) (F0 m 55 ls []) := by
  intro n
  induction n with
  | zero =>
    intro w a0 l1 l2 l3 l4 l5 l6 l7 H locs ls h
    exact h.elim
  | succ n ih =>
    intro w a0 l1 l2 l3 l4 l5 l6 l7 H locs ls h hS hl
    exact kb_X4_safe_55 C k L45 hL45 (wl_X4_safe_55 k L45 n) ih w a0 l1 l2 l3 l4 l5 l6 l7 H locs ls h hS hl
set_option maxHeartbeats 4000000 in
theorem kb_X4_safe_45 (C : wC p l s m args meth c cX4_safe 8 (some .int) RX4 "safe" Z A) (k : Int32 → Wd → Prop) (L45 : Wd → Nat → Int32 → Int32 → Int32 → Int32 → Int32 → Int32 → Prop) (hL45 : ∀ (w : Wd) (x0 : Nat) (x1 : Int32) (x2 : Int32) (x3 : Int32) (x4 : Int32) (x5 : Int32) (x6 : Int32) (H : Heap) (locs : List Loc) (ls : Array Slot), L45 w x0 x1 x2 x3 x4 x5 x6 → wS Z A s w H locs → lv_has ls 8 [(0, .ref x0), (1, .int x1), (2, .int x2), (3, .int x3), (4, .int x4), (5, .int x5), (6, .int x6)] → W p l e ({ frames := 7, cells := 0, slots := 0, locals := 170 } : Room) s m args below meth c H locs 0 0 (MQ below (wQc Z A (pI k)) args s 0 0 A) (F0 m 45 ls [])) : ∀ (w : Wd) (a0 : Nat) (l1 : Int32) (l2 : Int32) (l3 : Int32) (l4 : Int32) (l5 : Int32) (l6 : Int32) (H : Heap) (locs : List Loc) (ls : Array Slot), wb_X4_safe_45 k L45 w a0 l1 l2 l3 l4 l5 l6 → wS Z A s w H locs → lv_has ls 8 [(0, .ref a0), (1, .int l1), (2, .int l2), (3, .int l3), (4, .int l4), (5, .int l5), (6, .int l6)] → W p l e ({ frames := 7, cells := 0, slots := 0, locals := 170 } : Room) s m args below meth c H locs 0 0 (MQ below (wQc Z A (pI k)) args s 0 0 A) (F0 m 45 ls []) := by
  intro w a0 l1 l2 l3 l4 l5 l6 H locs ls h hS hl
  have hx := C.hx
  have hb := C.hb
  unfold wb_X4_safe_45 at h
  refine lv_iload hx hb dX4_safe_45 (lv_at hl 6 rfl) ?_
  refine lv_bipush (v := 6) hx hb dX4_safe_47 (by decide) ?_
  refine r_icmp_gt (tgt := 166) hx hb h dX4_safe_49 (by decide) (fun h => ?_) (fun h => ?_)
  · refine lv_iload hx hb dX4_safe_166 (lv_at hl 4 rfl) ?_
    refine lv_iconst (v := -1) hx hb dX4_safe_168 (by decide) ?_
    refine r_icmp_ne (tgt := 176) hx hb h dX4_safe_169 (by decide) (fun h => ?_) (fun h => ?_)
    · refine lv_aload_n hx hb dX4_safe_176 rfl (lv_at hl 0 rfl) ?_
      refine lv_bipush (v := -5) hx hb dX4_safe_177 (by decide) ?_
      obtain ⟨hob, h⟩ := h
      refine r_V C hS (ct_X4_refuse l Z w a0 (-5) _ h) 1 24 hob ⟨by decide, by decide +kernel⟩ (lw_V q1442 q1444 qs28 q71 q1445) ⟨rfl, by decide, by decide, by decide +kernel⟩ ⟨Nat.le_of_ble_eq_true rfl, Nat.le_of_ble_eq_true rfl⟩ rfl hl.1 rfl (wcat4 (Nat.le_of_ble_eq_true rfl)) dX4_safe_179 ⟨Nat.le_of_ble_eq_true rfl, Nat.le_of_ble_eq_true rfl⟩ (fun v_ w14 H locs hv hS => ?_)
      obtain ⟨v13, rfl, h⟩ := hv
      exact r_iret C hS h rfl rfl (Nat.le_of_ble_eq_true rfl) (Nat.le_of_ble_eq_true rfl) dX4_safe_182
    · refine lv_iconst (v := -1) hx hb dX4_safe_172 (by decide) ?_
      refine lv_goto (tgt := 182) hx hb dX4_safe_173 (by decide) ?_
      exact r_iret C hS h rfl rfl (Nat.le_of_ble_eq_true rfl) (Nat.le_of_ble_eq_true rfl) dX4_safe_182
  · refine lv_iconst (v := 0) hx hb dX4_safe_52 (by decide) ?_
    refine lv_istore (i := 7) (lv' := [(7, .int 0), (0, .ref a0), (1, .int l1), (2, .int l2), (3, .int l3), (4, .int l4), (5, .int l5), (6, .int l6)]) hx hb dX4_safe_53 hl (by decide) rfl (fun ls hl => ?_)
    exact kl_X4_safe_55 C k L45 hL45 FU w a0 l1 l2 l3 l4 l5 l6 0 _ _ _ h hS (lv_sub hl [1, 2, 3, 4, 5, 6, 7, 0] rfl)
set_option maxHeartbeats 4000000 in
theorem kl_X4_safe_45 (C : wC p l s m args meth c cX4_safe 8 (some .int) RX4 "safe" Z A) (k : Int32 → Wd → Prop) : ∀ (n : Nat), ∀ (w : Wd) (a0 : Nat) (l1 : Int32) (l2 : Int32) (l3 : Int32) (l4 : Int32) (l5 : Int32) (l6 : Int32) (H : Heap) (locs : List Loc) (ls : Array Slot), wl_X4_safe_45 k n w a0 l1 l2 l3 l4 l5 l6 → wS Z A s w H locs → lv_has ls 8 [(0, .ref a0), (1, .int l1), (2, .int l2), (3, .int l3), (4, .int l4), (5, .int l5), (6, .int l6)] → W p l e ({ frames := 7, cells := 0, slots := 0, locals := 170 } : Room) s m args below meth c H locs 0 0 (MQ below (wQc Z A (pI k)) args s 0 0 A) (F0 m 45 ls []) := by
  intro n
  induction n with
  | zero =>
    intro w a0 l1 l2 l3 l4 l5 l6 H locs ls h
    exact h.elim
  | succ n ih =>
    intro w a0 l1 l2 l3 l4 l5 l6 H locs ls h hS hl
    exact kb_X4_safe_45 C k (wl_X4_safe_45 k n) ih w a0 l1 l2 l3 l4 l5 l6 H locs ls h hS hl
set_option maxHeartbeats 4000000 in
theorem ct_X4_safe (l : Launch) (Z : wZ) (w : Wd) (a0 : Nat) (a1 : Int32) (a2 : Int32) (a3 : Int32) (a4 : Int32) (k : Int32 → Wd → Prop) (h : wp_X4_safe w a0 a1 a2 a3 a4 k) : wMet l Z yX4_safe cX4_safe 8 (some .int) 7 170 0 0 [.ref a0, .int a1, .int a2, .int a3, .int a4] w (pI k) := by
  refine wM_of (by decide +kernel) (Nat.le_of_ble_eq_true rfl) ?_
  intro p e s m below meth c ls C hS hl
  replace C : wC p l s m _ meth c cX4_safe 8 (some .int) RX4 "safe" Z _ := C
  have hl : lv_has ls 8 [(0, .ref a0), (1, .int a1), (2, .int a2), (3, .int a3), (4, .int a4)] := hl
  have hx := C.hx
  have hb := C.hb
  unfold wp_X4_safe at h
  generalize wA w = A at C hS ⊢
  refine lv_aload_n hx hb dX4_safe_0 rfl (lv_at hl 0 rfl) ?_
  refine lv_iload_n hx hb dX4_safe_1 rfl (lv_at hl 1 rfl) ?_
  obtain ⟨hob, h⟩ := h
  refine r_V C hS (ct_X4_isPerson l Z w a0 a1 _ h) 1 24 hob ⟨by decide, by decide +kernel⟩ (lw_V q1494 q1496 qs35 q71 q1497) ⟨rfl, by decide, by decide, by decide +kernel⟩ ⟨Nat.le_of_ble_eq_true rfl, Nat.le_of_ble_eq_true rfl⟩ rfl hl.1 rfl (wcat4 (Nat.le_of_ble_eq_true rfl)) dX4_safe_2 ⟨Nat.le_of_ble_eq_true rfl, Nat.le_of_ble_eq_true rfl⟩ (fun v_ w2 H locs hv hS => ?_)
  obtain ⟨v1, rfl, h⟩ := hv
  refine r_if_eq (tgt := 32) hx hb h dX4_safe_5 (by decide) (fun h => ?_) (fun h => ?_)
  · refine lv_aload_n hx hb dX4_safe_32 rfl (lv_at hl 0 rfl) ?_
    refine lv_bipush (v := -2) hx hb dX4_safe_33 (by decide) ?_
    obtain ⟨hob, h⟩ := h
    refine r_V C hS (ct_X4_refuse l Z w2 a0 (-2) _ h) 1 24 hob ⟨by decide, by decide +kernel⟩ (lw_V q1442 q1444 qs28 q71 q1445) ⟨rfl, by decide, by decide, by decide +kernel⟩ ⟨Nat.le_of_ble_eq_true rfl, Nat.le_of_ble_eq_true rfl⟩ rfl hl.1 rfl (wcat4 (Nat.le_of_ble_eq_true rfl)) dX4_safe_35 ⟨Nat.le_of_ble_eq_true rfl, Nat.le_of_ble_eq_true rfl⟩ (fun v_ w4 H locs hv hS => ?_)
    obtain ⟨v3, rfl, h⟩ := hv
    exact r_iret C hS h rfl rfl (Nat.le_of_ble_eq_true rfl) (Nat.le_of_ble_eq_true rfl) dX4_safe_38
  · refine lv_aload_n hx hb dX4_safe_8 rfl (lv_at hl 0 rfl) ?_
    refine lv_iload_n hx hb dX4_safe_9 rfl (lv_at hl 2 rfl) ?_
    obtain ⟨hob, h⟩ := h
    refine r_V C hS (ct_X4_isCell l Z w2 a0 a2 _ h) 1 24 hob ⟨by decide, by decide +kernel⟩ (lw_V q1450 q1452 qs29 q71 q1453) ⟨rfl, by decide, by decide, by decide +kernel⟩ ⟨Nat.le_of_ble_eq_true rfl, Nat.le_of_ble_eq_true rfl⟩ rfl hl.1 rfl (wcat4 (Nat.le_of_ble_eq_true rfl)) dX4_safe_10 ⟨Nat.le_of_ble_eq_true rfl, Nat.le_of_ble_eq_true rfl⟩ (fun v_ w6 H locs hv hS => ?_)
    obtain ⟨v5, rfl, h⟩ := hv
    refine r_if_eq (tgt := 32) hx hb h dX4_safe_13 (by decide) (fun h => ?_) (fun h => ?_)
    · refine lv_aload_n hx hb dX4_safe_32 rfl (lv_at hl 0 rfl) ?_
      refine lv_bipush (v := -2) hx hb dX4_safe_33 (by decide) ?_
      obtain ⟨hob, h⟩ := h
      refine r_V C hS (ct_X4_refuse l Z w6 a0 (-2) _ h) 1 24 hob ⟨by decide, by decide +kernel⟩ (lw_V q1442 q1444 qs28 q71 q1445) ⟨rfl, by decide, by decide, by decide +kernel⟩ ⟨Nat.le_of_ble_eq_true rfl, Nat.le_of_ble_eq_true rfl⟩ rfl hl.1 rfl (wcat4 (Nat.le_of_ble_eq_true rfl)) dX4_safe_35 ⟨Nat.le_of_ble_eq_true rfl, Nat.le_of_ble_eq_true rfl⟩ (fun v_ w8 H locs hv hS => ?_)
      obtain ⟨v7, rfl, h⟩ := hv
      exact r_iret C hS h rfl rfl (Nat.le_of_ble_eq_true rfl) (Nat.le_of_ble_eq_true rfl) dX4_safe_38
    · refine lv_iload_n hx hb dX4_safe_16 rfl (lv_at hl 3 rfl) ?_
      refine lv_i2l hx hb dX4_safe_17 rfl ?_
      refine lv_lconst (v := 0) hx hb dX4_safe_18 (by decide) ?_
      refine lv_lconst (v := 1) hx hb dX4_safe_19 (by decide) ?_
      refine r_S C hS (ct_X4_isIn l Z w6 (a3.toInt64) 0 1 _ h) 3 (lw_S q1439 q1440 q71 q1441) ⟨by decide, by decide, by decide +kernel⟩ ⟨Nat.le_of_ble_eq_true rfl, Nat.le_of_ble_eq_true rfl⟩ rfl hl.1 rfl (wcat4 (Nat.le_of_ble_eq_true rfl)) dX4_safe_20 ⟨Nat.le_of_ble_eq_true rfl, Nat.le_of_ble_eq_true rfl⟩ (fun v_ w10 H locs hv hS => ?_)
      obtain ⟨v9, rfl, h⟩ := hv
      refine r_if_eq (tgt := 32) hx hb h dX4_safe_23 (by decide) (fun h => ?_) (fun h => ?_)
      · refine lv_aload_n hx hb dX4_safe_32 rfl (lv_at hl 0 rfl) ?_
        refine lv_bipush (v := -2) hx hb dX4_safe_33 (by decide) ?_
        obtain ⟨hob, h⟩ := h
        refine r_V C hS (ct_X4_refuse l Z w10 a0 (-2) _ h) 1 24 hob ⟨by decide, by decide +kernel⟩ (lw_V q1442 q1444 qs28 q71 q1445) ⟨rfl, by decide, by decide, by decide +kernel⟩ ⟨Nat.le_of_ble_eq_true rfl, Nat.le_of_ble_eq_true rfl⟩ rfl hl.1 rfl (wcat4 (Nat.le_of_ble_eq_true rfl)) dX4_safe_35 ⟨Nat.le_of_ble_eq_true rfl, Nat.le_of_ble_eq_true rfl⟩ (fun v_ w12 H locs hv hS => ?_)
        obtain ⟨v11, rfl, h⟩ := hv
        exact r_iret C hS h rfl rfl (Nat.le_of_ble_eq_true rfl) (Nat.le_of_ble_eq_true rfl) dX4_safe_38
      · refine lv_iload hx hb dX4_safe_26 (lv_at hl 4 rfl) ?_
        refine lv_iconst (v := -1) hx hb dX4_safe_28 (by decide) ?_
        refine r_icmp_ge (tgt := 39) hx hb h dX4_safe_29 (by decide) (fun h => ?_) (fun h => ?_)
        · refine lv_iconst (v := 1) hx hb dX4_safe_39 (by decide) ?_
          refine lv_istore (i := 5) (lv' := [(5, .int 1), (0, .ref a0), (1, .int a1), (2, .int a2), (3, .int a3), (4, .int a4)]) hx hb dX4_safe_40 hl (by decide) rfl (fun ls hl => ?_)
          refine lv_iconst (v := 0) hx hb dX4_safe_42 (by decide) ?_
          refine lv_istore (i := 6) (lv' := [(6, .int 0), (5, .int 1), (0, .ref a0), (1, .int a1), (2, .int a2), (3, .int a3), (4, .int a4)]) hx hb dX4_safe_43 hl (by decide) rfl (fun ls hl => ?_)
          exact kl_X4_safe_45 C k FU w10 a0 a1 a2 a3 a4 1 0 _ _ _ h hS (lv_sub hl [2, 3, 4, 5, 6, 1, 0] rfl)
        · refine lv_aload_n hx hb dX4_safe_32 rfl (lv_at hl 0 rfl) ?_
          refine lv_bipush (v := -2) hx hb dX4_safe_33 (by decide) ?_
          obtain ⟨hob, h⟩ := h
          refine r_V C hS (ct_X4_refuse l Z w10 a0 (-2) _ h) 1 24 hob ⟨by decide, by decide +kernel⟩ (lw_V q1442 q1444 qs28 q71 q1445) ⟨rfl, by decide, by decide, by decide +kernel⟩ ⟨Nat.le_of_ble_eq_true rfl, Nat.le_of_ble_eq_true rfl⟩ rfl hl.1 rfl (wcat4 (Nat.le_of_ble_eq_true rfl)) dX4_safe_35 ⟨Nat.le_of_ble_eq_true rfl, Nat.le_of_ble_eq_true rfl⟩ (fun v_ w29 H locs hv hS => ?_)
          obtain ⟨v28, rfl, h⟩ := hv
          exact r_iret C hS h rfl rfl (Nat.le_of_ble_eq_true rfl) (Nat.le_of_ble_eq_true rfl) dX4_safe_38
end VX4_safe
/-! LeftIsAgreedOnModel.kinds(IIIII)I -/
section VX4_kinds
variable {p : Program} {l : Launch} {e : Env} {s : State} {m : MethodId} {args : Array Value} {below : List Frame} {meth : Method} {c : Code} {Z : wZ} {A : Nat → Prop}
set_option maxHeartbeats 4000000 in
theorem kb_X4_kinds_96 (C : wC p l s m args meth c cX4_kinds 11 (some .int) RX4 "kinds" Z A) (k : Int32 → Wd → Prop) (L83 : Wd → Nat → Int32 → Int32 → Int32 → Int32 → Int32 → Int32 → Int32 → Int32 → Prop) (hL83 : ∀ (w : Wd) (x0 : Nat) (x2 : Int32) (x3 : Int32) (x4 : Int32) (x5 : Int32) (x7 : Int32) (x8 : Int32) (x9 : Int32) (x10 : Int32) (H : Heap) (locs : List Loc) (ls : Array Slot), L83 w x0 x2 x3 x4 x5 x7 x8 x9 x10 → wS Z A s w H locs → lv_has ls 11 [(0, .ref x0), (2, .int x2), (3, .int x3), (4, .int x4), (5, .int x5), (7, .int x7), (8, .int x8), (9, .int x9), (10, .int x10)] → W p l e ({ frames := 6, cells := 0, slots := 0, locals := 145 } : Room) s m args below meth c H locs 0 0 (MQ below (wQc Z A (pI k)) args s 0 0 A) (F0 m 83 ls [])) : ∀ (w : Wd) (a0 : Nat) (l2 : Int32) (l3 : Int32) (l4 : Int32) (l5 : Int32) (l7 : Int32) (l8 : Int32) (l9 : Int32) (l10 : Int32) (s0 : Int32) (s1 : Int32) (H : Heap) (locs : List Loc) (ls : Array Slot), wb_X4_kinds_96 k L83 w a0 l2 l3 l4 l5 l7 l8 l9 l10 s0 s1 → wS Z A s w H locs → lv_has ls 11 [(0, .ref a0), (2, .int l2), (3, .int l3), (4, .int l4), (5, .int l5), (7, .int l7), (8, .int l8), (9, .int l9), (10, .int l10)] → W p l e ({ frames := 6, cells := 0, slots := 0, locals := 145 } : Room) s m args below meth c H locs 0 0 (MQ below (wQc Z A (pI k)) args s 0 0 A) (F0 m 96 ls [.int s1, .int s0]) := by
  intro w a0 l2 l3 l4 l5 l7 l8 l9 l10 s0 s1 H locs ls h hS hl
  have hx := C.hx
  have hb := C.hb
  unfold wb_X4_kinds_96 at h
  refine r_icmp_ge (tgt := 144) hx hb h dX4_kinds_96 (by decide) (fun h => ?_) (fun h => ?_)
  · refine lv_aload_n hx hb dX4_kinds_144 rfl (lv_at hl 0 rfl) ?_
    refine r_getG C hS h gk_56 q1355 dX4_kinds_145 (fun v8 h => ?_)
    refine lv_iload hx hb dX4_kinds_148 (lv_at hl 5 rfl) ?_
    refine lv_iload hx hb dX4_kinds_150 (lv_at hl 6 rfl) ?_
    refine r_iast C hS h dX4_kinds_152 (fun w9 H locs h hS => ?_)
    refine lv_iload hx hb dX4_kinds_153 (lv_at hl 7 rfl) ?_
    exact r_iret C hS h rfl rfl (Nat.le_of_ble_eq_true rfl) (Nat.le_of_ble_eq_true rfl) dX4_kinds_155
  · refine lv_aload_n hx hb dX4_kinds_99 rfl (lv_at hl 0 rfl) ?_
    refine r_getG C hS h gk_56 q1355 dX4_kinds_100 (fun v10 h => ?_)
    refine lv_iload hx hb dX4_kinds_103 (lv_at hl 5 rfl) ?_
    refine lv_iload hx hb dX4_kinds_105 (lv_at hl 8 rfl) ?_
    refine r_iast C hS h dX4_kinds_107 (fun w11 H locs h hS => ?_)
    refine lv_aload_n hx hb dX4_kinds_108 rfl (lv_at hl 0 rfl) ?_
    refine lv_iload_n hx hb dX4_kinds_109 rfl (lv_at hl 2 rfl) ?_
    refine lv_iload_n hx hb dX4_kinds_110 rfl (lv_at hl 1 rfl) ?_
    obtain ⟨hob, h⟩ := h
    refine r_V C hS (ct_X4_go l Z w11 a0 l3 l2 _ h) 2 24 hob ⟨by decide, by decide +kernel⟩ (lw_V q1639 q1641 qs55 q71 q1642) ⟨rfl, by decide, by decide, by decide +kernel⟩ ⟨Nat.le_of_ble_eq_true rfl, Nat.le_of_ble_eq_true rfl⟩ rfl hl.1 rfl (wcat4 (Nat.le_of_ble_eq_true rfl)) dX4_kinds_111 ⟨Nat.le_of_ble_eq_true rfl, Nat.le_of_ble_eq_true rfl⟩ (fun v_ w12 H locs hv hS => ?_)
    obtain ⟨rfl, h⟩ := hv
    refine lv_iload hx hb dX4_kinds_114 (lv_at hl 7 rfl) ?_
    refine lv_aload_n hx hb dX4_kinds_116 rfl (lv_at hl 0 rfl) ?_
    refine r_getG C hS h gk_61 q1365 dX4_kinds_117 (fun v13 h => ?_)
    refine lv_iconst (v := 0) hx hb dX4_kinds_120 (by decide) ?_
    refine r_iald C hS h dX4_kinds_121 (fun v14 h => ?_)
    refine lv_iload hx hb dX4_kinds_122 (lv_at hl 3 rfl) ?_
    refine r_icmp_ne (tgt := 134) hx hb h dX4_kinds_124 (by decide) (fun h => ?_) (fun h => ?_)
    · refine lv_iconst (v := 0) hx hb dX4_kinds_134 (by decide) ?_
      refine lv_ior hx hb dX4_kinds_135 ?_
      refine lv_istore (i := 9) (lv' := [(9, .int (l9 ||| 0)), (0, .ref a0), (2, .int l2), (3, .int l3), (4, .int l4), (5, .int l5), (7, .int l7), (8, .int l8), (10, .int l10)]) hx hb dX4_kinds_136 hl (by decide) rfl (fun ls hl => ?_)
      refine lv_iinc (i := 10) (v := (l10 + 1)) (lv' := [(10, .int (l10 + 1)), (9, .int (l9 ||| 0)), (0, .ref a0), (2, .int l2), (3, .int l3), (4, .int l4), (5, .int l5), (7, .int l7), (8, .int l8)]) hx hb dX4_kinds_138 hl (k := 8) rfl rfl (by decide) rfl (fun ls hl => ?_)
      refine lv_goto (tgt := 83) hx hb dX4_kinds_141 (by decide) ?_
      exact hL83 w12 a0 l2 l3 l4 l5 l7 l8 (l9 ||| 0) (l10 + 1) _ _ _ h hS (lv_sub hl [2, 3, 4, 5, 6, 7, 8, 1, 0] rfl)
    · refine lv_iconst (v := 1) hx hb dX4_kinds_127 (by decide) ?_
      refine lv_iload hx hb dX4_kinds_128 (lv_at hl 8 rfl) ?_
      refine lv_ishl hx hb dX4_kinds_130 ?_
      refine lv_goto (tgt := 135) hx hb dX4_kinds_131 (by decide) ?_
      refine lv_ior hx hb dX4_kinds_135 ?_
      refine lv_istore (i := 9) (lv' := [(9, .int (l9 ||| (1 <<< (l10 &&& 31)))), (0, .ref a0), (2, .int l2), (3, .int l3), (4, .int l4), (5, .int l5), (7, .int l7), (8, .int l8), (10, .int l10)]) hx hb dX4_kinds_136 hl (by decide) rfl (fun ls hl => ?_)
      refine lv_iinc (i := 10) (v := (l10 + 1)) (lv' := [(10, .int (l10 + 1)), (9, .int (l9 ||| (1 <<< (l10 &&& 31)))), (0, .ref a0), (2, .int l2), (3, .int l3), (4, .int l4), (5, .int l5), (7, .int l7), (8, .int l8)]) hx hb dX4_kinds_138 hl (k := 8) rfl rfl (by decide) rfl (fun ls hl => ?_)
      refine lv_goto (tgt := 83) hx hb dX4_kinds_141 (by decide) ?_
      exact hL83 w12 a0 l2 l3 l4 l5 l7 l8 (l9 ||| (1 <<< (l10 &&& 31))) (l10 + 1) _ _ _ h hS (lv_sub hl [2, 3, 4, 5, 6, 7, 8, 1, 0] rfl)
set_option maxHeartbeats 4000000 in
theorem kb_X4_kinds_83 (C : wC p l s m args meth c cX4_kinds 11 (some .int) RX4 "kinds" Z A) (k : Int32 → Wd → Prop) (L83 : Wd → Nat → Int32 → Int32 → Int32 → Int32 → Int32 → Int32 → Int32 → Int32 → Prop) (hL83 : ∀ (w : Wd) (x0 : Nat) (x2 : Int32) (x3 : Int32) (x4 : Int32) (x5 : Int32) (x7 : Int32) (x8 : Int32) (x9 : Int32) (x10 : Int32) (H : Heap) (locs : List Loc) (ls : Array Slot), L83 w x0 x2 x3 x4 x5 x7 x8 x9 x10 → wS Z A s w H locs → lv_has ls 11 [(0, .ref x0), (2, .int x2), (3, .int x3), (4, .int x4), (5, .int x5), (7, .int x7), (8, .int x8), (9, .int x9), (10, .int x10)] → W p l e ({ frames := 6, cells := 0, slots := 0, locals := 145 } : Room) s m args below meth c H locs 0 0 (MQ below (wQc Z A (pI k)) args s 0 0 A) (F0 m 83 ls [])) : ∀ (w : Wd) (a0 : Nat) (l2 : Int32) (l3 : Int32) (l4 : Int32) (l5 : Int32) (l7 : Int32) (l8 : Int32) (l9 : Int32) (l10 : Int32) (H : Heap) (locs : List Loc) (ls : Array Slot), wb_X4_kinds_83 k L83 w a0 l2 l3 l4 l5 l7 l8 l9 l10 → wS Z A s w H locs → lv_has ls 11 [(0, .ref a0), (2, .int l2), (3, .int l3), (4, .int l4), (5, .int l5), (7, .int l7), (8, .int l8), (9, .int l9), (10, .int l10)] → W p l e ({ frames := 6, cells := 0, slots := 0, locals := 145 } : Room) s m args below meth c H locs 0 0 (MQ below (wQc Z A (pI k)) args s 0 0 A) (F0 m 83 ls []) := by
  intro w a0 l2 l3 l4 l5 l7 l8 l9 l10 H locs ls h hS hl
  have hx := C.hx
  have hb := C.hb
  unfold wb_X4_kinds_83 at h
  refine lv_iload hx hb dX4_kinds_83 (lv_at hl 8 rfl) ?_
  refine lv_iload hx hb dX4_kinds_85 (lv_at hl 4 rfl) ?_
  refine r_if_ne (tgt := 95) hx hb h dX4_kinds_87 (by decide) (fun h => ?_) (fun h => ?_)
  · refine lv_iconst (v := 2) hx hb dX4_kinds_95 (by decide) ?_
    exact kb_X4_kinds_96 C k L83 hL83 w a0 l2 l3 l4 l5 l7 l8 l9 l10 l10 2 _ _ _ h hS (lv_sub hl [0, 1, 2, 3, 4, 5, 6, 7, 8] rfl)
  · refine lv_bipush (v := 6) hx hb dX4_kinds_90 (by decide) ?_
    refine lv_goto (tgt := 96) hx hb dX4_kinds_92 (by decide) ?_
    exact kb_X4_kinds_96 C k L83 hL83 w a0 l2 l3 l4 l5 l7 l8 l9 l10 l10 6 _ _ _ h hS (lv_sub hl [0, 1, 2, 3, 4, 5, 6, 7, 8] rfl)
set_option maxHeartbeats 4000000 in
theorem kl_X4_kinds_83 (C : wC p l s m args meth c cX4_kinds 11 (some .int) RX4 "kinds" Z A) (k : Int32 → Wd → Prop) : ∀ (n : Nat), ∀ (w : Wd) (a0 : Nat) (l2 : Int32) (l3 : Int32) (l4 : Int32) (l5 : Int32) (l7 : Int32) (l8 : Int32) (l9 : Int32) (l10 : Int32) (H : Heap) (locs : List Loc) (ls : Array Slot), wl_X4_kinds_83 k n w a0 l2 l3 l4 l5 l7 l8 l9 l10 → wS Z A s w H locs → lv_has ls 11 [(0, .ref a0), (2, .int l2), (3, .int l3), (4, .int l4), (5, .int l5), (7, .int l7), (8, .int l8), (9, .int l9), (10, .int l10)] → W p l e ({ frames := 6, cells := 0, slots := 0, locals := 145 } : Room) s m args below meth c H locs 0 0 (MQ below (wQc Z A (pI k)) args s 0 0 A) (F0 m 83 ls []) := by
  intro n
  induction n with
  | zero =>
    intro w a0 l2 l3 l4 l5 l7 l8 l9 l10 H locs ls h
    exact h.elim
  | succ n ih =>
    intro w a0 l2 l3 l4 l5 l7 l8 l9 l10 H locs ls h hS hl
    exact kb_X4_kinds_83 C k (wl_X4_kinds_83 k n) ih w a0 l2 l3 l4 l5 l7 l8 l9 l10 H locs ls h hS hl
set_option maxHeartbeats 4000000 in
theorem kb_X4_kinds_66 (C : wC p l s m args meth c cX4_kinds 11 (some .int) RX4 "kinds" Z A) (k : Int32 → Wd → Prop) : ∀ (w : Wd) (a0 : Nat) (l2 : Int32) (l3 : Int32) (l4 : Int32) (l5 : Int32) (s0 : Int32) (H : Heap) (locs : List Loc) (ls : Array Slot), wb_X4_kinds_66 k w a0 l2 l3 l4 l5 s0 → wS Z A s w H locs → lv_has ls 11 [(0, .ref a0), (2, .int l2), (3, .int l3), (4, .int l4), (5, .int l5)] → W p l e ({ frames := 6, cells := 0, slots := 0, locals := 145 } : Room) s m args below meth c H locs 0 0 (MQ below (wQc Z A (pI k)) args s 0 0 A) (F0 m 66 ls [.int s0]) := by
  intro w a0 l2 l3 l4 l5 s0 H locs ls h hS hl
  have hx := C.hx
  have hb := C.hb
  unfold wb_X4_kinds_66 at h
  refine lv_istore (i := 7) (lv' := [(7, .int s0), (0, .ref a0), (2, .int l2), (3, .int l3), (4, .int l4), (5, .int l5)]) hx hb dX4_kinds_66 hl (by decide) rfl (fun ls hl => ?_)
  refine lv_aload_n hx hb dX4_kinds_68 rfl (lv_at hl 1 rfl) ?_
  refine r_getG C hS h gk_56 q1355 dX4_kinds_69 (fun v6 h => ?_)
  refine lv_iload hx hb dX4_kinds_72 (lv_at hl 0 rfl) ?_
  refine r_iald C hS h dX4_kinds_74 (fun v7 h => ?_)
  refine lv_istore (i := 8) (lv' := [(8, .int v7), (7, .int s0), (0, .ref a0), (2, .int l2), (3, .int l3), (4, .int l4), (5, .int l5)]) hx hb dX4_kinds_75 hl (by decide) rfl (fun ls hl => ?_)
  refine lv_iconst (v := 0) hx hb dX4_kinds_77 (by decide) ?_
  refine lv_istore (i := 9) (lv' := [(9, .int 0), (8, .int v7), (7, .int s0), (0, .ref a0), (2, .int l2), (3, .int l3), (4, .int l4), (5, .int l5)]) hx hb dX4_kinds_78 hl (by decide) rfl (fun ls hl => ?_)
  refine lv_iconst (v := 0) hx hb dX4_kinds_80 (by decide) ?_
  refine lv_istore (i := 10) (lv' := [(10, .int 0), (9, .int 0), (8, .int v7), (7, .int s0), (0, .ref a0), (2, .int l2), (3, .int l3), (4, .int l4), (5, .int l5)]) hx hb dX4_kinds_81 hl (by decide) rfl (fun ls hl => ?_)
  exact kl_X4_kinds_83 C k FU w a0 l2 l3 l4 l5 s0 v7 0 0 _ _ _ h hS (lv_sub hl [4, 5, 6, 7, 8, 3, 2, 1, 0] rfl)
set_option maxHeartbeats 4000000 in
theorem kb_X4_kinds_34 (C : wC p l s m args meth c cX4_kinds 11 (some .int) RX4 "kinds" Z A) (k : Int32 → Wd → Prop) : ∀ (w : Wd) (a0 : Nat) (l1 : Int32) (l2 : Int32) (l3 : Int32) (l4 : Int32) (l5 : Int32) (s0 : Option Nat) (s1 : Int32) (H : Heap) (locs : List Loc) (ls : Array Slot), wb_X4_kinds_34 k w a0 l1 l2 l3 l4 l5 s0 s1 → wS Z A s w H locs → lv_has ls 11 [(0, .ref a0), (1, .int l1), (2, .int l2), (3, .int l3), (4, .int l4), (5, .int l5)] → W p l e ({ frames := 6, cells := 0, slots := 0, locals := 145 } : Room) s m args below meth c H locs 0 0 (MQ below (wQc Z A (pI k)) args s 0 0 A) (F0 m 34 ls [.int s1, va_rf s0]) := by
  intro w a0 l1 l2 l3 l4 l5 s0 s1 H locs ls h hS hl
  have hx := C.hx
  have hb := C.hb
  unfold wb_X4_kinds_34 at h
  refine lv_iload_n hx hb dX4_kinds_34 rfl (lv_at hl 1 rfl) ?_
  refine lv_iload_n hx hb dX4_kinds_35 rfl (lv_at hl 2 rfl) ?_
  obtain ⟨b5, hb_, h⟩ := wnn_spec h
  cases hb_
  obtain ⟨hob, h⟩ := h
  refine r_V C hS (ct_X4_loadIf l Z w b5 s1 l1 l2 _ h) 3 24 hob ⟨by decide, by decide +kernel⟩ (lw_V q1631 q1633 qs53 q71 q1634) ⟨rfl, by decide, by decide, by decide +kernel⟩ ⟨Nat.le_of_ble_eq_true rfl, Nat.le_of_ble_eq_true rfl⟩ rfl hl.1 rfl (wcat4 (Nat.le_of_ble_eq_true rfl)) dX4_kinds_36 ⟨Nat.le_of_ble_eq_true rfl, Nat.le_of_ble_eq_true rfl⟩ (fun v_ w4 H locs hv hS => ?_)
  obtain ⟨v3, rfl, h⟩ := hv
  refine lv_istore (i := 6) (lv' := [(6, .int v3), (0, .ref a0), (1, .int l1), (2, .int l2), (3, .int l3), (4, .int l4), (5, .int l5)]) hx hb dX4_kinds_39 hl (by decide) rfl (fun ls hl => ?_)
  refine lv_iload hx hb dX4_kinds_41 (lv_at hl 0 rfl) ?_
  refine r_if_ge (tgt := 53) hx hb h dX4_kinds_43 (by decide) (fun h => ?_) (fun h => ?_)
  · refine lv_iload hx hb dX4_kinds_53 (lv_at hl 6 rfl) ?_
    refine r_if_ne (tgt := 64) hx hb h dX4_kinds_55 (by decide) (fun h => ?_) (fun h => ?_)
    · refine lv_bipush (v := 91) hx hb dX4_kinds_64 (by decide) ?_
      exact kb_X4_kinds_66 C k w4 a0 l2 l3 l4 l5 91 _ _ _ h hS (lv_sub hl [1, 3, 4, 5, 6] rfl)
    · refine lv_iconst (v := 5) hx hb dX4_kinds_58 (by decide) ?_
      refine lv_iload_n hx hb dX4_kinds_59 rfl (lv_at hl 4 rfl) ?_
      refine lv_imul hx hb dX4_kinds_60 ?_
      refine lv_goto (tgt := 66) hx hb dX4_kinds_61 (by decide) ?_
      exact kb_X4_kinds_66 C k w4 a0 l2 l3 l4 l5 (5 * l3) _ _ _ h hS (lv_sub hl [1, 3, 4, 5, 6] rfl)
  · refine lv_aload_n hx hb dX4_kinds_46 rfl (lv_at hl 1 rfl) ?_
    refine lv_iload hx hb dX4_kinds_47 (lv_at hl 0 rfl) ?_
    obtain ⟨hob, h⟩ := h
    refine r_V C hS (ct_X4_refuse l Z w4 a0 v3 _ h) 1 24 hob ⟨by decide, by decide +kernel⟩ (lw_V q1442 q1444 qs28 q71 q1445) ⟨rfl, by decide, by decide, by decide +kernel⟩ ⟨Nat.le_of_ble_eq_true rfl, Nat.le_of_ble_eq_true rfl⟩ rfl hl.1 rfl (wcat4 (Nat.le_of_ble_eq_true rfl)) dX4_kinds_49 ⟨Nat.le_of_ble_eq_true rfl, Nat.le_of_ble_eq_true rfl⟩ (fun v_ w16 H locs hv hS => ?_)
    obtain ⟨v15, rfl, h⟩ := hv
    exact r_iret C hS h rfl rfl (Nat.le_of_ble_eq_true rfl) (Nat.le_of_ble_eq_true rfl) dX4_kinds_52
set_option maxHeartbeats 4000000 in
theorem kb_X4_kinds_33 (C : wC p l s m args meth c cX4_kinds 11 (some .int) RX4 "kinds" Z A) (k : Int32 → Wd → Prop) : ∀ (w : Wd) (a0 : Nat) (l1 : Int32) (l2 : Int32) (l3 : Int32) (l4 : Int32) (l5 : Int32) (s0 : Option Nat) (H : Heap) (locs : List Loc) (ls : Array Slot), wb_X4_kinds_33 k w a0 l1 l2 l3 l4 l5 s0 → wS Z A s w H locs → lv_has ls 11 [(0, .ref a0), (1, .int l1), (2, .int l2), (3, .int l3), (4, .int l4), (5, .int l5)] → W p l e ({ frames := 6, cells := 0, slots := 0, locals := 145 } : Room) s m args below meth c H locs 0 0 (MQ below (wQc Z A (pI k)) args s 0 0 A) (F0 m 33 ls [va_rf s0]) := by
  intro w a0 l1 l2 l3 l4 l5 s0 H locs ls h hS hl
  have hx := C.hx
  have hb := C.hb
  unfold wb_X4_kinds_33 at h
  refine lv_iconst (v := 0) hx hb dX4_kinds_33 (by decide) ?_
  exact kb_X4_kinds_34 C k w a0 l1 l2 l3 l4 l5 s0 0 _ _ _ h hS (lv_sub hl [0, 1, 2, 3, 4, 5] rfl)
set_option maxHeartbeats 4000000 in
theorem ct_X4_kinds (l : Launch) (Z : wZ) (w : Wd) (a0 : Nat) (a1 : Int32) (a2 : Int32) (a3 : Int32) (a4 : Int32) (a5 : Int32) (k : Int32 → Wd → Prop) (h : wp_X4_kinds w a0 a1 a2 a3 a4 a5 k) : wMet l Z yX4_kinds cX4_kinds 11 (some .int) 6 145 0 0 [.ref a0, .int a1, .int a2, .int a3, .int a4, .int a5] w (pI k) := by
  refine wM_of (by decide +kernel) (Nat.le_of_ble_eq_true rfl) ?_
  intro p e s m below meth c ls C hS hl
  replace C : wC p l s m _ meth c cX4_kinds 11 (some .int) RX4 "kinds" Z _ := C
  have hl : lv_has ls 11 [(0, .ref a0), (1, .int a1), (2, .int a2), (3, .int a3), (4, .int a4), (5, .int a5)] := hl
  have hx := C.hx
  have hb := C.hb
  unfold wp_X4_kinds at h
  generalize wA w = A at C hS ⊢
  refine lv_aload_n hx hb dX4_kinds_0 rfl (lv_at hl 0 rfl) ?_
  refine lv_aload_n hx hb dX4_kinds_1 rfl (lv_at hl 0 rfl) ?_
  refine lv_iload_n hx hb dX4_kinds_2 rfl (lv_at hl 3 rfl) ?_
  obtain ⟨hob, h⟩ := h
  refine r_V C hS (ct_X4_isPerson l Z w a0 a3 _ h) 1 24 hob ⟨by decide, by decide +kernel⟩ (lw_V q1494 q1496 qs35 q71 q1497) ⟨rfl, by decide, by decide, by decide +kernel⟩ ⟨Nat.le_of_ble_eq_true rfl, Nat.le_of_ble_eq_true rfl⟩ rfl hl.1 rfl (wcat4 (Nat.le_of_ble_eq_true rfl)) dX4_kinds_3 ⟨Nat.le_of_ble_eq_true rfl, Nat.le_of_ble_eq_true rfl⟩ (fun v_ w2 H locs hv hS => ?_)
  obtain ⟨v1, rfl, h⟩ := hv
  refine r_if_eq (tgt := 33) hx hb h dX4_kinds_6 (by decide) (fun h => ?_) (fun h => ?_)
  · exact kb_X4_kinds_33 C k w2 a0 a1 a2 a3 a4 a5 (some a0) _ _ _ h hS (lv_sub hl [0, 1, 2, 3, 4, 5] rfl)
  · refine lv_aload_n hx hb dX4_kinds_9 rfl (lv_at hl 0 rfl) ?_
    refine lv_iload hx hb dX4_kinds_10 (lv_at hl 4 rfl) ?_
    obtain ⟨hob, h⟩ := h
    refine r_V C hS (ct_X4_isCell l Z w2 a0 a4 _ h) 1 24 hob ⟨by decide, by decide +kernel⟩ (lw_V q1450 q1452 qs29 q71 q1453) ⟨rfl, by decide, by decide, by decide +kernel⟩ ⟨Nat.le_of_ble_eq_true rfl, Nat.le_of_ble_eq_true rfl⟩ rfl hl.1 rfl (wcat4 (Nat.le_of_ble_eq_true rfl)) dX4_kinds_12 ⟨Nat.le_of_ble_eq_true rfl, Nat.le_of_ble_eq_true rfl⟩ (fun v_ w18 H locs hv hS => ?_)
    obtain ⟨v17, rfl, h⟩ := hv
    refine r_if_eq (tgt := 33) hx hb h dX4_kinds_15 (by decide) (fun h => ?_) (fun h => ?_)
    · exact kb_X4_kinds_33 C k w18 a0 a1 a2 a3 a4 a5 (some a0) _ _ _ h hS (lv_sub hl [0, 1, 2, 3, 4, 5] rfl)
    · refine lv_iload hx hb dX4_kinds_18 (lv_at hl 5 rfl) ?_
      refine lv_i2l hx hb dX4_kinds_20 rfl ?_
      refine lv_lconst (v := 0) hx hb dX4_kinds_21 (by decide) ?_
      refine lv_lconst (v := 1) hx hb dX4_kinds_22 (by decide) ?_
      refine r_S C hS (ct_X4_isIn l Z w18 (a5.toInt64) 0 1 _ h) 3 (lw_S q1439 q1440 q71 q1441) ⟨by decide, by decide, by decide +kernel⟩ ⟨Nat.le_of_ble_eq_true rfl, Nat.le_of_ble_eq_true rfl⟩ rfl hl.1 rfl (wcat4 (Nat.le_of_ble_eq_true rfl)) dX4_kinds_23 ⟨Nat.le_of_ble_eq_true rfl, Nat.le_of_ble_eq_true rfl⟩ (fun v_ w20 H locs hv hS => ?_)
      obtain ⟨v19, rfl, h⟩ := hv
      refine r_if_eq (tgt := 33) hx hb h dX4_kinds_26 (by decide) (fun h => ?_) (fun h => ?_)
      · exact kb_X4_kinds_33 C k w20 a0 a1 a2 a3 a4 a5 (some a0) _ _ _ h hS (lv_sub hl [0, 1, 2, 3, 4, 5] rfl)
      · refine lv_iconst (v := 1) hx hb dX4_kinds_29 (by decide) ?_
        refine lv_goto (tgt := 34) hx hb dX4_kinds_30 (by decide) ?_
        exact kb_X4_kinds_34 C k w20 a0 a1 a2 a3 a4 a5 (some a0) 1 _ _ _ h hS (lv_sub hl [0, 1, 2, 3, 4, 5] rfl)
end VX4_kinds
/-! LeftIsAgreedOnModel.who(III)I -/
section VX4_who
variable {p : Program} {l : Launch} {e : Env} {s : State} {m : MethodId} {args : Array Value} {below : List Frame} {meth : Method} {c : Code} {Z : wZ} {A : Nat → Prop}
set_option maxHeartbeats 4000000 in
theorem kb_X4_who_31 (C : wC p l s m args meth c cX4_who 7 (some .int) RX4 "who" Z A) (k : Int32 → Wd → Prop) (L31 : Wd → Nat → Int32 → Int32 → Int32 → Int32 → Prop) (hL31 : ∀ (w : Wd) (x0 : Nat) (x2 : Int32) (x3 : Int32) (x5 : Int32) (x6 : Int32) (H : Heap) (locs : List Loc) (ls : Array Slot), L31 w x0 x2 x3 x5 x6 → wS Z A s w H locs → lv_has ls 7 [(0, .ref x0), (2, .int x2), (3, .int x3), (5, .int x5), (6, .int x6)] → W p l e ({ frames := 6, cells := 0, slots := 0, locals := 145 } : Room) s m args below meth c H locs 0 0 (MQ below (wQc Z A (pI k)) args s 0 0 A) (F0 m 31 ls [])) : ∀ (w : Wd) (a0 : Nat) (l2 : Int32) (l3 : Int32) (l5 : Int32) (l6 : Int32) (H : Heap) (locs : List Loc) (ls : Array Slot), wb_X4_who_31 k L31 w a0 l2 l3 l5 l6 → wS Z A s w H locs → lv_has ls 7 [(0, .ref a0), (2, .int l2), (3, .int l3), (5, .int l5), (6, .int l6)] → W p l e ({ frames := 6, cells := 0, slots := 0, locals := 145 } : Room) s m args below meth c H locs 0 0 (MQ below (wQc Z A (pI k)) args s 0 0 A) (F0 m 31 ls []) := by
  intro w a0 l2 l3 l5 l6 H locs ls h hS hl
  have hx := C.hx
  have hb := C.hb
  unfold wb_X4_who_31 at h
  refine lv_iload hx hb dX4_who_31 (lv_at hl 4 rfl) ?_
  refine lv_aload_n hx hb dX4_who_33 rfl (lv_at hl 0 rfl) ?_
  obtain ⟨hob, h⟩ := h
  refine r_V C hS (ct_X4_many l Z w a0 _ h) 0 24 hob ⟨by decide, by decide +kernel⟩ (lw_V q1458 q1460 qs31 q71 q1461) ⟨rfl, by decide, by decide, by decide +kernel⟩ ⟨Nat.le_of_ble_eq_true rfl, Nat.le_of_ble_eq_true rfl⟩ rfl hl.1 rfl (wcat4 (Nat.le_of_ble_eq_true rfl)) dX4_who_34 ⟨Nat.le_of_ble_eq_true rfl, Nat.le_of_ble_eq_true rfl⟩ (fun v_ w6 H locs hv hS => ?_)
  obtain ⟨v5, rfl, h⟩ := hv
  refine r_icmp_ge (tgt := 76) hx hb h dX4_who_37 (by decide) (fun h => ?_) (fun h => ?_)
  · refine lv_iload hx hb dX4_who_76 (lv_at hl 3 rfl) ?_
    exact r_iret C hS h rfl rfl (Nat.le_of_ble_eq_true rfl) (Nat.le_of_ble_eq_true rfl) dX4_who_78
  · refine lv_aload_n hx hb dX4_who_40 rfl (lv_at hl 0 rfl) ?_
    refine lv_iload hx hb dX4_who_41 (lv_at hl 4 rfl) ?_
    refine lv_iload_n hx hb dX4_who_43 rfl (lv_at hl 1 rfl) ?_
    obtain ⟨hob, h⟩ := h
    refine r_V C hS (ct_X4_go l Z w6 a0 l6 l2 _ h) 2 24 hob ⟨by decide, by decide +kernel⟩ (lw_V q1639 q1641 qs55 q71 q1642) ⟨rfl, by decide, by decide, by decide +kernel⟩ ⟨Nat.le_of_ble_eq_true rfl, Nat.le_of_ble_eq_true rfl⟩ rfl hl.1 rfl (wcat4 (Nat.le_of_ble_eq_true rfl)) dX4_who_44 ⟨Nat.le_of_ble_eq_true rfl, Nat.le_of_ble_eq_true rfl⟩ (fun v_ w7 H locs hv hS => ?_)
    obtain ⟨rfl, h⟩ := hv
    refine lv_iload hx hb dX4_who_47 (lv_at hl 3 rfl) ?_
    refine lv_aload_n hx hb dX4_who_49 rfl (lv_at hl 0 rfl) ?_
    refine r_getG C hS h gk_61 q1365 dX4_who_50 (fun v8 h => ?_)
    refine lv_iconst (v := 0) hx hb dX4_who_53 (by decide) ?_
    refine r_iald C hS h dX4_who_54 (fun v9 h => ?_)
    refine lv_iload_n hx hb dX4_who_55 rfl (lv_at hl 2 rfl) ?_
    refine r_icmp_ne (tgt := 66) hx hb h dX4_who_56 (by decide) (fun h => ?_) (fun h => ?_)
    · refine lv_iconst (v := 0) hx hb dX4_who_66 (by decide) ?_
      refine lv_ior hx hb dX4_who_67 ?_
      refine lv_istore (i := 5) (lv' := [(5, .int (l5 ||| 0)), (0, .ref a0), (2, .int l2), (3, .int l3), (6, .int l6)]) hx hb dX4_who_68 hl (by decide) rfl (fun ls hl => ?_)
      refine lv_iinc (i := 6) (v := (l6 + 1)) (lv' := [(6, .int (l6 + 1)), (5, .int (l5 ||| 0)), (0, .ref a0), (2, .int l2), (3, .int l3)]) hx hb dX4_who_70 hl (k := 4) rfl rfl (by decide) rfl (fun ls hl => ?_)
      refine lv_goto (tgt := 31) hx hb dX4_who_73 (by decide) ?_
      exact hL31 w7 a0 l2 l3 (l5 ||| 0) (l6 + 1) _ _ _ h hS (lv_sub hl [2, 3, 4, 1, 0] rfl)
    · refine lv_iconst (v := 1) hx hb dX4_who_59 (by decide) ?_
      refine lv_iload hx hb dX4_who_60 (lv_at hl 4 rfl) ?_
      refine lv_ishl hx hb dX4_who_62 ?_
      refine lv_goto (tgt := 67) hx hb dX4_who_63 (by decide) ?_
      refine lv_ior hx hb dX4_who_67 ?_
      refine lv_istore (i := 5) (lv' := [(5, .int (l5 ||| (1 <<< (l6 &&& 31)))), (0, .ref a0), (2, .int l2), (3, .int l3), (6, .int l6)]) hx hb dX4_who_68 hl (by decide) rfl (fun ls hl => ?_)
      refine lv_iinc (i := 6) (v := (l6 + 1)) (lv' := [(6, .int (l6 + 1)), (5, .int (l5 ||| (1 <<< (l6 &&& 31)))), (0, .ref a0), (2, .int l2), (3, .int l3)]) hx hb dX4_who_70 hl (k := 4) rfl rfl (by decide) rfl (fun ls hl => ?_)
      refine lv_goto (tgt := 31) hx hb dX4_who_73 (by decide) ?_
      exact hL31 w7 a0 l2 l3 (l5 ||| (1 <<< (l6 &&& 31))) (l6 + 1) _ _ _ h hS (lv_sub hl [2, 3, 4, 1, 0] rfl)
set_option maxHeartbeats 4000000 in
theorem kl_X4_who_31 (C : wC p l s m args meth c cX4_who 7 (some .int) RX4 "who" Z A) (k : Int32 → Wd → Prop) : ∀ (n : Nat), ∀ (w : Wd) (a0 : Nat) (l2 : Int32) (l3 : Int32) (l5 : Int32) (l6 : Int32) (H : Heap) (locs : List Loc) (ls : Array Slot), wl_X4_who_31 k n w a0 l2 l3 l5 l6 → wS Z A s w H locs → lv_has ls 7 [(0, .ref a0), (2, .int l2), (3, .int l3), (5, .int l5), (6, .int l6)] → W p l e ({ frames := 6, cells := 0, slots := 0, locals := 145 } : Room) s m args below meth c H locs 0 0 (MQ below (wQc Z A (pI k)) args s 0 0 A) (F0 m 31 ls []) := by
  intro n
  induction n with
  | zero =>
    intro w a0 l2 l3 l5 l6 H locs ls h
    exact h.elim
  | succ n ih =>
    intro w a0 l2 l3 l5 l6 H locs ls h hS hl
    exact kb_X4_who_31 C k (wl_X4_who_31 k n) ih w a0 l2 l3 l5 l6 H locs ls h hS hl
set_option maxHeartbeats 4000000 in
theorem ct_X4_who (l : Launch) (Z : wZ) (w : Wd) (a0 : Nat) (a1 : Int32) (a2 : Int32) (a3 : Int32) (k : Int32 → Wd → Prop) (h : wp_X4_who w a0 a1 a2 a3 k) : wMet l Z yX4_who cX4_who 7 (some .int) 6 145 0 0 [.ref a0, .int a1, .int a2, .int a3] w (pI k) := by
  refine wM_of (by decide +kernel) (Nat.le_of_ble_eq_true rfl) ?_
  intro p e s m below meth c ls C hS hl
  replace C : wC p l s m _ meth c cX4_who 7 (some .int) RX4 "who" Z _ := C
  have hl : lv_has ls 7 [(0, .ref a0), (1, .int a1), (2, .int a2), (3, .int a3)] := hl
  have hx := C.hx
  have hb := C.hb
  unfold wp_X4_who at h
  generalize wA w = A at C hS ⊢
  refine lv_aload_n hx hb dX4_who_0 rfl (lv_at hl 0 rfl) ?_
  refine lv_aload_n hx hb dX4_who_1 rfl (lv_at hl 0 rfl) ?_
  refine lv_iload_n hx hb dX4_who_2 rfl (lv_at hl 3 rfl) ?_
  obtain ⟨hob, h⟩ := h
  refine r_V C hS (ct_X4_isCell l Z w a0 a3 _ h) 1 24 hob ⟨by decide, by decide +kernel⟩ (lw_V q1450 q1452 qs29 q71 q1453) ⟨rfl, by decide, by decide, by decide +kernel⟩ ⟨Nat.le_of_ble_eq_true rfl, Nat.le_of_ble_eq_true rfl⟩ rfl hl.1 rfl (wcat4 (Nat.le_of_ble_eq_true rfl)) dX4_who_3 ⟨Nat.le_of_ble_eq_true rfl, Nat.le_of_ble_eq_true rfl⟩ (fun v_ w2 H locs hv hS => ?_)
  obtain ⟨v1, rfl, h⟩ := hv
  refine lv_iload_n hx hb dX4_who_6 rfl (lv_at hl 1 rfl) ?_
  refine lv_iload_n hx hb dX4_who_7 rfl (lv_at hl 2 rfl) ?_
  obtain ⟨hob, h⟩ := h
  refine r_V C hS (ct_X4_loadIf l Z w2 a0 v1 a1 a2 _ h) 3 24 hob ⟨by decide, by decide +kernel⟩ (lw_V q1631 q1633 qs53 q71 q1634) ⟨rfl, by decide, by decide, by decide +kernel⟩ ⟨Nat.le_of_ble_eq_true rfl, Nat.le_of_ble_eq_true rfl⟩ rfl hl.1 rfl (wcat4 (Nat.le_of_ble_eq_true rfl)) dX4_who_8 ⟨Nat.le_of_ble_eq_true rfl, Nat.le_of_ble_eq_true rfl⟩ (fun v_ w4 H locs hv hS => ?_)
  obtain ⟨v3, rfl, h⟩ := hv
  refine lv_istore (i := 4) (lv' := [(4, .int v3), (0, .ref a0), (1, .int a1), (2, .int a2), (3, .int a3)]) hx hb dX4_who_11 hl (by decide) rfl (fun ls hl => ?_)
  refine lv_iload hx hb dX4_who_13 (lv_at hl 0 rfl) ?_
  refine r_if_ge (tgt := 25) hx hb h dX4_who_15 (by decide) (fun h => ?_) (fun h => ?_)
  · refine lv_iconst (v := 0) hx hb dX4_who_25 (by decide) ?_
    refine lv_istore (i := 5) (lv' := [(5, .int 0), (4, .int v3), (0, .ref a0), (1, .int a1), (2, .int a2), (3, .int a3)]) hx hb dX4_who_26 hl (by decide) rfl (fun ls hl => ?_)
    refine lv_iconst (v := 0) hx hb dX4_who_28 (by decide) ?_
    refine lv_istore (i := 6) (lv' := [(6, .int 0), (5, .int 0), (4, .int v3), (0, .ref a0), (1, .int a1), (2, .int a2), (3, .int a3)]) hx hb dX4_who_29 hl (by decide) rfl (fun ls hl => ?_)
    exact kl_X4_who_31 C k FU w4 a0 a2 a3 0 0 _ _ _ h hS (lv_sub hl [3, 5, 6, 1, 0] rfl)
  · refine lv_aload_n hx hb dX4_who_18 rfl (lv_at hl 1 rfl) ?_
    refine lv_iload hx hb dX4_who_19 (lv_at hl 0 rfl) ?_
    obtain ⟨hob, h⟩ := h
    refine r_V C hS (ct_X4_refuse l Z w4 a0 v3 _ h) 1 24 hob ⟨by decide, by decide +kernel⟩ (lw_V q1442 q1444 qs28 q71 q1445) ⟨rfl, by decide, by decide, by decide +kernel⟩ ⟨Nat.le_of_ble_eq_true rfl, Nat.le_of_ble_eq_true rfl⟩ rfl hl.1 rfl (wcat4 (Nat.le_of_ble_eq_true rfl)) dX4_who_21 ⟨Nat.le_of_ble_eq_true rfl, Nat.le_of_ble_eq_true rfl⟩ (fun v_ w11 H locs hv hS => ?_)
    obtain ⟨v10, rfl, h⟩ := hv
    exact r_iret C hS h rfl rfl (Nat.le_of_ble_eq_true rfl) (Nat.le_of_ble_eq_true rfl) dX4_who_24
end VX4_who
/-! LeftIsAgreedOnModel.comeOut(I)V -/
section VX4_comeOut
variable {p : Program} {l : Launch} {e : Env} {s : State} {m : MethodId} {args : Array Value} {below : List Frame} {meth : Method} {c : Code} {Z : wZ} {A : Nat → Prop}
set_option maxHeartbeats 4000000 in
theorem kb_X4_comeOut_2 (C : wC p l s m args meth c cX4_comeOut 3 none RX4 "comeOut" Z A) (k : Wd → Prop) (L2 : Wd → Nat → Int32 → Int32 → Prop) (hL2 : ∀ (w : Wd) (x0 : Nat) (x1 : Int32) (x2 : Int32) (H : Heap) (locs : List Loc) (ls : Array Slot), L2 w x0 x1 x2 → wS Z A s w H locs → lv_has ls 3 [(0, .ref x0), (1, .int x1), (2, .int x2)] → W p l e ({ frames := 6, cells := 0, slots := 0, locals := 145 } : Room) s m args below meth c H locs 0 0 (MQ below (wQc Z A (pV k)) args s 0 0 A) (F0 m 2 ls [])) : ∀ (w : Wd) (a0 : Nat) (l1 : Int32) (l2 : Int32) (H : Heap) (locs : List Loc) (ls : Array Slot), wb_X4_comeOut_2 k L2 w a0 l1 l2 → wS Z A s w H locs → lv_has ls 3 [(0, .ref a0), (1, .int l1), (2, .int l2)] → W p l e ({ frames := 6, cells := 0, slots := 0, locals := 145 } : Room) s m args below meth c H locs 0 0 (MQ below (wQc Z A (pV k)) args s 0 0 A) (F0 m 2 ls []) := by
  intro w a0 l1 l2 H locs ls h hS hl
  have hx := C.hx
  have hb := C.hb
  unfold wb_X4_comeOut_2 at h
  refine lv_iload_n hx hb dX4_comeOut_2 rfl (lv_at hl 2 rfl) ?_
  refine lv_aload_n hx hb dX4_comeOut_3 rfl (lv_at hl 0 rfl) ?_
  obtain ⟨hob, h⟩ := h
  refine r_V C hS (ct_X4_many l Z w a0 _ h) 0 24 hob ⟨by decide, by decide +kernel⟩ (lw_V q1458 q1460 qs31 q71 q1461) ⟨rfl, by decide, by decide, by decide +kernel⟩ ⟨Nat.le_of_ble_eq_true rfl, Nat.le_of_ble_eq_true rfl⟩ rfl hl.1 rfl (wcat4 (Nat.le_of_ble_eq_true rfl)) dX4_comeOut_4 ⟨Nat.le_of_ble_eq_true rfl, Nat.le_of_ble_eq_true rfl⟩ (fun v_ w2 H locs hv hS => ?_)
  obtain ⟨v1, rfl, h⟩ := hv
  refine r_icmp_ge (tgt := 34) hx hb h dX4_comeOut_7 (by decide) (fun h => ?_) (fun h => ?_)
  · exact r_vret C hS h rfl (Nat.le_of_ble_eq_true rfl) (Nat.le_of_ble_eq_true rfl) dX4_comeOut_34
  · refine lv_aload_n hx hb dX4_comeOut_10 rfl (lv_at hl 0 rfl) ?_
    refine lv_iload_n hx hb dX4_comeOut_11 rfl (lv_at hl 2 rfl) ?_
    refine lv_iload_n hx hb dX4_comeOut_12 rfl (lv_at hl 1 rfl) ?_
    obtain ⟨hob, h⟩ := h
    refine r_V C hS (ct_X4_go l Z w2 a0 l2 l1 _ h) 2 24 hob ⟨by decide, by decide +kernel⟩ (lw_V q1639 q1641 qs55 q71 q1642) ⟨rfl, by decide, by decide, by decide +kernel⟩ ⟨Nat.le_of_ble_eq_true rfl, Nat.le_of_ble_eq_true rfl⟩ rfl hl.1 rfl (wcat4 (Nat.le_of_ble_eq_true rfl)) dX4_comeOut_13 ⟨Nat.le_of_ble_eq_true rfl, Nat.le_of_ble_eq_true rfl⟩ (fun v_ w3 H locs hv hS => ?_)
    obtain ⟨rfl, h⟩ := hv
    refine lv_aload_n hx hb dX4_comeOut_16 rfl (lv_at hl 0 rfl) ?_
    refine r_getG C hS h gk_73 q1378 dX4_comeOut_17 (fun v4 h => ?_)
    refine lv_iload_n hx hb dX4_comeOut_20 rfl (lv_at hl 2 rfl) ?_
    refine lv_aload_n hx hb dX4_comeOut_21 rfl (lv_at hl 0 rfl) ?_
    refine r_getG C hS h gk_61 q1365 dX4_comeOut_22 (fun v5 h => ?_)
    refine lv_iconst (v := 0) hx hb dX4_comeOut_25 (by decide) ?_
    refine r_iald C hS h dX4_comeOut_26 (fun v6 h => ?_)
    refine r_iast C hS h dX4_comeOut_27 (fun w7 H locs h hS => ?_)
    refine lv_iinc (i := 2) (v := (l2 + 1)) (lv' := [(2, .int (l2 + 1)), (0, .ref a0), (1, .int l1)]) hx hb dX4_comeOut_28 hl (k := 2) rfl rfl (by decide) rfl (fun ls hl => ?_)
    refine lv_goto (tgt := 2) hx hb dX4_comeOut_31 (by decide) ?_
    exact hL2 w7 a0 l1 (l2 + 1) _ _ _ h hS (lv_sub hl [1, 2, 0] rfl)
set_option maxHeartbeats 4000000 in
theorem kl_X4_comeOut_2 (C : wC p l s m args meth c cX4_comeOut 3 none RX4 "comeOut" Z A) (k : Wd → Prop) : ∀ (n : Nat), ∀ (w : Wd) (a0 : Nat) (l1 : Int32) (l2 : Int32) (H : Heap) (locs : List Loc) (ls : Array Slot), wl_X4_comeOut_2 k n w a0 l1 l2 → wS Z A s w H locs → lv_has ls 3 [(0, .ref a0), (1, .int l1), (2, .int l2)] → W p l e ({ frames := 6, cells := 0, slots := 0, locals := 145 } : Room) s m args below meth c H locs 0 0 (MQ below (wQc Z A (pV k)) args s 0 0 A) (F0 m 2 ls []) := by
  intro n
  induction n with
  | zero =>
    intro w a0 l1 l2 H locs ls h
    exact h.elim
  | succ n ih =>
    intro w a0 l1 l2 H locs ls h hS hl
    exact kb_X4_comeOut_2 C k (wl_X4_comeOut_2 k n) ih w a0 l1 l2 H locs ls h hS hl
set_option maxHeartbeats 4000000 in
theorem ct_X4_comeOut (l : Launch) (Z : wZ) (w : Wd) (a0 : Nat) (a1 : Int32) (k : Wd → Prop) (h : wp_X4_comeOut w a0 a1 k) : wMet l Z yX4_comeOut cX4_comeOut 3 none 6 145 0 0 [.ref a0, .int a1] w (pV k) := by
  refine wM_of (by decide +kernel) (Nat.le_of_ble_eq_true rfl) ?_
  intro p e s m below meth c ls C hS hl
  replace C : wC p l s m _ meth c cX4_comeOut 3 none RX4 "comeOut" Z _ := C
  have hl : lv_has ls 3 [(0, .ref a0), (1, .int a1)] := hl
  have hx := C.hx
  have hb := C.hb
  unfold wp_X4_comeOut at h
  generalize wA w = A at C hS ⊢
  refine lv_iconst (v := 0) hx hb dX4_comeOut_0 (by decide) ?_
  refine lv_istore_n (i := 2) (lv' := [(2, .int 0), (0, .ref a0), (1, .int a1)]) hx hb dX4_comeOut_1 rfl hl (by decide) rfl (fun ls hl => ?_)
  exact kl_X4_comeOut_2 C k FU w a0 a1 0 _ _ _ h hS (lv_sub hl [1, 2, 0] rfl)
end VX4_comeOut
/-! LeftIsAgreedOnModel.outIn(I)I -/
section VX4_outIn
variable {p : Program} {l : Launch} {e : Env} {s : State} {m : MethodId} {args : Array Value} {below : List Frame} {meth : Method} {c : Code} {Z : wZ} {A : Nat → Prop}
set_option maxHeartbeats 4000000 in
theorem kb_X4_outIn_4 (C : wC p l s m args meth c cX4_outIn 4 (some .int) RX4 "outIn" Z A) (k : Int32 → Wd → Prop) (L4 : Wd → Nat → Int32 → Int32 → Int32 → Prop) (hL4 : ∀ (w : Wd) (x0 : Nat) (x1 : Int32) (x2 : Int32) (x3 : Int32) (H : Heap) (locs : List Loc) (ls : Array Slot), L4 w x0 x1 x2 x3 → wS Z A s w H locs → lv_has ls 4 [(0, .ref x0), (1, .int x1), (2, .int x2), (3, .int x3)] → W p l e ({ frames := 1, cells := 0, slots := 0, locals := 20 } : Room) s m args below meth c H locs 0 0 (MQ below (wQc Z A (pI k)) args s 0 0 A) (F0 m 4 ls [])) : ∀ (w : Wd) (a0 : Nat) (l1 : Int32) (l2 : Int32) (l3 : Int32) (H : Heap) (locs : List Loc) (ls : Array Slot), wb_X4_outIn_4 k L4 w a0 l1 l2 l3 → wS Z A s w H locs → lv_has ls 4 [(0, .ref a0), (1, .int l1), (2, .int l2), (3, .int l3)] → W p l e ({ frames := 1, cells := 0, slots := 0, locals := 20 } : Room) s m args below meth c H locs 0 0 (MQ below (wQc Z A (pI k)) args s 0 0 A) (F0 m 4 ls []) := by
  intro w a0 l1 l2 l3 H locs ls h hS hl
  have hx := C.hx
  have hb := C.hb
  unfold wb_X4_outIn_4 at h
  refine lv_iload_n hx hb dX4_outIn_4 rfl (lv_at hl 3 rfl) ?_
  refine lv_aload_n hx hb dX4_outIn_5 rfl (lv_at hl 0 rfl) ?_
  obtain ⟨hob, h⟩ := h
  refine r_V C hS (ct_X4_many l Z w a0 _ h) 0 24 hob ⟨by decide, by decide +kernel⟩ (lw_V q1458 q1460 qs31 q71 q1461) ⟨rfl, by decide, by decide, by decide +kernel⟩ ⟨Nat.le_of_ble_eq_true rfl, Nat.le_of_ble_eq_true rfl⟩ rfl hl.1 rfl (wcat4 (Nat.le_of_ble_eq_true rfl)) dX4_outIn_6 ⟨Nat.le_of_ble_eq_true rfl, Nat.le_of_ble_eq_true rfl⟩ (fun v_ w2 H locs hv hS => ?_)
  obtain ⟨v1, rfl, h⟩ := hv
  refine r_icmp_ge (tgt := 36) hx hb h dX4_outIn_9 (by decide) (fun h => ?_) (fun h => ?_)
  · refine lv_iload_n hx hb dX4_outIn_36 rfl (lv_at hl 2 rfl) ?_
    exact r_iret C hS h rfl rfl (Nat.le_of_ble_eq_true rfl) (Nat.le_of_ble_eq_true rfl) dX4_outIn_37
  · refine lv_iload_n hx hb dX4_outIn_12 rfl (lv_at hl 2 rfl) ?_
    refine lv_aload_n hx hb dX4_outIn_13 rfl (lv_at hl 0 rfl) ?_
    refine r_getG C hS h gk_73 q1378 dX4_outIn_14 (fun v3 h => ?_)
    refine lv_iload_n hx hb dX4_outIn_17 rfl (lv_at hl 3 rfl) ?_
    refine r_iald C hS h dX4_outIn_18 (fun v4 h => ?_)
    refine lv_iload_n hx hb dX4_outIn_19 rfl (lv_at hl 1 rfl) ?_
    refine r_icmp_ne (tgt := 27) hx hb h dX4_outIn_20 (by decide) (fun h => ?_) (fun h => ?_)
    · refine lv_iconst (v := 0) hx hb dX4_outIn_27 (by decide) ?_
      refine lv_iadd hx hb dX4_outIn_28 ?_
      refine lv_istore_n (i := 2) (lv' := [(2, .int (l2 + 0)), (0, .ref a0), (1, .int l1), (3, .int l3)]) hx hb dX4_outIn_29 rfl hl (by decide) rfl (fun ls hl => ?_)
      refine lv_iinc (i := 3) (v := (l3 + 1)) (lv' := [(3, .int (l3 + 1)), (2, .int (l2 + 0)), (0, .ref a0), (1, .int l1)]) hx hb dX4_outIn_30 hl (k := 3) rfl rfl (by decide) rfl (fun ls hl => ?_)
      refine lv_goto (tgt := 4) hx hb dX4_outIn_33 (by decide) ?_
      exact hL4 w2 a0 l1 (l2 + 0) (l3 + 1) _ _ _ h hS (lv_sub hl [2, 3, 1, 0] rfl)
    · refine lv_iconst (v := 1) hx hb dX4_outIn_23 (by decide) ?_
      refine lv_goto (tgt := 28) hx hb dX4_outIn_24 (by decide) ?_
      refine lv_iadd hx hb dX4_outIn_28 ?_
      refine lv_istore_n (i := 2) (lv' := [(2, .int (l2 + 1)), (0, .ref a0), (1, .int l1), (3, .int l3)]) hx hb dX4_outIn_29 rfl hl (by decide) rfl (fun ls hl => ?_)
      refine lv_iinc (i := 3) (v := (l3 + 1)) (lv' := [(3, .int (l3 + 1)), (2, .int (l2 + 1)), (0, .ref a0), (1, .int l1)]) hx hb dX4_outIn_30 hl (k := 3) rfl rfl (by decide) rfl (fun ls hl => ?_)
      refine lv_goto (tgt := 4) hx hb dX4_outIn_33 (by decide) ?_
      exact hL4 w2 a0 l1 (l2 + 1) (l3 + 1) _ _ _ h hS (lv_sub hl [2, 3, 1, 0] rfl)
set_option maxHeartbeats 4000000 in
theorem kl_X4_outIn_4 (C : wC p l s m args meth c cX4_outIn 4 (some .int) RX4 "outIn" Z A) (k : Int32 → Wd → Prop) : ∀ (n : Nat), ∀ (w : Wd) (a0 : Nat) (l1 : Int32) (l2 : Int32) (l3 : Int32) (H : Heap) (locs : List Loc) (ls : Array Slot), wl_X4_outIn_4 k n w a0 l1 l2 l3 → wS Z A s w H locs → lv_has ls 4 [(0, .ref a0), (1, .int l1), (2, .int l2), (3, .int l3)] → W p l e ({ frames := 1, cells := 0, slots := 0, locals := 20 } : Room) s m args below meth c H locs 0 0 (MQ below (wQc Z A (pI k)) args s 0 0 A) (F0 m 4 ls []) := by
  intro n
  induction n with
  | zero =>
    intro w a0 l1 l2 l3 H locs ls h
    exact h.elim
  | succ n ih =>
    intro w a0 l1 l2 l3 H locs ls h hS hl
    exact kb_X4_outIn_4 C k (wl_X4_outIn_4 k n) ih w a0 l1 l2 l3 H locs ls h hS hl
set_option maxHeartbeats 4000000 in
theorem ct_X4_outIn (l : Launch) (Z : wZ) (w : Wd) (a0 : Nat) (a1 : Int32) (k : Int32 → Wd → Prop) (h : wp_X4_outIn w a0 a1 k) : wMet l Z yX4_outIn cX4_outIn 4 (some .int) 1 20 0 0 [.ref a0, .int a1] w (pI k) := by
  refine wM_of (by decide +kernel) (Nat.le_of_ble_eq_true rfl) ?_
  intro p e s m below meth c ls C hS hl
  replace C : wC p l s m _ meth c cX4_outIn 4 (some .int) RX4 "outIn" Z _ := C
  have hl : lv_has ls 4 [(0, .ref a0), (1, .int a1)] := hl
  have hx := C.hx
  have hb := C.hb
  unfold wp_X4_outIn at h
  generalize wA w = A at C hS ⊢
  refine lv_iconst (v := 0) hx hb dX4_outIn_0 (by decide) ?_
  refine lv_istore_n (i := 2) (lv' := [(2, .int 0), (0, .ref a0), (1, .int a1)]) hx hb dX4_outIn_1 rfl hl (by decide) rfl (fun ls hl => ?_)
  refine lv_iconst (v := 0) hx hb dX4_outIn_2 (by decide) ?_
  refine lv_istore_n (i := 3) (lv' := [(3, .int 0), (2, .int 0), (0, .ref a0), (1, .int a1)]) hx hb dX4_outIn_3 rfl hl (by decide) rfl (fun ls hl => ?_)
  exact kl_X4_outIn_4 C k FU w a0 a1 0 0 _ _ _ h hS (lv_sub hl [2, 3, 1, 0] rfl)
end VX4_outIn
/-! LeftIsAgreedOnModel.crowd(III)I -/
section VX4_crowd
variable {p : Program} {l : Launch} {e : Env} {s : State} {m : MethodId} {args : Array Value} {below : List Frame} {meth : Method} {c : Code} {Z : wZ} {A : Nat → Prop}
set_option maxHeartbeats 4000000 in
theorem kb_X4_crowd_27 (C : wC p l s m args meth c cX4_crowd 7 (some .int) RX4 "crowd" Z A) (k : Int32 → Wd → Prop) : ∀ (w : Wd) (a0 : Nat) (l4 : Int32) (H : Heap) (locs : List Loc) (ls : Array Slot), wb_X4_crowd_27 k w a0 l4 → wS Z A s w H locs → lv_has ls 7 [(0, .ref a0), (4, .int l4)] → W p l e ({ frames := 7, cells := 0, slots := 0, locals := 167 } : Room) s m args below meth c H locs 0 0 (MQ below (wQc Z A (pI k)) args s 0 0 A) (F0 m 27 ls []) := by
  intro w a0 l4 H locs ls h hS hl
  have hx := C.hx
  have hb := C.hb
  unfold wb_X4_crowd_27 at h
  refine lv_aload_n hx hb dX4_crowd_27 rfl (lv_at hl 0 rfl) ?_
  refine lv_iload hx hb dX4_crowd_28 (lv_at hl 1 rfl) ?_
  refine r_if_ge (tgt := 38) hx hb h dX4_crowd_30 (by decide) (fun h => ?_) (fun h => ?_)
  · refine lv_bipush (v := -5) hx hb dX4_crowd_38 (by decide) ?_
    obtain ⟨hob, h⟩ := h
    refine r_V C hS (ct_X4_refuse l Z w a0 (-5) _ h) 1 24 hob ⟨by decide, by decide +kernel⟩ (lw_V q1442 q1444 qs28 q71 q1445) ⟨rfl, by decide, by decide, by decide +kernel⟩ ⟨Nat.le_of_ble_eq_true rfl, Nat.le_of_ble_eq_true rfl⟩ rfl hl.1 rfl (wcat4 (Nat.le_of_ble_eq_true rfl)) dX4_crowd_40 ⟨Nat.le_of_ble_eq_true rfl, Nat.le_of_ble_eq_true rfl⟩ (fun v_ w6 H locs hv hS => ?_)
    obtain ⟨v5, rfl, h⟩ := hv
    exact r_iret C hS h rfl rfl (Nat.le_of_ble_eq_true rfl) (Nat.le_of_ble_eq_true rfl) dX4_crowd_43
  · refine lv_iload hx hb dX4_crowd_33 (lv_at hl 1 rfl) ?_
    refine lv_goto (tgt := 40) hx hb dX4_crowd_35 (by decide) ?_
    obtain ⟨hob, h⟩ := h
    refine r_V C hS (ct_X4_refuse l Z w a0 l4 _ h) 1 24 hob ⟨by decide, by decide +kernel⟩ (lw_V q1442 q1444 qs28 q71 q1445) ⟨rfl, by decide, by decide, by decide +kernel⟩ ⟨Nat.le_of_ble_eq_true rfl, Nat.le_of_ble_eq_true rfl⟩ rfl hl.1 rfl (wcat4 (Nat.le_of_ble_eq_true rfl)) dX4_crowd_40 ⟨Nat.le_of_ble_eq_true rfl, Nat.le_of_ble_eq_true rfl⟩ (fun v_ w8 H locs hv hS => ?_)
    obtain ⟨v7, rfl, h⟩ := hv
    exact r_iret C hS h rfl rfl (Nat.le_of_ble_eq_true rfl) (Nat.le_of_ble_eq_true rfl) dX4_crowd_43
set_option maxHeartbeats 4000000 in
theorem kb_X4_crowd_55 (C : wC p l s m args meth c cX4_crowd 7 (some .int) RX4 "crowd" Z A) (k : Int32 → Wd → Prop) (L55 : Wd → Nat → Int32 → Int32 → Int32 → Prop) (hL55 : ∀ (w : Wd) (x0 : Nat) (x3 : Int32) (x5 : Int32) (x6 : Int32) (H : Heap) (locs : List Loc) (ls : Array Slot), L55 w x0 x3 x5 x6 → wS Z A s w H locs → lv_has ls 7 [(0, .ref x0), (3, .int x3), (5, .int x5), (6, .int x6)] → W p l e ({ frames := 7, cells := 0, slots := 0, locals := 167 } : Room) s m args below meth c H locs 0 0 (MQ below (wQc Z A (pI k)) args s 0 0 A) (F0 m 55 ls [])) : ∀ (w : Wd) (a0 : Nat) (l3 : Int32) (l5 : Int32) (l6 : Int32) (H : Heap) (locs : List Loc) (ls : Array Slot), wb_X4_crowd_55 k L55 w a0 l3 l5 l6 → wS Z A s w H locs → lv_has ls 7 [(0, .ref a0), (3, .int l3), (5, .int l5), (6, .int l6)] → W p l e ({ frames := 7, cells := 0, slots := 0, locals := 167 } : Room) s m args below meth c H locs 0 0 (MQ below (wQc Z A (pI k)) args s 0 0 A) (F0 m 55 ls []) := by
  intro w a0 l3 l5 l6 H locs ls h hS hl
  have hx := C.hx
  have hb := C.hb
  unfold wb_X4_crowd_55 at h
  refine lv_iload hx hb dX4_crowd_55 (lv_at hl 3 rfl) ?_
  refine lv_bipush (v := 67) hx hb dX4_crowd_57 (by decide) ?_
  refine r_icmp_ge (tgt := 92) hx hb h dX4_crowd_59 (by decide) (fun h => ?_) (fun h => ?_)
  · refine lv_iload_n hx hb dX4_crowd_92 rfl (lv_at hl 1 rfl) ?_
    refine r_if_ne (tgt := 101) hx hb h dX4_crowd_93 (by decide) (fun h => ?_) (fun h => ?_)
    · refine lv_aload_n hx hb dX4_crowd_101 rfl (lv_at hl 0 rfl) ?_
      refine lv_iload hx hb dX4_crowd_102 (lv_at hl 2 rfl) ?_
      obtain ⟨hob, h⟩ := h
      refine r_V C hS (ct_X4_outIn l Z w a0 l5 _ h) 1 24 hob ⟨by decide, by decide +kernel⟩ (lw_V q1679 q1681 qs59 q71 q1682) ⟨rfl, by decide, by decide, by decide +kernel⟩ ⟨Nat.le_of_ble_eq_true rfl, Nat.le_of_ble_eq_true rfl⟩ rfl hl.1 rfl (wcat4 (Nat.le_of_ble_eq_true rfl)) dX4_crowd_104 ⟨Nat.le_of_ble_eq_true rfl, Nat.le_of_ble_eq_true rfl⟩ (fun v_ w13 H locs hv hS => ?_)
      obtain ⟨v12, rfl, h⟩ := hv
      exact r_iret C hS h rfl rfl (Nat.le_of_ble_eq_true rfl) (Nat.le_of_ble_eq_true rfl) dX4_crowd_107
    · refine lv_iload hx hb dX4_crowd_96 (lv_at hl 2 rfl) ?_
      refine lv_goto (tgt := 107) hx hb dX4_crowd_98 (by decide) ?_
      exact r_iret C hS h rfl rfl (Nat.le_of_ble_eq_true rfl) (Nat.le_of_ble_eq_true rfl) dX4_crowd_107
  · refine lv_aload_n hx hb dX4_crowd_62 rfl (lv_at hl 0 rfl) ?_
    refine lv_iload hx hb dX4_crowd_63 (lv_at hl 3 rfl) ?_
    obtain ⟨hob, h⟩ := h
    refine r_V C hS (ct_X4_outIn l Z w a0 l6 _ h) 1 24 hob ⟨by decide, by decide +kernel⟩ (lw_V q1679 q1681 qs59 q71 q1682) ⟨rfl, by decide, by decide, by decide +kernel⟩ ⟨Nat.le_of_ble_eq_true rfl, Nat.le_of_ble_eq_true rfl⟩ rfl hl.1 rfl (wcat4 (Nat.le_of_ble_eq_true rfl)) dX4_crowd_65 ⟨Nat.le_of_ble_eq_true rfl, Nat.le_of_ble_eq_true rfl⟩ (fun v_ w15 H locs hv hS => ?_)
    obtain ⟨v14, rfl, h⟩ := hv
    refine lv_aload_n hx hb dX4_crowd_68 rfl (lv_at hl 0 rfl) ?_
    refine lv_iload hx hb dX4_crowd_69 (lv_at hl 2 rfl) ?_
    obtain ⟨hob, h⟩ := h
    refine r_V C hS (ct_X4_outIn l Z w15 a0 l5 _ h) 1 24 hob ⟨by decide, by decide +kernel⟩ (lw_V q1679 q1681 qs59 q71 q1682) ⟨rfl, by decide, by decide, by decide +kernel⟩ ⟨Nat.le_of_ble_eq_true rfl, Nat.le_of_ble_eq_true rfl⟩ rfl hl.1 rfl (wcat4 (Nat.le_of_ble_eq_true rfl)) dX4_crowd_71 ⟨Nat.le_of_ble_eq_true rfl, Nat.le_of_ble_eq_true rfl⟩ (fun v_ w17 H locs hv hS => ?_)
    obtain ⟨v16, rfl, h⟩ := hv
    refine r_icmp_le (tgt := 82) hx hb h dX4_crowd_74 (by decide) (fun h => ?_) (fun h => ?_)
    · refine lv_iload hx hb dX4_crowd_82 (lv_at hl 2 rfl) ?_
      refine lv_istore (i := 5) (lv' := [(5, .int l5), (0, .ref a0), (3, .int l3), (6, .int l6)]) hx hb dX4_crowd_84 hl (by decide) rfl (fun ls hl => ?_)
      refine lv_iinc (i := 6) (v := (l6 + 1)) (lv' := [(6, .int (l6 + 1)), (5, .int l5), (0, .ref a0), (3, .int l3)]) hx hb dX4_crowd_86 hl (k := 3) rfl rfl (by decide) rfl (fun ls hl => ?_)
      refine lv_goto (tgt := 55) hx hb dX4_crowd_89 (by decide) ?_
      exact hL55 w17 a0 l3 l5 (l6 + 1) _ _ _ h hS (lv_sub hl [2, 3, 1, 0] rfl)
    · refine lv_iload hx hb dX4_crowd_77 (lv_at hl 3 rfl) ?_
      refine lv_goto (tgt := 84) hx hb dX4_crowd_79 (by decide) ?_
      refine lv_istore (i := 5) (lv' := [(5, .int l6), (0, .ref a0), (3, .int l3), (6, .int l6)]) hx hb dX4_crowd_84 hl (by decide) rfl (fun ls hl => ?_)
      refine lv_iinc (i := 6) (v := (l6 + 1)) (lv' := [(6, .int (l6 + 1)), (5, .int l6), (0, .ref a0), (3, .int l3)]) hx hb dX4_crowd_86 hl (k := 3) rfl rfl (by decide) rfl (fun ls hl => ?_)
      refine lv_goto (tgt := 55) hx hb dX4_crowd_89 (by decide) ?_
      exact hL55 w17 a0 l3 l6 (l6 + 1) _ _ _ h hS (lv_sub hl [2, 3, 1, 0] rfl)
set_option maxHeartbeats 4000000 in
theorem kl_X4_crowd_55 (C : wC p l s m args meth c cX4_crowd 7 (some .int) RX4 "crowd" Z A) (k : Int32 → Wd → Prop) : ∀ (n : Nat), ∀ (w : Wd) (a0 : Nat) (l3 : Int32) (l5 : Int32) (l6 : Int32) (H : Heap) (locs : List Loc) (ls : Array Slot), wl_X4_crowd_55 k n w a0 l3 l5 l6 → wS Z A s w H locs → lv_has ls 7 [(0, .ref a0), (3, .int l3), (5, .int l5), (6, .int l6)] → W p l e ({ frames := 7, cells := 0, slots := 0, locals := 167 } : Room) s m args below meth c H locs 0 0 (MQ below (wQc Z A (pI k)) args s 0 0 A) (F0 m 55 ls []) := by
  intro n
  induction n with
  | zero =>
    intro w a0 l3 l5 l6 H locs ls h
    exact h.elim
  | succ n ih =>
    intro w a0 l3 l5 l6 H locs ls h hS hl
    exact kb_X4_crowd_55 C k (wl_X4_crowd_55 k n) ih w a0 l3 l5 l6 H locs ls h hS hl
set_option maxHeartbeats 4000000 in
theorem ct_X4_crowd (l : Launch) (Z : wZ) (w : Wd) (a0 : Nat) (a1 : Int32) (a2 : Int32) (a3 : Int32) (k : Int32 → Wd → Prop) (h : wp_X4_crowd w a0 a1 a2 a3 k) : wMet l Z yX4_crowd cX4_crowd 7 (some .int) 7 167 0 0 [.ref a0, .int a1, .int a2, .int a3] w (pI k) := by
  refine wM_of (by decide +kernel) (Nat.le_of_ble_eq_true rfl) ?_
  intro p e s m below meth c ls C hS hl
  replace C : wC p l s m _ meth c cX4_crowd 7 (some .int) RX4 "crowd" Z _ := C
  have hl : lv_has ls 7 [(0, .ref a0), (1, .int a1), (2, .int a2), (3, .int a3)] := hl
  have hx := C.hx
  have hb := C.hb
  unfold wp_X4_crowd at h
  generalize wA w = A at C hS ⊢
  refine lv_aload_n hx hb dX4_crowd_0 rfl (lv_at hl 0 rfl) ?_
  refine lv_iload_n hx hb dX4_crowd_1 rfl (lv_at hl 3 rfl) ?_
  refine lv_i2l hx hb dX4_crowd_2 rfl ?_
  refine lv_lconst (v := 0) hx hb dX4_crowd_3 (by decide) ?_
  refine lv_lconst (v := 1) hx hb dX4_crowd_4 (by decide) ?_
  refine r_S C hS (ct_X4_isIn l Z w (a3.toInt64) 0 1 _ h) 3 (lw_S q1439 q1440 q71 q1441) ⟨by decide, by decide, by decide +kernel⟩ ⟨Nat.le_of_ble_eq_true rfl, Nat.le_of_ble_eq_true rfl⟩ rfl hl.1 rfl (wcat4 (Nat.le_of_ble_eq_true rfl)) dX4_crowd_5 ⟨Nat.le_of_ble_eq_true rfl, Nat.le_of_ble_eq_true rfl⟩ (fun v_ w2 H locs hv hS => ?_)
  obtain ⟨v1, rfl, h⟩ := hv
  refine lv_iload_n hx hb dX4_crowd_8 rfl (lv_at hl 1 rfl) ?_
  refine lv_iload_n hx hb dX4_crowd_9 rfl (lv_at hl 2 rfl) ?_
  obtain ⟨hob, h⟩ := h
  refine r_V C hS (ct_X4_loadIf l Z w2 a0 v1 a1 a2 _ h) 3 24 hob ⟨by decide, by decide +kernel⟩ (lw_V q1631 q1633 qs53 q71 q1634) ⟨rfl, by decide, by decide, by decide +kernel⟩ ⟨Nat.le_of_ble_eq_true rfl, Nat.le_of_ble_eq_true rfl⟩ rfl hl.1 rfl (wcat4 (Nat.le_of_ble_eq_true rfl)) dX4_crowd_10 ⟨Nat.le_of_ble_eq_true rfl, Nat.le_of_ble_eq_true rfl⟩ (fun v_ w4 H locs hv hS => ?_)
  obtain ⟨v3, rfl, h⟩ := hv
  refine lv_istore (i := 4) (lv' := [(4, .int v3), (0, .ref a0), (1, .int a1), (2, .int a2), (3, .int a3)]) hx hb dX4_crowd_13 hl (by decide) rfl (fun ls hl => ?_)
  refine lv_iload hx hb dX4_crowd_15 (lv_at hl 0 rfl) ?_
  refine r_if_lt (tgt := 27) hx hb h dX4_crowd_17 (by decide) (fun h => ?_) (fun h => ?_)
  · exact kb_X4_crowd_27 C k w4 a0 v3 _ _ _ h hS (lv_sub hl [1, 0] rfl)
  · refine lv_aload_n hx hb dX4_crowd_20 rfl (lv_at hl 1 rfl) ?_
    obtain ⟨hob, h⟩ := h
    refine r_V C hS (ct_X4_many l Z w4 a0 _ h) 0 24 hob ⟨by decide, by decide +kernel⟩ (lw_V q1458 q1460 qs31 q71 q1461) ⟨rfl, by decide, by decide, by decide +kernel⟩ ⟨Nat.le_of_ble_eq_true rfl, Nat.le_of_ble_eq_true rfl⟩ rfl hl.1 rfl (wcat4 (Nat.le_of_ble_eq_true rfl)) dX4_crowd_21 ⟨Nat.le_of_ble_eq_true rfl, Nat.le_of_ble_eq_true rfl⟩ (fun v_ w10 H locs hv hS => ?_)
    obtain ⟨v9, rfl, h⟩ := hv
    refine r_if_ne (tgt := 44) hx hb h dX4_crowd_24 (by decide) (fun h => ?_) (fun h => ?_)
    · refine lv_aload_n hx hb dX4_crowd_44 rfl (lv_at hl 1 rfl) ?_
      refine lv_iload_n hx hb dX4_crowd_45 rfl (lv_at hl 3 rfl) ?_
      obtain ⟨hob, h⟩ := h
      refine r_V C hS (ct_X4_comeOut l Z w10 a0 a2 _ h) 1 24 hob ⟨by decide, by decide +kernel⟩ (lw_V q1675 q1677 qs58 q71 q1678) ⟨rfl, by decide, by decide, by decide +kernel⟩ ⟨Nat.le_of_ble_eq_true rfl, Nat.le_of_ble_eq_true rfl⟩ rfl hl.1 rfl (wcat4 (Nat.le_of_ble_eq_true rfl)) dX4_crowd_46 ⟨Nat.le_of_ble_eq_true rfl, Nat.le_of_ble_eq_true rfl⟩ (fun v_ w11 H locs hv hS => ?_)
      obtain ⟨rfl, h⟩ := hv
      refine lv_iconst (v := 0) hx hb dX4_crowd_49 (by decide) ?_
      refine lv_istore (i := 5) (lv' := [(5, .int 0), (4, .int v3), (0, .ref a0), (1, .int a1), (2, .int a2), (3, .int a3)]) hx hb dX4_crowd_50 hl (by decide) rfl (fun ls hl => ?_)
      refine lv_iconst (v := 1) hx hb dX4_crowd_52 (by decide) ?_
      refine lv_istore (i := 6) (lv' := [(6, .int 1), (5, .int 0), (4, .int v3), (0, .ref a0), (1, .int a1), (2, .int a2), (3, .int a3)]) hx hb dX4_crowd_53 hl (by decide) rfl (fun ls hl => ?_)
      exact kl_X4_crowd_55 C k FU w11 a0 a3 0 1 _ _ _ h hS (lv_sub hl [3, 6, 1, 0] rfl)
    · exact kb_X4_crowd_27 C k w10 a0 v3 _ _ _ h hS (lv_sub hl [1, 0] rfl)
end VX4_crowd
/-! LeftIsAgreedOnModel.lonely(II)I -/
section VX4_lonely
variable {p : Program} {l : Launch} {e : Env} {s : State} {m : MethodId} {args : Array Value} {below : List Frame} {meth : Method} {c : Code} {Z : wZ} {A : Nat → Prop}
set_option maxHeartbeats 4000000 in
theorem kb_X4_lonely_29 (C : wC p l s m args meth c cX4_lonely 6 (some .int) RX4 "lonely" Z A) (k : Int32 → Wd → Prop) (L29 : Wd → Nat → Int32 → Int32 → Prop) (hL29 : ∀ (w : Wd) (x0 : Nat) (x4 : Int32) (x5 : Int32) (H : Heap) (locs : List Loc) (ls : Array Slot), L29 w x0 x4 x5 → wS Z A s w H locs → lv_has ls 6 [(0, .ref x0), (4, .int x4), (5, .int x5)] → W p l e ({ frames := 7, cells := 0, slots := 0, locals := 167 } : Room) s m args below meth c H locs 0 0 (MQ below (wQc Z A (pI k)) args s 0 0 A) (F0 m 29 ls [])) : ∀ (w : Wd) (a0 : Nat) (l4 : Int32) (l5 : Int32) (H : Heap) (locs : List Loc) (ls : Array Slot), wb_X4_lonely_29 k L29 w a0 l4 l5 → wS Z A s w H locs → lv_has ls 6 [(0, .ref a0), (4, .int l4), (5, .int l5)] → W p l e ({ frames := 7, cells := 0, slots := 0, locals := 167 } : Room) s m args below meth c H locs 0 0 (MQ below (wQc Z A (pI k)) args s 0 0 A) (F0 m 29 ls []) := by
  intro w a0 l4 l5 H locs ls h hS hl
  have hx := C.hx
  have hb := C.hb
  unfold wb_X4_lonely_29 at h
  refine lv_iload hx hb dX4_lonely_29 (lv_at hl 2 rfl) ?_
  refine lv_aload_n hx hb dX4_lonely_31 rfl (lv_at hl 0 rfl) ?_
  obtain ⟨hob, h⟩ := h
  refine r_V C hS (ct_X4_many l Z w a0 _ h) 0 24 hob ⟨by decide, by decide +kernel⟩ (lw_V q1458 q1460 qs31 q71 q1461) ⟨rfl, by decide, by decide, by decide +kernel⟩ ⟨Nat.le_of_ble_eq_true rfl, Nat.le_of_ble_eq_true rfl⟩ rfl hl.1 rfl (wcat4 (Nat.le_of_ble_eq_true rfl)) dX4_lonely_32 ⟨Nat.le_of_ble_eq_true rfl, Nat.le_of_ble_eq_true rfl⟩ (fun v_ w5 H locs hv hS => ?_)
  obtain ⟨v4, rfl, h⟩ := hv
  refine r_icmp_ge (tgt := 72) hx hb h dX4_lonely_35 (by decide) (fun h => ?_) (fun h => ?_)
  · refine lv_iload hx hb dX4_lonely_72 (lv_at hl 1 rfl) ?_
    exact r_iret C hS h rfl rfl (Nat.le_of_ble_eq_true rfl) (Nat.le_of_ble_eq_true rfl) dX4_lonely_74
  · refine lv_iload hx hb dX4_lonely_38 (lv_at hl 1 rfl) ?_
    refine lv_aload_n hx hb dX4_lonely_40 rfl (lv_at hl 0 rfl) ?_
    refine lv_aload_n hx hb dX4_lonely_41 rfl (lv_at hl 0 rfl) ?_
    refine r_getG C hS h gk_73 q1378 dX4_lonely_42 (fun v6 h => ?_)
    refine lv_iload hx hb dX4_lonely_45 (lv_at hl 2 rfl) ?_
    refine r_iald C hS h dX4_lonely_47 (fun v7 h => ?_)
    obtain ⟨hob, h⟩ := h
    refine r_V C hS (ct_X4_outIn l Z w5 a0 v7 _ h) 1 24 hob ⟨by decide, by decide +kernel⟩ (lw_V q1679 q1681 qs59 q71 q1682) ⟨rfl, by decide, by decide, by decide +kernel⟩ ⟨Nat.le_of_ble_eq_true rfl, Nat.le_of_ble_eq_true rfl⟩ rfl hl.1 rfl (wcat4 (Nat.le_of_ble_eq_true rfl)) dX4_lonely_48 ⟨Nat.le_of_ble_eq_true rfl, Nat.le_of_ble_eq_true rfl⟩ (fun v_ w9 H locs hv hS => ?_)
    obtain ⟨v8, rfl, h⟩ := hv
    refine lv_iconst (v := 1) hx hb dX4_lonely_51 (by decide) ?_
    refine r_icmp_ne (tgt := 62) hx hb h dX4_lonely_52 (by decide) (fun h => ?_) (fun h => ?_)
    · refine lv_iconst (v := 0) hx hb dX4_lonely_62 (by decide) ?_
      refine lv_ior hx hb dX4_lonely_63 ?_
      refine lv_istore (i := 4) (lv' := [(4, .int (l4 ||| 0)), (0, .ref a0), (5, .int l5)]) hx hb dX4_lonely_64 hl (by decide) rfl (fun ls hl => ?_)
      refine lv_iinc (i := 5) (v := (l5 + 1)) (lv' := [(5, .int (l5 + 1)), (4, .int (l4 ||| 0)), (0, .ref a0)]) hx hb dX4_lonely_66 hl (k := 2) rfl rfl (by decide) rfl (fun ls hl => ?_)
      refine lv_goto (tgt := 29) hx hb dX4_lonely_69 (by decide) ?_
      exact hL29 w9 a0 (l4 ||| 0) (l5 + 1) _ _ _ h hS (lv_sub hl [2, 1, 0] rfl)
    · refine lv_iconst (v := 1) hx hb dX4_lonely_55 (by decide) ?_
      refine lv_iload hx hb dX4_lonely_56 (lv_at hl 2 rfl) ?_
      refine lv_ishl hx hb dX4_lonely_58 ?_
      refine lv_goto (tgt := 63) hx hb dX4_lonely_59 (by decide) ?_
      refine lv_ior hx hb dX4_lonely_63 ?_
      refine lv_istore (i := 4) (lv' := [(4, .int (l4 ||| (1 <<< (l5 &&& 31)))), (0, .ref a0), (5, .int l5)]) hx hb dX4_lonely_64 hl (by decide) rfl (fun ls hl => ?_)
      refine lv_iinc (i := 5) (v := (l5 + 1)) (lv' := [(5, .int (l5 + 1)), (4, .int (l4 ||| (1 <<< (l5 &&& 31)))), (0, .ref a0)]) hx hb dX4_lonely_66 hl (k := 2) rfl rfl (by decide) rfl (fun ls hl => ?_)
      refine lv_goto (tgt := 29) hx hb dX4_lonely_69 (by decide) ?_
      exact hL29 w9 a0 (l4 ||| (1 <<< (l5 &&& 31))) (l5 + 1) _ _ _ h hS (lv_sub hl [2, 1, 0] rfl)
set_option maxHeartbeats 4000000 in
theorem kl_X4_lonely_29 (C : wC p l s m args meth c cX4_lonely 6 (some .int) RX4 "lonely" Z A) (k : Int32 → Wd → Prop) : ∀ (n : Nat), ∀ (w : Wd) (a0 : Nat) (l4 : Int32) (l5 : Int32) (H : Heap) (locs : List Loc) (ls : Array Slot), wl_X4_lonely_29 k n w a0 l4 l5 → wS Z A s w H locs → lv_has ls 6 [(0, .ref a0), (4, .int l4), (5, .int l5)] → W p l e ({ frames := 7, cells := 0, slots := 0, locals := 167 } : Room) s m args below meth c H locs 0 0 (MQ below (wQc Z A (pI k)) args s 0 0 A) (F0 m 29 ls []) := by
  intro n
  induction n with
  | zero =>
    intro w a0 l4 l5 H locs ls h
    exact h.elim
  | succ n ih =>
    intro w a0 l4 l5 H locs ls h hS hl
    exact kb_X4_lonely_29 C k (wl_X4_lonely_29 k n) ih w a0 l4 l5 H locs ls h hS hl
set_option maxHeartbeats 4000000 in
theorem ct_X4_lonely (l : Launch) (Z : wZ) (w : Wd) (a0 : Nat) (a1 : Int32) (a2 : Int32) (k : Int32 → Wd → Prop) (h : wp_X4_lonely w a0 a1 a2 k) : wMet l Z yX4_lonely cX4_lonely 6 (some .int) 7 167 0 0 [.ref a0, .int a1, .int a2] w (pI k) := by
  refine wM_of (by decide +kernel) (Nat.le_of_ble_eq_true rfl) ?_
  intro p e s m below meth c ls C hS hl
  replace C : wC p l s m _ meth c cX4_lonely 6 (some .int) RX4 "lonely" Z _ := C
  have hl : lv_has ls 6 [(0, .ref a0), (1, .int a1), (2, .int a2)] := hl
  have hx := C.hx
  have hb := C.hb
  unfold wp_X4_lonely at h
  generalize wA w = A at C hS ⊢
  refine lv_aload_n hx hb dX4_lonely_0 rfl (lv_at hl 0 rfl) ?_
  refine lv_iconst (v := 1) hx hb dX4_lonely_1 (by decide) ?_
  refine lv_iload_n hx hb dX4_lonely_2 rfl (lv_at hl 1 rfl) ?_
  refine lv_iload_n hx hb dX4_lonely_3 rfl (lv_at hl 2 rfl) ?_
  obtain ⟨hob, h⟩ := h
  refine r_V C hS (ct_X4_loadIf l Z w a0 1 a1 a2 _ h) 3 24 hob ⟨by decide, by decide +kernel⟩ (lw_V q1631 q1633 qs53 q71 q1634) ⟨rfl, by decide, by decide, by decide +kernel⟩ ⟨Nat.le_of_ble_eq_true rfl, Nat.le_of_ble_eq_true rfl⟩ rfl hl.1 rfl (wcat4 (Nat.le_of_ble_eq_true rfl)) dX4_lonely_4 ⟨Nat.le_of_ble_eq_true rfl, Nat.le_of_ble_eq_true rfl⟩ (fun v_ w2 H locs hv hS => ?_)
  obtain ⟨v1, rfl, h⟩ := hv
  refine lv_istore_n (i := 3) (lv' := [(3, .int v1), (0, .ref a0), (1, .int a1), (2, .int a2)]) hx hb dX4_lonely_7 rfl hl (by decide) rfl (fun ls hl => ?_)
  refine lv_iload_n hx hb dX4_lonely_8 rfl (lv_at hl 0 rfl) ?_
  refine r_if_ge (tgt := 18) hx hb h dX4_lonely_9 (by decide) (fun h => ?_) (fun h => ?_)
  · refine lv_aload_n hx hb dX4_lonely_18 rfl (lv_at hl 1 rfl) ?_
    refine lv_iload_n hx hb dX4_lonely_19 rfl (lv_at hl 3 rfl) ?_
    obtain ⟨hob, h⟩ := h
    refine r_V C hS (ct_X4_comeOut l Z w2 a0 a2 _ h) 1 24 hob ⟨by decide, by decide +kernel⟩ (lw_V q1675 q1677 qs58 q71 q1678) ⟨rfl, by decide, by decide, by decide +kernel⟩ ⟨Nat.le_of_ble_eq_true rfl, Nat.le_of_ble_eq_true rfl⟩ rfl hl.1 rfl (wcat4 (Nat.le_of_ble_eq_true rfl)) dX4_lonely_20 ⟨Nat.le_of_ble_eq_true rfl, Nat.le_of_ble_eq_true rfl⟩ (fun v_ w3 H locs hv hS => ?_)
    obtain ⟨rfl, h⟩ := hv
    refine lv_iconst (v := 0) hx hb dX4_lonely_23 (by decide) ?_
    refine lv_istore (i := 4) (lv' := [(4, .int 0), (3, .int v1), (0, .ref a0), (1, .int a1), (2, .int a2)]) hx hb dX4_lonely_24 hl (by decide) rfl (fun ls hl => ?_)
    refine lv_iconst (v := 0) hx hb dX4_lonely_26 (by decide) ?_
    refine lv_istore (i := 5) (lv' := [(5, .int 0), (4, .int 0), (3, .int v1), (0, .ref a0), (1, .int a1), (2, .int a2)]) hx hb dX4_lonely_27 hl (by decide) rfl (fun ls hl => ?_)
    exact kl_X4_lonely_29 C k FU w3 a0 0 0 _ _ _ h hS (lv_sub hl [3, 1, 0] rfl)
  · refine lv_aload_n hx hb dX4_lonely_12 rfl (lv_at hl 1 rfl) ?_
    refine lv_iload_n hx hb dX4_lonely_13 rfl (lv_at hl 0 rfl) ?_
    obtain ⟨hob, h⟩ := h
    refine r_V C hS (ct_X4_refuse l Z w2 a0 v1 _ h) 1 24 hob ⟨by decide, by decide +kernel⟩ (lw_V q1442 q1444 qs28 q71 q1445) ⟨rfl, by decide, by decide, by decide +kernel⟩ ⟨Nat.le_of_ble_eq_true rfl, Nat.le_of_ble_eq_true rfl⟩ rfl hl.1 rfl (wcat4 (Nat.le_of_ble_eq_true rfl)) dX4_lonely_14 ⟨Nat.le_of_ble_eq_true rfl, Nat.le_of_ble_eq_true rfl⟩ (fun v_ w11 H locs hv hS => ?_)
    obtain ⟨v10, rfl, h⟩ := hv
    exact r_iret C hS h rfl rfl (Nat.le_of_ble_eq_true rfl) (Nat.le_of_ble_eq_true rfl) dX4_lonely_17
end VX4_lonely
/-! LeftIsAgreedOnModel.firstFall(II)I -/
section VX4_firstFall
variable {p : Program} {l : Launch} {e : Env} {s : State} {m : MethodId} {args : Array Value} {below : List Frame} {meth : Method} {c : Code} {Z : wZ} {A : Nat → Prop}
set_option maxHeartbeats 4000000 in
theorem kb_X4_firstFall_67 (C : wC p l s m args meth c cX4_firstFall 6 (some .int) RX4 "firstFall" Z A) (k : Int32 → Wd → Prop) (L24 : Wd → Nat → Int32 → Int32 → Int32 → Prop) (hL24 : ∀ (w : Wd) (x0 : Nat) (x2 : Int32) (x4 : Int32) (x5 : Int32) (H : Heap) (locs : List Loc) (ls : Array Slot), L24 w x0 x2 x4 x5 → wS Z A s w H locs → lv_has ls 6 [(0, .ref x0), (2, .int x2), (4, .int x4), (5, .int x5)] → W p l e ({ frames := 6, cells := 0, slots := 0, locals := 145 } : Room) s m args below meth c H locs 0 0 (MQ below (wQc Z A (pI k)) args s 0 0 A) (F0 m 24 ls [])) : ∀ (w : Wd) (a0 : Nat) (l2 : Int32) (l5 : Int32) (H : Heap) (locs : List Loc) (ls : Array Slot), wb_X4_firstFall_67 k L24 w a0 l2 l5 → wS Z A s w H locs → lv_has ls 6 [(0, .ref a0), (2, .int l2), (5, .int l5)] → W p l e ({ frames := 6, cells := 0, slots := 0, locals := 145 } : Room) s m args below meth c H locs 0 0 (MQ below (wQc Z A (pI k)) args s 0 0 A) (F0 m 67 ls []) := by
  intro w a0 l2 l5 H locs ls h hS hl
  have hx := C.hx
  have hb := C.hb
  unfold wb_X4_firstFall_67 at h
  refine lv_aload_n hx hb dX4_firstFall_67 rfl (lv_at hl 0 rfl) ?_
  refine r_getG C hS h gk_66 q1370 dX4_firstFall_68 (fun v8 h => ?_)
  refine lv_iconst (v := 0) hx hb dX4_firstFall_71 (by decide) ?_
  refine r_iald C hS h dX4_firstFall_72 (fun v9 h => ?_)
  refine lv_goto (tgt := 78) hx hb dX4_firstFall_73 (by decide) ?_
  refine lv_istore (i := 4) (lv' := [(4, .int v9), (0, .ref a0), (2, .int l2), (5, .int l5)]) hx hb dX4_firstFall_78 hl (by decide) rfl (fun ls hl => ?_)
  refine lv_iinc (i := 5) (v := (l5 + 1)) (lv' := [(5, .int (l5 + 1)), (4, .int v9), (0, .ref a0), (2, .int l2)]) hx hb dX4_firstFall_80 hl (k := 3) rfl rfl (by decide) rfl (fun ls hl => ?_)
  refine lv_goto (tgt := 24) hx hb dX4_firstFall_83 (by decide) ?_
  exact hL24 w a0 l2 v9 (l5 + 1) _ _ _ h hS (lv_sub hl [2, 3, 1, 0] rfl)
set_option maxHeartbeats 4000000 in
theorem kb_X4_firstFall_24 (C : wC p l s m args meth c cX4_firstFall 6 (some .int) RX4 "firstFall" Z A) (k : Int32 → Wd → Prop) (L24 : Wd → Nat → Int32 → Int32 → Int32 → Prop) (hL24 : ∀ (w : Wd) (x0 : Nat) (x2 : Int32) (x4 : Int32) (x5 : Int32) (H : Heap) (locs : List Loc) (ls : Array Slot), L24 w x0 x2 x4 x5 → wS Z A s w H locs → lv_has ls 6 [(0, .ref x0), (2, .int x2), (4, .int x4), (5, .int x5)] → W p l e ({ frames := 6, cells := 0, slots := 0, locals := 145 } : Room) s m args below meth c H locs 0 0 (MQ below (wQc Z A (pI k)) args s 0 0 A) (F0 m 24 ls [])) : ∀ (w : Wd) (a0 : Nat) (l2 : Int32) (l4 : Int32) (l5 : Int32) (H : Heap) (locs : List Loc) (ls : Array Slot), wb_X4_firstFall_24 k L24 w a0 l2 l4 l5 → wS Z A s w H locs → lv_has ls 6 [(0, .ref a0), (2, .int l2), (4, .int l4), (5, .int l5)] → W p l e ({ frames := 6, cells := 0, slots := 0, locals := 145 } : Room) s m args below meth c H locs 0 0 (MQ below (wQc Z A (pI k)) args s 0 0 A) (F0 m 24 ls []) := by
  intro w a0 l2 l4 l5 H locs ls h hS hl
  have hx := C.hx
  have hb := C.hb
  unfold wb_X4_firstFall_24 at h
  refine lv_iload hx hb dX4_firstFall_24 (lv_at hl 3 rfl) ?_
  refine lv_aload_n hx hb dX4_firstFall_26 rfl (lv_at hl 0 rfl) ?_
  obtain ⟨hob, h⟩ := h
  refine r_V C hS (ct_X4_many l Z w a0 _ h) 0 24 hob ⟨by decide, by decide +kernel⟩ (lw_V q1458 q1460 qs31 q71 q1461) ⟨rfl, by decide, by decide, by decide +kernel⟩ ⟨Nat.le_of_ble_eq_true rfl, Nat.le_of_ble_eq_true rfl⟩ rfl hl.1 rfl (wcat4 (Nat.le_of_ble_eq_true rfl)) dX4_firstFall_27 ⟨Nat.le_of_ble_eq_true rfl, Nat.le_of_ble_eq_true rfl⟩ (fun v_ w4 H locs hv hS => ?_)
  obtain ⟨v3, rfl, h⟩ := hv
  refine r_icmp_ge (tgt := 86) hx hb h dX4_firstFall_30 (by decide) (fun h => ?_) (fun h => ?_)
  · refine lv_iload hx hb dX4_firstFall_86 (lv_at hl 2 rfl) ?_
    exact r_iret C hS h rfl rfl (Nat.le_of_ble_eq_true rfl) (Nat.le_of_ble_eq_true rfl) dX4_firstFall_88
  · refine lv_aload_n hx hb dX4_firstFall_33 rfl (lv_at hl 0 rfl) ?_
    refine lv_iload hx hb dX4_firstFall_34 (lv_at hl 3 rfl) ?_
    refine lv_iload_n hx hb dX4_firstFall_36 rfl (lv_at hl 1 rfl) ?_
    obtain ⟨hob, h⟩ := h
    refine r_V C hS (ct_X4_go l Z w4 a0 l5 l2 _ h) 2 24 hob ⟨by decide, by decide +kernel⟩ (lw_V q1639 q1641 qs55 q71 q1642) ⟨rfl, by decide, by decide, by decide +kernel⟩ ⟨Nat.le_of_ble_eq_true rfl, Nat.le_of_ble_eq_true rfl⟩ rfl hl.1 rfl (wcat4 (Nat.le_of_ble_eq_true rfl)) dX4_firstFall_37 ⟨Nat.le_of_ble_eq_true rfl, Nat.le_of_ble_eq_true rfl⟩ (fun v_ w5 H locs hv hS => ?_)
    obtain ⟨rfl, h⟩ := hv
    refine lv_aload_n hx hb dX4_firstFall_40 rfl (lv_at hl 0 rfl) ?_
    refine r_getG C hS h gk_66 q1370 dX4_firstFall_41 (fun v6 h => ?_)
    refine lv_iconst (v := 0) hx hb dX4_firstFall_44 (by decide) ?_
    refine r_iald C hS h dX4_firstFall_45 (fun v7 h => ?_)
    refine lv_iconst (v := -1) hx hb dX4_firstFall_46 (by decide) ?_
    refine r_icmp_eq (tgt := 76) hx hb h dX4_firstFall_47 (by decide) (fun h => ?_) (fun h => ?_)
    · refine lv_iload hx hb dX4_firstFall_76 (lv_at hl 2 rfl) ?_
      refine lv_istore (i := 4) (lv' := [(4, .int l4), (0, .ref a0), (2, .int l2), (5, .int l5)]) hx hb dX4_firstFall_78 hl (by decide) rfl (fun ls hl => ?_)
      refine lv_iinc (i := 5) (v := (l5 + 1)) (lv' := [(5, .int (l5 + 1)), (4, .int l4), (0, .ref a0), (2, .int l2)]) hx hb dX4_firstFall_80 hl (k := 3) rfl rfl (by decide) rfl (fun ls hl => ?_)
      refine lv_goto (tgt := 24) hx hb dX4_firstFall_83 (by decide) ?_
      exact hL24 w5 a0 l2 l4 (l5 + 1) _ _ _ h hS (lv_sub hl [2, 3, 1, 0] rfl)
    · refine lv_iload hx hb dX4_firstFall_50 (lv_at hl 2 rfl) ?_
      refine lv_iconst (v := -1) hx hb dX4_firstFall_52 (by decide) ?_
      refine r_icmp_eq (tgt := 67) hx hb h dX4_firstFall_53 (by decide) (fun h => ?_) (fun h => ?_)
      · exact kb_X4_firstFall_67 C k L24 hL24 w5 a0 l2 l5 _ _ _ h hS (lv_sub hl [0, 1, 3] rfl)
      · refine lv_aload_n hx hb dX4_firstFall_56 rfl (lv_at hl 0 rfl) ?_
        refine r_getG C hS h gk_66 q1370 dX4_firstFall_57 (fun v10 h => ?_)
        refine lv_iconst (v := 0) hx hb dX4_firstFall_60 (by decide) ?_
        refine r_iald C hS h dX4_firstFall_61 (fun v11 h => ?_)
        refine lv_iload hx hb dX4_firstFall_62 (lv_at hl 2 rfl) ?_
        refine r_icmp_ge (tgt := 76) hx hb h dX4_firstFall_64 (by decide) (fun h => ?_) (fun h => ?_)
        · refine lv_iload hx hb dX4_firstFall_76 (lv_at hl 2 rfl) ?_
          refine lv_istore (i := 4) (lv' := [(4, .int l4), (0, .ref a0), (2, .int l2), (5, .int l5)]) hx hb dX4_firstFall_78 hl (by decide) rfl (fun ls hl => ?_)
          refine lv_iinc (i := 5) (v := (l5 + 1)) (lv' := [(5, .int (l5 + 1)), (4, .int l4), (0, .ref a0), (2, .int l2)]) hx hb dX4_firstFall_80 hl (k := 3) rfl rfl (by decide) rfl (fun ls hl => ?_)
          refine lv_goto (tgt := 24) hx hb dX4_firstFall_83 (by decide) ?_
          exact hL24 w5 a0 l2 l4 (l5 + 1) _ _ _ h hS (lv_sub hl [2, 3, 1, 0] rfl)
        · exact kb_X4_firstFall_67 C k L24 hL24 w5 a0 l2 l5 _ _ _ h hS (lv_sub hl [0, 1, 3] rfl)
set_option maxHeartbeats 4000000 in
theorem kl_X4_firstFall_24 (C : wC p l s m args meth c cX4_firstFall 6 (some .int) RX4 "firstFall" Z A) (k : Int32 → Wd → Prop) : ∀ (n : Nat), ∀ (w : Wd) (a0 : Nat) (l2 : Int32) (l4 : Int32) (l5 : Int32) (H : Heap) (locs : List Loc) (ls : Array Slot), wl_X4_firstFall_24 k n w a0 l2 l4 l5 → wS Z A s w H locs → lv_has ls 6 [(0, .ref a0), (2, .int l2), (4, .int l4), (5, .int l5)] → W p l e ({ frames := 6, cells := 0, slots := 0, locals := 145 } : Room) s m args below meth c H locs 0 0 (MQ below (wQc Z A (pI k)) args s 0 0 A) (F0 m 24 ls []) := by
  intro n
  induction n with
  | zero =>
    intro w a0 l2 l4 l5 H locs ls h
    exact h.elim
  | succ n ih =>
    intro w a0 l2 l4 l5 H locs ls h hS hl
    exact kb_X4_firstFall_24 C k (wl_X4_firstFall_24 k n) ih w a0 l2 l4 l5 H locs ls h hS hl
set_option maxHeartbeats 4000000 in
theorem ct_X4_firstFall (l : Launch) (Z : wZ) (w : Wd) (a0 : Nat) (a1 : Int32) (a2 : Int32) (k : Int32 → Wd → Prop) (h : wp_X4_firstFall w a0 a1 a2 k) : wMet l Z yX4_firstFall cX4_firstFall 6 (some .int) 6 145 0 0 [.ref a0, .int a1, .int a2] w (pI k) := by
  refine wM_of (by decide +kernel) (Nat.le_of_ble_eq_true rfl) ?_
  intro p e s m below meth c ls C hS hl
  replace C : wC p l s m _ meth c cX4_firstFall 6 (some .int) RX4 "firstFall" Z _ := C
  have hl : lv_has ls 6 [(0, .ref a0), (1, .int a1), (2, .int a2)] := hl
  have hx := C.hx
  have hb := C.hb
  unfold wp_X4_firstFall at h
  generalize wA w = A at C hS ⊢
  refine lv_aload_n hx hb dX4_firstFall_0 rfl (lv_at hl 0 rfl) ?_
  refine lv_iconst (v := 1) hx hb dX4_firstFall_1 (by decide) ?_
  refine lv_iload_n hx hb dX4_firstFall_2 rfl (lv_at hl 1 rfl) ?_
  refine lv_iload_n hx hb dX4_firstFall_3 rfl (lv_at hl 2 rfl) ?_
  obtain ⟨hob, h⟩ := h
  refine r_V C hS (ct_X4_loadIf l Z w a0 1 a1 a2 _ h) 3 24 hob ⟨by decide, by decide +kernel⟩ (lw_V q1631 q1633 qs53 q71 q1634) ⟨rfl, by decide, by decide, by decide +kernel⟩ ⟨Nat.le_of_ble_eq_true rfl, Nat.le_of_ble_eq_true rfl⟩ rfl hl.1 rfl (wcat4 (Nat.le_of_ble_eq_true rfl)) dX4_firstFall_4 ⟨Nat.le_of_ble_eq_true rfl, Nat.le_of_ble_eq_true rfl⟩ (fun v_ w2 H locs hv hS => ?_)
  obtain ⟨v1, rfl, h⟩ := hv
  refine lv_istore_n (i := 3) (lv' := [(3, .int v1), (0, .ref a0), (1, .int a1), (2, .int a2)]) hx hb dX4_firstFall_7 rfl hl (by decide) rfl (fun ls hl => ?_)
  refine lv_iload_n hx hb dX4_firstFall_8 rfl (lv_at hl 0 rfl) ?_
  refine r_if_ge (tgt := 18) hx hb h dX4_firstFall_9 (by decide) (fun h => ?_) (fun h => ?_)
  · refine lv_iconst (v := -1) hx hb dX4_firstFall_18 (by decide) ?_
    refine lv_istore (i := 4) (lv' := [(4, .int (-1)), (3, .int v1), (0, .ref a0), (1, .int a1), (2, .int a2)]) hx hb dX4_firstFall_19 hl (by decide) rfl (fun ls hl => ?_)
    refine lv_iconst (v := 0) hx hb dX4_firstFall_21 (by decide) ?_
    refine lv_istore (i := 5) (lv' := [(5, .int 0), (4, .int (-1)), (3, .int v1), (0, .ref a0), (1, .int a1), (2, .int a2)]) hx hb dX4_firstFall_22 hl (by decide) rfl (fun ls hl => ?_)
    exact kl_X4_firstFall_24 C k FU w2 a0 a2 (-1) 0 _ _ _ h hS (lv_sub hl [3, 5, 1, 0] rfl)
  · refine lv_aload_n hx hb dX4_firstFall_12 rfl (lv_at hl 1 rfl) ?_
    refine lv_iload_n hx hb dX4_firstFall_13 rfl (lv_at hl 0 rfl) ?_
    obtain ⟨hob, h⟩ := h
    refine r_V C hS (ct_X4_refuse l Z w2 a0 v1 _ h) 1 24 hob ⟨by decide, by decide +kernel⟩ (lw_V q1442 q1444 qs28 q71 q1445) ⟨rfl, by decide, by decide, by decide +kernel⟩ ⟨Nat.le_of_ble_eq_true rfl, Nat.le_of_ble_eq_true rfl⟩ rfl hl.1 rfl (wcat4 (Nat.le_of_ble_eq_true rfl)) dX4_firstFall_14 ⟨Nat.le_of_ble_eq_true rfl, Nat.le_of_ble_eq_true rfl⟩ (fun v_ w13 H locs hv hS => ?_)
    obtain ⟨v12, rfl, h⟩ := hv
    exact r_iret C hS h rfl rfl (Nat.le_of_ble_eq_true rfl) (Nat.le_of_ble_eq_true rfl) dX4_firstFall_17
end VX4_firstFall
/-! LeftIsAgreedOnModel.alike(III)I -/
section VX4_alike
variable {p : Program} {l : Launch} {e : Env} {s : State} {m : MethodId} {args : Array Value} {below : List Frame} {meth : Method} {c : Code} {Z : wZ} {A : Nat → Prop}
set_option maxHeartbeats 4000000 in
theorem ct_X4_alike (l : Launch) (Z : wZ) (w : Wd) (a0 : Nat) (a1 : Int32) (a2 : Int32) (a3 : Int32) (k : Int32 → Wd → Prop) (h : wp_X4_alike w a0 a1 a2 a3 k) : wMet l Z yX4_alike cX4_alike 8 (some .int) 6 145 0 0 [.ref a0, .int a1, .int a2, .int a3] w (pI k) := by
  refine wM_of (by decide +kernel) (Nat.le_of_ble_eq_true rfl) ?_
  intro p e s m below meth c ls C hS hl
  replace C : wC p l s m _ meth c cX4_alike 8 (some .int) RX4 "alike" Z _ := C
  have hl : lv_has ls 8 [(0, .ref a0), (1, .int a1), (2, .int a2), (3, .int a3)] := hl
  have hx := C.hx
  have hb := C.hb
  unfold wp_X4_alike at h
  generalize wA w = A at C hS ⊢
  refine lv_aload_n hx hb dX4_alike_0 rfl (lv_at hl 0 rfl) ?_
  refine lv_aload_n hx hb dX4_alike_1 rfl (lv_at hl 0 rfl) ?_
  refine lv_iload_n hx hb dX4_alike_2 rfl (lv_at hl 3 rfl) ?_
  obtain ⟨hob, h⟩ := h
  refine r_V C hS (ct_X4_isPerson l Z w a0 a3 _ h) 1 24 hob ⟨by decide, by decide +kernel⟩ (lw_V q1494 q1496 qs35 q71 q1497) ⟨rfl, by decide, by decide, by decide +kernel⟩ ⟨Nat.le_of_ble_eq_true rfl, Nat.le_of_ble_eq_true rfl⟩ rfl hl.1 rfl (wcat4 (Nat.le_of_ble_eq_true rfl)) dX4_alike_3 ⟨Nat.le_of_ble_eq_true rfl, Nat.le_of_ble_eq_true rfl⟩ (fun v_ w2 H locs hv hS => ?_)
  obtain ⟨v1, rfl, h⟩ := hv
  refine lv_iload_n hx hb dX4_alike_6 rfl (lv_at hl 1 rfl) ?_
  refine lv_iload_n hx hb dX4_alike_7 rfl (lv_at hl 2 rfl) ?_
  obtain ⟨hob, h⟩ := h
  refine r_V C hS (ct_X4_loadIf l Z w2 a0 v1 a1 a2 _ h) 3 24 hob ⟨by decide, by decide +kernel⟩ (lw_V q1631 q1633 qs53 q71 q1634) ⟨rfl, by decide, by decide, by decide +kernel⟩ ⟨Nat.le_of_ble_eq_true rfl, Nat.le_of_ble_eq_true rfl⟩ rfl hl.1 rfl (wcat4 (Nat.le_of_ble_eq_true rfl)) dX4_alike_8 ⟨Nat.le_of_ble_eq_true rfl, Nat.le_of_ble_eq_true rfl⟩ (fun v_ w4 H locs hv hS => ?_)
  obtain ⟨v3, rfl, h⟩ := hv
  refine lv_istore (i := 4) (lv' := [(4, .int v3), (0, .ref a0), (1, .int a1), (2, .int a2), (3, .int a3)]) hx hb dX4_alike_11 hl (by decide) rfl (fun ls hl => ?_)
  refine lv_iload hx hb dX4_alike_13 (lv_at hl 0 rfl) ?_
  refine r_if_ge (tgt := 25) hx hb h dX4_alike_15 (by decide) (fun h => ?_) (fun h => ?_)
  · refine lv_aload_n hx hb dX4_alike_25 rfl (lv_at hl 1 rfl) ?_
    refine r_getG C hS h gk_56 q1355 dX4_alike_26 (fun v5 h => ?_)
    refine lv_bipush (v := 91) hx hb dX4_alike_29 (by decide) ?_
    refine r_iald C hS h dX4_alike_31 (fun v6 h => ?_)
    refine lv_istore (i := 5) (lv' := [(5, .int v6), (4, .int v3), (0, .ref a0), (1, .int a1), (2, .int a2), (3, .int a3)]) hx hb dX4_alike_32 hl (by decide) rfl (fun ls hl => ?_)
    refine lv_aload_n hx hb dX4_alike_34 rfl (lv_at hl 2 rfl) ?_
    refine r_getG C hS h gk_56 q1355 dX4_alike_35 (fun v7 h => ?_)
    refine lv_bipush (v := 91) hx hb dX4_alike_38 (by decide) ?_
    refine lv_iconst (v := 0) hx hb dX4_alike_40 (by decide) ?_
    refine r_iast C hS h dX4_alike_41 (fun w8 H locs h hS => ?_)
    refine lv_aload_n hx hb dX4_alike_42 rfl (lv_at hl 2 rfl) ?_
    refine lv_iload_n hx hb dX4_alike_43 rfl (lv_at hl 5 rfl) ?_
    refine lv_iload_n hx hb dX4_alike_44 rfl (lv_at hl 4 rfl) ?_
    obtain ⟨hob, h⟩ := h
    refine r_V C hS (ct_X4_go l Z w8 a0 a3 a2 _ h) 2 24 hob ⟨by decide, by decide +kernel⟩ (lw_V q1639 q1641 qs55 q71 q1642) ⟨rfl, by decide, by decide, by decide +kernel⟩ ⟨Nat.le_of_ble_eq_true rfl, Nat.le_of_ble_eq_true rfl⟩ rfl hl.1 rfl (wcat4 (Nat.le_of_ble_eq_true rfl)) dX4_alike_45 ⟨Nat.le_of_ble_eq_true rfl, Nat.le_of_ble_eq_true rfl⟩ (fun v_ w9 H locs hv hS => ?_)
    obtain ⟨rfl, h⟩ := hv
    refine lv_aload_n hx hb dX4_alike_48 rfl (lv_at hl 2 rfl) ?_
    refine r_getG C hS h gk_61 q1365 dX4_alike_49 (fun v10 h => ?_)
    refine lv_iconst (v := 0) hx hb dX4_alike_52 (by decide) ?_
    refine r_iald C hS h dX4_alike_53 (fun v11 h => ?_)
    refine lv_istore (i := 6) (lv' := [(6, .int v11), (5, .int v6), (4, .int v3), (0, .ref a0), (1, .int a1), (2, .int a2), (3, .int a3)]) hx hb dX4_alike_54 hl (by decide) rfl (fun ls hl => ?_)
    refine lv_aload_n hx hb dX4_alike_56 rfl (lv_at hl 3 rfl) ?_
    refine r_getG C hS h gk_62 q1366 dX4_alike_57 (fun v12 h => ?_)
    refine lv_iconst (v := 0) hx hb dX4_alike_60 (by decide) ?_
    refine r_iald C hS h dX4_alike_61 (fun v13 h => ?_)
    refine lv_istore (i := 7) (lv' := [(7, .int v13), (6, .int v11), (5, .int v6), (4, .int v3), (0, .ref a0), (1, .int a1), (2, .int a2), (3, .int a3)]) hx hb dX4_alike_62 hl (by decide) rfl (fun ls hl => ?_)
    refine lv_aload_n hx hb dX4_alike_64 rfl (lv_at hl 4 rfl) ?_
    refine r_getG C hS h gk_56 q1355 dX4_alike_65 (fun v14 h => ?_)
    refine lv_bipush (v := 91) hx hb dX4_alike_68 (by decide) ?_
    refine lv_iconst (v := 1) hx hb dX4_alike_70 (by decide) ?_
    refine r_iast C hS h dX4_alike_71 (fun w15 H locs h hS => ?_)
    refine lv_aload_n hx hb dX4_alike_72 rfl (lv_at hl 4 rfl) ?_
    refine lv_iload_n hx hb dX4_alike_73 rfl (lv_at hl 7 rfl) ?_
    refine lv_iload_n hx hb dX4_alike_74 rfl (lv_at hl 6 rfl) ?_
    obtain ⟨hob, h⟩ := h
    refine r_V C hS (ct_X4_go l Z w15 a0 a3 a2 _ h) 2 24 hob ⟨by decide, by decide +kernel⟩ (lw_V q1639 q1641 qs55 q71 q1642) ⟨rfl, by decide, by decide, by decide +kernel⟩ ⟨Nat.le_of_ble_eq_true rfl, Nat.le_of_ble_eq_true rfl⟩ rfl hl.1 rfl (wcat4 (Nat.le_of_ble_eq_true rfl)) dX4_alike_75 ⟨Nat.le_of_ble_eq_true rfl, Nat.le_of_ble_eq_true rfl⟩ (fun v_ w16 H locs hv hS => ?_)
    obtain ⟨rfl, h⟩ := hv
    refine lv_aload_n hx hb dX4_alike_78 rfl (lv_at hl 4 rfl) ?_
    refine r_getG C hS h gk_56 q1355 dX4_alike_79 (fun v17 h => ?_)
    refine lv_bipush (v := 91) hx hb dX4_alike_82 (by decide) ?_
    refine lv_iload hx hb dX4_alike_84 (lv_at hl 2 rfl) ?_
    refine r_iast C hS h dX4_alike_86 (fun w18 H locs h hS => ?_)
    refine lv_aload_n hx hb dX4_alike_87 rfl (lv_at hl 4 rfl) ?_
    refine r_getG C hS h gk_61 q1365 dX4_alike_88 (fun v19 h => ?_)
    refine lv_iconst (v := 0) hx hb dX4_alike_91 (by decide) ?_
    refine r_iald C hS h dX4_alike_92 (fun v20 h => ?_)
    refine lv_iload hx hb dX4_alike_93 (lv_at hl 1 rfl) ?_
    refine r_icmp_ne (tgt := 113) hx hb h dX4_alike_95 (by decide) (fun h => ?_) (fun h => ?_)
    · refine lv_iconst (v := 0) hx hb dX4_alike_113 (by decide) ?_
      exact r_iret C hS h rfl rfl (Nat.le_of_ble_eq_true rfl) (Nat.le_of_ble_eq_true rfl) dX4_alike_114
    · refine lv_aload_n hx hb dX4_alike_98 rfl (lv_at hl 4 rfl) ?_
      refine r_getG C hS h gk_62 q1366 dX4_alike_99 (fun v21 h => ?_)
      refine lv_iconst (v := 0) hx hb dX4_alike_102 (by decide) ?_
      refine r_iald C hS h dX4_alike_103 (fun v22 h => ?_)
      refine lv_iload hx hb dX4_alike_104 (lv_at hl 0 rfl) ?_
      refine r_icmp_ne (tgt := 113) hx hb h dX4_alike_106 (by decide) (fun h => ?_) (fun h => ?_)
      · refine lv_iconst (v := 0) hx hb dX4_alike_113 (by decide) ?_
        exact r_iret C hS h rfl rfl (Nat.le_of_ble_eq_true rfl) (Nat.le_of_ble_eq_true rfl) dX4_alike_114
      · refine lv_iconst (v := 1) hx hb dX4_alike_109 (by decide) ?_
        refine lv_goto (tgt := 114) hx hb dX4_alike_110 (by decide) ?_
        exact r_iret C hS h rfl rfl (Nat.le_of_ble_eq_true rfl) (Nat.le_of_ble_eq_true rfl) dX4_alike_114
  · refine lv_aload_n hx hb dX4_alike_18 rfl (lv_at hl 1 rfl) ?_
    refine lv_iload hx hb dX4_alike_19 (lv_at hl 0 rfl) ?_
    obtain ⟨hob, h⟩ := h
    refine r_V C hS (ct_X4_refuse l Z w4 a0 v3 _ h) 1 24 hob ⟨by decide, by decide +kernel⟩ (lw_V q1442 q1444 qs28 q71 q1445) ⟨rfl, by decide, by decide, by decide +kernel⟩ ⟨Nat.le_of_ble_eq_true rfl, Nat.le_of_ble_eq_true rfl⟩ rfl hl.1 rfl (wcat4 (Nat.le_of_ble_eq_true rfl)) dX4_alike_21 ⟨Nat.le_of_ble_eq_true rfl, Nat.le_of_ble_eq_true rfl⟩ (fun v_ w24 H locs hv hS => ?_)
    obtain ⟨v23, rfl, h⟩ := hv
    exact r_iret C hS h rfl rfl (Nat.le_of_ble_eq_true rfl) (Nat.le_of_ble_eq_true rfl) dX4_alike_24
end VX4_alike
/-! LeftIsAgreedOnModel.differ(IIII)I -/
section VX4_differ
variable {p : Program} {l : Launch} {e : Env} {s : State} {m : MethodId} {args : Array Value} {below : List Frame} {meth : Method} {c : Code} {Z : wZ} {A : Nat → Prop}
set_option maxHeartbeats 4000000 in
theorem kb_X4_differ_81 (C : wC p l s m args meth c cX4_differ 7 (some .int) RX4 "differ" Z A) (k : Int32 → Wd → Prop) (L81 : Wd → Nat → Int32 → Int32 → Int32 → Int32 → Prop) (hL81 : ∀ (w : Wd) (x0 : Nat) (x2 : Int32) (x3 : Int32) (x4 : Int32) (x6 : Int32) (H : Heap) (locs : List Loc) (ls : Array Slot), L81 w x0 x2 x3 x4 x6 → wS Z A s w H locs → lv_has ls 7 [(0, .ref x0), (2, .int x2), (3, .int x3), (4, .int x4), (6, .int x6)] → W p l e ({ frames := 5, cells := 0, slots := 0, locals := 122 } : Room) s m args below meth c H locs 0 0 (MQ below (wQc Z A (pI k)) args s 0 0 A) (F0 m 81 ls [])) : ∀ (w : Wd) (a0 : Nat) (l2 : Int32) (l3 : Int32) (l4 : Int32) (l6 : Int32) (H : Heap) (locs : List Loc) (ls : Array Slot), wb_X4_differ_81 k L81 w a0 l2 l3 l4 l6 → wS Z A s w H locs → lv_has ls 7 [(0, .ref a0), (2, .int l2), (3, .int l3), (4, .int l4), (6, .int l6)] → W p l e ({ frames := 5, cells := 0, slots := 0, locals := 122 } : Room) s m args below meth c H locs 0 0 (MQ below (wQc Z A (pI k)) args s 0 0 A) (F0 m 81 ls []) := by
  intro w a0 l2 l3 l4 l6 H locs ls h hS hl
  have hx := C.hx
  have hb := C.hb
  unfold wb_X4_differ_81 at h
  refine lv_iload hx hb dX4_differ_81 (lv_at hl 4 rfl) ?_
  refine lv_iload_n hx hb dX4_differ_83 rfl (lv_at hl 1 rfl) ?_
  refine r_icmp_ge (tgt := 159) hx hb h dX4_differ_84 (by decide) (fun h => ?_) (fun h => ?_)
  · refine lv_iconst (v := -1) hx hb dX4_differ_159 (by decide) ?_
    exact r_iret C hS h rfl rfl (Nat.le_of_ble_eq_true rfl) (Nat.le_of_ble_eq_true rfl) dX4_differ_160
  · refine lv_aload_n hx hb dX4_differ_87 rfl (lv_at hl 0 rfl) ?_
    refine lv_iconst (v := 0) hx hb dX4_differ_88 (by decide) ?_
    refine lv_iload_n hx hb dX4_differ_89 rfl (lv_at hl 2 rfl) ?_
    refine lv_aload_n hx hb dX4_differ_90 rfl (lv_at hl 0 rfl) ?_
    refine r_getG C hS h gk_67 q1372 dX4_differ_91 (fun v16 h => ?_)
    refine lv_iload hx hb dX4_differ_94 (lv_at hl 4 rfl) ?_
    refine r_iald C hS h dX4_differ_96 (fun v17 h => ?_)
    refine lv_iload hx hb dX4_differ_97 (lv_at hl 4 rfl) ?_
    obtain ⟨hob, h⟩ := h
    refine r_V C hS (ct_X4_step l Z w a0 0 l3 v17 l6 _ h) 4 24 hob ⟨by decide, by decide +kernel⟩ (lw_V q1611 q1613 qs49 q71 q1614) ⟨rfl, by decide, by decide, by decide +kernel⟩ ⟨Nat.le_of_ble_eq_true rfl, Nat.le_of_ble_eq_true rfl⟩ rfl hl.1 rfl (wcat4 (Nat.le_of_ble_eq_true rfl)) dX4_differ_99 ⟨Nat.le_of_ble_eq_true rfl, Nat.le_of_ble_eq_true rfl⟩ (fun v_ w18 H locs hv hS => ?_)
    obtain ⟨rfl, h⟩ := hv
    refine lv_aload_n hx hb dX4_differ_102 rfl (lv_at hl 0 rfl) ?_
    refine lv_iconst (v := 1) hx hb dX4_differ_103 (by decide) ?_
    refine lv_iload hx hb dX4_differ_104 (lv_at hl 3 rfl) ?_
    refine lv_aload_n hx hb dX4_differ_106 rfl (lv_at hl 0 rfl) ?_
    refine r_getG C hS h gk_67 q1372 dX4_differ_107 (fun v19 h => ?_)
    refine lv_iload hx hb dX4_differ_110 (lv_at hl 4 rfl) ?_
    refine r_iald C hS h dX4_differ_112 (fun v20 h => ?_)
    refine lv_iload hx hb dX4_differ_113 (lv_at hl 4 rfl) ?_
    obtain ⟨hob, h⟩ := h
    refine r_V C hS (ct_X4_step l Z w18 a0 1 l4 v20 l6 _ h) 4 24 hob ⟨by decide, by decide +kernel⟩ (lw_V q1611 q1613 qs49 q71 q1614) ⟨rfl, by decide, by decide, by decide +kernel⟩ ⟨Nat.le_of_ble_eq_true rfl, Nat.le_of_ble_eq_true rfl⟩ rfl hl.1 rfl (wcat4 (Nat.le_of_ble_eq_true rfl)) dX4_differ_115 ⟨Nat.le_of_ble_eq_true rfl, Nat.le_of_ble_eq_true rfl⟩ (fun v_ w21 H locs hv hS => ?_)
    obtain ⟨rfl, h⟩ := hv
    refine lv_aload_n hx hb dX4_differ_118 rfl (lv_at hl 0 rfl) ?_
    refine r_getG C hS h gk_61 q1365 dX4_differ_119 (fun v22 h => ?_)
    refine lv_iconst (v := 0) hx hb dX4_differ_122 (by decide) ?_
    refine r_iald C hS h dX4_differ_123 (fun v23 h => ?_)
    refine lv_aload_n hx hb dX4_differ_124 rfl (lv_at hl 0 rfl) ?_
    refine r_getG C hS h gk_61 q1365 dX4_differ_125 (fun v24 h => ?_)
    refine lv_iconst (v := 1) hx hb dX4_differ_128 (by decide) ?_
    refine r_iald C hS h dX4_differ_129 (fun v25 h => ?_)
    refine r_icmp_ne (tgt := 148) hx hb h dX4_differ_130 (by decide) (fun h => ?_) (fun h => ?_)
    · refine lv_iload hx hb dX4_differ_148 (lv_at hl 4 rfl) ?_
      refine lv_iconst (v := 1) hx hb dX4_differ_150 (by decide) ?_
      refine lv_iadd hx hb dX4_differ_151 ?_
      exact r_iret C hS h rfl rfl (Nat.le_of_ble_eq_true rfl) (Nat.le_of_ble_eq_true rfl) dX4_differ_152
    · refine lv_aload_n hx hb dX4_differ_133 rfl (lv_at hl 0 rfl) ?_
      refine r_getG C hS h gk_62 q1366 dX4_differ_134 (fun v26 h => ?_)
      refine lv_iconst (v := 0) hx hb dX4_differ_137 (by decide) ?_
      refine r_iald C hS h dX4_differ_138 (fun v27 h => ?_)
      refine lv_aload_n hx hb dX4_differ_139 rfl (lv_at hl 0 rfl) ?_
      refine r_getG C hS h gk_62 q1366 dX4_differ_140 (fun v28 h => ?_)
      refine lv_iconst (v := 1) hx hb dX4_differ_143 (by decide) ?_
      refine r_iald C hS h dX4_differ_144 (fun v29 h => ?_)
      refine r_icmp_eq (tgt := 153) hx hb h dX4_differ_145 (by decide) (fun h => ?_) (fun h => ?_)
      · refine lv_iinc (i := 6) (v := (l6 + 1)) (lv' := [(6, .int (l6 + 1)), (0, .ref a0), (2, .int l2), (3, .int l3), (4, .int l4)]) hx hb dX4_differ_153 hl (k := 4) rfl rfl (by decide) rfl (fun ls hl => ?_)
        refine lv_goto (tgt := 81) hx hb dX4_differ_156 (by decide) ?_
        exact hL81 w21 a0 l2 l3 l4 (l6 + 1) _ _ _ h hS (lv_sub hl [1, 2, 3, 4, 0] rfl)
      · refine lv_iload hx hb dX4_differ_148 (lv_at hl 4 rfl) ?_
        refine lv_iconst (v := 1) hx hb dX4_differ_150 (by decide) ?_
        refine lv_iadd hx hb dX4_differ_151 ?_
        exact r_iret C hS h rfl rfl (Nat.le_of_ble_eq_true rfl) (Nat.le_of_ble_eq_true rfl) dX4_differ_152
set_option maxHeartbeats 4000000 in
theorem kl_X4_differ_81 (C : wC p l s m args meth c cX4_differ 7 (some .int) RX4 "differ" Z A) (k : Int32 → Wd → Prop) : ∀ (n : Nat), ∀ (w : Wd) (a0 : Nat) (l2 : Int32) (l3 : Int32) (l4 : Int32) (l6 : Int32) (H : Heap) (locs : List Loc) (ls : Array Slot), wl_X4_differ_81 k n w a0 l2 l3 l4 l6 → wS Z A s w H locs → lv_has ls 7 [(0, .ref a0), (2, .int l2), (3, .int l3), (4, .int l4), (6, .int l6)] → W p l e ({ frames := 5, cells := 0, slots := 0, locals := 122 } : Room) s m args below meth c H locs 0 0 (MQ below (wQc Z A (pI k)) args s 0 0 A) (F0 m 81 ls []) := by
  intro n
  induction n with
  | zero =>
    intro w a0 l2 l3 l4 l6 H locs ls h
    exact h.elim
  | succ n ih =>
    intro w a0 l2 l3 l4 l6 H locs ls h hS hl
    exact kb_X4_differ_81 C k (wl_X4_differ_81 k n) ih w a0 l2 l3 l4 l6 H locs ls h hS hl
set_option maxHeartbeats 4000000 in
theorem kb_X4_differ_29 (C : wC p l s m args meth c cX4_differ 7 (some .int) RX4 "differ" Z A) (k : Int32 → Wd → Prop) : ∀ (w : Wd) (a0 : Nat) (l1 : Int32) (l2 : Int32) (l3 : Int32) (l4 : Int32) (s0 : Option Nat) (s1 : Int32) (H : Heap) (locs : List Loc) (ls : Array Slot), wb_X4_differ_29 k w a0 l1 l2 l3 l4 s0 s1 → wS Z A s w H locs → lv_has ls 7 [(0, .ref a0), (1, .int l1), (2, .int l2), (3, .int l3), (4, .int l4)] → W p l e ({ frames := 5, cells := 0, slots := 0, locals := 122 } : Room) s m args below meth c H locs 0 0 (MQ below (wQc Z A (pI k)) args s 0 0 A) (F0 m 29 ls [.int s1, va_rf s0]) := by
  intro w a0 l1 l2 l3 l4 s0 s1 H locs ls h hS hl
  have hx := C.hx
  have hb := C.hb
  unfold wb_X4_differ_29 at h
  refine lv_iload_n hx hb dX4_differ_29 rfl (lv_at hl 1 rfl) ?_
  refine lv_iload_n hx hb dX4_differ_30 rfl (lv_at hl 2 rfl) ?_
  obtain ⟨b5, hb_, h⟩ := wnn_spec h
  cases hb_
  obtain ⟨hob, h⟩ := h
  refine r_V C hS (ct_X4_loadIf l Z w b5 s1 l1 l2 _ h) 3 24 hob ⟨by decide, by decide +kernel⟩ (lw_V q1631 q1633 qs53 q71 q1634) ⟨rfl, by decide, by decide, by decide +kernel⟩ ⟨Nat.le_of_ble_eq_true rfl, Nat.le_of_ble_eq_true rfl⟩ rfl hl.1 rfl (wcat4 (Nat.le_of_ble_eq_true rfl)) dX4_differ_31 ⟨Nat.le_of_ble_eq_true rfl, Nat.le_of_ble_eq_true rfl⟩ (fun v_ w4 H locs hv hS => ?_)
  obtain ⟨v3, rfl, h⟩ := hv
  refine lv_istore (i := 5) (lv' := [(5, .int v3), (0, .ref a0), (1, .int l1), (2, .int l2), (3, .int l3), (4, .int l4)]) hx hb dX4_differ_34 hl (by decide) rfl (fun ls hl => ?_)
  refine lv_iload hx hb dX4_differ_36 (lv_at hl 0 rfl) ?_
  refine r_if_ge (tgt := 48) hx hb h dX4_differ_38 (by decide) (fun h => ?_) (fun h => ?_)
  · refine lv_aload_n hx hb dX4_differ_48 rfl (lv_at hl 1 rfl) ?_
    refine lv_iconst (v := 0) hx hb dX4_differ_49 (by decide) ?_
    refine lv_aload_n hx hb dX4_differ_50 rfl (lv_at hl 1 rfl) ?_
    refine lv_iload_n hx hb dX4_differ_51 rfl (lv_at hl 4 rfl) ?_
    obtain ⟨hob, h⟩ := h
    refine r_V C hS (ct_X4_cell l Z w4 a0 l3 _ h) 1 24 hob ⟨by decide, by decide +kernel⟩ (lw_V q1462 q1464 qs32 q71 q1465) ⟨rfl, by decide, by decide, by decide +kernel⟩ ⟨Nat.le_of_ble_eq_true rfl, Nat.le_of_ble_eq_true rfl⟩ rfl hl.1 rfl (wcat4 (Nat.le_of_ble_eq_true rfl)) dX4_differ_52 ⟨Nat.le_of_ble_eq_true rfl, Nat.le_of_ble_eq_true rfl⟩ (fun v_ w7 H locs hv hS => ?_)
    obtain ⟨v6, rfl, h⟩ := hv
    refine lv_aload_n hx hb dX4_differ_55 rfl (lv_at hl 1 rfl) ?_
    refine lv_iload_n hx hb dX4_differ_56 rfl (lv_at hl 4 rfl) ?_
    obtain ⟨hob, h⟩ := h
    refine r_V C hS (ct_X4_faces l Z w7 a0 l3 _ h) 1 24 hob ⟨by decide, by decide +kernel⟩ (lw_V q1603 q1605 qs47 q71 q1606) ⟨rfl, by decide, by decide, by decide +kernel⟩ ⟨Nat.le_of_ble_eq_true rfl, Nat.le_of_ble_eq_true rfl⟩ rfl hl.1 rfl (wcat4 (Nat.le_of_ble_eq_true rfl)) dX4_differ_57 ⟨Nat.le_of_ble_eq_true rfl, Nat.le_of_ble_eq_true rfl⟩ (fun v_ w9 H locs hv hS => ?_)
    obtain ⟨v8, rfl, h⟩ := hv
    obtain ⟨hob, h⟩ := h
    refine r_V C hS (ct_X4_start l Z w9 a0 0 v6 v8 _ h) 3 24 hob ⟨by decide, by decide +kernel⟩ (lw_V q1607 q1609 qs48 q71 q1610) ⟨rfl, by decide, by decide, by decide +kernel⟩ ⟨Nat.le_of_ble_eq_true rfl, Nat.le_of_ble_eq_true rfl⟩ rfl hl.1 rfl (wcat4 (Nat.le_of_ble_eq_true rfl)) dX4_differ_60 ⟨Nat.le_of_ble_eq_true rfl, Nat.le_of_ble_eq_true rfl⟩ (fun v_ w10 H locs hv hS => ?_)
    obtain ⟨rfl, h⟩ := hv
    refine lv_aload_n hx hb dX4_differ_63 rfl (lv_at hl 1 rfl) ?_
    refine lv_iconst (v := 1) hx hb dX4_differ_64 (by decide) ?_
    refine lv_aload_n hx hb dX4_differ_65 rfl (lv_at hl 1 rfl) ?_
    refine lv_iload_n hx hb dX4_differ_66 rfl (lv_at hl 4 rfl) ?_
    obtain ⟨hob, h⟩ := h
    refine r_V C hS (ct_X4_cell l Z w10 a0 l3 _ h) 1 24 hob ⟨by decide, by decide +kernel⟩ (lw_V q1462 q1464 qs32 q71 q1465) ⟨rfl, by decide, by decide, by decide +kernel⟩ ⟨Nat.le_of_ble_eq_true rfl, Nat.le_of_ble_eq_true rfl⟩ rfl hl.1 rfl (wcat4 (Nat.le_of_ble_eq_true rfl)) dX4_differ_67 ⟨Nat.le_of_ble_eq_true rfl, Nat.le_of_ble_eq_true rfl⟩ (fun v_ w12 H locs hv hS => ?_)
    obtain ⟨v11, rfl, h⟩ := hv
    refine lv_aload_n hx hb dX4_differ_70 rfl (lv_at hl 1 rfl) ?_
    refine lv_iload_n hx hb dX4_differ_71 rfl (lv_at hl 4 rfl) ?_
    obtain ⟨hob, h⟩ := h
    refine r_V C hS (ct_X4_faces l Z w12 a0 l3 _ h) 1 24 hob ⟨by decide, by decide +kernel⟩ (lw_V q1603 q1605 qs47 q71 q1606) ⟨rfl, by decide, by decide, by decide +kernel⟩ ⟨Nat.le_of_ble_eq_true rfl, Nat.le_of_ble_eq_true rfl⟩ rfl hl.1 rfl (wcat4 (Nat.le_of_ble_eq_true rfl)) dX4_differ_72 ⟨Nat.le_of_ble_eq_true rfl, Nat.le_of_ble_eq_true rfl⟩ (fun v_ w14 H locs hv hS => ?_)
    obtain ⟨v13, rfl, h⟩ := hv
    obtain ⟨hob, h⟩ := h
    refine r_V C hS (ct_X4_start l Z w14 a0 1 v11 v13 _ h) 3 24 hob ⟨by decide, by decide +kernel⟩ (lw_V q1607 q1609 qs48 q71 q1610) ⟨rfl, by decide, by decide, by decide +kernel⟩ ⟨Nat.le_of_ble_eq_true rfl, Nat.le_of_ble_eq_true rfl⟩ rfl hl.1 rfl (wcat4 (Nat.le_of_ble_eq_true rfl)) dX4_differ_75 ⟨Nat.le_of_ble_eq_true rfl, Nat.le_of_ble_eq_true rfl⟩ (fun v_ w15 H locs hv hS => ?_)
    obtain ⟨rfl, h⟩ := hv
    refine lv_iconst (v := 0) hx hb dX4_differ_78 (by decide) ?_
    refine lv_istore (i := 6) (lv' := [(6, .int 0), (5, .int v3), (0, .ref a0), (1, .int l1), (2, .int l2), (3, .int l3), (4, .int l4)]) hx hb dX4_differ_79 hl (by decide) rfl (fun ls hl => ?_)
    exact kl_X4_differ_81 C k FU w15 a0 l2 l3 l4 0 _ _ _ h hS (lv_sub hl [2, 4, 5, 6, 0] rfl)
  · refine lv_aload_n hx hb dX4_differ_41 rfl (lv_at hl 1 rfl) ?_
    refine lv_iload hx hb dX4_differ_42 (lv_at hl 0 rfl) ?_
    obtain ⟨hob, h⟩ := h
    refine r_V C hS (ct_X4_refuse l Z w4 a0 v3 _ h) 1 24 hob ⟨by decide, by decide +kernel⟩ (lw_V q1442 q1444 qs28 q71 q1445) ⟨rfl, by decide, by decide, by decide +kernel⟩ ⟨Nat.le_of_ble_eq_true rfl, Nat.le_of_ble_eq_true rfl⟩ rfl hl.1 rfl (wcat4 (Nat.le_of_ble_eq_true rfl)) dX4_differ_44 ⟨Nat.le_of_ble_eq_true rfl, Nat.le_of_ble_eq_true rfl⟩ (fun v_ w31 H locs hv hS => ?_)
    obtain ⟨v30, rfl, h⟩ := hv
    exact r_iret C hS h rfl rfl (Nat.le_of_ble_eq_true rfl) (Nat.le_of_ble_eq_true rfl) dX4_differ_47
set_option maxHeartbeats 4000000 in
theorem kb_X4_differ_28 (C : wC p l s m args meth c cX4_differ 7 (some .int) RX4 "differ" Z A) (k : Int32 → Wd → Prop) : ∀ (w : Wd) (a0 : Nat) (l1 : Int32) (l2 : Int32) (l3 : Int32) (l4 : Int32) (s0 : Option Nat) (H : Heap) (locs : List Loc) (ls : Array Slot), wb_X4_differ_28 k w a0 l1 l2 l3 l4 s0 → wS Z A s w H locs → lv_has ls 7 [(0, .ref a0), (1, .int l1), (2, .int l2), (3, .int l3), (4, .int l4)] → W p l e ({ frames := 5, cells := 0, slots := 0, locals := 122 } : Room) s m args below meth c H locs 0 0 (MQ below (wQc Z A (pI k)) args s 0 0 A) (F0 m 28 ls [va_rf s0]) := by
  intro w a0 l1 l2 l3 l4 s0 H locs ls h hS hl
  have hx := C.hx
  have hb := C.hb
  unfold wb_X4_differ_28 at h
  refine lv_iconst (v := 0) hx hb dX4_differ_28 (by decide) ?_
  exact kb_X4_differ_29 C k w a0 l1 l2 l3 l4 s0 0 _ _ _ h hS (lv_sub hl [0, 1, 2, 3, 4] rfl)
set_option maxHeartbeats 4000000 in
theorem ct_X4_differ (l : Launch) (Z : wZ) (w : Wd) (a0 : Nat) (a1 : Int32) (a2 : Int32) (a3 : Int32) (a4 : Int32) (k : Int32 → Wd → Prop) (h : wp_X4_differ w a0 a1 a2 a3 a4 k) : wMet l Z yX4_differ cX4_differ 7 (some .int) 5 122 0 0 [.ref a0, .int a1, .int a2, .int a3, .int a4] w (pI k) := by
  refine wM_of (by decide +kernel) (Nat.le_of_ble_eq_true rfl) ?_
  intro p e s m below meth c ls C hS hl
  replace C : wC p l s m _ meth c cX4_differ 7 (some .int) RX4 "differ" Z _ := C
  have hl : lv_has ls 7 [(0, .ref a0), (1, .int a1), (2, .int a2), (3, .int a3), (4, .int a4)] := hl
  have hx := C.hx
  have hb := C.hb
  unfold wp_X4_differ at h
  generalize wA w = A at C hS ⊢
  refine lv_aload_n hx hb dX4_differ_0 rfl (lv_at hl 0 rfl) ?_
  refine lv_aload_n hx hb dX4_differ_1 rfl (lv_at hl 0 rfl) ?_
  refine lv_iload_n hx hb dX4_differ_2 rfl (lv_at hl 3 rfl) ?_
  obtain ⟨hob, h⟩ := h
  refine r_V C hS (ct_X4_isPerson l Z w a0 a3 _ h) 1 24 hob ⟨by decide, by decide +kernel⟩ (lw_V q1494 q1496 qs35 q71 q1497) ⟨rfl, by decide, by decide, by decide +kernel⟩ ⟨Nat.le_of_ble_eq_true rfl, Nat.le_of_ble_eq_true rfl⟩ rfl hl.1 rfl (wcat4 (Nat.le_of_ble_eq_true rfl)) dX4_differ_3 ⟨Nat.le_of_ble_eq_true rfl, Nat.le_of_ble_eq_true rfl⟩ (fun v_ w2 H locs hv hS => ?_)
  obtain ⟨v1, rfl, h⟩ := hv
  refine r_if_eq (tgt := 28) hx hb h dX4_differ_6 (by decide) (fun h => ?_) (fun h => ?_)
  · exact kb_X4_differ_28 C k w2 a0 a1 a2 a3 a4 (some a0) _ _ _ h hS (lv_sub hl [0, 1, 2, 3, 4] rfl)
  · refine lv_aload_n hx hb dX4_differ_9 rfl (lv_at hl 0 rfl) ?_
    refine lv_iload hx hb dX4_differ_10 (lv_at hl 4 rfl) ?_
    obtain ⟨hob, h⟩ := h
    refine r_V C hS (ct_X4_isPerson l Z w2 a0 a4 _ h) 1 24 hob ⟨by decide, by decide +kernel⟩ (lw_V q1494 q1496 qs35 q71 q1497) ⟨rfl, by decide, by decide, by decide +kernel⟩ ⟨Nat.le_of_ble_eq_true rfl, Nat.le_of_ble_eq_true rfl⟩ rfl hl.1 rfl (wcat4 (Nat.le_of_ble_eq_true rfl)) dX4_differ_12 ⟨Nat.le_of_ble_eq_true rfl, Nat.le_of_ble_eq_true rfl⟩ (fun v_ w33 H locs hv hS => ?_)
    obtain ⟨v32, rfl, h⟩ := hv
    refine r_if_eq (tgt := 28) hx hb h dX4_differ_15 (by decide) (fun h => ?_) (fun h => ?_)
    · exact kb_X4_differ_28 C k w33 a0 a1 a2 a3 a4 (some a0) _ _ _ h hS (lv_sub hl [0, 1, 2, 3, 4] rfl)
    · refine lv_iload_n hx hb dX4_differ_18 rfl (lv_at hl 3 rfl) ?_
      refine lv_iload hx hb dX4_differ_19 (lv_at hl 4 rfl) ?_
      refine r_icmp_eq (tgt := 28) hx hb h dX4_differ_21 (by decide) (fun h => ?_) (fun h => ?_)
      · exact kb_X4_differ_28 C k w33 a0 a1 a2 a3 a4 (some a0) _ _ _ h hS (lv_sub hl [0, 1, 2, 3, 4] rfl)
      · refine lv_iconst (v := 1) hx hb dX4_differ_24 (by decide) ?_
        refine lv_goto (tgt := 29) hx hb dX4_differ_25 (by decide) ?_
        exact kb_X4_differ_29 C k w33 a0 a1 a2 a3 a4 (some a0) 1 _ _ _ h hS (lv_sub hl [0, 1, 2, 3, 4] rfl)
end VX4_differ
/-! LeftIsAgreedOnModel.again(IIII)I -/
section VX4_again
variable {p : Program} {l : Launch} {e : Env} {s : State} {m : MethodId} {args : Array Value} {below : List Frame} {meth : Method} {c : Code} {Z : wZ} {A : Nat → Prop}
set_option maxHeartbeats 4000000 in
theorem kb_X4_again_64 (C : wC p l s m args meth c cX4_again 7 (some .int) RX4 "again" Z A) (k : Int32 → Wd → Prop) (L64 : Wd → Nat → Int32 → Int32 → Int32 → Int32 → Prop) (hL64 : ∀ (w : Wd) (x0 : Nat) (x2 : Int32) (x3 : Int32) (x4 : Int32) (x6 : Int32) (H : Heap) (locs : List Loc) (ls : Array Slot), L64 w x0 x2 x3 x4 x6 → wS Z A s w H locs → lv_has ls 7 [(0, .ref x0), (2, .int x2), (3, .int x3), (4, .int x4), (6, .int x6)] → W p l e ({ frames := 5, cells := 0, slots := 0, locals := 122 } : Room) s m args below meth c H locs 0 0 (MQ below (wQc Z A (pI k)) args s 0 0 A) (F0 m 64 ls [])) : ∀ (w : Wd) (a0 : Nat) (l2 : Int32) (l3 : Int32) (l4 : Int32) (l6 : Int32) (H : Heap) (locs : List Loc) (ls : Array Slot), wb_X4_again_64 k L64 w a0 l2 l3 l4 l6 → wS Z A s w H locs → lv_has ls 7 [(0, .ref a0), (2, .int l2), (3, .int l3), (4, .int l4), (6, .int l6)] → W p l e ({ frames := 5, cells := 0, slots := 0, locals := 122 } : Room) s m args below meth c H locs 0 0 (MQ below (wQc Z A (pI k)) args s 0 0 A) (F0 m 64 ls []) := by
  intro w a0 l2 l3 l4 l6 H locs ls h hS hl
  have hx := C.hx
  have hb := C.hb
  unfold wb_X4_again_64 at h
  refine lv_iload hx hb dX4_again_64 (lv_at hl 4 rfl) ?_
  refine lv_iload_n hx hb dX4_again_66 rfl (lv_at hl 1 rfl) ?_
  refine lv_iload hx hb dX4_again_67 (lv_at hl 3 rfl) ?_
  refine lv_imul hx hb dX4_again_69 ?_
  refine r_icmp_ge (tgt := 96) hx hb h dX4_again_70 (by decide) (fun h => ?_) (fun h => ?_)
  · refine lv_aload_n hx hb dX4_again_96 rfl (lv_at hl 0 rfl) ?_
    refine r_getG C hS h gk_61 q1365 dX4_again_97 (fun v11 h => ?_)
    refine lv_iconst (v := 0) hx hb dX4_again_100 (by decide) ?_
    refine r_iald C hS h dX4_again_101 (fun v12 h => ?_)
    exact r_iret C hS h rfl rfl (Nat.le_of_ble_eq_true rfl) (Nat.le_of_ble_eq_true rfl) dX4_again_102
  · refine lv_aload_n hx hb dX4_again_73 rfl (lv_at hl 0 rfl) ?_
    refine lv_iconst (v := 0) hx hb dX4_again_74 (by decide) ?_
    refine lv_iload_n hx hb dX4_again_75 rfl (lv_at hl 2 rfl) ?_
    refine lv_aload_n hx hb dX4_again_76 rfl (lv_at hl 0 rfl) ?_
    refine r_getG C hS h gk_67 q1372 dX4_again_77 (fun v13 h => ?_)
    refine lv_iload hx hb dX4_again_80 (lv_at hl 4 rfl) ?_
    refine lv_iload_n hx hb dX4_again_82 rfl (lv_at hl 1 rfl) ?_
    obtain ⟨hne, h⟩ := h
    refine lv_irem hx hb dX4_again_83 hne ?_
    refine r_iald C hS h dX4_again_84 (fun v14 h => ?_)
    refine lv_iload hx hb dX4_again_85 (lv_at hl 4 rfl) ?_
    obtain ⟨hob, h⟩ := h
    refine r_V C hS (ct_X4_step l Z w a0 0 l3 v14 l6 _ h) 4 24 hob ⟨by decide, by decide +kernel⟩ (lw_V q1611 q1613 qs49 q71 q1614) ⟨rfl, by decide, by decide, by decide +kernel⟩ ⟨Nat.le_of_ble_eq_true rfl, Nat.le_of_ble_eq_true rfl⟩ rfl hl.1 rfl (wcat4 (Nat.le_of_ble_eq_true rfl)) dX4_again_87 ⟨Nat.le_of_ble_eq_true rfl, Nat.le_of_ble_eq_true rfl⟩ (fun v_ w15 H locs hv hS => ?_)
    obtain ⟨rfl, h⟩ := hv
    refine lv_iinc (i := 6) (v := (l6 + 1)) (lv' := [(6, .int (l6 + 1)), (0, .ref a0), (2, .int l2), (3, .int l3), (4, .int l4)]) hx hb dX4_again_90 hl (k := 4) rfl rfl (by decide) rfl (fun ls hl => ?_)
    refine lv_goto (tgt := 64) hx hb dX4_again_93 (by decide) ?_
    exact hL64 w15 a0 l2 l3 l4 (l6 + 1) _ _ _ h hS (lv_sub hl [1, 2, 3, 4, 0] rfl)
set_option maxHeartbeats 4000000 in
theorem kl_X4_again_64 (C : wC p l s m args meth c cX4_again 7 (some .int) RX4 "again" Z A) (k : Int32 → Wd → Prop) : ∀ (n : Nat), ∀ (w : Wd) (a0 : Nat) (l2 : Int32) (l3 : Int32) (l4 : Int32) (l6 : Int32) (H : Heap) (locs : List Loc) (ls : Array Slot), wl_X4_again_64 k n w a0 l2 l3 l4 l6 → wS Z A s w H locs → lv_has ls 7 [(0, .ref a0), (2, .int l2), (3, .int l3), (4, .int l4), (6, .int l6)] → W p l e ({ frames := 5, cells := 0, slots := 0, locals := 122 } : Room) s m args below meth c H locs 0 0 (MQ below (wQc Z A (pI k)) args s 0 0 A) (F0 m 64 ls []) := by
  intro n
  induction n with
  | zero =>
    intro w a0 l2 l3 l4 l6 H locs ls h
    exact h.elim
  | succ n ih =>
    intro w a0 l2 l3 l4 l6 H locs ls h hS hl
    exact kb_X4_again_64 C k (wl_X4_again_64 k n) ih w a0 l2 l3 l4 l6 H locs ls h hS hl
set_option maxHeartbeats 4000000 in
theorem kb_X4_again_27 (C : wC p l s m args meth c cX4_again 7 (some .int) RX4 "again" Z A) (k : Int32 → Wd → Prop) : ∀ (w : Wd) (a0 : Nat) (l1 : Int32) (l2 : Int32) (l3 : Int32) (l4 : Int32) (s0 : Option Nat) (s1 : Int32) (H : Heap) (locs : List Loc) (ls : Array Slot), wb_X4_again_27 k w a0 l1 l2 l3 l4 s0 s1 → wS Z A s w H locs → lv_has ls 7 [(0, .ref a0), (1, .int l1), (2, .int l2), (3, .int l3), (4, .int l4)] → W p l e ({ frames := 5, cells := 0, slots := 0, locals := 122 } : Room) s m args below meth c H locs 0 0 (MQ below (wQc Z A (pI k)) args s 0 0 A) (F0 m 27 ls [.int s1, va_rf s0]) := by
  intro w a0 l1 l2 l3 l4 s0 s1 H locs ls h hS hl
  have hx := C.hx
  have hb := C.hb
  unfold wb_X4_again_27 at h
  refine lv_iload_n hx hb dX4_again_27 rfl (lv_at hl 1 rfl) ?_
  refine lv_iload_n hx hb dX4_again_28 rfl (lv_at hl 2 rfl) ?_
  obtain ⟨b5, hb_, h⟩ := wnn_spec h
  cases hb_
  obtain ⟨hob, h⟩ := h
  refine r_V C hS (ct_X4_loadIf l Z w b5 s1 l1 l2 _ h) 3 24 hob ⟨by decide, by decide +kernel⟩ (lw_V q1631 q1633 qs53 q71 q1634) ⟨rfl, by decide, by decide, by decide +kernel⟩ ⟨Nat.le_of_ble_eq_true rfl, Nat.le_of_ble_eq_true rfl⟩ rfl hl.1 rfl (wcat4 (Nat.le_of_ble_eq_true rfl)) dX4_again_29 ⟨Nat.le_of_ble_eq_true rfl, Nat.le_of_ble_eq_true rfl⟩ (fun v_ w4 H locs hv hS => ?_)
  obtain ⟨v3, rfl, h⟩ := hv
  refine lv_istore (i := 5) (lv' := [(5, .int v3), (0, .ref a0), (1, .int l1), (2, .int l2), (3, .int l3), (4, .int l4)]) hx hb dX4_again_32 hl (by decide) rfl (fun ls hl => ?_)
  refine lv_iload hx hb dX4_again_34 (lv_at hl 0 rfl) ?_
  refine r_if_ge (tgt := 46) hx hb h dX4_again_36 (by decide) (fun h => ?_) (fun h => ?_)
  · refine lv_aload_n hx hb dX4_again_46 rfl (lv_at hl 1 rfl) ?_
    refine lv_iconst (v := 0) hx hb dX4_again_47 (by decide) ?_
    refine lv_aload_n hx hb dX4_again_48 rfl (lv_at hl 1 rfl) ?_
    refine lv_iload_n hx hb dX4_again_49 rfl (lv_at hl 4 rfl) ?_
    obtain ⟨hob, h⟩ := h
    refine r_V C hS (ct_X4_cell l Z w4 a0 l3 _ h) 1 24 hob ⟨by decide, by decide +kernel⟩ (lw_V q1462 q1464 qs32 q71 q1465) ⟨rfl, by decide, by decide, by decide +kernel⟩ ⟨Nat.le_of_ble_eq_true rfl, Nat.le_of_ble_eq_true rfl⟩ rfl hl.1 rfl (wcat4 (Nat.le_of_ble_eq_true rfl)) dX4_again_50 ⟨Nat.le_of_ble_eq_true rfl, Nat.le_of_ble_eq_true rfl⟩ (fun v_ w7 H locs hv hS => ?_)
    obtain ⟨v6, rfl, h⟩ := hv
    refine lv_aload_n hx hb dX4_again_53 rfl (lv_at hl 1 rfl) ?_
    refine lv_iload_n hx hb dX4_again_54 rfl (lv_at hl 4 rfl) ?_
    obtain ⟨hob, h⟩ := h
    refine r_V C hS (ct_X4_faces l Z w7 a0 l3 _ h) 1 24 hob ⟨by decide, by decide +kernel⟩ (lw_V q1603 q1605 qs47 q71 q1606) ⟨rfl, by decide, by decide, by decide +kernel⟩ ⟨Nat.le_of_ble_eq_true rfl, Nat.le_of_ble_eq_true rfl⟩ rfl hl.1 rfl (wcat4 (Nat.le_of_ble_eq_true rfl)) dX4_again_55 ⟨Nat.le_of_ble_eq_true rfl, Nat.le_of_ble_eq_true rfl⟩ (fun v_ w9 H locs hv hS => ?_)
    obtain ⟨v8, rfl, h⟩ := hv
    obtain ⟨hob, h⟩ := h
    refine r_V C hS (ct_X4_start l Z w9 a0 0 v6 v8 _ h) 3 24 hob ⟨by decide, by decide +kernel⟩ (lw_V q1607 q1609 qs48 q71 q1610) ⟨rfl, by decide, by decide, by decide +kernel⟩ ⟨Nat.le_of_ble_eq_true rfl, Nat.le_of_ble_eq_true rfl⟩ rfl hl.1 rfl (wcat4 (Nat.le_of_ble_eq_true rfl)) dX4_again_58 ⟨Nat.le_of_ble_eq_true rfl, Nat.le_of_ble_eq_true rfl⟩ (fun v_ w10 H locs hv hS => ?_)
    obtain ⟨rfl, h⟩ := hv
    refine lv_iconst (v := 0) hx hb dX4_again_61 (by decide) ?_
    refine lv_istore (i := 6) (lv' := [(6, .int 0), (5, .int v3), (0, .ref a0), (1, .int l1), (2, .int l2), (3, .int l3), (4, .int l4)]) hx hb dX4_again_62 hl (by decide) rfl (fun ls hl => ?_)
    exact kl_X4_again_64 C k FU w10 a0 l2 l3 l4 0 _ _ _ h hS (lv_sub hl [2, 4, 5, 6, 0] rfl)
  · refine lv_aload_n hx hb dX4_again_39 rfl (lv_at hl 1 rfl) ?_
    refine lv_iload hx hb dX4_again_40 (lv_at hl 0 rfl) ?_
    obtain ⟨hob, h⟩ := h
    refine r_V C hS (ct_X4_refuse l Z w4 a0 v3 _ h) 1 24 hob ⟨by decide, by decide +kernel⟩ (lw_V q1442 q1444 qs28 q71 q1445) ⟨rfl, by decide, by decide, by decide +kernel⟩ ⟨Nat.le_of_ble_eq_true rfl, Nat.le_of_ble_eq_true rfl⟩ rfl hl.1 rfl (wcat4 (Nat.le_of_ble_eq_true rfl)) dX4_again_42 ⟨Nat.le_of_ble_eq_true rfl, Nat.le_of_ble_eq_true rfl⟩ (fun v_ w17 H locs hv hS => ?_)
    obtain ⟨v16, rfl, h⟩ := hv
    exact r_iret C hS h rfl rfl (Nat.le_of_ble_eq_true rfl) (Nat.le_of_ble_eq_true rfl) dX4_again_45
set_option maxHeartbeats 4000000 in
theorem kb_X4_again_26 (C : wC p l s m args meth c cX4_again 7 (some .int) RX4 "again" Z A) (k : Int32 → Wd → Prop) : ∀ (w : Wd) (a0 : Nat) (l1 : Int32) (l2 : Int32) (l3 : Int32) (l4 : Int32) (s0 : Option Nat) (H : Heap) (locs : List Loc) (ls : Array Slot), wb_X4_again_26 k w a0 l1 l2 l3 l4 s0 → wS Z A s w H locs → lv_has ls 7 [(0, .ref a0), (1, .int l1), (2, .int l2), (3, .int l3), (4, .int l4)] → W p l e ({ frames := 5, cells := 0, slots := 0, locals := 122 } : Room) s m args below meth c H locs 0 0 (MQ below (wQc Z A (pI k)) args s 0 0 A) (F0 m 26 ls [va_rf s0]) := by
  intro w a0 l1 l2 l3 l4 s0 H locs ls h hS hl
  have hx := C.hx
  have hb := C.hb
  unfold wb_X4_again_26 at h
  refine lv_iconst (v := 0) hx hb dX4_again_26 (by decide) ?_
  exact kb_X4_again_27 C k w a0 l1 l2 l3 l4 s0 0 _ _ _ h hS (lv_sub hl [0, 1, 2, 3, 4] rfl)
set_option maxHeartbeats 4000000 in
theorem ct_X4_again (l : Launch) (Z : wZ) (w : Wd) (a0 : Nat) (a1 : Int32) (a2 : Int32) (a3 : Int32) (a4 : Int32) (k : Int32 → Wd → Prop) (h : wp_X4_again w a0 a1 a2 a3 a4 k) : wMet l Z yX4_again cX4_again 7 (some .int) 5 122 0 0 [.ref a0, .int a1, .int a2, .int a3, .int a4] w (pI k) := by
  refine wM_of (by decide +kernel) (Nat.le_of_ble_eq_true rfl) ?_
  intro p e s m below meth c ls C hS hl
  replace C : wC p l s m _ meth c cX4_again 7 (some .int) RX4 "again" Z _ := C
  have hl : lv_has ls 7 [(0, .ref a0), (1, .int a1), (2, .int a2), (3, .int a3), (4, .int a4)] := hl
  have hx := C.hx
  have hb := C.hb
  unfold wp_X4_again at h
  generalize wA w = A at C hS ⊢
  refine lv_aload_n hx hb dX4_again_0 rfl (lv_at hl 0 rfl) ?_
  refine lv_aload_n hx hb dX4_again_1 rfl (lv_at hl 0 rfl) ?_
  refine lv_iload_n hx hb dX4_again_2 rfl (lv_at hl 3 rfl) ?_
  obtain ⟨hob, h⟩ := h
  refine r_V C hS (ct_X4_isPerson l Z w a0 a3 _ h) 1 24 hob ⟨by decide, by decide +kernel⟩ (lw_V q1494 q1496 qs35 q71 q1497) ⟨rfl, by decide, by decide, by decide +kernel⟩ ⟨Nat.le_of_ble_eq_true rfl, Nat.le_of_ble_eq_true rfl⟩ rfl hl.1 rfl (wcat4 (Nat.le_of_ble_eq_true rfl)) dX4_again_3 ⟨Nat.le_of_ble_eq_true rfl, Nat.le_of_ble_eq_true rfl⟩ (fun v_ w2 H locs hv hS => ?_)
  obtain ⟨v1, rfl, h⟩ := hv
  refine r_if_eq (tgt := 26) hx hb h dX4_again_6 (by decide) (fun h => ?_) (fun h => ?_)
  · exact kb_X4_again_26 C k w2 a0 a1 a2 a3 a4 (some a0) _ _ _ h hS (lv_sub hl [0, 1, 2, 3, 4] rfl)
  · refine lv_iload hx hb dX4_again_9 (lv_at hl 4 rfl) ?_
    refine lv_i2l hx hb dX4_again_11 rfl ?_
    refine lv_lconst (v := 0) hx hb dX4_again_12 (by decide) ?_
    refine lv_ldc2 (v := 20) hx hb C.ow (C.hts _ q1703) dX4_again_13 ?_
    refine r_S C hS (ct_X4_isIn l Z w2 (a4.toInt64) 0 20 _ h) 3 (lw_S q1439 q1440 q71 q1441) ⟨by decide, by decide, by decide +kernel⟩ ⟨Nat.le_of_ble_eq_true rfl, Nat.le_of_ble_eq_true rfl⟩ rfl hl.1 rfl (wcat4 (Nat.le_of_ble_eq_true rfl)) dX4_again_16 ⟨Nat.le_of_ble_eq_true rfl, Nat.le_of_ble_eq_true rfl⟩ (fun v_ w19 H locs hv hS => ?_)
    obtain ⟨v18, rfl, h⟩ := hv
    refine r_if_eq (tgt := 26) hx hb h dX4_again_19 (by decide) (fun h => ?_) (fun h => ?_)
    · exact kb_X4_again_26 C k w19 a0 a1 a2 a3 a4 (some a0) _ _ _ h hS (lv_sub hl [0, 1, 2, 3, 4] rfl)
    · refine lv_iconst (v := 1) hx hb dX4_again_22 (by decide) ?_
      refine lv_goto (tgt := 27) hx hb dX4_again_23 (by decide) ?_
      exact kb_X4_again_27 C k w19 a0 a1 a2 a3 a4 (some a0) 1 _ _ _ h hS (lv_sub hl [0, 1, 2, 3, 4] rfl)
end VX4_again
/-! LeftIsAgreedOnModel.ring(III)I -/
section VX4_ring
variable {p : Program} {l : Launch} {e : Env} {s : State} {m : MethodId} {args : Array Value} {below : List Frame} {meth : Method} {c : Code} {Z : wZ} {A : Nat → Prop}
set_option maxHeartbeats 4000000 in
theorem kb_X4_ring_53 (C : wC p l s m args meth c cX4_ring 7 (some .int) RX4 "ring" Z A) (k : Int32 → Wd → Prop) (L43 : Wd → Nat → Int32 → Int32 → Int32 → Prop) (hL43 : ∀ (w : Wd) (x0 : Nat) (x2 : Int32) (x3 : Int32) (x5 : Int32) (H : Heap) (locs : List Loc) (ls : Array Slot), L43 w x0 x2 x3 x5 → wS Z A s w H locs → lv_has ls 7 [(0, .ref x0), (2, .int x2), (3, .int x3), (5, .int x5)] → W p l e ({ frames := 5, cells := 0, slots := 0, locals := 122 } : Room) s m args below meth c H locs 0 0 (MQ below (wQc Z A (pI k)) args s 0 0 A) (F0 m 43 ls [])) (L53 : Wd → Nat → Int32 → Int32 → Int32 → Int32 → Prop) (hL53 : ∀ (w : Wd) (x0 : Nat) (x2 : Int32) (x3 : Int32) (x5 : Int32) (x6 : Int32) (H : Heap) (locs : List Loc) (ls : Array Slot), L53 w x0 x2 x3 x5 x6 → wS Z A s w H locs → lv_has ls 7 [(0, .ref x0), (2, .int x2), (3, .int x3), (5, .int x5), (6, .int x6)] → W p l e ({ frames := 5, cells := 0, slots := 0, locals := 122 } : Room) s m args below meth c H locs 0 0 (MQ below (wQc Z A (pI k)) args s 0 0 A) (F0 m 53 ls [])) : ∀ (w : Wd) (a0 : Nat) (l2 : Int32) (l3 : Int32) (l5 : Int32) (l6 : Int32) (H : Heap) (locs : List Loc) (ls : Array Slot), wb_X4_ring_53 k L43 L53 w a0 l2 l3 l5 l6 → wS Z A s w H locs → lv_has ls 7 [(0, .ref a0), (2, .int l2), (3, .int l3), (5, .int l5), (6, .int l6)] → W p l e ({ frames := 5, cells := 0, slots := 0, locals := 122 } : Room) s m args below meth c H locs 0 0 (MQ below (wQc Z A (pI k)) args s 0 0 A) (F0 m 53 ls []) := by
  intro w a0 l2 l3 l5 l6 H locs ls h hS hl
  have hx := C.hx
  have hb := C.hb
  unfold wb_X4_ring_53 at h
  refine lv_iload hx hb dX4_ring_53 (lv_at hl 4 rfl) ?_
  refine lv_iload_n hx hb dX4_ring_55 rfl (lv_at hl 1 rfl) ?_
  refine r_icmp_ge (tgt := 80) hx hb h dX4_ring_56 (by decide) (fun h => ?_) (fun h => ?_)
  · refine lv_aload_n hx hb dX4_ring_80 rfl (lv_at hl 0 rfl) ?_
    refine r_getG C hS h gk_61 q1365 dX4_ring_81 (fun v10 h => ?_)
    refine lv_iconst (v := 0) hx hb dX4_ring_84 (by decide) ?_
    refine r_iald C hS h dX4_ring_85 (fun v11 h => ?_)
    refine lv_aload_n hx hb dX4_ring_86 rfl (lv_at hl 0 rfl) ?_
    refine lv_iload_n hx hb dX4_ring_87 rfl (lv_at hl 2 rfl) ?_
    obtain ⟨hob, h⟩ := h
    refine r_V C hS (ct_X4_cell l Z w a0 l3 _ h) 1 24 hob ⟨by decide, by decide +kernel⟩ (lw_V q1462 q1464 qs32 q71 q1465) ⟨rfl, by decide, by decide, by decide +kernel⟩ ⟨Nat.le_of_ble_eq_true rfl, Nat.le_of_ble_eq_true rfl⟩ rfl hl.1 rfl (wcat4 (Nat.le_of_ble_eq_true rfl)) dX4_ring_88 ⟨Nat.le_of_ble_eq_true rfl, Nat.le_of_ble_eq_true rfl⟩ (fun v_ w13 H locs hv hS => ?_)
    obtain ⟨v12, rfl, h⟩ := hv
    refine r_icmp_ne (tgt := 111) hx hb h dX4_ring_91 (by decide) (fun h => ?_) (fun h => ?_)
    · refine lv_iinc (i := 5) (v := (l5 + 1)) (lv' := [(5, .int (l5 + 1)), (0, .ref a0), (2, .int l2), (3, .int l3), (6, .int l6)]) hx hb dX4_ring_111 hl (k := 3) rfl rfl (by decide) rfl (fun ls hl => ?_)
      refine lv_goto (tgt := 43) hx hb dX4_ring_114 (by decide) ?_
      exact hL43 w13 a0 l2 l3 (l5 + 1) _ _ _ h hS (lv_sub hl [1, 2, 3, 0] rfl)
    · refine lv_aload_n hx hb dX4_ring_94 rfl (lv_at hl 0 rfl) ?_
      refine r_getG C hS h gk_62 q1366 dX4_ring_95 (fun v14 h => ?_)
      refine lv_iconst (v := 0) hx hb dX4_ring_98 (by decide) ?_
      refine r_iald C hS h dX4_ring_99 (fun v15 h => ?_)
      refine lv_aload_n hx hb dX4_ring_100 rfl (lv_at hl 0 rfl) ?_
      refine lv_iload_n hx hb dX4_ring_101 rfl (lv_at hl 2 rfl) ?_
      obtain ⟨hob, h⟩ := h
      refine r_V C hS (ct_X4_faces l Z w13 a0 l3 _ h) 1 24 hob ⟨by decide, by decide +kernel⟩ (lw_V q1603 q1605 qs47 q71 q1606) ⟨rfl, by decide, by decide, by decide +kernel⟩ ⟨Nat.le_of_ble_eq_true rfl, Nat.le_of_ble_eq_true rfl⟩ rfl hl.1 rfl (wcat4 (Nat.le_of_ble_eq_true rfl)) dX4_ring_102 ⟨Nat.le_of_ble_eq_true rfl, Nat.le_of_ble_eq_true rfl⟩ (fun v_ w17 H locs hv hS => ?_)
      obtain ⟨v16, rfl, h⟩ := hv
      refine r_icmp_ne (tgt := 111) hx hb h dX4_ring_105 (by decide) (fun h => ?_) (fun h => ?_)
      · refine lv_iinc (i := 5) (v := (l5 + 1)) (lv' := [(5, .int (l5 + 1)), (0, .ref a0), (2, .int l2), (3, .int l3), (6, .int l6)]) hx hb dX4_ring_111 hl (k := 3) rfl rfl (by decide) rfl (fun ls hl => ?_)
        refine lv_goto (tgt := 43) hx hb dX4_ring_114 (by decide) ?_
        exact hL43 w17 a0 l2 l3 (l5 + 1) _ _ _ h hS (lv_sub hl [1, 2, 3, 0] rfl)
      · refine lv_iload hx hb dX4_ring_108 (lv_at hl 3 rfl) ?_
        exact r_iret C hS h rfl rfl (Nat.le_of_ble_eq_true rfl) (Nat.le_of_ble_eq_true rfl) dX4_ring_110
  · refine lv_aload_n hx hb dX4_ring_59 rfl (lv_at hl 0 rfl) ?_
    refine lv_iconst (v := 0) hx hb dX4_ring_60 (by decide) ?_
    refine lv_iload_n hx hb dX4_ring_61 rfl (lv_at hl 2 rfl) ?_
    refine lv_aload_n hx hb dX4_ring_62 rfl (lv_at hl 0 rfl) ?_
    refine r_getG C hS h gk_67 q1372 dX4_ring_63 (fun v18 h => ?_)
    refine lv_iload hx hb dX4_ring_66 (lv_at hl 4 rfl) ?_
    refine r_iald C hS h dX4_ring_68 (fun v19 h => ?_)
    refine lv_iload hx hb dX4_ring_69 (lv_at hl 4 rfl) ?_
    obtain ⟨hob, h⟩ := h
    refine r_V C hS (ct_X4_step l Z w a0 0 l3 v19 l6 _ h) 4 24 hob ⟨by decide, by decide +kernel⟩ (lw_V q1611 q1613 qs49 q71 q1614) ⟨rfl, by decide, by decide, by decide +kernel⟩ ⟨Nat.le_of_ble_eq_true rfl, Nat.le_of_ble_eq_true rfl⟩ rfl hl.1 rfl (wcat4 (Nat.le_of_ble_eq_true rfl)) dX4_ring_71 ⟨Nat.le_of_ble_eq_true rfl, Nat.le_of_ble_eq_true rfl⟩ (fun v_ w20 H locs hv hS => ?_)
    obtain ⟨rfl, h⟩ := hv
    refine lv_iinc (i := 6) (v := (l6 + 1)) (lv' := [(6, .int (l6 + 1)), (0, .ref a0), (2, .int l2), (3, .int l3), (5, .int l5)]) hx hb dX4_ring_74 hl (k := 4) rfl rfl (by decide) rfl (fun ls hl => ?_)
    refine lv_goto (tgt := 53) hx hb dX4_ring_77 (by decide) ?_
    exact hL53 w20 a0 l2 l3 l5 (l6 + 1) _ _ _ h hS (lv_sub hl [1, 2, 3, 4, 0] rfl)
set_option maxHeartbeats 4000000 in
theorem kl_X4_ring_53 (C : wC p l s m args meth c cX4_ring 7 (some .int) RX4 "ring" Z A) (k : Int32 → Wd → Prop) (L43 : Wd → Nat → Int32 → Int32 → Int32 → Prop) (hL43 : ∀ (w : Wd) (x0 : Nat) (x2 : Int32) (x3 : Int32) (x5 : Int32) (H : Heap) (locs : List Loc) (ls : Array Slot), L43 w x0 x2 x3 x5 → wS Z A s w H locs → lv_has ls 7 [(0, .ref x0), (2, .int x2), (3, .int x3), (5, .int x5)] → W p l e ({ frames := 5, cells := 0, slots := 0, locals := 122 } : Room) s m args below meth c H locs 0 0 (MQ below (wQc Z A (pI k)) args s 0 0 A) (F0 m 43 ls [])) : ∀ (n : Nat), ∀ (w : Wd) (a0 : Nat) (l2 : Int32) (l3 : Int32) (l5 : Int32) (l6 : Int32) (H : Heap) (locs : List Loc) (ls : Array Slot), wl_X4_ring_53 k L43 n w a0 l2 l3 l5 l6 → wS Z A s w H locs → lv_has ls 7 [(0, .ref a0), (2, .int l2), (3, .int l3), (5, .int l5), (6, .int l6)] → W p l e ({ frames := 5, cells := 0, slots := 0, locals := 122 } : Room) s m args below meth c H locs 0 0 (MQ below (wQc Z A (pI k)) args s 0 0 A) (F0 m 53 ls []) := by
  intro n
  induction n with
  | zero =>
    intro w a0 l2 l3 l5 l6 H locs ls h
    exact h.elim
  | succ n ih =>
    intro w a0 l2 l3 l5 l6 H locs ls h hS hl
    exact kb_X4_ring_53 C k L43 hL43 (wl_X4_ring_53 k L43 n) ih w a0 l2 l3 l5 l6 H locs ls h hS hl
set_option maxHeartbeats 4000000 in
theorem kb_X4_ring_43 (C : wC p l s m args meth c cX4_ring 7 (some .int) RX4 "ring" Z A) (k : Int32 → Wd → Prop) (L43 : Wd → Nat → Int32 → Int32 → Int32 → Prop) (hL43 : ∀ (w : Wd) (x0 : Nat) (x2 : Int32) (x3 : Int32) (x5 : Int32) (H : Heap) (locs : List Loc) (ls : Array Slot), L43 w x0 x2 x3 x5 → wS Z A s w H locs → lv_has ls 7 [(0, .ref x0), (2, .int x2), (3, .int x3), (5, .int x5)] → W p l e ({ frames := 5, cells := 0, slots := 0, locals := 122 } : Room) s m args below meth c H locs 0 0 (MQ below (wQc Z A (pI k)) args s 0 0 A) (F0 m 43 ls [])) : ∀ (w : Wd) (a0 : Nat) (l2 : Int32) (l3 : Int32) (l5 : Int32) (H : Heap) (locs : List Loc) (ls : Array Slot), wb_X4_ring_43 k L43 w a0 l2 l3 l5 → wS Z A s w H locs → lv_has ls 7 [(0, .ref a0), (2, .int l2), (3, .int l3), (5, .int l5)] → W p l e ({ frames := 5, cells := 0, slots := 0, locals := 122 } : Room) s m args below meth c H locs 0 0 (MQ below (wQc Z A (pI k)) args s 0 0 A) (F0 m 43 ls []) := by
  intro w a0 l2 l3 l5 H locs ls h hS hl
  have hx := C.hx
  have hb := C.hb
  unfold wb_X4_ring_43 at h
  refine lv_iload hx hb dX4_ring_43 (lv_at hl 3 rfl) ?_
  refine lv_bipush (v := 20) hx hb dX4_ring_45 (by decide) ?_
  refine r_icmp_gt (tgt := 117) hx hb h dX4_ring_47 (by decide) (fun h => ?_) (fun h => ?_)
  · refine lv_iconst (v := -1) hx hb dX4_ring_117 (by decide) ?_
    exact r_iret C hS h rfl rfl (Nat.le_of_ble_eq_true rfl) (Nat.le_of_ble_eq_true rfl) dX4_ring_118
  · refine lv_iconst (v := 0) hx hb dX4_ring_50 (by decide) ?_
    refine lv_istore (i := 6) (lv' := [(6, .int 0), (0, .ref a0), (2, .int l2), (3, .int l3), (5, .int l5)]) hx hb dX4_ring_51 hl (by decide) rfl (fun ls hl => ?_)
    exact kl_X4_ring_53 C k L43 hL43 FU w a0 l2 l3 l5 0 _ _ _ h hS (lv_sub hl [1, 2, 3, 4, 0] rfl)
set_option maxHeartbeats 4000000 in
theorem kl_X4_ring_43 (C : wC p l s m args meth c cX4_ring 7 (some .int) RX4 "ring" Z A) (k : Int32 → Wd → Prop) : ∀ (n : Nat), ∀ (w : Wd) (a0 : Nat) (l2 : Int32) (l3 : Int32) (l5 : Int32) (H : Heap) (locs : List Loc) (ls : Array Slot), wl_X4_ring_43 k n w a0 l2 l3 l5 → wS Z A s w H locs → lv_has ls 7 [(0, .ref a0), (2, .int l2), (3, .int l3), (5, .int l5)] → W p l e ({ frames := 5, cells := 0, slots := 0, locals := 122 } : Room) s m args below meth c H locs 0 0 (MQ below (wQc Z A (pI k)) args s 0 0 A) (F0 m 43 ls []) := by
  intro n
  induction n with
  | zero =>
    intro w a0 l2 l3 l5 H locs ls h
    exact h.elim
  | succ n ih =>
    intro w a0 l2 l3 l5 H locs ls h hS hl
    exact kb_X4_ring_43 C k (wl_X4_ring_43 k n) ih w a0 l2 l3 l5 H locs ls h hS hl
set_option maxHeartbeats 4000000 in
theorem ct_X4_ring (l : Launch) (Z : wZ) (w : Wd) (a0 : Nat) (a1 : Int32) (a2 : Int32) (a3 : Int32) (k : Int32 → Wd → Prop) (h : wp_X4_ring w a0 a1 a2 a3 k) : wMet l Z yX4_ring cX4_ring 7 (some .int) 5 122 0 0 [.ref a0, .int a1, .int a2, .int a3] w (pI k) := by
  refine wM_of (by decide +kernel) (Nat.le_of_ble_eq_true rfl) ?_
  intro p e s m below meth c ls C hS hl
  replace C : wC p l s m _ meth c cX4_ring 7 (some .int) RX4 "ring" Z _ := C
  have hl : lv_has ls 7 [(0, .ref a0), (1, .int a1), (2, .int a2), (3, .int a3)] := hl
  have hx := C.hx
  have hb := C.hb
  unfold wp_X4_ring at h
  generalize wA w = A at C hS ⊢
  refine lv_aload_n hx hb dX4_ring_0 rfl (lv_at hl 0 rfl) ?_
  refine lv_aload_n hx hb dX4_ring_1 rfl (lv_at hl 0 rfl) ?_
  refine lv_iload_n hx hb dX4_ring_2 rfl (lv_at hl 3 rfl) ?_
  obtain ⟨hob, h⟩ := h
  refine r_V C hS (ct_X4_isPerson l Z w a0 a3 _ h) 1 24 hob ⟨by decide, by decide +kernel⟩ (lw_V q1494 q1496 qs35 q71 q1497) ⟨rfl, by decide, by decide, by decide +kernel⟩ ⟨Nat.le_of_ble_eq_true rfl, Nat.le_of_ble_eq_true rfl⟩ rfl hl.1 rfl (wcat4 (Nat.le_of_ble_eq_true rfl)) dX4_ring_3 ⟨Nat.le_of_ble_eq_true rfl, Nat.le_of_ble_eq_true rfl⟩ (fun v_ w2 H locs hv hS => ?_)
  obtain ⟨v1, rfl, h⟩ := hv
  refine lv_iload_n hx hb dX4_ring_6 rfl (lv_at hl 1 rfl) ?_
  refine lv_iload_n hx hb dX4_ring_7 rfl (lv_at hl 2 rfl) ?_
  obtain ⟨hob, h⟩ := h
  refine r_V C hS (ct_X4_loadIf l Z w2 a0 v1 a1 a2 _ h) 3 24 hob ⟨by decide, by decide +kernel⟩ (lw_V q1631 q1633 qs53 q71 q1634) ⟨rfl, by decide, by decide, by decide +kernel⟩ ⟨Nat.le_of_ble_eq_true rfl, Nat.le_of_ble_eq_true rfl⟩ rfl hl.1 rfl (wcat4 (Nat.le_of_ble_eq_true rfl)) dX4_ring_8 ⟨Nat.le_of_ble_eq_true rfl, Nat.le_of_ble_eq_true rfl⟩ (fun v_ w4 H locs hv hS => ?_)
  obtain ⟨v3, rfl, h⟩ := hv
  refine lv_istore (i := 4) (lv' := [(4, .int v3), (0, .ref a0), (1, .int a1), (2, .int a2), (3, .int a3)]) hx hb dX4_ring_11 hl (by decide) rfl (fun ls hl => ?_)
  refine lv_iload hx hb dX4_ring_13 (lv_at hl 0 rfl) ?_
  refine r_if_ge (tgt := 25) hx hb h dX4_ring_15 (by decide) (fun h => ?_) (fun h => ?_)
  · refine lv_aload_n hx hb dX4_ring_25 rfl (lv_at hl 1 rfl) ?_
    refine lv_iconst (v := 0) hx hb dX4_ring_26 (by decide) ?_
    refine lv_aload_n hx hb dX4_ring_27 rfl (lv_at hl 1 rfl) ?_
    refine lv_iload_n hx hb dX4_ring_28 rfl (lv_at hl 4 rfl) ?_
    obtain ⟨hob, h⟩ := h
    refine r_V C hS (ct_X4_cell l Z w4 a0 a3 _ h) 1 24 hob ⟨by decide, by decide +kernel⟩ (lw_V q1462 q1464 qs32 q71 q1465) ⟨rfl, by decide, by decide, by decide +kernel⟩ ⟨Nat.le_of_ble_eq_true rfl, Nat.le_of_ble_eq_true rfl⟩ rfl hl.1 rfl (wcat4 (Nat.le_of_ble_eq_true rfl)) dX4_ring_29 ⟨Nat.le_of_ble_eq_true rfl, Nat.le_of_ble_eq_true rfl⟩ (fun v_ w6 H locs hv hS => ?_)
    obtain ⟨v5, rfl, h⟩ := hv
    refine lv_aload_n hx hb dX4_ring_32 rfl (lv_at hl 1 rfl) ?_
    refine lv_iload_n hx hb dX4_ring_33 rfl (lv_at hl 4 rfl) ?_
    obtain ⟨hob, h⟩ := h
    refine r_V C hS (ct_X4_faces l Z w6 a0 a3 _ h) 1 24 hob ⟨by decide, by decide +kernel⟩ (lw_V q1603 q1605 qs47 q71 q1606) ⟨rfl, by decide, by decide, by decide +kernel⟩ ⟨Nat.le_of_ble_eq_true rfl, Nat.le_of_ble_eq_true rfl⟩ rfl hl.1 rfl (wcat4 (Nat.le_of_ble_eq_true rfl)) dX4_ring_34 ⟨Nat.le_of_ble_eq_true rfl, Nat.le_of_ble_eq_true rfl⟩ (fun v_ w8 H locs hv hS => ?_)
    obtain ⟨v7, rfl, h⟩ := hv
    obtain ⟨hob, h⟩ := h
    refine r_V C hS (ct_X4_start l Z w8 a0 0 v5 v7 _ h) 3 24 hob ⟨by decide, by decide +kernel⟩ (lw_V q1607 q1609 qs48 q71 q1610) ⟨rfl, by decide, by decide, by decide +kernel⟩ ⟨Nat.le_of_ble_eq_true rfl, Nat.le_of_ble_eq_true rfl⟩ rfl hl.1 rfl (wcat4 (Nat.le_of_ble_eq_true rfl)) dX4_ring_37 ⟨Nat.le_of_ble_eq_true rfl, Nat.le_of_ble_eq_true rfl⟩ (fun v_ w9 H locs hv hS => ?_)
    obtain ⟨rfl, h⟩ := hv
    refine lv_iconst (v := 1) hx hb dX4_ring_40 (by decide) ?_
    refine lv_istore (i := 5) (lv' := [(5, .int 1), (4, .int v3), (0, .ref a0), (1, .int a1), (2, .int a2), (3, .int a3)]) hx hb dX4_ring_41 hl (by decide) rfl (fun ls hl => ?_)
    exact kl_X4_ring_43 C k FU w9 a0 a2 a3 1 _ _ _ h hS (lv_sub hl [2, 4, 5, 0] rfl)
  · refine lv_aload_n hx hb dX4_ring_18 rfl (lv_at hl 1 rfl) ?_
    refine lv_iload hx hb dX4_ring_19 (lv_at hl 0 rfl) ?_
    obtain ⟨hob, h⟩ := h
    refine r_V C hS (ct_X4_refuse l Z w4 a0 v3 _ h) 1 24 hob ⟨by decide, by decide +kernel⟩ (lw_V q1442 q1444 qs28 q71 q1445) ⟨rfl, by decide, by decide, by decide +kernel⟩ ⟨Nat.le_of_ble_eq_true rfl, Nat.le_of_ble_eq_true rfl⟩ rfl hl.1 rfl (wcat4 (Nat.le_of_ble_eq_true rfl)) dX4_ring_21 ⟨Nat.le_of_ble_eq_true rfl, Nat.le_of_ble_eq_true rfl⟩ (fun v_ w22 H locs hv hS => ?_)
    obtain ⟨v21, rfl, h⟩ := hv
    exact r_iret C hS h rfl rfl (Nat.le_of_ble_eq_true rfl) (Nat.le_of_ble_eq_true rfl) dX4_ring_24
end VX4_ring
/-! LeftIsAgreedOnModel.idle(III)I -/
section VX4_idle
variable {p : Program} {l : Launch} {e : Env} {s : State} {m : MethodId} {args : Array Value} {below : List Frame} {meth : Method} {c : Code} {Z : wZ} {A : Nat → Prop}
set_option maxHeartbeats 4000000 in
theorem kb_X4_idle_46 (C : wC p l s m args meth c cX4_idle 8 (some .int) RX4 "idle" Z A) (k : Int32 → Wd → Prop) (L46 : Wd → Nat → Int32 → Int32 → Int32 → Int32 → Prop) (hL46 : ∀ (w : Wd) (x0 : Nat) (x2 : Int32) (x3 : Int32) (x5 : Int32) (x6 : Int32) (H : Heap) (locs : List Loc) (ls : Array Slot), L46 w x0 x2 x3 x5 x6 → wS Z A s w H locs → lv_has ls 8 [(0, .ref x0), (2, .int x2), (3, .int x3), (5, .int x5), (6, .int x6)] → W p l e ({ frames := 5, cells := 0, slots := 0, locals := 122 } : Room) s m args below meth c H locs 0 0 (MQ below (wQc Z A (pI k)) args s 0 0 A) (F0 m 46 ls [])) : ∀ (w : Wd) (a0 : Nat) (l2 : Int32) (l3 : Int32) (l5 : Int32) (l6 : Int32) (H : Heap) (locs : List Loc) (ls : Array Slot), wb_X4_idle_46 k L46 w a0 l2 l3 l5 l6 → wS Z A s w H locs → lv_has ls 8 [(0, .ref a0), (2, .int l2), (3, .int l3), (5, .int l5), (6, .int l6)] → W p l e ({ frames := 5, cells := 0, slots := 0, locals := 122 } : Room) s m args below meth c H locs 0 0 (MQ below (wQc Z A (pI k)) args s 0 0 A) (F0 m 46 ls []) := by
  intro w a0 l2 l3 l5 l6 H locs ls h hS hl
  have hx := C.hx
  have hb := C.hb
  unfold wb_X4_idle_46 at h
  refine lv_iload hx hb dX4_idle_46 (lv_at hl 4 rfl) ?_
  refine lv_iload_n hx hb dX4_idle_48 rfl (lv_at hl 1 rfl) ?_
  refine r_icmp_ge (tgt := 102) hx hb h dX4_idle_49 (by decide) (fun h => ?_) (fun h => ?_)
  · refine lv_iload hx hb dX4_idle_102 (lv_at hl 3 rfl) ?_
    exact r_iret C hS h rfl rfl (Nat.le_of_ble_eq_true rfl) (Nat.le_of_ble_eq_true rfl) dX4_idle_104
  · refine lv_aload_n hx hb dX4_idle_52 rfl (lv_at hl 0 rfl) ?_
    refine r_getG C hS h gk_61 q1365 dX4_idle_53 (fun v10 h => ?_)
    refine lv_iconst (v := 0) hx hb dX4_idle_56 (by decide) ?_
    refine r_iald C hS h dX4_idle_57 (fun v11 h => ?_)
    refine lv_istore (i := 7) (lv' := [(7, .int v11), (0, .ref a0), (2, .int l2), (3, .int l3), (5, .int l5), (6, .int l6)]) hx hb dX4_idle_58 hl (by decide) rfl (fun ls hl => ?_)
    refine lv_aload_n hx hb dX4_idle_60 rfl (lv_at hl 1 rfl) ?_
    refine lv_iconst (v := 0) hx hb dX4_idle_61 (by decide) ?_
    refine lv_iload_n hx hb dX4_idle_62 rfl (lv_at hl 3 rfl) ?_
    refine lv_aload_n hx hb dX4_idle_63 rfl (lv_at hl 1 rfl) ?_
    refine r_getG C hS h gk_67 q1372 dX4_idle_64 (fun v12 h => ?_)
    refine lv_iload hx hb dX4_idle_67 (lv_at hl 5 rfl) ?_
    refine r_iald C hS h dX4_idle_69 (fun v13 h => ?_)
    refine lv_iload hx hb dX4_idle_70 (lv_at hl 5 rfl) ?_
    obtain ⟨hob, h⟩ := h
    refine r_V C hS (ct_X4_step l Z w a0 0 l3 v13 l6 _ h) 4 24 hob ⟨by decide, by decide +kernel⟩ (lw_V q1611 q1613 qs49 q71 q1614) ⟨rfl, by decide, by decide, by decide +kernel⟩ ⟨Nat.le_of_ble_eq_true rfl, Nat.le_of_ble_eq_true rfl⟩ rfl hl.1 rfl (wcat4 (Nat.le_of_ble_eq_true rfl)) dX4_idle_72 ⟨Nat.le_of_ble_eq_true rfl, Nat.le_of_ble_eq_true rfl⟩ (fun v_ w14 H locs hv hS => ?_)
    obtain ⟨rfl, h⟩ := hv
    refine lv_iload hx hb dX4_idle_75 (lv_at hl 4 rfl) ?_
    refine lv_aload_n hx hb dX4_idle_77 rfl (lv_at hl 1 rfl) ?_
    refine r_getG C hS h gk_61 q1365 dX4_idle_78 (fun v15 h => ?_)
    refine lv_iconst (v := 0) hx hb dX4_idle_81 (by decide) ?_
    refine r_iald C hS h dX4_idle_82 (fun v16 h => ?_)
    refine lv_iload hx hb dX4_idle_83 (lv_at hl 0 rfl) ?_
    refine r_icmp_ne (tgt := 92) hx hb h dX4_idle_85 (by decide) (fun h => ?_) (fun h => ?_)
    · refine lv_iconst (v := 0) hx hb dX4_idle_92 (by decide) ?_
      refine lv_iadd hx hb dX4_idle_93 ?_
      refine lv_istore (i := 5) (lv' := [(5, .int (l5 + 0)), (7, .int v11), (0, .ref a0), (2, .int l2), (3, .int l3), (6, .int l6)]) hx hb dX4_idle_94 hl (by decide) rfl (fun ls hl => ?_)
      refine lv_iinc (i := 6) (v := (l6 + 1)) (lv' := [(6, .int (l6 + 1)), (5, .int (l5 + 0)), (7, .int v11), (0, .ref a0), (2, .int l2), (3, .int l3)]) hx hb dX4_idle_96 hl (k := 5) rfl rfl (by decide) rfl (fun ls hl => ?_)
      refine lv_goto (tgt := 46) hx hb dX4_idle_99 (by decide) ?_
      exact hL46 w14 a0 l2 l3 (l5 + 0) (l6 + 1) _ _ _ h hS (lv_sub hl [3, 4, 5, 1, 0] rfl)
    · refine lv_iconst (v := 1) hx hb dX4_idle_88 (by decide) ?_
      refine lv_goto (tgt := 93) hx hb dX4_idle_89 (by decide) ?_
      refine lv_iadd hx hb dX4_idle_93 ?_
      refine lv_istore (i := 5) (lv' := [(5, .int (l5 + 1)), (7, .int v11), (0, .ref a0), (2, .int l2), (3, .int l3), (6, .int l6)]) hx hb dX4_idle_94 hl (by decide) rfl (fun ls hl => ?_)
      refine lv_iinc (i := 6) (v := (l6 + 1)) (lv' := [(6, .int (l6 + 1)), (5, .int (l5 + 1)), (7, .int v11), (0, .ref a0), (2, .int l2), (3, .int l3)]) hx hb dX4_idle_96 hl (k := 5) rfl rfl (by decide) rfl (fun ls hl => ?_)
      refine lv_goto (tgt := 46) hx hb dX4_idle_99 (by decide) ?_
      exact hL46 w14 a0 l2 l3 (l5 + 1) (l6 + 1) _ _ _ h hS (lv_sub hl [3, 4, 5, 1, 0] rfl)
set_option maxHeartbeats 4000000 in
theorem kl_X4_idle_46 (C : wC p l s m args meth c cX4_idle 8 (some .int) RX4 "idle" Z A) (k : Int32 → Wd → Prop) : ∀ (n : Nat), ∀ (w : Wd) (a0 : Nat) (l2 : Int32) (l3 : Int32) (l5 : Int32) (l6 : Int32) (H : Heap) (locs : List Loc) (ls : Array Slot), wl_X4_idle_46 k n w a0 l2 l3 l5 l6 → wS Z A s w H locs → lv_has ls 8 [(0, .ref a0), (2, .int l2), (3, .int l3), (5, .int l5), (6, .int l6)] → W p l e ({ frames := 5, cells := 0, slots := 0, locals := 122 } : Room) s m args below meth c H locs 0 0 (MQ below (wQc Z A (pI k)) args s 0 0 A) (F0 m 46 ls []) := by
  intro n
  induction n with
  | zero =>
    intro w a0 l2 l3 l5 l6 H locs ls h
    exact h.elim
  | succ n ih =>
    intro w a0 l2 l3 l5 l6 H locs ls h hS hl
    exact kb_X4_idle_46 C k (wl_X4_idle_46 k n) ih w a0 l2 l3 l5 l6 H locs ls h hS hl
set_option maxHeartbeats 4000000 in
theorem ct_X4_idle (l : Launch) (Z : wZ) (w : Wd) (a0 : Nat) (a1 : Int32) (a2 : Int32) (a3 : Int32) (k : Int32 → Wd → Prop) (h : wp_X4_idle w a0 a1 a2 a3 k) : wMet l Z yX4_idle cX4_idle 8 (some .int) 5 122 0 0 [.ref a0, .int a1, .int a2, .int a3] w (pI k) := by
  refine wM_of (by decide +kernel) (Nat.le_of_ble_eq_true rfl) ?_
  intro p e s m below meth c ls C hS hl
  replace C : wC p l s m _ meth c cX4_idle 8 (some .int) RX4 "idle" Z _ := C
  have hl : lv_has ls 8 [(0, .ref a0), (1, .int a1), (2, .int a2), (3, .int a3)] := hl
  have hx := C.hx
  have hb := C.hb
  unfold wp_X4_idle at h
  generalize wA w = A at C hS ⊢
  refine lv_aload_n hx hb dX4_idle_0 rfl (lv_at hl 0 rfl) ?_
  refine lv_aload_n hx hb dX4_idle_1 rfl (lv_at hl 0 rfl) ?_
  refine lv_iload_n hx hb dX4_idle_2 rfl (lv_at hl 3 rfl) ?_
  obtain ⟨hob, h⟩ := h
  refine r_V C hS (ct_X4_isPerson l Z w a0 a3 _ h) 1 24 hob ⟨by decide, by decide +kernel⟩ (lw_V q1494 q1496 qs35 q71 q1497) ⟨rfl, by decide, by decide, by decide +kernel⟩ ⟨Nat.le_of_ble_eq_true rfl, Nat.le_of_ble_eq_true rfl⟩ rfl hl.1 rfl (wcat4 (Nat.le_of_ble_eq_true rfl)) dX4_idle_3 ⟨Nat.le_of_ble_eq_true rfl, Nat.le_of_ble_eq_true rfl⟩ (fun v_ w2 H locs hv hS => ?_)
  obtain ⟨v1, rfl, h⟩ := hv
  refine lv_iload_n hx hb dX4_idle_6 rfl (lv_at hl 1 rfl) ?_
  refine lv_iload_n hx hb dX4_idle_7 rfl (lv_at hl 2 rfl) ?_
  obtain ⟨hob, h⟩ := h
  refine r_V C hS (ct_X4_loadIf l Z w2 a0 v1 a1 a2 _ h) 3 24 hob ⟨by decide, by decide +kernel⟩ (lw_V q1631 q1633 qs53 q71 q1634) ⟨rfl, by decide, by decide, by decide +kernel⟩ ⟨Nat.le_of_ble_eq_true rfl, Nat.le_of_ble_eq_true rfl⟩ rfl hl.1 rfl (wcat4 (Nat.le_of_ble_eq_true rfl)) dX4_idle_8 ⟨Nat.le_of_ble_eq_true rfl, Nat.le_of_ble_eq_true rfl⟩ (fun v_ w4 H locs hv hS => ?_)
  obtain ⟨v3, rfl, h⟩ := hv
  refine lv_istore (i := 4) (lv' := [(4, .int v3), (0, .ref a0), (1, .int a1), (2, .int a2), (3, .int a3)]) hx hb dX4_idle_11 hl (by decide) rfl (fun ls hl => ?_)
  refine lv_iload hx hb dX4_idle_13 (lv_at hl 0 rfl) ?_
  refine r_if_ge (tgt := 25) hx hb h dX4_idle_15 (by decide) (fun h => ?_) (fun h => ?_)
  · refine lv_aload_n hx hb dX4_idle_25 rfl (lv_at hl 1 rfl) ?_
    refine lv_iconst (v := 0) hx hb dX4_idle_26 (by decide) ?_
    refine lv_aload_n hx hb dX4_idle_27 rfl (lv_at hl 1 rfl) ?_
    refine lv_iload_n hx hb dX4_idle_28 rfl (lv_at hl 4 rfl) ?_
    obtain ⟨hob, h⟩ := h
    refine r_V C hS (ct_X4_cell l Z w4 a0 a3 _ h) 1 24 hob ⟨by decide, by decide +kernel⟩ (lw_V q1462 q1464 qs32 q71 q1465) ⟨rfl, by decide, by decide, by decide +kernel⟩ ⟨Nat.le_of_ble_eq_true rfl, Nat.le_of_ble_eq_true rfl⟩ rfl hl.1 rfl (wcat4 (Nat.le_of_ble_eq_true rfl)) dX4_idle_29 ⟨Nat.le_of_ble_eq_true rfl, Nat.le_of_ble_eq_true rfl⟩ (fun v_ w6 H locs hv hS => ?_)
    obtain ⟨v5, rfl, h⟩ := hv
    refine lv_aload_n hx hb dX4_idle_32 rfl (lv_at hl 1 rfl) ?_
    refine lv_iload_n hx hb dX4_idle_33 rfl (lv_at hl 4 rfl) ?_
    obtain ⟨hob, h⟩ := h
    refine r_V C hS (ct_X4_faces l Z w6 a0 a3 _ h) 1 24 hob ⟨by decide, by decide +kernel⟩ (lw_V q1603 q1605 qs47 q71 q1606) ⟨rfl, by decide, by decide, by decide +kernel⟩ ⟨Nat.le_of_ble_eq_true rfl, Nat.le_of_ble_eq_true rfl⟩ rfl hl.1 rfl (wcat4 (Nat.le_of_ble_eq_true rfl)) dX4_idle_34 ⟨Nat.le_of_ble_eq_true rfl, Nat.le_of_ble_eq_true rfl⟩ (fun v_ w8 H locs hv hS => ?_)
    obtain ⟨v7, rfl, h⟩ := hv
    obtain ⟨hob, h⟩ := h
    refine r_V C hS (ct_X4_start l Z w8 a0 0 v5 v7 _ h) 3 24 hob ⟨by decide, by decide +kernel⟩ (lw_V q1607 q1609 qs48 q71 q1610) ⟨rfl, by decide, by decide, by decide +kernel⟩ ⟨Nat.le_of_ble_eq_true rfl, Nat.le_of_ble_eq_true rfl⟩ rfl hl.1 rfl (wcat4 (Nat.le_of_ble_eq_true rfl)) dX4_idle_37 ⟨Nat.le_of_ble_eq_true rfl, Nat.le_of_ble_eq_true rfl⟩ (fun v_ w9 H locs hv hS => ?_)
    obtain ⟨rfl, h⟩ := hv
    refine lv_iconst (v := 0) hx hb dX4_idle_40 (by decide) ?_
    refine lv_istore (i := 5) (lv' := [(5, .int 0), (4, .int v3), (0, .ref a0), (1, .int a1), (2, .int a2), (3, .int a3)]) hx hb dX4_idle_41 hl (by decide) rfl (fun ls hl => ?_)
    refine lv_iconst (v := 0) hx hb dX4_idle_43 (by decide) ?_
    refine lv_istore (i := 6) (lv' := [(6, .int 0), (5, .int 0), (4, .int v3), (0, .ref a0), (1, .int a1), (2, .int a2), (3, .int a3)]) hx hb dX4_idle_44 hl (by decide) rfl (fun ls hl => ?_)
    exact kl_X4_idle_46 C k FU w9 a0 a2 a3 0 0 _ _ _ h hS (lv_sub hl [3, 5, 6, 1, 0] rfl)
  · refine lv_aload_n hx hb dX4_idle_18 rfl (lv_at hl 1 rfl) ?_
    refine lv_iload hx hb dX4_idle_19 (lv_at hl 0 rfl) ?_
    obtain ⟨hob, h⟩ := h
    refine r_V C hS (ct_X4_refuse l Z w4 a0 v3 _ h) 1 24 hob ⟨by decide, by decide +kernel⟩ (lw_V q1442 q1444 qs28 q71 q1445) ⟨rfl, by decide, by decide, by decide +kernel⟩ ⟨Nat.le_of_ble_eq_true rfl, Nat.le_of_ble_eq_true rfl⟩ rfl hl.1 rfl (wcat4 (Nat.le_of_ble_eq_true rfl)) dX4_idle_21 ⟨Nat.le_of_ble_eq_true rfl, Nat.le_of_ble_eq_true rfl⟩ (fun v_ w18 H locs hv hS => ?_)
    obtain ⟨v17, rfl, h⟩ := hv
    exact r_iret C hS h rfl rfl (Nat.le_of_ble_eq_true rfl) (Nat.le_of_ble_eq_true rfl) dX4_idle_24
end VX4_idle
/-! LeftIsAgreedOnModel.lefts(II)I -/
section VX4_lefts
variable {p : Program} {l : Launch} {e : Env} {s : State} {m : MethodId} {args : Array Value} {below : List Frame} {meth : Method} {c : Code} {Z : wZ} {A : Nat → Prop}
set_option maxHeartbeats 4000000 in
theorem kb_X4_lefts_74 (C : wC p l s m args meth c cX4_lefts 4 (some .int) RX4 "lefts" Z A) (k : Int32 → Wd → Prop) : ∀ (w : Wd) (l3 : Int32) (H : Heap) (locs : List Loc) (ls : Array Slot), wb_X4_lefts_74 k w l3 → wS Z A s w H locs → lv_has ls 4 [(3, .int l3)] → W p l e ({ frames := 5, cells := 0, slots := 0, locals := 122 } : Room) s m args below meth c H locs 0 0 (MQ below (wQc Z A (pI k)) args s 0 0 A) (F0 m 74 ls []) := by
  intro w l3 H locs ls h hS hl
  have hx := C.hx
  have hb := C.hb
  unfold wb_X4_lefts_74 at h
  refine lv_iload_n hx hb dX4_lefts_74 rfl (lv_at hl 0 rfl) ?_
  refine lv_bipush (v := 20) hx hb dX4_lefts_75 (by decide) ?_
  refine r_icmp_le (tgt := 84) hx hb h dX4_lefts_77 (by decide) (fun h => ?_) (fun h => ?_)
  · refine lv_iload_n hx hb dX4_lefts_84 rfl (lv_at hl 0 rfl) ?_
    exact r_iret C hS h rfl rfl (Nat.le_of_ble_eq_true rfl) (Nat.le_of_ble_eq_true rfl) dX4_lefts_85
  · refine lv_iconst (v := -1) hx hb dX4_lefts_80 (by decide) ?_
    refine lv_goto (tgt := 85) hx hb dX4_lefts_81 (by decide) ?_
    exact r_iret C hS h rfl rfl (Nat.le_of_ble_eq_true rfl) (Nat.le_of_ble_eq_true rfl) dX4_lefts_85
set_option maxHeartbeats 4000000 in
theorem kb_X4_lefts_44 (C : wC p l s m args meth c cX4_lefts 4 (some .int) RX4 "lefts" Z A) (k : Int32 → Wd → Prop) (L44 : Wd → Nat → Int32 → Int32 → Int32 → Prop) (hL44 : ∀ (w : Wd) (x0 : Nat) (x1 : Int32) (x2 : Int32) (x3 : Int32) (H : Heap) (locs : List Loc) (ls : Array Slot), L44 w x0 x1 x2 x3 → wS Z A s w H locs → lv_has ls 4 [(0, .ref x0), (1, .int x1), (2, .int x2), (3, .int x3)] → W p l e ({ frames := 5, cells := 0, slots := 0, locals := 122 } : Room) s m args below meth c H locs 0 0 (MQ below (wQc Z A (pI k)) args s 0 0 A) (F0 m 44 ls [])) : ∀ (w : Wd) (a0 : Nat) (l1 : Int32) (l2 : Int32) (l3 : Int32) (H : Heap) (locs : List Loc) (ls : Array Slot), wb_X4_lefts_44 k L44 w a0 l1 l2 l3 → wS Z A s w H locs → lv_has ls 4 [(0, .ref a0), (1, .int l1), (2, .int l2), (3, .int l3)] → W p l e ({ frames := 5, cells := 0, slots := 0, locals := 122 } : Room) s m args below meth c H locs 0 0 (MQ below (wQc Z A (pI k)) args s 0 0 A) (F0 m 44 ls []) := by
  intro w a0 l1 l2 l3 H locs ls h hS hl
  have hx := C.hx
  have hb := C.hb
  unfold wb_X4_lefts_44 at h
  refine lv_aload_n hx hb dX4_lefts_44 rfl (lv_at hl 0 rfl) ?_
  refine r_getG C hS h gk_62 q1366 dX4_lefts_45 (fun v12 h => ?_)
  refine lv_iconst (v := 0) hx hb dX4_lefts_48 (by decide) ?_
  refine r_iald C hS h dX4_lefts_49 (fun v13 h => ?_)
  refine lv_iload_n hx hb dX4_lefts_50 rfl (lv_at hl 2 rfl) ?_
  refine r_icmp_eq (tgt := 74) hx hb h dX4_lefts_51 (by decide) (fun h => ?_) (fun h => ?_)
  · exact kb_X4_lefts_74 C k w l3 _ _ _ h hS (lv_sub hl [3] rfl)
  · refine lv_iload_n hx hb dX4_lefts_54 rfl (lv_at hl 3 rfl) ?_
    refine lv_bipush (v := 20) hx hb dX4_lefts_55 (by decide) ?_
    refine r_icmp_gt (tgt := 74) hx hb h dX4_lefts_57 (by decide) (fun h => ?_) (fun h => ?_)
    · exact kb_X4_lefts_74 C k w l3 _ _ _ h hS (lv_sub hl [3] rfl)
    · refine lv_aload_n hx hb dX4_lefts_60 rfl (lv_at hl 0 rfl) ?_
      refine lv_iconst (v := 0) hx hb dX4_lefts_61 (by decide) ?_
      refine lv_iload_n hx hb dX4_lefts_62 rfl (lv_at hl 1 rfl) ?_
      refine lv_iconst (v := 1) hx hb dX4_lefts_63 (by decide) ?_
      refine lv_iload_n hx hb dX4_lefts_64 rfl (lv_at hl 3 rfl) ?_
      obtain ⟨hob, h⟩ := h
      refine r_V C hS (ct_X4_step l Z w a0 0 l1 1 l3 _ h) 4 24 hob ⟨by decide, by decide +kernel⟩ (lw_V q1611 q1613 qs49 q71 q1614) ⟨rfl, by decide, by decide, by decide +kernel⟩ ⟨Nat.le_of_ble_eq_true rfl, Nat.le_of_ble_eq_true rfl⟩ rfl hl.1 rfl (wcat4 (Nat.le_of_ble_eq_true rfl)) dX4_lefts_65 ⟨Nat.le_of_ble_eq_true rfl, Nat.le_of_ble_eq_true rfl⟩ (fun v_ w14 H locs hv hS => ?_)
      obtain ⟨rfl, h⟩ := hv
      refine lv_iinc (i := 3) (v := (l3 + 1)) (lv' := [(3, .int (l3 + 1)), (0, .ref a0), (1, .int l1), (2, .int l2)]) hx hb dX4_lefts_68 hl (k := 3) rfl rfl (by decide) rfl (fun ls hl => ?_)
      refine lv_goto (tgt := 44) hx hb dX4_lefts_71 (by decide) ?_
      exact hL44 w14 a0 l1 l2 (l3 + 1) _ _ _ h hS (lv_sub hl [1, 2, 3, 0] rfl)
set_option maxHeartbeats 4000000 in
theorem kl_X4_lefts_44 (C : wC p l s m args meth c cX4_lefts 4 (some .int) RX4 "lefts" Z A) (k : Int32 → Wd → Prop) : ∀ (n : Nat), ∀ (w : Wd) (a0 : Nat) (l1 : Int32) (l2 : Int32) (l3 : Int32) (H : Heap) (locs : List Loc) (ls : Array Slot), wl_X4_lefts_44 k n w a0 l1 l2 l3 → wS Z A s w H locs → lv_has ls 4 [(0, .ref a0), (1, .int l1), (2, .int l2), (3, .int l3)] → W p l e ({ frames := 5, cells := 0, slots := 0, locals := 122 } : Room) s m args below meth c H locs 0 0 (MQ below (wQc Z A (pI k)) args s 0 0 A) (F0 m 44 ls []) := by
  intro n
  induction n with
  | zero =>
    intro w a0 l1 l2 l3 H locs ls h
    exact h.elim
  | succ n ih =>
    intro w a0 l1 l2 l3 H locs ls h hS hl
    exact kb_X4_lefts_44 C k (wl_X4_lefts_44 k n) ih w a0 l1 l2 l3 H locs ls h hS hl
set_option maxHeartbeats 4000000 in
theorem ct_X4_lefts (l : Launch) (Z : wZ) (w : Wd) (a0 : Nat) (a1 : Int32) (a2 : Int32) (k : Int32 → Wd → Prop) (h : wp_X4_lefts w a0 a1 a2 k) : wMet l Z yX4_lefts cX4_lefts 4 (some .int) 5 122 0 0 [.ref a0, .int a1, .int a2] w (pI k) := by
  refine wM_of (by decide +kernel) (Nat.le_of_ble_eq_true rfl) ?_
  intro p e s m below meth c ls C hS hl
  replace C : wC p l s m _ meth c cX4_lefts 4 (some .int) RX4 "lefts" Z _ := C
  have hl : lv_has ls 4 [(0, .ref a0), (1, .int a1), (2, .int a2)] := hl
  have hx := C.hx
  have hb := C.hb
  unfold wp_X4_lefts at h
  generalize wA w = A at C hS ⊢
  refine lv_aload_n hx hb dX4_lefts_0 rfl (lv_at hl 0 rfl) ?_
  refine lv_iload_n hx hb dX4_lefts_1 rfl (lv_at hl 1 rfl) ?_
  obtain ⟨hob, h⟩ := h
  refine r_V C hS (ct_X4_isPerson l Z w a0 a1 _ h) 1 24 hob ⟨by decide, by decide +kernel⟩ (lw_V q1494 q1496 qs35 q71 q1497) ⟨rfl, by decide, by decide, by decide +kernel⟩ ⟨Nat.le_of_ble_eq_true rfl, Nat.le_of_ble_eq_true rfl⟩ rfl hl.1 rfl (wcat4 (Nat.le_of_ble_eq_true rfl)) dX4_lefts_2 ⟨Nat.le_of_ble_eq_true rfl, Nat.le_of_ble_eq_true rfl⟩ (fun v_ w2 H locs hv hS => ?_)
  obtain ⟨v1, rfl, h⟩ := hv
  refine r_if_eq (tgt := 20) hx hb h dX4_lefts_5 (by decide) (fun h => ?_) (fun h => ?_)
  · refine lv_aload_n hx hb dX4_lefts_20 rfl (lv_at hl 0 rfl) ?_
    refine lv_bipush (v := -2) hx hb dX4_lefts_21 (by decide) ?_
    obtain ⟨hob, h⟩ := h
    refine r_V C hS (ct_X4_refuse l Z w2 a0 (-2) _ h) 1 24 hob ⟨by decide, by decide +kernel⟩ (lw_V q1442 q1444 qs28 q71 q1445) ⟨rfl, by decide, by decide, by decide +kernel⟩ ⟨Nat.le_of_ble_eq_true rfl, Nat.le_of_ble_eq_true rfl⟩ rfl hl.1 rfl (wcat4 (Nat.le_of_ble_eq_true rfl)) dX4_lefts_23 ⟨Nat.le_of_ble_eq_true rfl, Nat.le_of_ble_eq_true rfl⟩ (fun v_ w4 H locs hv hS => ?_)
    obtain ⟨v3, rfl, h⟩ := hv
    exact r_iret C hS h rfl rfl (Nat.le_of_ble_eq_true rfl) (Nat.le_of_ble_eq_true rfl) dX4_lefts_26
  · refine lv_iload_n hx hb dX4_lefts_8 rfl (lv_at hl 2 rfl) ?_
    refine lv_i2l hx hb dX4_lefts_9 rfl ?_
    refine lv_lconst (v := 0) hx hb dX4_lefts_10 (by decide) ?_
    refine lv_ldc2 (v := 3) hx hb C.ow (C.hts _ q1475) dX4_lefts_11 ?_
    refine r_S C hS (ct_X4_isIn l Z w2 (a2.toInt64) 0 3 _ h) 3 (lw_S q1439 q1440 q71 q1441) ⟨by decide, by decide, by decide +kernel⟩ ⟨Nat.le_of_ble_eq_true rfl, Nat.le_of_ble_eq_true rfl⟩ rfl hl.1 rfl (wcat4 (Nat.le_of_ble_eq_true rfl)) dX4_lefts_14 ⟨Nat.le_of_ble_eq_true rfl, Nat.le_of_ble_eq_true rfl⟩ (fun v_ w6 H locs hv hS => ?_)
    obtain ⟨v5, rfl, h⟩ := hv
    refine r_if_ne (tgt := 27) hx hb h dX4_lefts_17 (by decide) (fun h => ?_) (fun h => ?_)
    · refine lv_aload_n hx hb dX4_lefts_27 rfl (lv_at hl 0 rfl) ?_
      refine lv_iconst (v := 0) hx hb dX4_lefts_28 (by decide) ?_
      refine lv_aload_n hx hb dX4_lefts_29 rfl (lv_at hl 0 rfl) ?_
      refine lv_iload_n hx hb dX4_lefts_30 rfl (lv_at hl 1 rfl) ?_
      obtain ⟨hob, h⟩ := h
      refine r_V C hS (ct_X4_cell l Z w6 a0 a1 _ h) 1 24 hob ⟨by decide, by decide +kernel⟩ (lw_V q1462 q1464 qs32 q71 q1465) ⟨rfl, by decide, by decide, by decide +kernel⟩ ⟨Nat.le_of_ble_eq_true rfl, Nat.le_of_ble_eq_true rfl⟩ rfl hl.1 rfl (wcat4 (Nat.le_of_ble_eq_true rfl)) dX4_lefts_31 ⟨Nat.le_of_ble_eq_true rfl, Nat.le_of_ble_eq_true rfl⟩ (fun v_ w8 H locs hv hS => ?_)
      obtain ⟨v7, rfl, h⟩ := hv
      refine lv_aload_n hx hb dX4_lefts_34 rfl (lv_at hl 0 rfl) ?_
      refine lv_iload_n hx hb dX4_lefts_35 rfl (lv_at hl 1 rfl) ?_
      obtain ⟨hob, h⟩ := h
      refine r_V C hS (ct_X4_faces l Z w8 a0 a1 _ h) 1 24 hob ⟨by decide, by decide +kernel⟩ (lw_V q1603 q1605 qs47 q71 q1606) ⟨rfl, by decide, by decide, by decide +kernel⟩ ⟨Nat.le_of_ble_eq_true rfl, Nat.le_of_ble_eq_true rfl⟩ rfl hl.1 rfl (wcat4 (Nat.le_of_ble_eq_true rfl)) dX4_lefts_36 ⟨Nat.le_of_ble_eq_true rfl, Nat.le_of_ble_eq_true rfl⟩ (fun v_ w10 H locs hv hS => ?_)
      obtain ⟨v9, rfl, h⟩ := hv
      obtain ⟨hob, h⟩ := h
      refine r_V C hS (ct_X4_start l Z w10 a0 0 v7 v9 _ h) 3 24 hob ⟨by decide, by decide +kernel⟩ (lw_V q1607 q1609 qs48 q71 q1610) ⟨rfl, by decide, by decide, by decide +kernel⟩ ⟨Nat.le_of_ble_eq_true rfl, Nat.le_of_ble_eq_true rfl⟩ rfl hl.1 rfl (wcat4 (Nat.le_of_ble_eq_true rfl)) dX4_lefts_39 ⟨Nat.le_of_ble_eq_true rfl, Nat.le_of_ble_eq_true rfl⟩ (fun v_ w11 H locs hv hS => ?_)
      obtain ⟨rfl, h⟩ := hv
      refine lv_iconst (v := 0) hx hb dX4_lefts_42 (by decide) ?_
      refine lv_istore_n (i := 3) (lv' := [(3, .int 0), (0, .ref a0), (1, .int a1), (2, .int a2)]) hx hb dX4_lefts_43 rfl hl (by decide) rfl (fun ls hl => ?_)
      exact kl_X4_lefts_44 C k FU w11 a0 a1 a2 0 _ _ _ h hS (lv_sub hl [1, 2, 3, 0] rfl)
    · refine lv_aload_n hx hb dX4_lefts_20 rfl (lv_at hl 0 rfl) ?_
      refine lv_bipush (v := -2) hx hb dX4_lefts_21 (by decide) ?_
      obtain ⟨hob, h⟩ := h
      refine r_V C hS (ct_X4_refuse l Z w6 a0 (-2) _ h) 1 24 hob ⟨by decide, by decide +kernel⟩ (lw_V q1442 q1444 qs28 q71 q1445) ⟨rfl, by decide, by decide, by decide +kernel⟩ ⟨Nat.le_of_ble_eq_true rfl, Nat.le_of_ble_eq_true rfl⟩ rfl hl.1 rfl (wcat4 (Nat.le_of_ble_eq_true rfl)) dX4_lefts_23 ⟨Nat.le_of_ble_eq_true rfl, Nat.le_of_ble_eq_true rfl⟩ (fun v_ w16 H locs hv hS => ?_)
      obtain ⟨v15, rfl, h⟩ := hv
      exact r_iret C hS h rfl rfl (Nat.le_of_ble_eq_true rfl) (Nat.le_of_ble_eq_true rfl) dX4_lefts_26
end VX4_lefts
/-! LeftIsAgreedOnModel.reach(II)I -/
section VX4_reach
variable {p : Program} {l : Launch} {e : Env} {s : State} {m : MethodId} {args : Array Value} {below : List Frame} {meth : Method} {c : Code} {Z : wZ} {A : Nat → Prop}
set_option maxHeartbeats 4000000 in
theorem kb_X4_reach_121 (C : wC p l s m args meth c cX4_reach 8 (some .int) RX4 "reach" Z A) (k : Int32 → Wd → Prop) (L121 : Wd → Int64 → Int32 → Int32 → Prop) (hL121 : ∀ (w : Wd) (x3 : Int64) (x6 : Int32) (x7 : Int32) (H : Heap) (locs : List Loc) (ls : Array Slot), L121 w x3 x6 x7 → wS Z A s w H locs → lv_has ls 8 [(3, .long x3), (6, .int x6), (7, .int x7)] → W p l e ({ frames := 6, cells := 0, slots := 0, locals := 145 } : Room) s m args below meth c H locs 0 0 (MQ below (wQc Z A (pI k)) args s 0 0 A) (F0 m 121 ls [])) : ∀ (w : Wd) (l3 : Int64) (l6 : Int32) (l7 : Int32) (H : Heap) (locs : List Loc) (ls : Array Slot), wb_X4_reach_121 k L121 w l3 l6 l7 → wS Z A s w H locs → lv_has ls 8 [(3, .long l3), (6, .int l6), (7, .int l7)] → W p l e ({ frames := 6, cells := 0, slots := 0, locals := 145 } : Room) s m args below meth c H locs 0 0 (MQ below (wQc Z A (pI k)) args s 0 0 A) (F0 m 121 ls []) := by
  intro w l3 l6 l7 H locs ls h hS hl
  have hx := C.hx
  have hb := C.hb
  unfold wb_X4_reach_121 at h
  refine lv_iload hx hb dX4_reach_121 (lv_at hl 2 rfl) ?_
  refine lv_bipush (v := 49) hx hb dX4_reach_123 (by decide) ?_
  refine r_icmp_ge (tgt := 146) hx hb h dX4_reach_125 (by decide) (fun h => ?_) (fun h => ?_)
  · refine lv_iload hx hb dX4_reach_146 (lv_at hl 1 rfl) ?_
    exact r_iret C hS h rfl rfl (Nat.le_of_ble_eq_true rfl) (Nat.le_of_ble_eq_true rfl) dX4_reach_148
  · refine lv_iload hx hb dX4_reach_128 (lv_at hl 1 rfl) ?_
    refine lv_lload_n hx hb dX4_reach_130 rfl (lv_at hl 0 rfl) ?_
    refine lv_iload hx hb dX4_reach_131 (lv_at hl 2 rfl) ?_
    refine lv_lshr hx hb dX4_reach_133 rfl ?_
    refine lv_lconst (v := 1) hx hb dX4_reach_134 (by decide) ?_
    refine lv_land hx hb dX4_reach_135 ?_
    refine lv_l2i hx hb dX4_reach_136 rfl ?_
    refine lv_iadd hx hb dX4_reach_137 ?_
    refine lv_istore (i := 6) (lv' := [(6, .int (l6 + (((l3 >>> (l7.toInt64 &&& 63)) &&& 1).toInt32))), (3, .long l3), (7, .int l7)]) hx hb dX4_reach_138 hl (by decide) rfl (fun ls hl => ?_)
    refine lv_iinc (i := 7) (v := (l7 + 1)) (lv' := [(7, .int (l7 + 1)), (6, .int (l6 + (((l3 >>> (l7.toInt64 &&& 63)) &&& 1).toInt32))), (3, .long l3)]) hx hb dX4_reach_140 hl (k := 2) rfl rfl (by decide) rfl (fun ls hl => ?_)
    refine lv_goto (tgt := 121) hx hb dX4_reach_143 (by decide) ?_
    exact hL121 w l3 (l6 + (((l3 >>> (l7.toInt64 &&& 63)) &&& 1).toInt32)) (l7 + 1) _ _ _ h hS (lv_sub hl [2, 1, 0] rfl)
set_option maxHeartbeats 4000000 in
theorem kl_X4_reach_121 (C : wC p l s m args meth c cX4_reach 8 (some .int) RX4 "reach" Z A) (k : Int32 → Wd → Prop) : ∀ (n : Nat), ∀ (w : Wd) (l3 : Int64) (l6 : Int32) (l7 : Int32) (H : Heap) (locs : List Loc) (ls : Array Slot), wl_X4_reach_121 k n w l3 l6 l7 → wS Z A s w H locs → lv_has ls 8 [(3, .long l3), (6, .int l6), (7, .int l7)] → W p l e ({ frames := 6, cells := 0, slots := 0, locals := 145 } : Room) s m args below meth c H locs 0 0 (MQ below (wQc Z A (pI k)) args s 0 0 A) (F0 m 121 ls []) := by
  intro n
  induction n with
  | zero =>
    intro w l3 l6 l7 H locs ls h
    exact h.elim
  | succ n ih =>
    intro w l3 l6 l7 H locs ls h hS hl
    exact kb_X4_reach_121 C k (wl_X4_reach_121 k n) ih w l3 l6 l7 H locs ls h hS hl
set_option maxHeartbeats 4000000 in
theorem kb_X4_reach_44 (C : wC p l s m args meth c cX4_reach 8 (some .int) RX4 "reach" Z A) (k : Int32 → Wd → Prop) (L35 : Wd → Nat → Int32 → Int32 → Int64 → Int32 → Int32 → Prop) (hL35 : ∀ (w : Wd) (x0 : Nat) (x1 : Int32) (x2 : Int32) (x3 : Int64) (x5 : Int32) (x6 : Int32) (H : Heap) (locs : List Loc) (ls : Array Slot), L35 w x0 x1 x2 x3 x5 x6 → wS Z A s w H locs → lv_has ls 8 [(0, .ref x0), (1, .int x1), (2, .int x2), (3, .long x3), (5, .int x5), (6, .int x6)] → W p l e ({ frames := 6, cells := 0, slots := 0, locals := 145 } : Room) s m args below meth c H locs 0 0 (MQ below (wQc Z A (pI k)) args s 0 0 A) (F0 m 35 ls [])) (L44 : Wd → Nat → Int32 → Int32 → Int64 → Int32 → Int32 → Int32 → Prop) (hL44 : ∀ (w : Wd) (x0 : Nat) (x1 : Int32) (x2 : Int32) (x3 : Int64) (x5 : Int32) (x6 : Int32) (x7 : Int32) (H : Heap) (locs : List Loc) (ls : Array Slot), L44 w x0 x1 x2 x3 x5 x6 x7 → wS Z A s w H locs → lv_has ls 8 [(0, .ref x0), (1, .int x1), (2, .int x2), (3, .long x3), (5, .int x5), (6, .int x6), (7, .int x7)] → W p l e ({ frames := 6, cells := 0, slots := 0, locals := 145 } : Room) s m args below meth c H locs 0 0 (MQ below (wQc Z A (pI k)) args s 0 0 A) (F0 m 44 ls [])) : ∀ (w : Wd) (a0 : Nat) (l1 : Int32) (l2 : Int32) (l3 : Int64) (l5 : Int32) (l6 : Int32) (l7 : Int32) (H : Heap) (locs : List Loc) (ls : Array Slot), wb_X4_reach_44 k L35 L44 w a0 l1 l2 l3 l5 l6 l7 → wS Z A s w H locs → lv_has ls 8 [(0, .ref a0), (1, .int l1), (2, .int l2), (3, .long l3), (5, .int l5), (6, .int l6), (7, .int l7)] → W p l e ({ frames := 6, cells := 0, slots := 0, locals := 145 } : Room) s m args below meth c H locs 0 0 (MQ below (wQc Z A (pI k)) args s 0 0 A) (F0 m 44 ls []) := by
  intro w a0 l1 l2 l3 l5 l6 l7 H locs ls h hS hl
  have hx := C.hx
  have hb := C.hb
  unfold wb_X4_reach_44 at h
  refine lv_iload hx hb dX4_reach_44 (lv_at hl 6 rfl) ?_
  refine lv_iload hx hb dX4_reach_46 (lv_at hl 4 rfl) ?_
  refine r_icmp_ge (tgt := 103) hx hb h dX4_reach_48 (by decide) (fun h => ?_) (fun h => ?_)
  · refine lv_iload hx hb dX4_reach_103 (lv_at hl 4 rfl) ?_
    refine lv_iconst (v := 3) hx hb dX4_reach_105 (by decide) ?_
    refine lv_imul hx hb dX4_reach_106 ?_
    refine lv_istore (i := 5) (lv' := [(5, .int (l5 * 3)), (0, .ref a0), (1, .int l1), (2, .int l2), (3, .long l3), (6, .int l6), (7, .int l7)]) hx hb dX4_reach_107 hl (by decide) rfl (fun ls hl => ?_)
    refine lv_iinc (i := 6) (v := (l6 + 1)) (lv' := [(6, .int (l6 + 1)), (5, .int (l5 * 3)), (0, .ref a0), (1, .int l1), (2, .int l2), (3, .long l3), (7, .int l7)]) hx hb dX4_reach_109 hl (k := 5) rfl rfl (by decide) rfl (fun ls hl => ?_)
    refine lv_goto (tgt := 35) hx hb dX4_reach_112 (by decide) ?_
    exact hL35 w a0 l1 l2 l3 (l5 * 3) (l6 + 1) _ _ _ h hS (lv_sub hl [2, 3, 4, 5, 1, 0] rfl)
  · refine lv_aload_n hx hb dX4_reach_51 rfl (lv_at hl 0 rfl) ?_
    refine lv_iload hx hb dX4_reach_52 (lv_at hl 6 rfl) ?_
    refine lv_iload hx hb dX4_reach_54 (lv_at hl 5 rfl) ?_
    obtain ⟨hob, h⟩ := h
    refine r_V C hS (ct_X4_spell l Z w a0 l7 l6 _ h) 2 24 hob ⟨by decide, by decide +kernel⟩ (lw_V q1655 q1657 qs56 q71 q1658) ⟨rfl, by decide, by decide, by decide +kernel⟩ ⟨Nat.le_of_ble_eq_true rfl, Nat.le_of_ble_eq_true rfl⟩ rfl hl.1 rfl (wcat4 (Nat.le_of_ble_eq_true rfl)) dX4_reach_56 ⟨Nat.le_of_ble_eq_true rfl, Nat.le_of_ble_eq_true rfl⟩ (fun v_ w7 H locs hv hS => ?_)
    obtain ⟨rfl, h⟩ := hv
    refine lv_aload_n hx hb dX4_reach_59 rfl (lv_at hl 0 rfl) ?_
    refine lv_iload_n hx hb dX4_reach_60 rfl (lv_at hl 1 rfl) ?_
    refine lv_iload hx hb dX4_reach_61 (lv_at hl 5 rfl) ?_
    obtain ⟨hob, h⟩ := h
    refine r_V C hS (ct_X4_go l Z w7 a0 l1 l6 _ h) 2 24 hob ⟨by decide, by decide +kernel⟩ (lw_V q1639 q1641 qs55 q71 q1642) ⟨rfl, by decide, by decide, by decide +kernel⟩ ⟨Nat.le_of_ble_eq_true rfl, Nat.le_of_ble_eq_true rfl⟩ rfl hl.1 rfl (wcat4 (Nat.le_of_ble_eq_true rfl)) dX4_reach_63 ⟨Nat.le_of_ble_eq_true rfl, Nat.le_of_ble_eq_true rfl⟩ (fun v_ w8 H locs hv hS => ?_)
    obtain ⟨rfl, h⟩ := hv
    refine lv_lload_n hx hb dX4_reach_66 rfl (lv_at hl 3 rfl) ?_
    refine lv_aload_n hx hb dX4_reach_67 rfl (lv_at hl 0 rfl) ?_
    refine r_getG C hS h gk_66 q1370 dX4_reach_68 (fun v9 h => ?_)
    refine lv_iconst (v := 0) hx hb dX4_reach_71 (by decide) ?_
    refine r_iald C hS h dX4_reach_72 (fun v10 h => ?_)
    refine lv_iconst (v := -1) hx hb dX4_reach_73 (by decide) ?_
    refine r_icmp_ne (tgt := 94) hx hb h dX4_reach_74 (by decide) (fun h => ?_) (fun h => ?_)
    · refine lv_lconst (v := 0) hx hb dX4_reach_94 (by decide) ?_
      refine lv_lor hx hb dX4_reach_95 ?_
      refine lv_lstore_n (i := 3) (lv' := [(3, .long (l3 ||| 0)), (0, .ref a0), (1, .int l1), (2, .int l2), (5, .int l5), (6, .int l6), (7, .int l7)]) hx hb dX4_reach_96 rfl hl (by decide) rfl (fun ls hl => ?_)
      refine lv_iinc (i := 7) (v := (l7 + 1)) (lv' := [(7, .int (l7 + 1)), (3, .long (l3 ||| 0)), (0, .ref a0), (1, .int l1), (2, .int l2), (5, .int l5), (6, .int l6)]) hx hb dX4_reach_97 hl (k := 6) rfl rfl (by decide) rfl (fun ls hl => ?_)
      refine lv_goto (tgt := 44) hx hb dX4_reach_100 (by decide) ?_
      exact hL44 w8 a0 l1 l2 (l3 ||| 0) l5 l6 (l7 + 1) _ _ _ h hS (lv_sub hl [2, 3, 4, 1, 5, 6, 0] rfl)
    · refine lv_lconst (v := 1) hx hb dX4_reach_77 (by decide) ?_
      refine lv_aload_n hx hb dX4_reach_78 rfl (lv_at hl 0 rfl) ?_
      refine r_getG C hS h gk_61 q1365 dX4_reach_79 (fun v11 h => ?_)
      refine lv_iconst (v := 0) hx hb dX4_reach_82 (by decide) ?_
      refine r_iald C hS h dX4_reach_83 (fun v12 h => ?_)
      refine r_S C hS (ct_X4_pondAt l Z w8 v12 _ h) 1 (lw_S q1466 q1467 q71 q1468) ⟨by decide, by decide, by decide +kernel⟩ ⟨Nat.le_of_ble_eq_true rfl, Nat.le_of_ble_eq_true rfl⟩ rfl hl.1 rfl (wcat4 (Nat.le_of_ble_eq_true rfl)) dX4_reach_84 ⟨Nat.le_of_ble_eq_true rfl, Nat.le_of_ble_eq_true rfl⟩ (fun v_ w14 H locs hv hS => ?_)
      obtain ⟨v13, rfl, h⟩ := hv
      refine lv_bipush (v := 40) hx hb dX4_reach_87 (by decide) ?_
      refine lv_isub hx hb dX4_reach_89 ?_
      refine lv_lshl hx hb dX4_reach_90 rfl ?_
      refine lv_goto (tgt := 95) hx hb dX4_reach_91 (by decide) ?_
      refine lv_lor hx hb dX4_reach_95 ?_
      refine lv_lstore_n (i := 3) (lv' := [(3, .long (l3 ||| ((1 : Int64) <<< ((v13 - 40).toInt64 &&& 63)))), (0, .ref a0), (1, .int l1), (2, .int l2), (5, .int l5), (6, .int l6), (7, .int l7)]) hx hb dX4_reach_96 rfl hl (by decide) rfl (fun ls hl => ?_)
      refine lv_iinc (i := 7) (v := (l7 + 1)) (lv' := [(7, .int (l7 + 1)), (3, .long (l3 ||| ((1 : Int64) <<< ((v13 - 40).toInt64 &&& 63)))), (0, .ref a0), (1, .int l1), (2, .int l2), (5, .int l5), (6, .int l6)]) hx hb dX4_reach_97 hl (k := 6) rfl rfl (by decide) rfl (fun ls hl => ?_)
      refine lv_goto (tgt := 44) hx hb dX4_reach_100 (by decide) ?_
      exact hL44 w14 a0 l1 l2 (l3 ||| ((1 : Int64) <<< ((v13 - 40).toInt64 &&& 63))) l5 l6 (l7 + 1) _ _ _ h hS (lv_sub hl [2, 3, 4, 1, 5, 6, 0] rfl)
set_option maxHeartbeats 4000000 in
theorem kl_X4_reach_44 (C : wC p l s m args meth c cX4_reach 8 (some .int) RX4 "reach" Z A) (k : Int32 → Wd → Prop) (L35 : Wd → Nat → Int32 → Int32 → Int64 → Int32 → Int32 → Prop) (hL35 : ∀ (w : Wd) (x0 : Nat) (x1 : Int32) (x2 : Int32) (x3 : Int64) (x5 : Int32) (x6 : Int32) (H : Heap) (locs : List Loc) (ls : Array Slot), L35 w x0 x1 x2 x3 x5 x6 → wS Z A s w H locs → lv_has ls 8 [(0, .ref x0), (1, .int x1), (2, .int x2), (3, .long x3), (5, .int x5), (6, .int x6)] → W p l e ({ frames := 6, cells := 0, slots := 0, locals := 145 } : Room) s m args below meth c H locs 0 0 (MQ below (wQc Z A (pI k)) args s 0 0 A) (F0 m 35 ls [])) : ∀ (n : Nat), ∀ (w : Wd) (a0 : Nat) (l1 : Int32) (l2 : Int32) (l3 : Int64) (l5 : Int32) (l6 : Int32) (l7 : Int32) (H : Heap) (locs : List Loc) (ls : Array Slot), wl_X4_reach_44 k L35 n w a0 l1 l2 l3 l5 l6 l7 → wS Z A s w H locs → lv_has ls 8 [(0, .ref a0), (1, .int l1), (2, .int l2), (3, .long l3), (5, .int l5), (6, .int l6), (7, .int l7)] → W p l e ({ frames := 6, cells := 0, slots := 0, locals := 145 } : Room) s m args below meth c H locs 0 0 (MQ below (wQc Z A (pI k)) args s 0 0 A) (F0 m 44 ls []) := by
  intro n
  induction n with
  | zero =>
    intro w a0 l1 l2 l3 l5 l6 l7 H locs ls h
    exact h.elim
  | succ n ih =>
    intro w a0 l1 l2 l3 l5 l6 l7 H locs ls h hS hl
    exact kb_X4_reach_44 C k L35 hL35 (wl_X4_reach_44 k L35 n) ih w a0 l1 l2 l3 l5 l6 l7 H locs ls h hS hl
set_option maxHeartbeats 4000000 in
theorem kb_X4_reach_35 (C : wC p l s m args meth c cX4_reach 8 (some .int) RX4 "reach" Z A) (k : Int32 → Wd → Prop) (L35 : Wd → Nat → Int32 → Int32 → Int64 → Int32 → Int32 → Prop) (hL35 : ∀ (w : Wd) (x0 : Nat) (x1 : Int32) (x2 : Int32) (x3 : Int64) (x5 : Int32) (x6 : Int32) (H : Heap) (locs : List Loc) (ls : Array Slot), L35 w x0 x1 x2 x3 x5 x6 → wS Z A s w H locs → lv_has ls 8 [(0, .ref x0), (1, .int x1), (2, .int x2), (3, .long x3), (5, .int x5), (6, .int x6)] → W p l e ({ frames := 6, cells := 0, slots := 0, locals := 145 } : Room) s m args below meth c H locs 0 0 (MQ below (wQc Z A (pI k)) args s 0 0 A) (F0 m 35 ls [])) : ∀ (w : Wd) (a0 : Nat) (l1 : Int32) (l2 : Int32) (l3 : Int64) (l5 : Int32) (l6 : Int32) (H : Heap) (locs : List Loc) (ls : Array Slot), wb_X4_reach_35 k L35 w a0 l1 l2 l3 l5 l6 → wS Z A s w H locs → lv_has ls 8 [(0, .ref a0), (1, .int l1), (2, .int l2), (3, .long l3), (5, .int l5), (6, .int l6)] → W p l e ({ frames := 6, cells := 0, slots := 0, locals := 145 } : Room) s m args below meth c H locs 0 0 (MQ below (wQc Z A (pI k)) args s 0 0 A) (F0 m 35 ls []) := by
  intro w a0 l1 l2 l3 l5 l6 H locs ls h hS hl
  have hx := C.hx
  have hb := C.hb
  unfold wb_X4_reach_35 at h
  refine lv_iload hx hb dX4_reach_35 (lv_at hl 5 rfl) ?_
  refine lv_iload_n hx hb dX4_reach_37 rfl (lv_at hl 2 rfl) ?_
  refine r_icmp_gt (tgt := 115) hx hb h dX4_reach_38 (by decide) (fun h => ?_) (fun h => ?_)
  · refine lv_iconst (v := 0) hx hb dX4_reach_115 (by decide) ?_
    refine lv_istore (i := 6) (lv' := [(6, .int 0), (0, .ref a0), (1, .int l1), (2, .int l2), (3, .long l3), (5, .int l5)]) hx hb dX4_reach_116 hl (by decide) rfl (fun ls hl => ?_)
    refine lv_iconst (v := 0) hx hb dX4_reach_118 (by decide) ?_
    refine lv_istore (i := 7) (lv' := [(7, .int 0), (6, .int 0), (0, .ref a0), (1, .int l1), (2, .int l2), (3, .long l3), (5, .int l5)]) hx hb dX4_reach_119 hl (by decide) rfl (fun ls hl => ?_)
    exact kl_X4_reach_121 C k FU w l3 0 0 _ _ _ h hS (lv_sub hl [5, 1, 0] rfl)
  · refine lv_iconst (v := 0) hx hb dX4_reach_41 (by decide) ?_
    refine lv_istore (i := 7) (lv' := [(7, .int 0), (0, .ref a0), (1, .int l1), (2, .int l2), (3, .long l3), (5, .int l5), (6, .int l6)]) hx hb dX4_reach_42 hl (by decide) rfl (fun ls hl => ?_)
    exact kl_X4_reach_44 C k L35 hL35 FU w a0 l1 l2 l3 l5 l6 0 _ _ _ h hS (lv_sub hl [1, 2, 3, 4, 5, 6, 0] rfl)
set_option maxHeartbeats 4000000 in
theorem kl_X4_reach_35 (C : wC p l s m args meth c cX4_reach 8 (some .int) RX4 "reach" Z A) (k : Int32 → Wd → Prop) : ∀ (n : Nat), ∀ (w : Wd) (a0 : Nat) (l1 : Int32) (l2 : Int32) (l3 : Int64) (l5 : Int32) (l6 : Int32) (H : Heap) (locs : List Loc) (ls : Array Slot), wl_X4_reach_35 k n w a0 l1 l2 l3 l5 l6 → wS Z A s w H locs → lv_has ls 8 [(0, .ref a0), (1, .int l1), (2, .int l2), (3, .long l3), (5, .int l5), (6, .int l6)] → W p l e ({ frames := 6, cells := 0, slots := 0, locals := 145 } : Room) s m args below meth c H locs 0 0 (MQ below (wQc Z A (pI k)) args s 0 0 A) (F0 m 35 ls []) := by
  intro n
  induction n with
  | zero =>
    intro w a0 l1 l2 l3 l5 l6 H locs ls h
    exact h.elim
  | succ n ih =>
    intro w a0 l1 l2 l3 l5 l6 H locs ls h hS hl
    exact kb_X4_reach_35 C k (wl_X4_reach_35 k n) ih w a0 l1 l2 l3 l5 l6 H locs ls h hS hl
set_option maxHeartbeats 4000000 in
theorem ct_X4_reach (l : Launch) (Z : wZ) (w : Wd) (a0 : Nat) (a1 : Int32) (a2 : Int32) (k : Int32 → Wd → Prop) (h : wp_X4_reach w a0 a1 a2 k) : wMet l Z yX4_reach cX4_reach 8 (some .int) 6 145 0 0 [.ref a0, .int a1, .int a2] w (pI k) := by
  refine wM_of (by decide +kernel) (Nat.le_of_ble_eq_true rfl) ?_
  intro p e s m below meth c ls C hS hl
  replace C : wC p l s m _ meth c cX4_reach 8 (some .int) RX4 "reach" Z _ := C
  have hl : lv_has ls 8 [(0, .ref a0), (1, .int a1), (2, .int a2)] := hl
  have hx := C.hx
  have hb := C.hb
  unfold wp_X4_reach at h
  generalize wA w = A at C hS ⊢
  refine lv_aload_n hx hb dX4_reach_0 rfl (lv_at hl 0 rfl) ?_
  refine lv_iload_n hx hb dX4_reach_1 rfl (lv_at hl 1 rfl) ?_
  obtain ⟨hob, h⟩ := h
  refine r_V C hS (ct_X4_isPerson l Z w a0 a1 _ h) 1 24 hob ⟨by decide, by decide +kernel⟩ (lw_V q1494 q1496 qs35 q71 q1497) ⟨rfl, by decide, by decide, by decide +kernel⟩ ⟨Nat.le_of_ble_eq_true rfl, Nat.le_of_ble_eq_true rfl⟩ rfl hl.1 rfl (wcat4 (Nat.le_of_ble_eq_true rfl)) dX4_reach_2 ⟨Nat.le_of_ble_eq_true rfl, Nat.le_of_ble_eq_true rfl⟩ (fun v_ w2 H locs hv hS => ?_)
  obtain ⟨v1, rfl, h⟩ := hv
  refine r_if_eq (tgt := 20) hx hb h dX4_reach_5 (by decide) (fun h => ?_) (fun h => ?_)
  · refine lv_aload_n hx hb dX4_reach_20 rfl (lv_at hl 0 rfl) ?_
    refine lv_bipush (v := -2) hx hb dX4_reach_21 (by decide) ?_
    obtain ⟨hob, h⟩ := h
    refine r_V C hS (ct_X4_refuse l Z w2 a0 (-2) _ h) 1 24 hob ⟨by decide, by decide +kernel⟩ (lw_V q1442 q1444 qs28 q71 q1445) ⟨rfl, by decide, by decide, by decide +kernel⟩ ⟨Nat.le_of_ble_eq_true rfl, Nat.le_of_ble_eq_true rfl⟩ rfl hl.1 rfl (wcat4 (Nat.le_of_ble_eq_true rfl)) dX4_reach_23 ⟨Nat.le_of_ble_eq_true rfl, Nat.le_of_ble_eq_true rfl⟩ (fun v_ w4 H locs hv hS => ?_)
    obtain ⟨v3, rfl, h⟩ := hv
    exact r_iret C hS h rfl rfl (Nat.le_of_ble_eq_true rfl) (Nat.le_of_ble_eq_true rfl) dX4_reach_26
  · refine lv_iload_n hx hb dX4_reach_8 rfl (lv_at hl 2 rfl) ?_
    refine lv_i2l hx hb dX4_reach_9 rfl ?_
    refine lv_lconst (v := 0) hx hb dX4_reach_10 (by decide) ?_
    refine lv_ldc2 (v := 6) hx hb C.ow (C.hts _ q1720) dX4_reach_11 ?_
    refine r_S C hS (ct_X4_isIn l Z w2 (a2.toInt64) 0 6 _ h) 3 (lw_S q1439 q1440 q71 q1441) ⟨by decide, by decide, by decide +kernel⟩ ⟨Nat.le_of_ble_eq_true rfl, Nat.le_of_ble_eq_true rfl⟩ rfl hl.1 rfl (wcat4 (Nat.le_of_ble_eq_true rfl)) dX4_reach_14 ⟨Nat.le_of_ble_eq_true rfl, Nat.le_of_ble_eq_true rfl⟩ (fun v_ w6 H locs hv hS => ?_)
    obtain ⟨v5, rfl, h⟩ := hv
    refine r_if_ne (tgt := 27) hx hb h dX4_reach_17 (by decide) (fun h => ?_) (fun h => ?_)
    · refine lv_lconst (v := 0) hx hb dX4_reach_27 (by decide) ?_
      refine lv_lstore_n (i := 3) (lv' := [(3, .long 0), (0, .ref a0), (1, .int a1), (2, .int a2)]) hx hb dX4_reach_28 rfl hl (by decide) rfl (fun ls hl => ?_)
      refine lv_iconst (v := 1) hx hb dX4_reach_29 (by decide) ?_
      refine lv_istore (i := 5) (lv' := [(5, .int 1), (3, .long 0), (0, .ref a0), (1, .int a1), (2, .int a2)]) hx hb dX4_reach_30 hl (by decide) rfl (fun ls hl => ?_)
      refine lv_iconst (v := 0) hx hb dX4_reach_32 (by decide) ?_
      refine lv_istore (i := 6) (lv' := [(6, .int 0), (5, .int 1), (3, .long 0), (0, .ref a0), (1, .int a1), (2, .int a2)]) hx hb dX4_reach_33 hl (by decide) rfl (fun ls hl => ?_)
      exact kl_X4_reach_35 C k FU w6 a0 a1 a2 0 1 0 _ _ _ h hS (lv_sub hl [3, 4, 5, 2, 1, 0] rfl)
    · refine lv_aload_n hx hb dX4_reach_20 rfl (lv_at hl 0 rfl) ?_
      refine lv_bipush (v := -2) hx hb dX4_reach_21 (by decide) ?_
      obtain ⟨hob, h⟩ := h
      refine r_V C hS (ct_X4_refuse l Z w6 a0 (-2) _ h) 1 24 hob ⟨by decide, by decide +kernel⟩ (lw_V q1442 q1444 qs28 q71 q1445) ⟨rfl, by decide, by decide, by decide +kernel⟩ ⟨Nat.le_of_ble_eq_true rfl, Nat.le_of_ble_eq_true rfl⟩ rfl hl.1 rfl (wcat4 (Nat.le_of_ble_eq_true rfl)) dX4_reach_23 ⟨Nat.le_of_ble_eq_true rfl, Nat.le_of_ble_eq_true rfl⟩ (fun v_ w16 H locs hv hS => ?_)
      obtain ⟨v15, rfl, h⟩ := hv
      exact r_iret C hS h rfl rfl (Nat.le_of_ble_eq_true rfl) (Nat.le_of_ble_eq_true rfl) dX4_reach_26
end VX4_reach
/-! LeftIsAgreedOnModel.open(II)I -/
section VX4_open
variable {p : Program} {l : Launch} {e : Env} {s : State} {m : MethodId} {args : Array Value} {below : List Frame} {meth : Method} {c : Code} {Z : wZ} {A : Nat → Prop}
set_option maxHeartbeats 4000000 in
theorem kb_X4_open_37 (C : wC p l s m args meth c cX4_open 5 (some .int) RX4 "open" Z A) (k : Int32 → Wd → Prop) (L37 : Wd → Nat → Int32 → Int32 → Int32 → Prop) (hL37 : ∀ (w : Wd) (x0 : Nat) (x2 : Int32) (x3 : Int32) (x4 : Int32) (H : Heap) (locs : List Loc) (ls : Array Slot), L37 w x0 x2 x3 x4 → wS Z A s w H locs → lv_has ls 5 [(0, .ref x0), (2, .int x2), (3, .int x3), (4, .int x4)] → W p l e ({ frames := 2, cells := 0, slots := 0, locals := 49 } : Room) s m args below meth c H locs 0 0 (MQ below (wQc Z A (pI k)) args s 0 0 A) (F0 m 37 ls [])) : ∀ (w : Wd) (a0 : Nat) (l2 : Int32) (l3 : Int32) (l4 : Int32) (H : Heap) (locs : List Loc) (ls : Array Slot), wb_X4_open_37 k L37 w a0 l2 l3 l4 → wS Z A s w H locs → lv_has ls 5 [(0, .ref a0), (2, .int l2), (3, .int l3), (4, .int l4)] → W p l e ({ frames := 2, cells := 0, slots := 0, locals := 49 } : Room) s m args below meth c H locs 0 0 (MQ below (wQc Z A (pI k)) args s 0 0 A) (F0 m 37 ls []) := by
  intro w a0 l2 l3 l4 H locs ls h hS hl
  have hx := C.hx
  have hb := C.hb
  unfold wb_X4_open_37 at h
  refine lv_iload hx hb dX4_open_37 (lv_at hl 3 rfl) ?_
  refine lv_iconst (v := -1) hx hb dX4_open_39 (by decide) ?_
  refine r_icmp_eq (tgt := 67) hx hb h dX4_open_40 (by decide) (fun h => ?_) (fun h => ?_)
  · refine lv_iload_n hx hb dX4_open_67 rfl (lv_at hl 2 rfl) ?_
    exact r_iret C hS h rfl rfl (Nat.le_of_ble_eq_true rfl) (Nat.le_of_ble_eq_true rfl) dX4_open_68
  · refine lv_aload_n hx hb dX4_open_43 rfl (lv_at hl 0 rfl) ?_
    refine lv_iload hx hb dX4_open_44 (lv_at hl 3 rfl) ?_
    obtain ⟨hob, h⟩ := h
    refine r_V C hS (ct_X4_hasPond l Z w a0 l4 _ h) 1 24 hob ⟨by decide, by decide +kernel⟩ (lw_V q1476 q1478 qs33 q71 q1479) ⟨rfl, by decide, by decide, by decide +kernel⟩ ⟨Nat.le_of_ble_eq_true rfl, Nat.le_of_ble_eq_true rfl⟩ rfl hl.1 rfl (wcat4 (Nat.le_of_ble_eq_true rfl)) dX4_open_46 ⟨Nat.le_of_ble_eq_true rfl, Nat.le_of_ble_eq_true rfl⟩ (fun v_ w10 H locs hv hS => ?_)
    obtain ⟨v9, rfl, h⟩ := hv
    refine r_if_ne (tgt := 67) hx hb h dX4_open_49 (by decide) (fun h => ?_) (fun h => ?_)
    · refine lv_iload_n hx hb dX4_open_67 rfl (lv_at hl 2 rfl) ?_
      exact r_iret C hS h rfl rfl (Nat.le_of_ble_eq_true rfl) (Nat.le_of_ble_eq_true rfl) dX4_open_68
    · refine lv_iinc (i := 3) (v := (l3 + 1)) (lv' := [(3, .int (l3 + 1)), (0, .ref a0), (2, .int l2), (4, .int l4)]) hx hb dX4_open_52 hl (k := 2) rfl rfl (by decide) rfl (fun ls hl => ?_)
      refine lv_aload_n hx hb dX4_open_55 rfl (lv_at hl 1 rfl) ?_
      refine lv_iload hx hb dX4_open_56 (lv_at hl 3 rfl) ?_
      refine lv_iload_n hx hb dX4_open_58 rfl (lv_at hl 2 rfl) ?_
      obtain ⟨hob, h⟩ := h
      refine r_V C hS (ct_X4_beside l Z w10 a0 l4 l2 _ h) 2 24 hob ⟨by decide, by decide +kernel⟩ (lw_V q1615 q1617 qs50 q71 q1618) ⟨rfl, by decide, by decide, by decide +kernel⟩ ⟨Nat.le_of_ble_eq_true rfl, Nat.le_of_ble_eq_true rfl⟩ rfl hl.1 rfl (wcat4 (Nat.le_of_ble_eq_true rfl)) dX4_open_59 ⟨Nat.le_of_ble_eq_true rfl, Nat.le_of_ble_eq_true rfl⟩ (fun v_ w12 H locs hv hS => ?_)
      obtain ⟨v11, rfl, h⟩ := hv
      refine lv_istore (i := 4) (lv' := [(4, .int v11), (3, .int (l3 + 1)), (0, .ref a0), (2, .int l2)]) hx hb dX4_open_62 hl (by decide) rfl (fun ls hl => ?_)
      refine lv_goto (tgt := 37) hx hb dX4_open_64 (by decide) ?_
      exact hL37 w12 a0 l2 (l3 + 1) v11 _ _ _ h hS (lv_sub hl [2, 3, 1, 0] rfl)
set_option maxHeartbeats 4000000 in
theorem kl_X4_open_37 (C : wC p l s m args meth c cX4_open 5 (some .int) RX4 "open" Z A) (k : Int32 → Wd → Prop) : ∀ (n : Nat), ∀ (w : Wd) (a0 : Nat) (l2 : Int32) (l3 : Int32) (l4 : Int32) (H : Heap) (locs : List Loc) (ls : Array Slot), wl_X4_open_37 k n w a0 l2 l3 l4 → wS Z A s w H locs → lv_has ls 5 [(0, .ref a0), (2, .int l2), (3, .int l3), (4, .int l4)] → W p l e ({ frames := 2, cells := 0, slots := 0, locals := 49 } : Room) s m args below meth c H locs 0 0 (MQ below (wQc Z A (pI k)) args s 0 0 A) (F0 m 37 ls []) := by
  intro n
  induction n with
  | zero =>
    intro w a0 l2 l3 l4 H locs ls h
    exact h.elim
  | succ n ih =>
    intro w a0 l2 l3 l4 H locs ls h hS hl
    exact kb_X4_open_37 C k (wl_X4_open_37 k n) ih w a0 l2 l3 l4 H locs ls h hS hl
set_option maxHeartbeats 4000000 in
theorem ct_X4_open (l : Launch) (Z : wZ) (w : Wd) (a0 : Nat) (a1 : Int32) (a2 : Int32) (k : Int32 → Wd → Prop) (h : wp_X4_open w a0 a1 a2 k) : wMet l Z yX4_open cX4_open 5 (some .int) 2 49 0 0 [.ref a0, .int a1, .int a2] w (pI k) := by
  refine wM_of (by decide +kernel) (Nat.le_of_ble_eq_true rfl) ?_
  intro p e s m below meth c ls C hS hl
  replace C : wC p l s m _ meth c cX4_open 5 (some .int) RX4 "open" Z _ := C
  have hl : lv_has ls 5 [(0, .ref a0), (1, .int a1), (2, .int a2)] := hl
  have hx := C.hx
  have hb := C.hb
  unfold wp_X4_open at h
  generalize wA w = A at C hS ⊢
  refine lv_aload_n hx hb dX4_open_0 rfl (lv_at hl 0 rfl) ?_
  refine lv_iload_n hx hb dX4_open_1 rfl (lv_at hl 1 rfl) ?_
  obtain ⟨hob, h⟩ := h
  refine r_V C hS (ct_X4_isCell l Z w a0 a1 _ h) 1 24 hob ⟨by decide, by decide +kernel⟩ (lw_V q1450 q1452 qs29 q71 q1453) ⟨rfl, by decide, by decide, by decide +kernel⟩ ⟨Nat.le_of_ble_eq_true rfl, Nat.le_of_ble_eq_true rfl⟩ rfl hl.1 rfl (wcat4 (Nat.le_of_ble_eq_true rfl)) dX4_open_2 ⟨Nat.le_of_ble_eq_true rfl, Nat.le_of_ble_eq_true rfl⟩ (fun v_ w2 H locs hv hS => ?_)
  obtain ⟨v1, rfl, h⟩ := hv
  refine r_if_eq (tgt := 20) hx hb h dX4_open_5 (by decide) (fun h => ?_) (fun h => ?_)
  · refine lv_aload_n hx hb dX4_open_20 rfl (lv_at hl 0 rfl) ?_
    refine lv_bipush (v := -2) hx hb dX4_open_21 (by decide) ?_
    obtain ⟨hob, h⟩ := h
    refine r_V C hS (ct_X4_refuse l Z w2 a0 (-2) _ h) 1 24 hob ⟨by decide, by decide +kernel⟩ (lw_V q1442 q1444 qs28 q71 q1445) ⟨rfl, by decide, by decide, by decide +kernel⟩ ⟨Nat.le_of_ble_eq_true rfl, Nat.le_of_ble_eq_true rfl⟩ rfl hl.1 rfl (wcat4 (Nat.le_of_ble_eq_true rfl)) dX4_open_23 ⟨Nat.le_of_ble_eq_true rfl, Nat.le_of_ble_eq_true rfl⟩ (fun v_ w4 H locs hv hS => ?_)
    obtain ⟨v3, rfl, h⟩ := hv
    exact r_iret C hS h rfl rfl (Nat.le_of_ble_eq_true rfl) (Nat.le_of_ble_eq_true rfl) dX4_open_26
  · refine lv_iload_n hx hb dX4_open_8 rfl (lv_at hl 2 rfl) ?_
    refine lv_i2l hx hb dX4_open_9 rfl ?_
    refine lv_lconst (v := 0) hx hb dX4_open_10 (by decide) ?_
    refine lv_ldc2 (v := 3) hx hb C.ow (C.hts _ q1475) dX4_open_11 ?_
    refine r_S C hS (ct_X4_isIn l Z w2 (a2.toInt64) 0 3 _ h) 3 (lw_S q1439 q1440 q71 q1441) ⟨by decide, by decide, by decide +kernel⟩ ⟨Nat.le_of_ble_eq_true rfl, Nat.le_of_ble_eq_true rfl⟩ rfl hl.1 rfl (wcat4 (Nat.le_of_ble_eq_true rfl)) dX4_open_14 ⟨Nat.le_of_ble_eq_true rfl, Nat.le_of_ble_eq_true rfl⟩ (fun v_ w6 H locs hv hS => ?_)
    obtain ⟨v5, rfl, h⟩ := hv
    refine r_if_ne (tgt := 27) hx hb h dX4_open_17 (by decide) (fun h => ?_) (fun h => ?_)
    · refine lv_iconst (v := 0) hx hb dX4_open_27 (by decide) ?_
      refine lv_istore_n (i := 3) (lv' := [(3, .int 0), (0, .ref a0), (1, .int a1), (2, .int a2)]) hx hb dX4_open_28 rfl hl (by decide) rfl (fun ls hl => ?_)
      refine lv_aload_n hx hb dX4_open_29 rfl (lv_at hl 1 rfl) ?_
      refine lv_iload_n hx hb dX4_open_30 rfl (lv_at hl 2 rfl) ?_
      refine lv_iload_n hx hb dX4_open_31 rfl (lv_at hl 3 rfl) ?_
      obtain ⟨hob, h⟩ := h
      refine r_V C hS (ct_X4_beside l Z w6 a0 a1 a2 _ h) 2 24 hob ⟨by decide, by decide +kernel⟩ (lw_V q1615 q1617 qs50 q71 q1618) ⟨rfl, by decide, by decide, by decide +kernel⟩ ⟨Nat.le_of_ble_eq_true rfl, Nat.le_of_ble_eq_true rfl⟩ rfl hl.1 rfl (wcat4 (Nat.le_of_ble_eq_true rfl)) dX4_open_32 ⟨Nat.le_of_ble_eq_true rfl, Nat.le_of_ble_eq_true rfl⟩ (fun v_ w8 H locs hv hS => ?_)
      obtain ⟨v7, rfl, h⟩ := hv
      refine lv_istore (i := 4) (lv' := [(4, .int v7), (3, .int 0), (0, .ref a0), (1, .int a1), (2, .int a2)]) hx hb dX4_open_35 hl (by decide) rfl (fun ls hl => ?_)
      exact kl_X4_open_37 C k FU w8 a0 a2 0 v7 _ _ _ h hS (lv_sub hl [2, 4, 1, 0] rfl)
    · refine lv_aload_n hx hb dX4_open_20 rfl (lv_at hl 0 rfl) ?_
      refine lv_bipush (v := -2) hx hb dX4_open_21 (by decide) ?_
      obtain ⟨hob, h⟩ := h
      refine r_V C hS (ct_X4_refuse l Z w6 a0 (-2) _ h) 1 24 hob ⟨by decide, by decide +kernel⟩ (lw_V q1442 q1444 qs28 q71 q1445) ⟨rfl, by decide, by decide, by decide +kernel⟩ ⟨Nat.le_of_ble_eq_true rfl, Nat.le_of_ble_eq_true rfl⟩ rfl hl.1 rfl (wcat4 (Nat.le_of_ble_eq_true rfl)) dX4_open_23 ⟨Nat.le_of_ble_eq_true rfl, Nat.le_of_ble_eq_true rfl⟩ (fun v_ w14 H locs hv hS => ?_)
      obtain ⟨v13, rfl, h⟩ := hv
      exact r_iret C hS h rfl rfl (Nat.le_of_ble_eq_true rfl) (Nat.le_of_ble_eq_true rfl) dX4_open_26
end VX4_open
/-! LeftIsAgreedOnModel.shore()I -/
section VX4_shore
variable {p : Program} {l : Launch} {e : Env} {s : State} {m : MethodId} {args : Array Value} {below : List Frame} {meth : Method} {c : Code} {Z : wZ} {A : Nat → Prop}
set_option maxHeartbeats 4000000 in
theorem kb_X4_shore_4 (C : wC p l s m args meth c cX4_shore 3 (some .int) RX4 "shore" Z A) (k : Int32 → Wd → Prop) (L4 : Wd → Nat → Int32 → Int32 → Prop) (hL4 : ∀ (w : Wd) (x0 : Nat) (x1 : Int32) (x2 : Int32) (H : Heap) (locs : List Loc) (ls : Array Slot), L4 w x0 x1 x2 → wS Z A s w H locs → lv_has ls 3 [(0, .ref x0), (1, .int x1), (2, .int x2)] → W p l e ({ frames := 3, cells := 0, slots := 0, locals := 73 } : Room) s m args below meth c H locs 0 0 (MQ below (wQc Z A (pI k)) args s 0 0 A) (F0 m 4 ls [])) : ∀ (w : Wd) (a0 : Nat) (l1 : Int32) (l2 : Int32) (H : Heap) (locs : List Loc) (ls : Array Slot), wb_X4_shore_4 k L4 w a0 l1 l2 → wS Z A s w H locs → lv_has ls 3 [(0, .ref a0), (1, .int l1), (2, .int l2)] → W p l e ({ frames := 3, cells := 0, slots := 0, locals := 73 } : Room) s m args below meth c H locs 0 0 (MQ below (wQc Z A (pI k)) args s 0 0 A) (F0 m 4 ls []) := by
  intro w a0 l1 l2 H locs ls h hS hl
  have hx := C.hx
  have hb := C.hb
  unfold wb_X4_shore_4 at h
  refine lv_iload_n hx hb dX4_shore_4 rfl (lv_at hl 2 rfl) ?_
  refine lv_bipush (v := 67) hx hb dX4_shore_5 (by decide) ?_
  refine r_icmp_ge (tgt := 48) hx hb h dX4_shore_7 (by decide) (fun h => ?_) (fun h => ?_)
  · refine lv_iload_n hx hb dX4_shore_48 rfl (lv_at hl 1 rfl) ?_
    exact r_iret C hS h rfl rfl (Nat.le_of_ble_eq_true rfl) (Nat.le_of_ble_eq_true rfl) dX4_shore_49
  · refine lv_iload_n hx hb dX4_shore_10 rfl (lv_at hl 1 rfl) ?_
    refine lv_aload_n hx hb dX4_shore_11 rfl (lv_at hl 0 rfl) ?_
    refine lv_iload_n hx hb dX4_shore_12 rfl (lv_at hl 2 rfl) ?_
    obtain ⟨hob, h⟩ := h
    refine r_V C hS (ct_X4_isCell l Z w a0 l2 _ h) 1 24 hob ⟨by decide, by decide +kernel⟩ (lw_V q1450 q1452 qs29 q71 q1453) ⟨rfl, by decide, by decide, by decide +kernel⟩ ⟨Nat.le_of_ble_eq_true rfl, Nat.le_of_ble_eq_true rfl⟩ rfl hl.1 rfl (wcat4 (Nat.le_of_ble_eq_true rfl)) dX4_shore_13 ⟨Nat.le_of_ble_eq_true rfl, Nat.le_of_ble_eq_true rfl⟩ (fun v_ w2 H locs hv hS => ?_)
    obtain ⟨v1, rfl, h⟩ := hv
    refine r_if_eq (tgt := 39) hx hb h dX4_shore_16 (by decide) (fun h => ?_) (fun h => ?_)
    · refine lv_iconst (v := 0) hx hb dX4_shore_39 (by decide) ?_
      refine lv_iadd hx hb dX4_shore_40 ?_
      refine lv_istore_n (i := 1) (lv' := [(1, .int (l1 + 0)), (0, .ref a0), (2, .int l2)]) hx hb dX4_shore_41 rfl hl (by decide) rfl (fun ls hl => ?_)
      refine lv_iinc (i := 2) (v := (l2 + 1)) (lv' := [(2, .int (l2 + 1)), (1, .int (l1 + 0)), (0, .ref a0)]) hx hb dX4_shore_42 hl (k := 2) rfl rfl (by decide) rfl (fun ls hl => ?_)
      refine lv_goto (tgt := 4) hx hb dX4_shore_45 (by decide) ?_
      exact hL4 w2 a0 (l1 + 0) (l2 + 1) _ _ _ h hS (lv_sub hl [2, 1, 0] rfl)
    · refine lv_aload_n hx hb dX4_shore_19 rfl (lv_at hl 0 rfl) ?_
      refine lv_iload_n hx hb dX4_shore_20 rfl (lv_at hl 2 rfl) ?_
      obtain ⟨hob, h⟩ := h
      refine r_V C hS (ct_X4_hasPond l Z w2 a0 l2 _ h) 1 24 hob ⟨by decide, by decide +kernel⟩ (lw_V q1476 q1478 qs33 q71 q1479) ⟨rfl, by decide, by decide, by decide +kernel⟩ ⟨Nat.le_of_ble_eq_true rfl, Nat.le_of_ble_eq_true rfl⟩ rfl hl.1 rfl (wcat4 (Nat.le_of_ble_eq_true rfl)) dX4_shore_21 ⟨Nat.le_of_ble_eq_true rfl, Nat.le_of_ble_eq_true rfl⟩ (fun v_ w4 H locs hv hS => ?_)
      obtain ⟨v3, rfl, h⟩ := hv
      refine r_if_ne (tgt := 39) hx hb h dX4_shore_24 (by decide) (fun h => ?_) (fun h => ?_)
      · refine lv_iconst (v := 0) hx hb dX4_shore_39 (by decide) ?_
        refine lv_iadd hx hb dX4_shore_40 ?_
        refine lv_istore_n (i := 1) (lv' := [(1, .int (l1 + 0)), (0, .ref a0), (2, .int l2)]) hx hb dX4_shore_41 rfl hl (by decide) rfl (fun ls hl => ?_)
        refine lv_iinc (i := 2) (v := (l2 + 1)) (lv' := [(2, .int (l2 + 1)), (1, .int (l1 + 0)), (0, .ref a0)]) hx hb dX4_shore_42 hl (k := 2) rfl rfl (by decide) rfl (fun ls hl => ?_)
        refine lv_goto (tgt := 4) hx hb dX4_shore_45 (by decide) ?_
        exact hL4 w4 a0 (l1 + 0) (l2 + 1) _ _ _ h hS (lv_sub hl [2, 1, 0] rfl)
      · refine lv_aload_n hx hb dX4_shore_27 rfl (lv_at hl 0 rfl) ?_
        refine lv_iload_n hx hb dX4_shore_28 rfl (lv_at hl 2 rfl) ?_
        obtain ⟨hob, h⟩ := h
        refine r_V C hS (ct_X4_isShore l Z w4 a0 l2 _ h) 1 24 hob ⟨by decide, by decide +kernel⟩ (lw_V q1623 q1625 qs52 q71 q1626) ⟨rfl, by decide, by decide, by decide +kernel⟩ ⟨Nat.le_of_ble_eq_true rfl, Nat.le_of_ble_eq_true rfl⟩ rfl hl.1 rfl (wcat4 (Nat.le_of_ble_eq_true rfl)) dX4_shore_29 ⟨Nat.le_of_ble_eq_true rfl, Nat.le_of_ble_eq_true rfl⟩ (fun v_ w6 H locs hv hS => ?_)
        obtain ⟨v5, rfl, h⟩ := hv
        refine r_if_eq (tgt := 39) hx hb h dX4_shore_32 (by decide) (fun h => ?_) (fun h => ?_)
        · refine lv_iconst (v := 0) hx hb dX4_shore_39 (by decide) ?_
          refine lv_iadd hx hb dX4_shore_40 ?_
          refine lv_istore_n (i := 1) (lv' := [(1, .int (l1 + 0)), (0, .ref a0), (2, .int l2)]) hx hb dX4_shore_41 rfl hl (by decide) rfl (fun ls hl => ?_)
          refine lv_iinc (i := 2) (v := (l2 + 1)) (lv' := [(2, .int (l2 + 1)), (1, .int (l1 + 0)), (0, .ref a0)]) hx hb dX4_shore_42 hl (k := 2) rfl rfl (by decide) rfl (fun ls hl => ?_)
          refine lv_goto (tgt := 4) hx hb dX4_shore_45 (by decide) ?_
          exact hL4 w6 a0 (l1 + 0) (l2 + 1) _ _ _ h hS (lv_sub hl [2, 1, 0] rfl)
        · refine lv_iconst (v := 1) hx hb dX4_shore_35 (by decide) ?_
          refine lv_goto (tgt := 40) hx hb dX4_shore_36 (by decide) ?_
          refine lv_iadd hx hb dX4_shore_40 ?_
          refine lv_istore_n (i := 1) (lv' := [(1, .int (l1 + 1)), (0, .ref a0), (2, .int l2)]) hx hb dX4_shore_41 rfl hl (by decide) rfl (fun ls hl => ?_)
          refine lv_iinc (i := 2) (v := (l2 + 1)) (lv' := [(2, .int (l2 + 1)), (1, .int (l1 + 1)), (0, .ref a0)]) hx hb dX4_shore_42 hl (k := 2) rfl rfl (by decide) rfl (fun ls hl => ?_)
          refine lv_goto (tgt := 4) hx hb dX4_shore_45 (by decide) ?_
          exact hL4 w6 a0 (l1 + 1) (l2 + 1) _ _ _ h hS (lv_sub hl [2, 1, 0] rfl)
set_option maxHeartbeats 4000000 in
theorem kl_X4_shore_4 (C : wC p l s m args meth c cX4_shore 3 (some .int) RX4 "shore" Z A) (k : Int32 → Wd → Prop) : ∀ (n : Nat), ∀ (w : Wd) (a0 : Nat) (l1 : Int32) (l2 : Int32) (H : Heap) (locs : List Loc) (ls : Array Slot), wl_X4_shore_4 k n w a0 l1 l2 → wS Z A s w H locs → lv_has ls 3 [(0, .ref a0), (1, .int l1), (2, .int l2)] → W p l e ({ frames := 3, cells := 0, slots := 0, locals := 73 } : Room) s m args below meth c H locs 0 0 (MQ below (wQc Z A (pI k)) args s 0 0 A) (F0 m 4 ls []) := by
  intro n
  induction n with
  | zero =>
    intro w a0 l1 l2 H locs ls h
    exact h.elim
  | succ n ih =>
    intro w a0 l1 l2 H locs ls h hS hl
    exact kb_X4_shore_4 C k (wl_X4_shore_4 k n) ih w a0 l1 l2 H locs ls h hS hl
set_option maxHeartbeats 4000000 in
theorem ct_X4_shore (l : Launch) (Z : wZ) (w : Wd) (a0 : Nat) (k : Int32 → Wd → Prop) (h : wp_X4_shore w a0 k) : wMet l Z yX4_shore cX4_shore 3 (some .int) 3 73 0 0 [.ref a0] w (pI k) := by
  refine wM_of (by decide +kernel) (Nat.le_of_ble_eq_true rfl) ?_
  intro p e s m below meth c ls C hS hl
  replace C : wC p l s m _ meth c cX4_shore 3 (some .int) RX4 "shore" Z _ := C
  have hl : lv_has ls 3 [(0, .ref a0)] := hl
  have hx := C.hx
  have hb := C.hb
  unfold wp_X4_shore at h
  generalize wA w = A at C hS ⊢
  refine lv_iconst (v := 0) hx hb dX4_shore_0 (by decide) ?_
  refine lv_istore_n (i := 1) (lv' := [(1, .int 0), (0, .ref a0)]) hx hb dX4_shore_1 rfl hl (by decide) rfl (fun ls hl => ?_)
  refine lv_iconst (v := 0) hx hb dX4_shore_2 (by decide) ?_
  refine lv_istore_n (i := 2) (lv' := [(2, .int 0), (1, .int 0), (0, .ref a0)]) hx hb dX4_shore_3 rfl hl (by decide) rfl (fun ls hl => ?_)
  exact kl_X4_shore_4 C k FU w a0 0 0 _ _ _ h hS (lv_sub hl [2, 1, 0] rfl)
end VX4_shore
/-! LeftIsAgreedOnModel.weigh(I)I -/
section VX4_weigh
variable {p : Program} {l : Launch} {e : Env} {s : State} {m : MethodId} {args : Array Value} {below : List Frame} {meth : Method} {c : Code} {Z : wZ} {A : Nat → Prop}
set_option maxHeartbeats 4000000 in
theorem kb_X4_weigh_4 (C : wC p l s m args meth c cX4_weigh 4 (some .int) RX4 "weigh" Z A) (k : Int32 → Wd → Prop) (L4 : Wd → Nat → Int32 → Int32 → Int32 → Prop) (hL4 : ∀ (w : Wd) (x0 : Nat) (x1 : Int32) (x2 : Int32) (x3 : Int32) (H : Heap) (locs : List Loc) (ls : Array Slot), L4 w x0 x1 x2 x3 → wS Z A s w H locs → lv_has ls 4 [(0, .ref x0), (1, .int x1), (2, .int x2), (3, .int x3)] → W p l e ({ frames := 1, cells := 0, slots := 0, locals := 21 } : Room) s m args below meth c H locs 0 0 (MQ below (wQc Z A (pI k)) args s 0 0 A) (F0 m 4 ls [])) : ∀ (w : Wd) (a0 : Nat) (l1 : Int32) (l2 : Int32) (l3 : Int32) (H : Heap) (locs : List Loc) (ls : Array Slot), wb_X4_weigh_4 k L4 w a0 l1 l2 l3 → wS Z A s w H locs → lv_has ls 4 [(0, .ref a0), (1, .int l1), (2, .int l2), (3, .int l3)] → W p l e ({ frames := 1, cells := 0, slots := 0, locals := 21 } : Room) s m args below meth c H locs 0 0 (MQ below (wQc Z A (pI k)) args s 0 0 A) (F0 m 4 ls []) := by
  intro w a0 l1 l2 l3 H locs ls h hS hl
  have hx := C.hx
  have hb := C.hb
  unfold wb_X4_weigh_4 at h
  refine lv_iload_n hx hb dX4_weigh_4 rfl (lv_at hl 3 rfl) ?_
  refine lv_aload_n hx hb dX4_weigh_5 rfl (lv_at hl 0 rfl) ?_
  obtain ⟨hob, h⟩ := h
  refine r_V C hS (ct_X4_many l Z w a0 _ h) 0 24 hob ⟨by decide, by decide +kernel⟩ (lw_V q1458 q1460 qs31 q71 q1461) ⟨rfl, by decide, by decide, by decide +kernel⟩ ⟨Nat.le_of_ble_eq_true rfl, Nat.le_of_ble_eq_true rfl⟩ rfl hl.1 rfl (wcat4 (Nat.le_of_ble_eq_true rfl)) dX4_weigh_6 ⟨Nat.le_of_ble_eq_true rfl, Nat.le_of_ble_eq_true rfl⟩ (fun v_ w2 H locs hv hS => ?_)
  obtain ⟨v1, rfl, h⟩ := hv
  refine r_icmp_ge (tgt := 39) hx hb h dX4_weigh_9 (by decide) (fun h => ?_) (fun h => ?_)
  · refine lv_iload_n hx hb dX4_weigh_39 rfl (lv_at hl 2 rfl) ?_
    exact r_iret C hS h rfl rfl (Nat.le_of_ble_eq_true rfl) (Nat.le_of_ble_eq_true rfl) dX4_weigh_40
  · refine lv_iload_n hx hb dX4_weigh_12 rfl (lv_at hl 2 rfl) ?_
    refine lv_aload_n hx hb dX4_weigh_13 rfl (lv_at hl 0 rfl) ?_
    refine lv_iload_n hx hb dX4_weigh_14 rfl (lv_at hl 3 rfl) ?_
    obtain ⟨hob, h⟩ := h
    refine r_V C hS (ct_X4_isFor_2 l Z w2 a0 l3 _ h) 1 24 hob ⟨by decide, by decide +kernel⟩ (lw_V q1498 q1500 qs36 q71 q1501) ⟨rfl, by decide, by decide, by decide +kernel⟩ ⟨Nat.le_of_ble_eq_true rfl, Nat.le_of_ble_eq_true rfl⟩ rfl hl.1 rfl (wcat4 (Nat.le_of_ble_eq_true rfl)) dX4_weigh_15 ⟨Nat.le_of_ble_eq_true rfl, Nat.le_of_ble_eq_true rfl⟩ (fun v_ w4 H locs hv hS => ?_)
    obtain ⟨v3, rfl, h⟩ := hv
    refine lv_iload_n hx hb dX4_weigh_18 rfl (lv_at hl 1 rfl) ?_
    refine r_icmp_ne (tgt := 30) hx hb h dX4_weigh_19 (by decide) (fun h => ?_) (fun h => ?_)
    · refine lv_iconst (v := 0) hx hb dX4_weigh_30 (by decide) ?_
      refine lv_iadd hx hb dX4_weigh_31 ?_
      refine lv_istore_n (i := 2) (lv' := [(2, .int (l2 + 0)), (0, .ref a0), (1, .int l1), (3, .int l3)]) hx hb dX4_weigh_32 rfl hl (by decide) rfl (fun ls hl => ?_)
      refine lv_iinc (i := 3) (v := (l3 + 1)) (lv' := [(3, .int (l3 + 1)), (2, .int (l2 + 0)), (0, .ref a0), (1, .int l1)]) hx hb dX4_weigh_33 hl (k := 3) rfl rfl (by decide) rfl (fun ls hl => ?_)
      refine lv_goto (tgt := 4) hx hb dX4_weigh_36 (by decide) ?_
      exact hL4 w4 a0 l1 (l2 + 0) (l3 + 1) _ _ _ h hS (lv_sub hl [2, 3, 1, 0] rfl)
    · refine lv_aload_n hx hb dX4_weigh_22 rfl (lv_at hl 0 rfl) ?_
      refine lv_iload_n hx hb dX4_weigh_23 rfl (lv_at hl 3 rfl) ?_
      obtain ⟨hob, h⟩ := h
      refine r_V C hS (ct_X4_a l Z w4 a0 l3 _ h) 1 24 hob ⟨by decide, by decide +kernel⟩ (lw_V q1599 q1601 qs46 q71 q1602) ⟨rfl, by decide, by decide, by decide +kernel⟩ ⟨Nat.le_of_ble_eq_true rfl, Nat.le_of_ble_eq_true rfl⟩ rfl hl.1 rfl (wcat4 (Nat.le_of_ble_eq_true rfl)) dX4_weigh_24 ⟨Nat.le_of_ble_eq_true rfl, Nat.le_of_ble_eq_true rfl⟩ (fun v_ w6 H locs hv hS => ?_)
      obtain ⟨v5, rfl, h⟩ := hv
      refine lv_goto (tgt := 31) hx hb dX4_weigh_27 (by decide) ?_
      refine lv_iadd hx hb dX4_weigh_31 ?_
      refine lv_istore_n (i := 2) (lv' := [(2, .int (l2 + v5)), (0, .ref a0), (1, .int l1), (3, .int l3)]) hx hb dX4_weigh_32 rfl hl (by decide) rfl (fun ls hl => ?_)
      refine lv_iinc (i := 3) (v := (l3 + 1)) (lv' := [(3, .int (l3 + 1)), (2, .int (l2 + v5)), (0, .ref a0), (1, .int l1)]) hx hb dX4_weigh_33 hl (k := 3) rfl rfl (by decide) rfl (fun ls hl => ?_)
      refine lv_goto (tgt := 4) hx hb dX4_weigh_36 (by decide) ?_
      exact hL4 w6 a0 l1 (l2 + v5) (l3 + 1) _ _ _ h hS (lv_sub hl [2, 3, 1, 0] rfl)
set_option maxHeartbeats 4000000 in
theorem kl_X4_weigh_4 (C : wC p l s m args meth c cX4_weigh 4 (some .int) RX4 "weigh" Z A) (k : Int32 → Wd → Prop) : ∀ (n : Nat), ∀ (w : Wd) (a0 : Nat) (l1 : Int32) (l2 : Int32) (l3 : Int32) (H : Heap) (locs : List Loc) (ls : Array Slot), wl_X4_weigh_4 k n w a0 l1 l2 l3 → wS Z A s w H locs → lv_has ls 4 [(0, .ref a0), (1, .int l1), (2, .int l2), (3, .int l3)] → W p l e ({ frames := 1, cells := 0, slots := 0, locals := 21 } : Room) s m args below meth c H locs 0 0 (MQ below (wQc Z A (pI k)) args s 0 0 A) (F0 m 4 ls []) := by
  intro n
  induction n with
  | zero =>
    intro w a0 l1 l2 l3 H locs ls h
    exact h.elim
  | succ n ih =>
    intro w a0 l1 l2 l3 H locs ls h hS hl
    exact kb_X4_weigh_4 C k (wl_X4_weigh_4 k n) ih w a0 l1 l2 l3 H locs ls h hS hl
set_option maxHeartbeats 4000000 in
theorem ct_X4_weigh (l : Launch) (Z : wZ) (w : Wd) (a0 : Nat) (a1 : Int32) (k : Int32 → Wd → Prop) (h : wp_X4_weigh w a0 a1 k) : wMet l Z yX4_weigh cX4_weigh 4 (some .int) 1 21 0 0 [.ref a0, .int a1] w (pI k) := by
  refine wM_of (by decide +kernel) (Nat.le_of_ble_eq_true rfl) ?_
  intro p e s m below meth c ls C hS hl
  replace C : wC p l s m _ meth c cX4_weigh 4 (some .int) RX4 "weigh" Z _ := C
  have hl : lv_has ls 4 [(0, .ref a0), (1, .int a1)] := hl
  have hx := C.hx
  have hb := C.hb
  unfold wp_X4_weigh at h
  generalize wA w = A at C hS ⊢
  refine lv_iconst (v := 0) hx hb dX4_weigh_0 (by decide) ?_
  refine lv_istore_n (i := 2) (lv' := [(2, .int 0), (0, .ref a0), (1, .int a1)]) hx hb dX4_weigh_1 rfl hl (by decide) rfl (fun ls hl => ?_)
  refine lv_iconst (v := 0) hx hb dX4_weigh_2 (by decide) ?_
  refine lv_istore_n (i := 3) (lv' := [(3, .int 0), (2, .int 0), (0, .ref a0), (1, .int a1)]) hx hb dX4_weigh_3 rfl hl (by decide) rfl (fun ls hl => ?_)
  exact kl_X4_weigh_4 C k FU w a0 a1 0 0 _ _ _ h hS (lv_sub hl [2, 3, 1, 0] rfl)
end VX4_weigh
/-! LeftIsAgreedOnModel.bloc(I)I -/
section VX4_bloc
variable {p : Program} {l : Launch} {e : Env} {s : State} {m : MethodId} {args : Array Value} {below : List Frame} {meth : Method} {c : Code} {Z : wZ} {A : Nat → Prop}
set_option maxHeartbeats 4000000 in
theorem ct_X4_bloc (l : Launch) (Z : wZ) (w : Wd) (a0 : Nat) (a1 : Int32) (k : Int32 → Wd → Prop) (h : wp_X4_bloc w a0 a1 k) : wMet l Z yX4_bloc cX4_bloc 2 (some .int) 2 44 0 0 [.ref a0, .int a1] w (pI k) := by
  refine wM_of (by decide +kernel) (Nat.le_of_ble_eq_true rfl) ?_
  intro p e s m below meth c ls C hS hl
  replace C : wC p l s m _ meth c cX4_bloc 2 (some .int) RX4 "bloc" Z _ := C
  have hl : lv_has ls 2 [(0, .ref a0), (1, .int a1)] := hl
  have hx := C.hx
  have hb := C.hb
  unfold wp_X4_bloc at h
  generalize wA w = A at C hS ⊢
  refine lv_iload_n hx hb dX4_bloc_0 rfl (lv_at hl 1 rfl) ?_
  refine lv_i2l hx hb dX4_bloc_1 rfl ?_
  refine lv_lconst (v := 0) hx hb dX4_bloc_2 (by decide) ?_
  refine lv_lconst (v := 1) hx hb dX4_bloc_3 (by decide) ?_
  refine r_S C hS (ct_X4_isIn l Z w (a1.toInt64) 0 1 _ h) 3 (lw_S q1439 q1440 q71 q1441) ⟨by decide, by decide, by decide +kernel⟩ ⟨Nat.le_of_ble_eq_true rfl, Nat.le_of_ble_eq_true rfl⟩ rfl hl.1 rfl (wcat4 (Nat.le_of_ble_eq_true rfl)) dX4_bloc_4 ⟨Nat.le_of_ble_eq_true rfl, Nat.le_of_ble_eq_true rfl⟩ (fun v_ w2 H locs hv hS => ?_)
  obtain ⟨v1, rfl, h⟩ := hv
  refine r_if_eq (tgt := 18) hx hb h dX4_bloc_7 (by decide) (fun h => ?_) (fun h => ?_)
  · refine lv_aload_n hx hb dX4_bloc_18 rfl (lv_at hl 0 rfl) ?_
    refine lv_bipush (v := -2) hx hb dX4_bloc_19 (by decide) ?_
    obtain ⟨hob, h⟩ := h
    refine r_V C hS (ct_X4_refuse l Z w2 a0 (-2) _ h) 1 24 hob ⟨by decide, by decide +kernel⟩ (lw_V q1442 q1444 qs28 q71 q1445) ⟨rfl, by decide, by decide, by decide +kernel⟩ ⟨Nat.le_of_ble_eq_true rfl, Nat.le_of_ble_eq_true rfl⟩ rfl hl.1 rfl (wcat4 (Nat.le_of_ble_eq_true rfl)) dX4_bloc_21 ⟨Nat.le_of_ble_eq_true rfl, Nat.le_of_ble_eq_true rfl⟩ (fun v_ w4 H locs hv hS => ?_)
    obtain ⟨v3, rfl, h⟩ := hv
    exact r_iret C hS h rfl rfl (Nat.le_of_ble_eq_true rfl) (Nat.le_of_ble_eq_true rfl) dX4_bloc_24
  · refine lv_aload_n hx hb dX4_bloc_10 rfl (lv_at hl 0 rfl) ?_
    refine lv_iload_n hx hb dX4_bloc_11 rfl (lv_at hl 1 rfl) ?_
    obtain ⟨hob, h⟩ := h
    refine r_V C hS (ct_X4_weigh l Z w2 a0 a1 _ h) 1 24 hob ⟨by decide, by decide +kernel⟩ (lw_V q1733 q1735 qs60 q71 q1736) ⟨rfl, by decide, by decide, by decide +kernel⟩ ⟨Nat.le_of_ble_eq_true rfl, Nat.le_of_ble_eq_true rfl⟩ rfl hl.1 rfl (wcat4 (Nat.le_of_ble_eq_true rfl)) dX4_bloc_12 ⟨Nat.le_of_ble_eq_true rfl, Nat.le_of_ble_eq_true rfl⟩ (fun v_ w6 H locs hv hS => ?_)
    obtain ⟨v5, rfl, h⟩ := hv
    refine lv_goto (tgt := 24) hx hb dX4_bloc_15 (by decide) ?_
    exact r_iret C hS h rfl rfl (Nat.le_of_ble_eq_true rfl) (Nat.le_of_ble_eq_true rfl) dX4_bloc_24
end VX4_bloc
/-! LeftIsAgreedOnModel.carries()I -/
section VX4_carries
variable {p : Program} {l : Launch} {e : Env} {s : State} {m : MethodId} {args : Array Value} {below : List Frame} {meth : Method} {c : Code} {Z : wZ} {A : Nat → Prop}
set_option maxHeartbeats 4000000 in
theorem ct_X4_carries (l : Launch) (Z : wZ) (w : Wd) (a0 : Nat) (k : Int32 → Wd → Prop) (h : wp_X4_carries w a0 k) : wMet l Z yX4_carries cX4_carries 2 (some .int) 2 44 0 0 [.ref a0] w (pI k) := by
  refine wM_of (by decide +kernel) (Nat.le_of_ble_eq_true rfl) ?_
  intro p e s m below meth c ls C hS hl
  replace C : wC p l s m _ meth c cX4_carries 2 (some .int) RX4 "carries" Z _ := C
  have hl : lv_has ls 2 [(0, .ref a0)] := hl
  have hx := C.hx
  have hb := C.hb
  unfold wp_X4_carries at h
  generalize wA w = A at C hS ⊢
  refine lv_aload_n hx hb dX4_carries_0 rfl (lv_at hl 0 rfl) ?_
  refine lv_iconst (v := 1) hx hb dX4_carries_1 (by decide) ?_
  obtain ⟨hob, h⟩ := h
  refine r_V C hS (ct_X4_weigh l Z w a0 1 _ h) 1 24 hob ⟨by decide, by decide +kernel⟩ (lw_V q1733 q1735 qs60 q71 q1736) ⟨rfl, by decide, by decide, by decide +kernel⟩ ⟨Nat.le_of_ble_eq_true rfl, Nat.le_of_ble_eq_true rfl⟩ rfl hl.1 rfl (wcat4 (Nat.le_of_ble_eq_true rfl)) dX4_carries_2 ⟨Nat.le_of_ble_eq_true rfl, Nat.le_of_ble_eq_true rfl⟩ (fun v_ w2 H locs hv hS => ?_)
  obtain ⟨v1, rfl, h⟩ := hv
  refine lv_aload_n hx hb dX4_carries_5 rfl (lv_at hl 0 rfl) ?_
  refine lv_iconst (v := 0) hx hb dX4_carries_6 (by decide) ?_
  obtain ⟨hob, h⟩ := h
  refine r_V C hS (ct_X4_weigh l Z w2 a0 0 _ h) 1 24 hob ⟨by decide, by decide +kernel⟩ (lw_V q1733 q1735 qs60 q71 q1736) ⟨rfl, by decide, by decide, by decide +kernel⟩ ⟨Nat.le_of_ble_eq_true rfl, Nat.le_of_ble_eq_true rfl⟩ rfl hl.1 rfl (wcat4 (Nat.le_of_ble_eq_true rfl)) dX4_carries_7 ⟨Nat.le_of_ble_eq_true rfl, Nat.le_of_ble_eq_true rfl⟩ (fun v_ w4 H locs hv hS => ?_)
  obtain ⟨v3, rfl, h⟩ := hv
  refine lv_isub hx hb dX4_carries_10 ?_
  refine lv_istore_n (i := 1) (lv' := [(1, .int (v1 - v3)), (0, .ref a0)]) hx hb dX4_carries_11 rfl hl (by decide) rfl (fun ls hl => ?_)
  refine lv_iload_n hx hb dX4_carries_12 rfl (lv_at hl 0 rfl) ?_
  refine r_if_le (tgt := 20) hx hb h dX4_carries_13 (by decide) (fun h => ?_) (fun h => ?_)
  · refine lv_iload_n hx hb dX4_carries_20 rfl (lv_at hl 0 rfl) ?_
    refine r_if_ge (tgt := 28) hx hb h dX4_carries_21 (by decide) (fun h => ?_) (fun h => ?_)
    · refine lv_aload_n hx hb dX4_carries_28 rfl (lv_at hl 1 rfl) ?_
      refine r_getG C hS h gk_56 q1355 dX4_carries_29 (fun v5 h => ?_)
      refine lv_bipush (v := 91) hx hb dX4_carries_32 (by decide) ?_
      refine r_iald C hS h dX4_carries_34 (fun v6 h => ?_)
      exact r_iret C hS h rfl rfl (Nat.le_of_ble_eq_true rfl) (Nat.le_of_ble_eq_true rfl) dX4_carries_35
    · refine lv_iconst (v := 0) hx hb dX4_carries_24 (by decide) ?_
      refine lv_goto (tgt := 35) hx hb dX4_carries_25 (by decide) ?_
      exact r_iret C hS h rfl rfl (Nat.le_of_ble_eq_true rfl) (Nat.le_of_ble_eq_true rfl) dX4_carries_35
  · refine lv_iconst (v := 1) hx hb dX4_carries_16 (by decide) ?_
    refine lv_goto (tgt := 35) hx hb dX4_carries_17 (by decide) ?_
    exact r_iret C hS h rfl rfl (Nat.le_of_ble_eq_true rfl) (Nat.le_of_ble_eq_true rfl) dX4_carries_35
end VX4_carries
/-! LeftIsAgreedOnModel.power(I)I -/
section VX4_power
variable {p : Program} {l : Launch} {e : Env} {s : State} {m : MethodId} {args : Array Value} {below : List Frame} {meth : Method} {c : Code} {Z : wZ} {A : Nat → Prop}
set_option maxHeartbeats 4000000 in
theorem kb_X4_power_43 (C : wC p l s m args meth c cX4_power 7 (some .int) RX4 "power" Z A) (k : Int32 → Wd → Prop) (L17 : Wd → Nat → Int32 → Int32 → Int32 → Int32 → Prop) (hL17 : ∀ (w : Wd) (x0 : Nat) (x1 : Int32) (x2 : Int32) (x3 : Int32) (x4 : Int32) (H : Heap) (locs : List Loc) (ls : Array Slot), L17 w x0 x1 x2 x3 x4 → wS Z A s w H locs → lv_has ls 7 [(0, .ref x0), (1, .int x1), (2, .int x2), (3, .int x3), (4, .int x4)] → W p l e ({ frames := 2, cells := 0, slots := 0, locals := 44 } : Room) s m args below meth c H locs 0 0 (MQ below (wQc Z A (pI k)) args s 0 0 A) (F0 m 17 ls [])) (L43 : Wd → Nat → Int32 → Int32 → Int32 → Int32 → Int32 → Int32 → Prop) (hL43 : ∀ (w : Wd) (x0 : Nat) (x1 : Int32) (x2 : Int32) (x3 : Int32) (x4 : Int32) (x5 : Int32) (x6 : Int32) (H : Heap) (locs : List Loc) (ls : Array Slot), L43 w x0 x1 x2 x3 x4 x5 x6 → wS Z A s w H locs → lv_has ls 7 [(0, .ref x0), (1, .int x1), (2, .int x2), (3, .int x3), (4, .int x4), (5, .int x5), (6, .int x6)] → W p l e ({ frames := 2, cells := 0, slots := 0, locals := 44 } : Room) s m args below meth c H locs 0 0 (MQ below (wQc Z A (pI k)) args s 0 0 A) (F0 m 43 ls [])) : ∀ (w : Wd) (a0 : Nat) (l1 : Int32) (l2 : Int32) (l3 : Int32) (l4 : Int32) (l5 : Int32) (l6 : Int32) (H : Heap) (locs : List Loc) (ls : Array Slot), wb_X4_power_43 k L17 L43 w a0 l1 l2 l3 l4 l5 l6 → wS Z A s w H locs → lv_has ls 7 [(0, .ref a0), (1, .int l1), (2, .int l2), (3, .int l3), (4, .int l4), (5, .int l5), (6, .int l6)] → W p l e ({ frames := 2, cells := 0, slots := 0, locals := 44 } : Room) s m args below meth c H locs 0 0 (MQ below (wQc Z A (pI k)) args s 0 0 A) (F0 m 43 ls []) := by
  intro w a0 l1 l2 l3 l4 l5 l6 H locs ls h hS hl
  have hx := C.hx
  have hb := C.hb
  unfold wb_X4_power_43 at h
  refine lv_iload hx hb dX4_power_43 (lv_at hl 6 rfl) ?_
  refine lv_aload_n hx hb dX4_power_45 rfl (lv_at hl 0 rfl) ?_
  obtain ⟨hob, h⟩ := h
  refine r_V C hS (ct_X4_many l Z w a0 _ h) 0 24 hob ⟨by decide, by decide +kernel⟩ (lw_V q1458 q1460 qs31 q71 q1461) ⟨rfl, by decide, by decide, by decide +kernel⟩ ⟨Nat.le_of_ble_eq_true rfl, Nat.le_of_ble_eq_true rfl⟩ rfl hl.1 rfl (wcat4 (Nat.le_of_ble_eq_true rfl)) dX4_power_46 ⟨Nat.le_of_ble_eq_true rfl, Nat.le_of_ble_eq_true rfl⟩ (fun v_ w8 H locs hv hS => ?_)
  obtain ⟨v7, rfl, h⟩ := hv
  refine r_icmp_ge (tgt := 77) hx hb h dX4_power_49 (by decide) (fun h => ?_) (fun h => ?_)
  · refine lv_iload_n hx hb dX4_power_77 rfl (lv_at hl 3 rfl) ?_
    refine lv_iconst (v := 2) hx hb dX4_power_78 (by decide) ?_
    refine lv_iload hx hb dX4_power_79 (lv_at hl 5 rfl) ?_
    refine lv_imul hx hb dX4_power_81 ?_
    refine lv_iload_n hx hb dX4_power_82 rfl (lv_at hl 2 rfl) ?_
    refine r_icmp_gt (tgt := 104) hx hb h dX4_power_83 (by decide) (fun h => ?_) (fun h => ?_)
    · refine lv_iconst (v := 0) hx hb dX4_power_104 (by decide) ?_
      refine lv_iadd hx hb dX4_power_105 ?_
      refine lv_istore_n (i := 3) (lv' := [(3, .int (l3 + 0)), (0, .ref a0), (1, .int l1), (2, .int l2), (4, .int l4), (5, .int l5), (6, .int l6)]) hx hb dX4_power_106 rfl hl (by decide) rfl (fun ls hl => ?_)
      refine lv_iinc (i := 4) (v := (l4 + 1)) (lv' := [(4, .int (l4 + 1)), (3, .int (l3 + 0)), (0, .ref a0), (1, .int l1), (2, .int l2), (5, .int l5), (6, .int l6)]) hx hb dX4_power_107 hl (k := 4) rfl rfl (by decide) rfl (fun ls hl => ?_)
      refine lv_goto (tgt := 17) hx hb dX4_power_110 (by decide) ?_
      exact hL17 w8 a0 l1 l2 (l3 + 0) (l4 + 1) _ _ _ h hS (lv_sub hl [2, 3, 4, 1, 0] rfl)
    · refine lv_iconst (v := 2) hx hb dX4_power_86 (by decide) ?_
      refine lv_iload hx hb dX4_power_87 (lv_at hl 5 rfl) ?_
      refine lv_aload_n hx hb dX4_power_89 rfl (lv_at hl 0 rfl) ?_
      refine lv_iload_n hx hb dX4_power_90 rfl (lv_at hl 1 rfl) ?_
      obtain ⟨hob, h⟩ := h
      refine r_V C hS (ct_X4_a l Z w8 a0 l1 _ h) 1 24 hob ⟨by decide, by decide +kernel⟩ (lw_V q1599 q1601 qs46 q71 q1602) ⟨rfl, by decide, by decide, by decide +kernel⟩ ⟨Nat.le_of_ble_eq_true rfl, Nat.le_of_ble_eq_true rfl⟩ rfl hl.1 rfl (wcat4 (Nat.le_of_ble_eq_true rfl)) dX4_power_91 ⟨Nat.le_of_ble_eq_true rfl, Nat.le_of_ble_eq_true rfl⟩ (fun v_ w10 H locs hv hS => ?_)
      obtain ⟨v9, rfl, h⟩ := hv
      refine lv_iadd hx hb dX4_power_94 ?_
      refine lv_imul hx hb dX4_power_95 ?_
      refine lv_iload_n hx hb dX4_power_96 rfl (lv_at hl 2 rfl) ?_
      refine r_icmp_le (tgt := 104) hx hb h dX4_power_97 (by decide) (fun h => ?_) (fun h => ?_)
      · refine lv_iconst (v := 0) hx hb dX4_power_104 (by decide) ?_
        refine lv_iadd hx hb dX4_power_105 ?_
        refine lv_istore_n (i := 3) (lv' := [(3, .int (l3 + 0)), (0, .ref a0), (1, .int l1), (2, .int l2), (4, .int l4), (5, .int l5), (6, .int l6)]) hx hb dX4_power_106 rfl hl (by decide) rfl (fun ls hl => ?_)
        refine lv_iinc (i := 4) (v := (l4 + 1)) (lv' := [(4, .int (l4 + 1)), (3, .int (l3 + 0)), (0, .ref a0), (1, .int l1), (2, .int l2), (5, .int l5), (6, .int l6)]) hx hb dX4_power_107 hl (k := 4) rfl rfl (by decide) rfl (fun ls hl => ?_)
        refine lv_goto (tgt := 17) hx hb dX4_power_110 (by decide) ?_
        exact hL17 w10 a0 l1 l2 (l3 + 0) (l4 + 1) _ _ _ h hS (lv_sub hl [2, 3, 4, 1, 0] rfl)
      · refine lv_iconst (v := 1) hx hb dX4_power_100 (by decide) ?_
        refine lv_goto (tgt := 105) hx hb dX4_power_101 (by decide) ?_
        refine lv_iadd hx hb dX4_power_105 ?_
        refine lv_istore_n (i := 3) (lv' := [(3, .int (l3 + 1)), (0, .ref a0), (1, .int l1), (2, .int l2), (4, .int l4), (5, .int l5), (6, .int l6)]) hx hb dX4_power_106 rfl hl (by decide) rfl (fun ls hl => ?_)
        refine lv_iinc (i := 4) (v := (l4 + 1)) (lv' := [(4, .int (l4 + 1)), (3, .int (l3 + 1)), (0, .ref a0), (1, .int l1), (2, .int l2), (5, .int l5), (6, .int l6)]) hx hb dX4_power_107 hl (k := 4) rfl rfl (by decide) rfl (fun ls hl => ?_)
        refine lv_goto (tgt := 17) hx hb dX4_power_110 (by decide) ?_
        exact hL17 w10 a0 l1 l2 (l3 + 1) (l4 + 1) _ _ _ h hS (lv_sub hl [2, 3, 4, 1, 0] rfl)
  · refine lv_iload hx hb dX4_power_52 (lv_at hl 5 rfl) ?_
    refine lv_iload hx hb dX4_power_54 (lv_at hl 4 rfl) ?_
    refine lv_iload hx hb dX4_power_56 (lv_at hl 6 rfl) ?_
    refine lv_ishr hx hb dX4_power_58 ?_
    refine lv_iconst (v := 1) hx hb dX4_power_59 (by decide) ?_
    refine lv_iand hx hb dX4_power_60 ?_
    refine lv_aload_n hx hb dX4_power_61 rfl (lv_at hl 0 rfl) ?_
    refine lv_iload hx hb dX4_power_62 (lv_at hl 6 rfl) ?_
    obtain ⟨hob, h⟩ := h
    refine r_V C hS (ct_X4_a l Z w8 a0 l6 _ h) 1 24 hob ⟨by decide, by decide +kernel⟩ (lw_V q1599 q1601 qs46 q71 q1602) ⟨rfl, by decide, by decide, by decide +kernel⟩ ⟨Nat.le_of_ble_eq_true rfl, Nat.le_of_ble_eq_true rfl⟩ rfl hl.1 rfl (wcat4 (Nat.le_of_ble_eq_true rfl)) dX4_power_64 ⟨Nat.le_of_ble_eq_true rfl, Nat.le_of_ble_eq_true rfl⟩ (fun v_ w12 H locs hv hS => ?_)
    obtain ⟨v11, rfl, h⟩ := hv
    refine lv_imul hx hb dX4_power_67 ?_
    refine lv_iadd hx hb dX4_power_68 ?_
    refine lv_istore (i := 5) (lv' := [(5, .int (l5 + (((l4 >>> (l6 &&& 31)) &&& 1) * v11))), (0, .ref a0), (1, .int l1), (2, .int l2), (3, .int l3), (4, .int l4), (6, .int l6)]) hx hb dX4_power_69 hl (by decide) rfl (fun ls hl => ?_)
    refine lv_iinc (i := 6) (v := (l6 + 1)) (lv' := [(6, .int (l6 + 1)), (5, .int (l5 + (((l4 >>> (l6 &&& 31)) &&& 1) * v11))), (0, .ref a0), (1, .int l1), (2, .int l2), (3, .int l3), (4, .int l4)]) hx hb dX4_power_71 hl (k := 6) rfl rfl (by decide) rfl (fun ls hl => ?_)
    refine lv_goto (tgt := 43) hx hb dX4_power_74 (by decide) ?_
    exact hL43 w12 a0 l1 l2 l3 l4 (l5 + (((l4 >>> (l6 &&& 31)) &&& 1) * v11)) (l6 + 1) _ _ _ h hS (lv_sub hl [2, 3, 4, 5, 6, 1, 0] rfl)
set_option maxHeartbeats 4000000 in
theorem kl_X4_power_43 (C : wC p l s m args meth c cX4_power 7 (some .int) RX4 "power" Z A) (k : Int32 → Wd → Prop) (L17 : Wd → Nat → Int32 → Int32 → Int32 → Int32 → Prop) (hL17 : ∀ (w : Wd) (x0 : Nat) (x1 : Int32) (x2 : Int32) (x3 : Int32) (x4 : Int32) (H : Heap) (locs : List Loc) (ls : Array Slot), L17 w x0 x1 x2 x3 x4 → wS Z A s w H locs → lv_has ls 7 [(0, .ref x0), (1, .int x1), (2, .int x2), (3, .int x3), (4, .int x4)] → W p l e ({ frames := 2, cells := 0, slots := 0, locals := 44 } : Room) s m args below meth c H locs 0 0 (MQ below (wQc Z A (pI k)) args s 0 0 A) (F0 m 17 ls [])) : ∀ (n : Nat), ∀ (w : Wd) (a0 : Nat) (l1 : Int32) (l2 : Int32) (l3 : Int32) (l4 : Int32) (l5 : Int32) (l6 : Int32) (H : Heap) (locs : List Loc) (ls : Array Slot), wl_X4_power_43 k L17 n w a0 l1 l2 l3 l4 l5 l6 → wS Z A s w H locs → lv_has ls 7 [(0, .ref a0), (1, .int l1), (2, .int l2), (3, .int l3), (4, .int l4), (5, .int l5), (6, .int l6)] → W p l e ({ frames := 2, cells := 0, slots := 0, locals := 44 } : Room) s m args below meth c H locs 0 0 (MQ below (wQc Z A (pI k)) args s 0 0 A) (F0 m 43 ls []) := by
  intro n
  induction n with
  | zero =>
    intro w a0 l1 l2 l3 l4 l5 l6 H locs ls h
    exact h.elim
  | succ n ih =>
    intro w a0 l1 l2 l3 l4 l5 l6 H locs ls h hS hl
    exact kb_X4_power_43 C k L17 hL17 (wl_X4_power_43 k L17 n) ih w a0 l1 l2 l3 l4 l5 l6 H locs ls h hS hl
set_option maxHeartbeats 4000000 in
theorem kb_X4_power_17 (C : wC p l s m args meth c cX4_power 7 (some .int) RX4 "power" Z A) (k : Int32 → Wd → Prop) (L17 : Wd → Nat → Int32 → Int32 → Int32 → Int32 → Prop) (hL17 : ∀ (w : Wd) (x0 : Nat) (x1 : Int32) (x2 : Int32) (x3 : Int32) (x4 : Int32) (H : Heap) (locs : List Loc) (ls : Array Slot), L17 w x0 x1 x2 x3 x4 → wS Z A s w H locs → lv_has ls 7 [(0, .ref x0), (1, .int x1), (2, .int x2), (3, .int x3), (4, .int x4)] → W p l e ({ frames := 2, cells := 0, slots := 0, locals := 44 } : Room) s m args below meth c H locs 0 0 (MQ below (wQc Z A (pI k)) args s 0 0 A) (F0 m 17 ls [])) : ∀ (w : Wd) (a0 : Nat) (l1 : Int32) (l2 : Int32) (l3 : Int32) (l4 : Int32) (H : Heap) (locs : List Loc) (ls : Array Slot), wb_X4_power_17 k L17 w a0 l1 l2 l3 l4 → wS Z A s w H locs → lv_has ls 7 [(0, .ref a0), (1, .int l1), (2, .int l2), (3, .int l3), (4, .int l4)] → W p l e ({ frames := 2, cells := 0, slots := 0, locals := 44 } : Room) s m args below meth c H locs 0 0 (MQ below (wQc Z A (pI k)) args s 0 0 A) (F0 m 17 ls []) := by
  intro w a0 l1 l2 l3 l4 H locs ls h hS hl
  have hx := C.hx
  have hb := C.hb
  unfold wb_X4_power_17 at h
  refine lv_iload hx hb dX4_power_17 (lv_at hl 4 rfl) ?_
  refine lv_iconst (v := 1) hx hb dX4_power_19 (by decide) ?_
  refine lv_aload_n hx hb dX4_power_20 rfl (lv_at hl 0 rfl) ?_
  obtain ⟨hob, h⟩ := h
  refine r_V C hS (ct_X4_many l Z w a0 _ h) 0 24 hob ⟨by decide, by decide +kernel⟩ (lw_V q1458 q1460 qs31 q71 q1461) ⟨rfl, by decide, by decide, by decide +kernel⟩ ⟨Nat.le_of_ble_eq_true rfl, Nat.le_of_ble_eq_true rfl⟩ rfl hl.1 rfl (wcat4 (Nat.le_of_ble_eq_true rfl)) dX4_power_21 ⟨Nat.le_of_ble_eq_true rfl, Nat.le_of_ble_eq_true rfl⟩ (fun v_ w6 H locs hv hS => ?_)
  obtain ⟨v5, rfl, h⟩ := hv
  refine lv_ishl hx hb dX4_power_24 ?_
  refine r_icmp_ge (tgt := 113) hx hb h dX4_power_25 (by decide) (fun h => ?_) (fun h => ?_)
  · refine lv_iload_n hx hb dX4_power_113 rfl (lv_at hl 3 rfl) ?_
    exact r_iret C hS h rfl rfl (Nat.le_of_ble_eq_true rfl) (Nat.le_of_ble_eq_true rfl) dX4_power_114
  · refine lv_iload hx hb dX4_power_28 (lv_at hl 4 rfl) ?_
    refine lv_iload_n hx hb dX4_power_30 rfl (lv_at hl 1 rfl) ?_
    refine lv_ishr hx hb dX4_power_31 ?_
    refine lv_iconst (v := 1) hx hb dX4_power_32 (by decide) ?_
    refine lv_iand hx hb dX4_power_33 ?_
    refine r_if_ne (tgt := 107) hx hb h dX4_power_34 (by decide) (fun h => ?_) (fun h => ?_)
    · refine lv_iinc (i := 4) (v := (l4 + 1)) (lv' := [(4, .int (l4 + 1)), (0, .ref a0), (1, .int l1), (2, .int l2), (3, .int l3)]) hx hb dX4_power_107 hl (k := 4) rfl rfl (by decide) rfl (fun ls hl => ?_)
      refine lv_goto (tgt := 17) hx hb dX4_power_110 (by decide) ?_
      exact hL17 w6 a0 l1 l2 l3 (l4 + 1) _ _ _ h hS (lv_sub hl [1, 2, 3, 4, 0] rfl)
    · refine lv_iconst (v := 0) hx hb dX4_power_37 (by decide) ?_
      refine lv_istore (i := 5) (lv' := [(5, .int 0), (0, .ref a0), (1, .int l1), (2, .int l2), (3, .int l3), (4, .int l4)]) hx hb dX4_power_38 hl (by decide) rfl (fun ls hl => ?_)
      refine lv_iconst (v := 0) hx hb dX4_power_40 (by decide) ?_
      refine lv_istore (i := 6) (lv' := [(6, .int 0), (5, .int 0), (0, .ref a0), (1, .int l1), (2, .int l2), (3, .int l3), (4, .int l4)]) hx hb dX4_power_41 hl (by decide) rfl (fun ls hl => ?_)
      exact kl_X4_power_43 C k L17 hL17 FU w6 a0 l1 l2 l3 l4 0 0 _ _ _ h hS (lv_sub hl [2, 3, 4, 5, 6, 1, 0] rfl)
set_option maxHeartbeats 4000000 in
theorem kl_X4_power_17 (C : wC p l s m args meth c cX4_power 7 (some .int) RX4 "power" Z A) (k : Int32 → Wd → Prop) : ∀ (n : Nat), ∀ (w : Wd) (a0 : Nat) (l1 : Int32) (l2 : Int32) (l3 : Int32) (l4 : Int32) (H : Heap) (locs : List Loc) (ls : Array Slot), wl_X4_power_17 k n w a0 l1 l2 l3 l4 → wS Z A s w H locs → lv_has ls 7 [(0, .ref a0), (1, .int l1), (2, .int l2), (3, .int l3), (4, .int l4)] → W p l e ({ frames := 2, cells := 0, slots := 0, locals := 44 } : Room) s m args below meth c H locs 0 0 (MQ below (wQc Z A (pI k)) args s 0 0 A) (F0 m 17 ls []) := by
  intro n
  induction n with
  | zero =>
    intro w a0 l1 l2 l3 l4 H locs ls h
    exact h.elim
  | succ n ih =>
    intro w a0 l1 l2 l3 l4 H locs ls h hS hl
    exact kb_X4_power_17 C k (wl_X4_power_17 k n) ih w a0 l1 l2 l3 l4 H locs ls h hS hl
set_option maxHeartbeats 4000000 in
theorem ct_X4_power (l : Launch) (Z : wZ) (w : Wd) (a0 : Nat) (a1 : Int32) (k : Int32 → Wd → Prop) (h : wp_X4_power w a0 a1 k) : wMet l Z yX4_power cX4_power 7 (some .int) 2 44 0 0 [.ref a0, .int a1] w (pI k) := by
  refine wM_of (by decide +kernel) (Nat.le_of_ble_eq_true rfl) ?_
  intro p e s m below meth c ls C hS hl
  replace C : wC p l s m _ meth c cX4_power 7 (some .int) RX4 "power" Z _ := C
  have hl : lv_has ls 7 [(0, .ref a0), (1, .int a1)] := hl
  have hx := C.hx
  have hb := C.hb
  unfold wp_X4_power at h
  generalize wA w = A at C hS ⊢
  refine lv_aload_n hx hb dX4_power_0 rfl (lv_at hl 0 rfl) ?_
  refine lv_iconst (v := 0) hx hb dX4_power_1 (by decide) ?_
  obtain ⟨hob, h⟩ := h
  refine r_V C hS (ct_X4_weigh l Z w a0 0 _ h) 1 24 hob ⟨by decide, by decide +kernel⟩ (lw_V q1733 q1735 qs60 q71 q1736) ⟨rfl, by decide, by decide, by decide +kernel⟩ ⟨Nat.le_of_ble_eq_true rfl, Nat.le_of_ble_eq_true rfl⟩ rfl hl.1 rfl (wcat4 (Nat.le_of_ble_eq_true rfl)) dX4_power_2 ⟨Nat.le_of_ble_eq_true rfl, Nat.le_of_ble_eq_true rfl⟩ (fun v_ w2 H locs hv hS => ?_)
  obtain ⟨v1, rfl, h⟩ := hv
  refine lv_aload_n hx hb dX4_power_5 rfl (lv_at hl 0 rfl) ?_
  refine lv_iconst (v := 1) hx hb dX4_power_6 (by decide) ?_
  obtain ⟨hob, h⟩ := h
  refine r_V C hS (ct_X4_weigh l Z w2 a0 1 _ h) 1 24 hob ⟨by decide, by decide +kernel⟩ (lw_V q1733 q1735 qs60 q71 q1736) ⟨rfl, by decide, by decide, by decide +kernel⟩ ⟨Nat.le_of_ble_eq_true rfl, Nat.le_of_ble_eq_true rfl⟩ rfl hl.1 rfl (wcat4 (Nat.le_of_ble_eq_true rfl)) dX4_power_7 ⟨Nat.le_of_ble_eq_true rfl, Nat.le_of_ble_eq_true rfl⟩ (fun v_ w4 H locs hv hS => ?_)
  obtain ⟨v3, rfl, h⟩ := hv
  refine lv_iadd hx hb dX4_power_10 ?_
  refine lv_istore_n (i := 2) (lv' := [(2, .int (v1 + v3)), (0, .ref a0), (1, .int a1)]) hx hb dX4_power_11 rfl hl (by decide) rfl (fun ls hl => ?_)
  refine lv_iconst (v := 0) hx hb dX4_power_12 (by decide) ?_
  refine lv_istore_n (i := 3) (lv' := [(3, .int 0), (2, .int (v1 + v3)), (0, .ref a0), (1, .int a1)]) hx hb dX4_power_13 rfl hl (by decide) rfl (fun ls hl => ?_)
  refine lv_iconst (v := 0) hx hb dX4_power_14 (by decide) ?_
  refine lv_istore (i := 4) (lv' := [(4, .int 0), (3, .int 0), (2, .int (v1 + v3)), (0, .ref a0), (1, .int a1)]) hx hb dX4_power_15 hl (by decide) rfl (fun ls hl => ?_)
  exact kl_X4_power_17 C k FU w4 a0 a1 (v1 + v3) 0 0 _ _ _ h hS (lv_sub hl [3, 4, 2, 1, 0] rfl)
end VX4_power
/-! LeftIsAgreedOnModel.personOf(II)I -/
section VX4_personOf
variable {p : Program} {l : Launch} {e : Env} {s : State} {m : MethodId} {args : Array Value} {below : List Frame} {meth : Method} {c : Code} {Z : wZ} {A : Nat → Prop}
set_option maxHeartbeats 4000000 in
theorem ct_X4_personOf (l : Launch) (Z : wZ) (w : Wd) (a0 : Nat) (a1 : Int32) (a2 : Int32) (k : Int32 → Wd → Prop) (h : wp_X4_personOf w a0 a1 a2 k) : wMet l Z yX4_personOf cX4_personOf 3 (some .int) 3 70 0 0 [.ref a0, .int a1, .int a2] w (pI k) := by
  refine wM_of (by decide +kernel) (Nat.le_of_ble_eq_true rfl) ?_
  intro p e s m below meth c ls C hS hl
  replace C : wC p l s m _ meth c cX4_personOf 3 (some .int) RX4 "personOf" Z _ := C
  have hl : lv_has ls 3 [(0, .ref a0), (1, .int a1), (2, .int a2)] := hl
  have hx := C.hx
  have hb := C.hb
  unfold wp_X4_personOf at h
  generalize wA w = A at C hS ⊢
  refine lv_aload_n hx hb dX4_personOf_0 rfl (lv_at hl 0 rfl) ?_
  refine lv_iload_n hx hb dX4_personOf_1 rfl (lv_at hl 1 rfl) ?_
  obtain ⟨hob, h⟩ := h
  refine r_V C hS (ct_X4_isPerson l Z w a0 a1 _ h) 1 24 hob ⟨by decide, by decide +kernel⟩ (lw_V q1494 q1496 qs35 q71 q1497) ⟨rfl, by decide, by decide, by decide +kernel⟩ ⟨Nat.le_of_ble_eq_true rfl, Nat.le_of_ble_eq_true rfl⟩ rfl hl.1 rfl (wcat4 (Nat.le_of_ble_eq_true rfl)) dX4_personOf_2 ⟨Nat.le_of_ble_eq_true rfl, Nat.le_of_ble_eq_true rfl⟩ (fun v_ w2 H locs hv hS => ?_)
  obtain ⟨v1, rfl, h⟩ := hv
  refine r_if_eq (tgt := 20) hx hb h dX4_personOf_5 (by decide) (fun h => ?_) (fun h => ?_)
  · refine lv_aload_n hx hb dX4_personOf_20 rfl (lv_at hl 0 rfl) ?_
    refine lv_bipush (v := -2) hx hb dX4_personOf_21 (by decide) ?_
    obtain ⟨hob, h⟩ := h
    refine r_V C hS (ct_X4_refuse l Z w2 a0 (-2) _ h) 1 24 hob ⟨by decide, by decide +kernel⟩ (lw_V q1442 q1444 qs28 q71 q1445) ⟨rfl, by decide, by decide, by decide +kernel⟩ ⟨Nat.le_of_ble_eq_true rfl, Nat.le_of_ble_eq_true rfl⟩ rfl hl.1 rfl (wcat4 (Nat.le_of_ble_eq_true rfl)) dX4_personOf_23 ⟨Nat.le_of_ble_eq_true rfl, Nat.le_of_ble_eq_true rfl⟩ (fun v_ w4 H locs hv hS => ?_)
    obtain ⟨v3, rfl, h⟩ := hv
    exact r_iret C hS h rfl rfl (Nat.le_of_ble_eq_true rfl) (Nat.le_of_ble_eq_true rfl) dX4_personOf_26
  · refine lv_iload_n hx hb dX4_personOf_8 rfl (lv_at hl 2 rfl) ?_
    refine lv_i2l hx hb dX4_personOf_9 rfl ?_
    refine lv_lconst (v := 0) hx hb dX4_personOf_10 (by decide) ?_
    refine lv_ldc2 (v := 5) hx hb C.ow (C.hts _ q1473) dX4_personOf_11 ?_
    refine r_S C hS (ct_X4_isIn l Z w2 (a2.toInt64) 0 5 _ h) 3 (lw_S q1439 q1440 q71 q1441) ⟨by decide, by decide, by decide +kernel⟩ ⟨Nat.le_of_ble_eq_true rfl, Nat.le_of_ble_eq_true rfl⟩ rfl hl.1 rfl (wcat4 (Nat.le_of_ble_eq_true rfl)) dX4_personOf_14 ⟨Nat.le_of_ble_eq_true rfl, Nat.le_of_ble_eq_true rfl⟩ (fun v_ w6 H locs hv hS => ?_)
    obtain ⟨v5, rfl, h⟩ := hv
    refine r_if_ne (tgt := 27) hx hb h dX4_personOf_17 (by decide) (fun h => ?_) (fun h => ?_)
    · refine lv_iload_n hx hb dX4_personOf_27 rfl (lv_at hl 2 rfl) ?_
      refine lv_iconst (v := 5) hx hb dX4_personOf_28 (by decide) ?_
      refine r_icmp_ge (tgt := 45) hx hb h dX4_personOf_29 (by decide) (fun h => ?_) (fun h => ?_)
      · refine lv_aload_n hx hb dX4_personOf_45 rfl (lv_at hl 0 rfl) ?_
        refine lv_iload_n hx hb dX4_personOf_46 rfl (lv_at hl 1 rfl) ?_
        obtain ⟨hob, h⟩ := h
        refine r_V C hS (ct_X4_power l Z w6 a0 a1 _ h) 1 24 hob ⟨by decide, by decide +kernel⟩ (lw_V q1745 q1747 qs61 q71 q1748) ⟨rfl, by decide, by decide, by decide +kernel⟩ ⟨Nat.le_of_ble_eq_true rfl, Nat.le_of_ble_eq_true rfl⟩ rfl hl.1 rfl (wcat4 (Nat.le_of_ble_eq_true rfl)) dX4_personOf_47 ⟨Nat.le_of_ble_eq_true rfl, Nat.le_of_ble_eq_true rfl⟩ (fun v_ w8 H locs hv hS => ?_)
        obtain ⟨v7, rfl, h⟩ := hv
        exact r_iret C hS h rfl rfl (Nat.le_of_ble_eq_true rfl) (Nat.le_of_ble_eq_true rfl) dX4_personOf_50
      · refine lv_aload_n hx hb dX4_personOf_32 rfl (lv_at hl 0 rfl) ?_
        refine r_getG C hS h gk_56 q1355 dX4_personOf_33 (fun v9 h => ?_)
        refine lv_iconst (v := 5) hx hb dX4_personOf_36 (by decide) ?_
        refine lv_iload_n hx hb dX4_personOf_37 rfl (lv_at hl 1 rfl) ?_
        refine lv_imul hx hb dX4_personOf_38 ?_
        refine lv_iload_n hx hb dX4_personOf_39 rfl (lv_at hl 2 rfl) ?_
        refine lv_iadd hx hb dX4_personOf_40 ?_
        refine r_iald C hS h dX4_personOf_41 (fun v10 h => ?_)
        refine lv_goto (tgt := 50) hx hb dX4_personOf_42 (by decide) ?_
        exact r_iret C hS h rfl rfl (Nat.le_of_ble_eq_true rfl) (Nat.le_of_ble_eq_true rfl) dX4_personOf_50
    · refine lv_aload_n hx hb dX4_personOf_20 rfl (lv_at hl 0 rfl) ?_
      refine lv_bipush (v := -2) hx hb dX4_personOf_21 (by decide) ?_
      obtain ⟨hob, h⟩ := h
      refine r_V C hS (ct_X4_refuse l Z w6 a0 (-2) _ h) 1 24 hob ⟨by decide, by decide +kernel⟩ (lw_V q1442 q1444 qs28 q71 q1445) ⟨rfl, by decide, by decide, by decide +kernel⟩ ⟨Nat.le_of_ble_eq_true rfl, Nat.le_of_ble_eq_true rfl⟩ rfl hl.1 rfl (wcat4 (Nat.le_of_ble_eq_true rfl)) dX4_personOf_23 ⟨Nat.le_of_ble_eq_true rfl, Nat.le_of_ble_eq_true rfl⟩ (fun v_ w12 H locs hv hS => ?_)
      obtain ⟨v11, rfl, h⟩ := hv
      exact r_iret C hS h rfl rfl (Nat.le_of_ble_eq_true rfl) (Nat.le_of_ble_eq_true rfl) dX4_personOf_26
end VX4_personOf
/-! LeftIsAgreedOnModel.mightiest()I -/
section VX4_mightiest
variable {p : Program} {l : Launch} {e : Env} {s : State} {m : MethodId} {args : Array Value} {below : List Frame} {meth : Method} {c : Code} {Z : wZ} {A : Nat → Prop}
set_option maxHeartbeats 4000000 in
theorem kb_X4_mightiest_18 (C : wC p l s m args meth c cX4_mightiest 3 (some .int) RX4 "mightiest" Z A) (k : Int32 → Wd → Prop) (L18 : Wd → Nat → Int32 → Int32 → Prop) (hL18 : ∀ (w : Wd) (x0 : Nat) (x1 : Int32) (x2 : Int32) (H : Heap) (locs : List Loc) (ls : Array Slot), L18 w x0 x1 x2 → wS Z A s w H locs → lv_has ls 3 [(0, .ref x0), (1, .int x1), (2, .int x2)] → W p l e ({ frames := 3, cells := 0, slots := 0, locals := 70 } : Room) s m args below meth c H locs 0 0 (MQ below (wQc Z A (pI k)) args s 0 0 A) (F0 m 18 ls [])) : ∀ (w : Wd) (a0 : Nat) (l1 : Int32) (l2 : Int32) (H : Heap) (locs : List Loc) (ls : Array Slot), wb_X4_mightiest_18 k L18 w a0 l1 l2 → wS Z A s w H locs → lv_has ls 3 [(0, .ref a0), (1, .int l1), (2, .int l2)] → W p l e ({ frames := 3, cells := 0, slots := 0, locals := 70 } : Room) s m args below meth c H locs 0 0 (MQ below (wQc Z A (pI k)) args s 0 0 A) (F0 m 18 ls []) := by
  intro w a0 l1 l2 H locs ls h hS hl
  have hx := C.hx
  have hb := C.hb
  unfold wb_X4_mightiest_18 at h
  refine lv_iload_n hx hb dX4_mightiest_18 rfl (lv_at hl 2 rfl) ?_
  refine lv_aload_n hx hb dX4_mightiest_19 rfl (lv_at hl 0 rfl) ?_
  obtain ⟨hob, h⟩ := h
  refine r_V C hS (ct_X4_many l Z w a0 _ h) 0 24 hob ⟨by decide, by decide +kernel⟩ (lw_V q1458 q1460 qs31 q71 q1461) ⟨rfl, by decide, by decide, by decide +kernel⟩ ⟨Nat.le_of_ble_eq_true rfl, Nat.le_of_ble_eq_true rfl⟩ rfl hl.1 rfl (wcat4 (Nat.le_of_ble_eq_true rfl)) dX4_mightiest_20 ⟨Nat.le_of_ble_eq_true rfl, Nat.le_of_ble_eq_true rfl⟩ (fun v_ w4 H locs hv hS => ?_)
  obtain ⟨v3, rfl, h⟩ := hv
  refine r_icmp_ge (tgt := 51) hx hb h dX4_mightiest_23 (by decide) (fun h => ?_) (fun h => ?_)
  · refine lv_iload_n hx hb dX4_mightiest_51 rfl (lv_at hl 1 rfl) ?_
    exact r_iret C hS h rfl rfl (Nat.le_of_ble_eq_true rfl) (Nat.le_of_ble_eq_true rfl) dX4_mightiest_52
  · refine lv_aload_n hx hb dX4_mightiest_26 rfl (lv_at hl 0 rfl) ?_
    refine lv_iload_n hx hb dX4_mightiest_27 rfl (lv_at hl 2 rfl) ?_
    obtain ⟨hob, h⟩ := h
    refine r_V C hS (ct_X4_power l Z w4 a0 l2 _ h) 1 24 hob ⟨by decide, by decide +kernel⟩ (lw_V q1745 q1747 qs61 q71 q1748) ⟨rfl, by decide, by decide, by decide +kernel⟩ ⟨Nat.le_of_ble_eq_true rfl, Nat.le_of_ble_eq_true rfl⟩ rfl hl.1 rfl (wcat4 (Nat.le_of_ble_eq_true rfl)) dX4_mightiest_28 ⟨Nat.le_of_ble_eq_true rfl, Nat.le_of_ble_eq_true rfl⟩ (fun v_ w6 H locs hv hS => ?_)
    obtain ⟨v5, rfl, h⟩ := hv
    refine lv_aload_n hx hb dX4_mightiest_31 rfl (lv_at hl 0 rfl) ?_
    refine lv_iload_n hx hb dX4_mightiest_32 rfl (lv_at hl 1 rfl) ?_
    obtain ⟨hob, h⟩ := h
    refine r_V C hS (ct_X4_power l Z w6 a0 l1 _ h) 1 24 hob ⟨by decide, by decide +kernel⟩ (lw_V q1745 q1747 qs61 q71 q1748) ⟨rfl, by decide, by decide, by decide +kernel⟩ ⟨Nat.le_of_ble_eq_true rfl, Nat.le_of_ble_eq_true rfl⟩ rfl hl.1 rfl (wcat4 (Nat.le_of_ble_eq_true rfl)) dX4_mightiest_33 ⟨Nat.le_of_ble_eq_true rfl, Nat.le_of_ble_eq_true rfl⟩ (fun v_ w8 H locs hv hS => ?_)
    obtain ⟨v7, rfl, h⟩ := hv
    refine r_icmp_le (tgt := 43) hx hb h dX4_mightiest_36 (by decide) (fun h => ?_) (fun h => ?_)
    · refine lv_iload_n hx hb dX4_mightiest_43 rfl (lv_at hl 1 rfl) ?_
      refine lv_istore_n (i := 1) (lv' := [(1, .int l1), (0, .ref a0), (2, .int l2)]) hx hb dX4_mightiest_44 rfl hl (by decide) rfl (fun ls hl => ?_)
      refine lv_iinc (i := 2) (v := (l2 + 1)) (lv' := [(2, .int (l2 + 1)), (1, .int l1), (0, .ref a0)]) hx hb dX4_mightiest_45 hl (k := 2) rfl rfl (by decide) rfl (fun ls hl => ?_)
      refine lv_goto (tgt := 18) hx hb dX4_mightiest_48 (by decide) ?_
      exact hL18 w8 a0 l1 (l2 + 1) _ _ _ h hS (lv_sub hl [2, 1, 0] rfl)
    · refine lv_iload_n hx hb dX4_mightiest_39 rfl (lv_at hl 2 rfl) ?_
      refine lv_goto (tgt := 44) hx hb dX4_mightiest_40 (by decide) ?_
      refine lv_istore_n (i := 1) (lv' := [(1, .int l2), (0, .ref a0), (2, .int l2)]) hx hb dX4_mightiest_44 rfl hl (by decide) rfl (fun ls hl => ?_)
      refine lv_iinc (i := 2) (v := (l2 + 1)) (lv' := [(2, .int (l2 + 1)), (1, .int l2), (0, .ref a0)]) hx hb dX4_mightiest_45 hl (k := 2) rfl rfl (by decide) rfl (fun ls hl => ?_)
      refine lv_goto (tgt := 18) hx hb dX4_mightiest_48 (by decide) ?_
      exact hL18 w8 a0 l2 (l2 + 1) _ _ _ h hS (lv_sub hl [2, 1, 0] rfl)
set_option maxHeartbeats 4000000 in
theorem kl_X4_mightiest_18 (C : wC p l s m args meth c cX4_mightiest 3 (some .int) RX4 "mightiest" Z A) (k : Int32 → Wd → Prop) : ∀ (n : Nat), ∀ (w : Wd) (a0 : Nat) (l1 : Int32) (l2 : Int32) (H : Heap) (locs : List Loc) (ls : Array Slot), wl_X4_mightiest_18 k n w a0 l1 l2 → wS Z A s w H locs → lv_has ls 3 [(0, .ref a0), (1, .int l1), (2, .int l2)] → W p l e ({ frames := 3, cells := 0, slots := 0, locals := 70 } : Room) s m args below meth c H locs 0 0 (MQ below (wQc Z A (pI k)) args s 0 0 A) (F0 m 18 ls []) := by
  intro n
  induction n with
  | zero =>
    intro w a0 l1 l2 H locs ls h
    exact h.elim
  | succ n ih =>
    intro w a0 l1 l2 H locs ls h hS hl
    exact kb_X4_mightiest_18 C k (wl_X4_mightiest_18 k n) ih w a0 l1 l2 H locs ls h hS hl
set_option maxHeartbeats 4000000 in
theorem ct_X4_mightiest (l : Launch) (Z : wZ) (w : Wd) (a0 : Nat) (k : Int32 → Wd → Prop) (h : wp_X4_mightiest w a0 k) : wMet l Z yX4_mightiest cX4_mightiest 3 (some .int) 3 70 0 0 [.ref a0] w (pI k) := by
  refine wM_of (by decide +kernel) (Nat.le_of_ble_eq_true rfl) ?_
  intro p e s m below meth c ls C hS hl
  replace C : wC p l s m _ meth c cX4_mightiest 3 (some .int) RX4 "mightiest" Z _ := C
  have hl : lv_has ls 3 [(0, .ref a0)] := hl
  have hx := C.hx
  have hb := C.hb
  unfold wp_X4_mightiest at h
  generalize wA w = A at C hS ⊢
  refine lv_aload_n hx hb dX4_mightiest_0 rfl (lv_at hl 0 rfl) ?_
  obtain ⟨hob, h⟩ := h
  refine r_V C hS (ct_X4_many l Z w a0 _ h) 0 24 hob ⟨by decide, by decide +kernel⟩ (lw_V q1458 q1460 qs31 q71 q1461) ⟨rfl, by decide, by decide, by decide +kernel⟩ ⟨Nat.le_of_ble_eq_true rfl, Nat.le_of_ble_eq_true rfl⟩ rfl hl.1 rfl (wcat4 (Nat.le_of_ble_eq_true rfl)) dX4_mightiest_1 ⟨Nat.le_of_ble_eq_true rfl, Nat.le_of_ble_eq_true rfl⟩ (fun v_ w2 H locs hv hS => ?_)
  obtain ⟨v1, rfl, h⟩ := hv
  refine r_if_ne (tgt := 14) hx hb h dX4_mightiest_4 (by decide) (fun h => ?_) (fun h => ?_)
  · refine lv_iconst (v := 0) hx hb dX4_mightiest_14 (by decide) ?_
    refine lv_istore_n (i := 1) (lv' := [(1, .int 0), (0, .ref a0)]) hx hb dX4_mightiest_15 rfl hl (by decide) rfl (fun ls hl => ?_)
    refine lv_iconst (v := 1) hx hb dX4_mightiest_16 (by decide) ?_
    refine lv_istore_n (i := 2) (lv' := [(2, .int 1), (1, .int 0), (0, .ref a0)]) hx hb dX4_mightiest_17 rfl hl (by decide) rfl (fun ls hl => ?_)
    exact kl_X4_mightiest_18 C k FU w2 a0 0 1 _ _ _ h hS (lv_sub hl [2, 1, 0] rfl)
  · refine lv_aload_n hx hb dX4_mightiest_7 rfl (lv_at hl 0 rfl) ?_
    refine lv_bipush (v := -5) hx hb dX4_mightiest_8 (by decide) ?_
    obtain ⟨hob, h⟩ := h
    refine r_V C hS (ct_X4_refuse l Z w2 a0 (-5) _ h) 1 24 hob ⟨by decide, by decide +kernel⟩ (lw_V q1442 q1444 qs28 q71 q1445) ⟨rfl, by decide, by decide, by decide +kernel⟩ ⟨Nat.le_of_ble_eq_true rfl, Nat.le_of_ble_eq_true rfl⟩ rfl hl.1 rfl (wcat4 (Nat.le_of_ble_eq_true rfl)) dX4_mightiest_10 ⟨Nat.le_of_ble_eq_true rfl, Nat.le_of_ble_eq_true rfl⟩ (fun v_ w10 H locs hv hS => ?_)
    obtain ⟨v9, rfl, h⟩ := hv
    exact r_iret C hS h rfl rfl (Nat.le_of_ble_eq_true rfl) (Nat.le_of_ble_eq_true rfl) dX4_mightiest_13
end VX4_mightiest
/-! LeftIsAgreedOnModel.change(I)V -/
section VX4_change
variable {p : Program} {l : Launch} {e : Env} {s : State} {m : MethodId} {args : Array Value} {below : List Frame} {meth : Method} {c : Code} {Z : wZ} {A : Nat → Prop}
set_option maxHeartbeats 4000000 in
theorem kb_X4_change_2 (C : wC p l s m args meth c cX4_change 3 none RX4 "change" Z A) (k : Wd → Prop) (L2 : Wd → Nat → Int32 → Int32 → Prop) (hL2 : ∀ (w : Wd) (x0 : Nat) (x1 : Int32) (x2 : Int32) (H : Heap) (locs : List Loc) (ls : Array Slot), L2 w x0 x1 x2 → wS Z A s w H locs → lv_has ls 3 [(0, .ref x0), (1, .int x1), (2, .int x2)] → W p l e ({ frames := 1, cells := 0, slots := 0, locals := 20 } : Room) s m args below meth c H locs 0 0 (MQ below (wQc Z A (pV k)) args s 0 0 A) (F0 m 2 ls [])) : ∀ (w : Wd) (a0 : Nat) (l1 : Int32) (l2 : Int32) (H : Heap) (locs : List Loc) (ls : Array Slot), wb_X4_change_2 k L2 w a0 l1 l2 → wS Z A s w H locs → lv_has ls 3 [(0, .ref a0), (1, .int l1), (2, .int l2)] → W p l e ({ frames := 1, cells := 0, slots := 0, locals := 20 } : Room) s m args below meth c H locs 0 0 (MQ below (wQc Z A (pV k)) args s 0 0 A) (F0 m 2 ls []) := by
  intro w a0 l1 l2 H locs ls h hS hl
  have hx := C.hx
  have hb := C.hb
  unfold wb_X4_change_2 at h
  refine lv_iload_n hx hb dX4_change_2 rfl (lv_at hl 2 rfl) ?_
  refine lv_aload_n hx hb dX4_change_3 rfl (lv_at hl 0 rfl) ?_
  obtain ⟨hob, h⟩ := h
  refine r_V C hS (ct_X4_many l Z w a0 _ h) 0 24 hob ⟨by decide, by decide +kernel⟩ (lw_V q1458 q1460 qs31 q71 q1461) ⟨rfl, by decide, by decide, by decide +kernel⟩ ⟨Nat.le_of_ble_eq_true rfl, Nat.le_of_ble_eq_true rfl⟩ rfl hl.1 rfl (wcat4 (Nat.le_of_ble_eq_true rfl)) dX4_change_4 ⟨Nat.le_of_ble_eq_true rfl, Nat.le_of_ble_eq_true rfl⟩ (fun v_ w2 H locs hv hS => ?_)
  obtain ⟨v1, rfl, h⟩ := hv
  refine r_icmp_ge (tgt := 34) hx hb h dX4_change_7 (by decide) (fun h => ?_) (fun h => ?_)
  · exact r_vret C hS h rfl (Nat.le_of_ble_eq_true rfl) (Nat.le_of_ble_eq_true rfl) dX4_change_34
  · refine lv_aload_n hx hb dX4_change_10 rfl (lv_at hl 0 rfl) ?_
    refine r_getG C hS h gk_56 q1355 dX4_change_11 (fun v3 h => ?_)
    refine lv_iconst (v := 5) hx hb dX4_change_14 (by decide) ?_
    refine lv_iload_n hx hb dX4_change_15 rfl (lv_at hl 2 rfl) ?_
    refine lv_imul hx hb dX4_change_16 ?_
    refine lv_iconst (v := 4) hx hb dX4_change_17 (by decide) ?_
    refine lv_iadd hx hb dX4_change_18 ?_
    refine lv_dup2_11 hx hb dX4_change_19 rfl (va_rf_cat _) ?_
    refine r_iald C hS h dX4_change_20 (fun v4 h => ?_)
    refine lv_iload_n hx hb dX4_change_21 rfl (lv_at hl 1 rfl) ?_
    refine lv_iload_n hx hb dX4_change_22 rfl (lv_at hl 2 rfl) ?_
    refine lv_ishr hx hb dX4_change_23 ?_
    refine lv_iconst (v := 1) hx hb dX4_change_24 (by decide) ?_
    refine lv_iand hx hb dX4_change_25 ?_
    refine lv_ixor hx hb dX4_change_26 ?_
    refine r_iast C hS h dX4_change_27 (fun w5 H locs h hS => ?_)
    refine lv_iinc (i := 2) (v := (l2 + 1)) (lv' := [(2, .int (l2 + 1)), (0, .ref a0), (1, .int l1)]) hx hb dX4_change_28 hl (k := 2) rfl rfl (by decide) rfl (fun ls hl => ?_)
    refine lv_goto (tgt := 2) hx hb dX4_change_31 (by decide) ?_
    exact hL2 w5 a0 l1 (l2 + 1) _ _ _ h hS (lv_sub hl [1, 2, 0] rfl)
set_option maxHeartbeats 4000000 in
theorem kl_X4_change_2 (C : wC p l s m args meth c cX4_change 3 none RX4 "change" Z A) (k : Wd → Prop) : ∀ (n : Nat), ∀ (w : Wd) (a0 : Nat) (l1 : Int32) (l2 : Int32) (H : Heap) (locs : List Loc) (ls : Array Slot), wl_X4_change_2 k n w a0 l1 l2 → wS Z A s w H locs → lv_has ls 3 [(0, .ref a0), (1, .int l1), (2, .int l2)] → W p l e ({ frames := 1, cells := 0, slots := 0, locals := 20 } : Room) s m args below meth c H locs 0 0 (MQ below (wQc Z A (pV k)) args s 0 0 A) (F0 m 2 ls []) := by
  intro n
  induction n with
  | zero =>
    intro w a0 l1 l2 H locs ls h
    exact h.elim
  | succ n ih =>
    intro w a0 l1 l2 H locs ls h hS hl
    exact kb_X4_change_2 C k (wl_X4_change_2 k n) ih w a0 l1 l2 H locs ls h hS hl
set_option maxHeartbeats 4000000 in
theorem ct_X4_change (l : Launch) (Z : wZ) (w : Wd) (a0 : Nat) (a1 : Int32) (k : Wd → Prop) (h : wp_X4_change w a0 a1 k) : wMet l Z yX4_change cX4_change 3 none 1 20 0 0 [.ref a0, .int a1] w (pV k) := by
  refine wM_of (by decide +kernel) (Nat.le_of_ble_eq_true rfl) ?_
  intro p e s m below meth c ls C hS hl
  replace C : wC p l s m _ meth c cX4_change 3 none RX4 "change" Z _ := C
  have hl : lv_has ls 3 [(0, .ref a0), (1, .int a1)] := hl
  have hx := C.hx
  have hb := C.hb
  unfold wp_X4_change at h
  generalize wA w = A at C hS ⊢
  refine lv_iconst (v := 0) hx hb dX4_change_0 (by decide) ?_
  refine lv_istore_n (i := 2) (lv' := [(2, .int 0), (0, .ref a0), (1, .int a1)]) hx hb dX4_change_1 rfl hl (by decide) rfl (fun ls hl => ?_)
  exact kl_X4_change_2 C k FU w a0 a1 0 _ _ _ h hS (lv_sub hl [1, 2, 0] rfl)
end VX4_change
/-! LeftIsAgreedOnModel.swing(I)I -/
section VX4_swing
variable {p : Program} {l : Launch} {e : Env} {s : State} {m : MethodId} {args : Array Value} {below : List Frame} {meth : Method} {c : Code} {Z : wZ} {A : Nat → Prop}
set_option maxHeartbeats 4000000 in
theorem ct_X4_swing (l : Launch) (Z : wZ) (w : Wd) (a0 : Nat) (a1 : Int32) (k : Int32 → Wd → Prop) (h : wp_X4_swing w a0 a1 k) : wMet l Z yX4_swing cX4_swing 4 (some .int) 3 65 0 0 [.ref a0, .int a1] w (pI k) := by
  refine wM_of (by decide +kernel) (Nat.le_of_ble_eq_true rfl) ?_
  intro p e s m below meth c ls C hS hl
  replace C : wC p l s m _ meth c cX4_swing 4 (some .int) RX4 "swing" Z _ := C
  have hl : lv_has ls 4 [(0, .ref a0), (1, .int a1)] := hl
  have hx := C.hx
  have hb := C.hb
  unfold wp_X4_swing at h
  generalize wA w = A at C hS ⊢
  refine lv_aload_n hx hb dX4_swing_0 rfl (lv_at hl 0 rfl) ?_
  refine lv_iload_n hx hb dX4_swing_1 rfl (lv_at hl 1 rfl) ?_
  obtain ⟨hob, h⟩ := h
  refine r_V C hS (ct_X4_isPerson l Z w a0 a1 _ h) 1 24 hob ⟨by decide, by decide +kernel⟩ (lw_V q1494 q1496 qs35 q71 q1497) ⟨rfl, by decide, by decide, by decide +kernel⟩ ⟨Nat.le_of_ble_eq_true rfl, Nat.le_of_ble_eq_true rfl⟩ rfl hl.1 rfl (wcat4 (Nat.le_of_ble_eq_true rfl)) dX4_swing_2 ⟨Nat.le_of_ble_eq_true rfl, Nat.le_of_ble_eq_true rfl⟩ (fun v_ w2 H locs hv hS => ?_)
  obtain ⟨v1, rfl, h⟩ := hv
  refine r_if_ne (tgt := 15) hx hb h dX4_swing_5 (by decide) (fun h => ?_) (fun h => ?_)
  · refine lv_aload_n hx hb dX4_swing_15 rfl (lv_at hl 0 rfl) ?_
    obtain ⟨hob, h⟩ := h
    refine r_V C hS (ct_X4_carries l Z w2 a0 _ h) 0 24 hob ⟨by decide, by decide +kernel⟩ (lw_V q1757 q1738 q1739 q71 q1740) ⟨rfl, by decide, by decide, by decide +kernel⟩ ⟨Nat.le_of_ble_eq_true rfl, Nat.le_of_ble_eq_true rfl⟩ rfl hl.1 rfl (wcat4 (Nat.le_of_ble_eq_true rfl)) dX4_swing_16 ⟨Nat.le_of_ble_eq_true rfl, Nat.le_of_ble_eq_true rfl⟩ (fun v_ w4 H locs hv hS => ?_)
    obtain ⟨v3, rfl, h⟩ := hv
    refine lv_istore_n (i := 2) (lv' := [(2, .int v3), (0, .ref a0), (1, .int a1)]) hx hb dX4_swing_19 rfl hl (by decide) rfl (fun ls hl => ?_)
    refine lv_aload_n hx hb dX4_swing_20 rfl (lv_at hl 1 rfl) ?_
    refine lv_iconst (v := 1) hx hb dX4_swing_21 (by decide) ?_
    refine lv_iload_n hx hb dX4_swing_22 rfl (lv_at hl 2 rfl) ?_
    refine lv_ishl hx hb dX4_swing_23 ?_
    obtain ⟨hob, h⟩ := h
    refine r_V C hS (ct_X4_change l Z w4 a0 (1 <<< (a1 &&& 31)) _ h) 1 24 hob ⟨by decide, by decide +kernel⟩ (lw_V q1758 q1760 qs62 q71 q1761) ⟨rfl, by decide, by decide, by decide +kernel⟩ ⟨Nat.le_of_ble_eq_true rfl, Nat.le_of_ble_eq_true rfl⟩ rfl hl.1 rfl (wcat4 (Nat.le_of_ble_eq_true rfl)) dX4_swing_24 ⟨Nat.le_of_ble_eq_true rfl, Nat.le_of_ble_eq_true rfl⟩ (fun v_ w5 H locs hv hS => ?_)
    obtain ⟨rfl, h⟩ := hv
    refine lv_aload_n hx hb dX4_swing_27 rfl (lv_at hl 1 rfl) ?_
    obtain ⟨hob, h⟩ := h
    refine r_V C hS (ct_X4_carries l Z w5 a0 _ h) 0 24 hob ⟨by decide, by decide +kernel⟩ (lw_V q1757 q1738 q1739 q71 q1740) ⟨rfl, by decide, by decide, by decide +kernel⟩ ⟨Nat.le_of_ble_eq_true rfl, Nat.le_of_ble_eq_true rfl⟩ rfl hl.1 rfl (wcat4 (Nat.le_of_ble_eq_true rfl)) dX4_swing_28 ⟨Nat.le_of_ble_eq_true rfl, Nat.le_of_ble_eq_true rfl⟩ (fun v_ w7 H locs hv hS => ?_)
    obtain ⟨v6, rfl, h⟩ := hv
    refine lv_istore_n (i := 3) (lv' := [(3, .int v6), (2, .int v3), (0, .ref a0), (1, .int a1)]) hx hb dX4_swing_31 rfl hl (by decide) rfl (fun ls hl => ?_)
    refine lv_aload_n hx hb dX4_swing_32 rfl (lv_at hl 2 rfl) ?_
    refine lv_iconst (v := 1) hx hb dX4_swing_33 (by decide) ?_
    refine lv_iload_n hx hb dX4_swing_34 rfl (lv_at hl 3 rfl) ?_
    refine lv_ishl hx hb dX4_swing_35 ?_
    obtain ⟨hob, h⟩ := h
    refine r_V C hS (ct_X4_change l Z w7 a0 (1 <<< (a1 &&& 31)) _ h) 1 24 hob ⟨by decide, by decide +kernel⟩ (lw_V q1758 q1760 qs62 q71 q1761) ⟨rfl, by decide, by decide, by decide +kernel⟩ ⟨Nat.le_of_ble_eq_true rfl, Nat.le_of_ble_eq_true rfl⟩ rfl hl.1 rfl (wcat4 (Nat.le_of_ble_eq_true rfl)) dX4_swing_36 ⟨Nat.le_of_ble_eq_true rfl, Nat.le_of_ble_eq_true rfl⟩ (fun v_ w8 H locs hv hS => ?_)
    obtain ⟨rfl, h⟩ := hv
    refine lv_iload_n hx hb dX4_swing_39 rfl (lv_at hl 1 rfl) ?_
    refine lv_iload_n hx hb dX4_swing_40 rfl (lv_at hl 0 rfl) ?_
    refine r_icmp_ne (tgt := 48) hx hb h dX4_swing_41 (by decide) (fun h => ?_) (fun h => ?_)
    · refine lv_iconst (v := 1) hx hb dX4_swing_48 (by decide) ?_
      exact r_iret C hS h rfl rfl (Nat.le_of_ble_eq_true rfl) (Nat.le_of_ble_eq_true rfl) dX4_swing_49
    · refine lv_iconst (v := 0) hx hb dX4_swing_44 (by decide) ?_
      refine lv_goto (tgt := 49) hx hb dX4_swing_45 (by decide) ?_
      exact r_iret C hS h rfl rfl (Nat.le_of_ble_eq_true rfl) (Nat.le_of_ble_eq_true rfl) dX4_swing_49
  · refine lv_aload_n hx hb dX4_swing_8 rfl (lv_at hl 0 rfl) ?_
    refine lv_bipush (v := -2) hx hb dX4_swing_9 (by decide) ?_
    obtain ⟨hob, h⟩ := h
    refine r_V C hS (ct_X4_refuse l Z w2 a0 (-2) _ h) 1 24 hob ⟨by decide, by decide +kernel⟩ (lw_V q1442 q1444 qs28 q71 q1445) ⟨rfl, by decide, by decide, by decide +kernel⟩ ⟨Nat.le_of_ble_eq_true rfl, Nat.le_of_ble_eq_true rfl⟩ rfl hl.1 rfl (wcat4 (Nat.le_of_ble_eq_true rfl)) dX4_swing_11 ⟨Nat.le_of_ble_eq_true rfl, Nat.le_of_ble_eq_true rfl⟩ (fun v_ w10 H locs hv hS => ?_)
    obtain ⟨v9, rfl, h⟩ := hv
    exact r_iret C hS h rfl rfl (Nat.le_of_ble_eq_true rfl) (Nat.le_of_ble_eq_true rfl) dX4_swing_14
end VX4_swing
/-! LeftIsAgreedOnModel.ones(I)I -/
section VX4_ones
variable {p : Program} {l : Launch} {e : Env} {s : State} {m : MethodId} {args : Array Value} {below : List Frame} {meth : Method} {c : Code} {Z : wZ} {A : Nat → Prop}
set_option maxHeartbeats 4000000 in
theorem kb_X4_ones_4 (C : wC p l s m args meth c cX4_ones 3 (some .int) RX4 "ones" Z A) (k : Int32 → Wd → Prop) (L4 : Wd → Int32 → Int32 → Int32 → Prop) (hL4 : ∀ (w : Wd) (x0 : Int32) (x1 : Int32) (x2 : Int32) (H : Heap) (locs : List Loc) (ls : Array Slot), L4 w x0 x1 x2 → wS Z A s w H locs → lv_has ls 3 [(0, .int x0), (1, .int x1), (2, .int x2)] → W p l e ({ frames := 0, cells := 0, slots := 0, locals := 0 } : Room) s m args below meth c H locs 0 0 (MQ below (wQc Z A (pI k)) args s 0 0 A) (F0 m 4 ls [])) : ∀ (w : Wd) (l0 : Int32) (l1 : Int32) (l2 : Int32) (H : Heap) (locs : List Loc) (ls : Array Slot), wb_X4_ones_4 k L4 w l0 l1 l2 → wS Z A s w H locs → lv_has ls 3 [(0, .int l0), (1, .int l1), (2, .int l2)] → W p l e ({ frames := 0, cells := 0, slots := 0, locals := 0 } : Room) s m args below meth c H locs 0 0 (MQ below (wQc Z A (pI k)) args s 0 0 A) (F0 m 4 ls []) := by
  intro w l0 l1 l2 H locs ls h hS hl
  have hx := C.hx
  have hb := C.hb
  unfold wb_X4_ones_4 at h
  refine lv_iload_n hx hb dX4_ones_4 rfl (lv_at hl 2 rfl) ?_
  refine lv_bipush (v := 8) hx hb dX4_ones_5 (by decide) ?_
  refine r_icmp_ge (tgt := 24) hx hb h dX4_ones_7 (by decide) (fun h => ?_) (fun h => ?_)
  · refine lv_iload_n hx hb dX4_ones_24 rfl (lv_at hl 1 rfl) ?_
    exact r_iret C hS h rfl rfl (Nat.le_of_ble_eq_true rfl) (Nat.le_of_ble_eq_true rfl) dX4_ones_25
  · refine lv_iload_n hx hb dX4_ones_10 rfl (lv_at hl 1 rfl) ?_
    refine lv_iload_n hx hb dX4_ones_11 rfl (lv_at hl 0 rfl) ?_
    refine lv_iload_n hx hb dX4_ones_12 rfl (lv_at hl 2 rfl) ?_
    refine lv_ishr hx hb dX4_ones_13 ?_
    refine lv_iconst (v := 1) hx hb dX4_ones_14 (by decide) ?_
    refine lv_iand hx hb dX4_ones_15 ?_
    refine lv_iadd hx hb dX4_ones_16 ?_
    refine lv_istore_n (i := 1) (lv' := [(1, .int (l1 + ((l0 >>> (l2 &&& 31)) &&& 1))), (0, .int l0), (2, .int l2)]) hx hb dX4_ones_17 rfl hl (by decide) rfl (fun ls hl => ?_)
    refine lv_iinc (i := 2) (v := (l2 + 1)) (lv' := [(2, .int (l2 + 1)), (1, .int (l1 + ((l0 >>> (l2 &&& 31)) &&& 1))), (0, .int l0)]) hx hb dX4_ones_18 hl (k := 2) rfl rfl (by decide) rfl (fun ls hl => ?_)
    refine lv_goto (tgt := 4) hx hb dX4_ones_21 (by decide) ?_
    exact hL4 w l0 (l1 + ((l0 >>> (l2 &&& 31)) &&& 1)) (l2 + 1) _ _ _ h hS (lv_sub hl [2, 1, 0] rfl)
set_option maxHeartbeats 4000000 in
theorem kl_X4_ones_4 (C : wC p l s m args meth c cX4_ones 3 (some .int) RX4 "ones" Z A) (k : Int32 → Wd → Prop) : ∀ (n : Nat), ∀ (w : Wd) (l0 : Int32) (l1 : Int32) (l2 : Int32) (H : Heap) (locs : List Loc) (ls : Array Slot), wl_X4_ones_4 k n w l0 l1 l2 → wS Z A s w H locs → lv_has ls 3 [(0, .int l0), (1, .int l1), (2, .int l2)] → W p l e ({ frames := 0, cells := 0, slots := 0, locals := 0 } : Room) s m args below meth c H locs 0 0 (MQ below (wQc Z A (pI k)) args s 0 0 A) (F0 m 4 ls []) := by
  intro n
  induction n with
  | zero =>
    intro w l0 l1 l2 H locs ls h
    exact h.elim
  | succ n ih =>
    intro w l0 l1 l2 H locs ls h hS hl
    exact kb_X4_ones_4 C k (wl_X4_ones_4 k n) ih w l0 l1 l2 H locs ls h hS hl
set_option maxHeartbeats 4000000 in
theorem ct_X4_ones (l : Launch) (Z : wZ) (w : Wd) (a0 : Int32) (k : Int32 → Wd → Prop) (h : wp_X4_ones w a0 k) : wMet l Z yX4_ones cX4_ones 3 (some .int) 0 0 0 0 [.int a0] w (pI k) := by
  refine wM_of (by decide +kernel) (Nat.le_of_ble_eq_true rfl) ?_
  intro p e s m below meth c ls C hS hl
  replace C : wC p l s m _ meth c cX4_ones 3 (some .int) RX4 "ones" Z _ := C
  have hl : lv_has ls 3 [(0, .int a0)] := hl
  have hx := C.hx
  have hb := C.hb
  unfold wp_X4_ones at h
  generalize wA w = A at C hS ⊢
  refine lv_iconst (v := 0) hx hb dX4_ones_0 (by decide) ?_
  refine lv_istore_n (i := 1) (lv' := [(1, .int 0), (0, .int a0)]) hx hb dX4_ones_1 rfl hl (by decide) rfl (fun ls hl => ?_)
  refine lv_iconst (v := 0) hx hb dX4_ones_2 (by decide) ?_
  refine lv_istore_n (i := 2) (lv' := [(2, .int 0), (1, .int 0), (0, .int a0)]) hx hb dX4_ones_3 rfl hl (by decide) rfl (fun ls hl => ?_)
  exact kl_X4_ones_4 C k FU w a0 0 0 _ _ _ h hS (lv_sub hl [2, 1, 0] rfl)
end VX4_ones
/-! LeftIsAgreedOnModel.turn(I)I -/
section VX4_turn
variable {p : Program} {l : Launch} {e : Env} {s : State} {m : MethodId} {args : Array Value} {below : List Frame} {meth : Method} {c : Code} {Z : wZ} {A : Nat → Prop}
set_option maxHeartbeats 4000000 in
theorem kb_X4_turn_57 (C : wC p l s m args meth c cX4_turn 6 (some .int) RX4 "turn" Z A) (k : Int32 → Wd → Prop) (L27 : Wd → Nat → Int32 → Int32 → Int32 → Int32 → Prop) (hL27 : ∀ (w : Wd) (x0 : Nat) (x1 : Int32) (x2 : Int32) (x3 : Int32) (x4 : Int32) (H : Heap) (locs : List Loc) (ls : Array Slot), L27 w x0 x1 x2 x3 x4 → wS Z A s w H locs → lv_has ls 6 [(0, .ref x0), (1, .int x1), (2, .int x2), (3, .int x3), (4, .int x4)] → W p l e ({ frames := 3, cells := 0, slots := 0, locals := 65 } : Room) s m args below meth c H locs 0 0 (MQ below (wQc Z A (pI k)) args s 0 0 A) (F0 m 27 ls [])) : ∀ (w : Wd) (a0 : Nat) (l1 : Int32) (l2 : Int32) (l3 : Int32) (l4 : Int32) (s0 : Int32) (H : Heap) (locs : List Loc) (ls : Array Slot), wb_X4_turn_57 k L27 w a0 l1 l2 l3 l4 s0 → wS Z A s w H locs → lv_has ls 6 [(0, .ref a0), (1, .int l1), (2, .int l2), (3, .int l3), (4, .int l4)] → W p l e ({ frames := 3, cells := 0, slots := 0, locals := 65 } : Room) s m args below meth c H locs 0 0 (MQ below (wQc Z A (pI k)) args s 0 0 A) (F0 m 57 ls [.int s0]) := by
  intro w a0 l1 l2 l3 l4 s0 H locs ls h hS hl
  have hx := C.hx
  have hb := C.hb
  unfold wb_X4_turn_57 at h
  refine lv_istore (i := 5) (lv' := [(5, .int s0), (0, .ref a0), (1, .int l1), (2, .int l2), (3, .int l3), (4, .int l4)]) hx hb dX4_turn_57 hl (by decide) rfl (fun ls hl => ?_)
  refine lv_aload_n hx hb dX4_turn_59 rfl (lv_at hl 1 rfl) ?_
  refine lv_iload hx hb dX4_turn_60 (lv_at hl 5 rfl) ?_
  obtain ⟨hob, h⟩ := h
  refine r_V C hS (ct_X4_change l Z w a0 l4 _ h) 1 24 hob ⟨by decide, by decide +kernel⟩ (lw_V q1758 q1760 qs62 q71 q1761) ⟨rfl, by decide, by decide, by decide +kernel⟩ ⟨Nat.le_of_ble_eq_true rfl, Nat.le_of_ble_eq_true rfl⟩ rfl hl.1 rfl (wcat4 (Nat.le_of_ble_eq_true rfl)) dX4_turn_62 ⟨Nat.le_of_ble_eq_true rfl, Nat.le_of_ble_eq_true rfl⟩ (fun v_ w12 H locs hv hS => ?_)
  obtain ⟨rfl, h⟩ := hv
  refine lv_iload hx hb dX4_turn_65 (lv_at hl 0 rfl) ?_
  refine r_if_eq (tgt := 92) hx hb h dX4_turn_67 (by decide) (fun h => ?_) (fun h => ?_)
  · refine lv_iload_n hx hb dX4_turn_92 rfl (lv_at hl 4 rfl) ?_
    refine lv_istore_n (i := 3) (lv' := [(3, .int l3), (5, .int s0), (0, .ref a0), (1, .int l1), (2, .int l2), (4, .int l4)]) hx hb dX4_turn_93 rfl hl (by decide) rfl (fun ls hl => ?_)
    refine lv_iinc (i := 4) (v := (l4 + 1)) (lv' := [(4, .int (l4 + 1)), (3, .int l3), (5, .int s0), (0, .ref a0), (1, .int l1), (2, .int l2)]) hx hb dX4_turn_94 hl (k := 5) rfl rfl (by decide) rfl (fun ls hl => ?_)
    refine lv_goto (tgt := 27) hx hb dX4_turn_97 (by decide) ?_
    exact hL27 w12 a0 l1 l2 l3 (l4 + 1) _ _ _ h hS (lv_sub hl [3, 4, 5, 1, 0] rfl)
  · refine lv_iload_n hx hb dX4_turn_70 rfl (lv_at hl 4 rfl) ?_
    refine lv_iconst (v := -1) hx hb dX4_turn_71 (by decide) ?_
    refine r_icmp_eq (tgt := 87) hx hb h dX4_turn_72 (by decide) (fun h => ?_) (fun h => ?_)
    · refine lv_iload hx hb dX4_turn_87 (lv_at hl 5 rfl) ?_
      refine lv_goto (tgt := 93) hx hb dX4_turn_89 (by decide) ?_
      refine lv_istore_n (i := 3) (lv' := [(3, .int l4), (5, .int s0), (0, .ref a0), (1, .int l1), (2, .int l2), (4, .int l4)]) hx hb dX4_turn_93 rfl hl (by decide) rfl (fun ls hl => ?_)
      refine lv_iinc (i := 4) (v := (l4 + 1)) (lv' := [(4, .int (l4 + 1)), (3, .int l4), (5, .int s0), (0, .ref a0), (1, .int l1), (2, .int l2)]) hx hb dX4_turn_94 hl (k := 5) rfl rfl (by decide) rfl (fun ls hl => ?_)
      refine lv_goto (tgt := 27) hx hb dX4_turn_97 (by decide) ?_
      exact hL27 w12 a0 l1 l2 l4 (l4 + 1) _ _ _ h hS (lv_sub hl [3, 4, 5, 1, 0] rfl)
    · refine lv_iload hx hb dX4_turn_75 (lv_at hl 5 rfl) ?_
      refine r_S C hS (ct_X4_ones l Z w12 l4 _ h) 1 (lw_S q1766 q1767 q71 q1768) ⟨by decide, by decide, by decide +kernel⟩ ⟨Nat.le_of_ble_eq_true rfl, Nat.le_of_ble_eq_true rfl⟩ rfl hl.1 rfl (wcat4 (Nat.le_of_ble_eq_true rfl)) dX4_turn_77 ⟨Nat.le_of_ble_eq_true rfl, Nat.le_of_ble_eq_true rfl⟩ (fun v_ w14 H locs hv hS => ?_)
      obtain ⟨v13, rfl, h⟩ := hv
      refine lv_iload_n hx hb dX4_turn_80 rfl (lv_at hl 4 rfl) ?_
      refine r_S C hS (ct_X4_ones l Z w14 l3 _ h) 1 (lw_S q1766 q1767 q71 q1768) ⟨by decide, by decide, by decide +kernel⟩ ⟨Nat.le_of_ble_eq_true rfl, Nat.le_of_ble_eq_true rfl⟩ rfl hl.1 rfl (wcat4 (Nat.le_of_ble_eq_true rfl)) dX4_turn_81 ⟨Nat.le_of_ble_eq_true rfl, Nat.le_of_ble_eq_true rfl⟩ (fun v_ w16 H locs hv hS => ?_)
      obtain ⟨v15, rfl, h⟩ := hv
      refine r_icmp_ge (tgt := 92) hx hb h dX4_turn_84 (by decide) (fun h => ?_) (fun h => ?_)
      · refine lv_iload_n hx hb dX4_turn_92 rfl (lv_at hl 4 rfl) ?_
        refine lv_istore_n (i := 3) (lv' := [(3, .int l3), (5, .int s0), (0, .ref a0), (1, .int l1), (2, .int l2), (4, .int l4)]) hx hb dX4_turn_93 rfl hl (by decide) rfl (fun ls hl => ?_)
        refine lv_iinc (i := 4) (v := (l4 + 1)) (lv' := [(4, .int (l4 + 1)), (3, .int l3), (5, .int s0), (0, .ref a0), (1, .int l1), (2, .int l2)]) hx hb dX4_turn_94 hl (k := 5) rfl rfl (by decide) rfl (fun ls hl => ?_)
        refine lv_goto (tgt := 27) hx hb dX4_turn_97 (by decide) ?_
        exact hL27 w16 a0 l1 l2 l3 (l4 + 1) _ _ _ h hS (lv_sub hl [3, 4, 5, 1, 0] rfl)
      · refine lv_iload hx hb dX4_turn_87 (lv_at hl 5 rfl) ?_
        refine lv_goto (tgt := 93) hx hb dX4_turn_89 (by decide) ?_
        refine lv_istore_n (i := 3) (lv' := [(3, .int l4), (5, .int s0), (0, .ref a0), (1, .int l1), (2, .int l2), (4, .int l4)]) hx hb dX4_turn_93 rfl hl (by decide) rfl (fun ls hl => ?_)
        refine lv_iinc (i := 4) (v := (l4 + 1)) (lv' := [(4, .int (l4 + 1)), (3, .int l4), (5, .int s0), (0, .ref a0), (1, .int l1), (2, .int l2)]) hx hb dX4_turn_94 hl (k := 5) rfl rfl (by decide) rfl (fun ls hl => ?_)
        refine lv_goto (tgt := 27) hx hb dX4_turn_97 (by decide) ?_
        exact hL27 w16 a0 l1 l2 l4 (l4 + 1) _ _ _ h hS (lv_sub hl [3, 4, 5, 1, 0] rfl)
set_option maxHeartbeats 4000000 in
theorem kb_X4_turn_27 (C : wC p l s m args meth c cX4_turn 6 (some .int) RX4 "turn" Z A) (k : Int32 → Wd → Prop) (L27 : Wd → Nat → Int32 → Int32 → Int32 → Int32 → Prop) (hL27 : ∀ (w : Wd) (x0 : Nat) (x1 : Int32) (x2 : Int32) (x3 : Int32) (x4 : Int32) (H : Heap) (locs : List Loc) (ls : Array Slot), L27 w x0 x1 x2 x3 x4 → wS Z A s w H locs → lv_has ls 6 [(0, .ref x0), (1, .int x1), (2, .int x2), (3, .int x3), (4, .int x4)] → W p l e ({ frames := 3, cells := 0, slots := 0, locals := 65 } : Room) s m args below meth c H locs 0 0 (MQ below (wQc Z A (pI k)) args s 0 0 A) (F0 m 27 ls [])) : ∀ (w : Wd) (a0 : Nat) (l1 : Int32) (l2 : Int32) (l3 : Int32) (l4 : Int32) (H : Heap) (locs : List Loc) (ls : Array Slot), wb_X4_turn_27 k L27 w a0 l1 l2 l3 l4 → wS Z A s w H locs → lv_has ls 6 [(0, .ref a0), (1, .int l1), (2, .int l2), (3, .int l3), (4, .int l4)] → W p l e ({ frames := 3, cells := 0, slots := 0, locals := 65 } : Room) s m args below meth c H locs 0 0 (MQ below (wQc Z A (pI k)) args s 0 0 A) (F0 m 27 ls []) := by
  intro w a0 l1 l2 l3 l4 H locs ls h hS hl
  have hx := C.hx
  have hb := C.hb
  unfold wb_X4_turn_27 at h
  refine lv_iload hx hb dX4_turn_27 (lv_at hl 4 rfl) ?_
  refine lv_iconst (v := 1) hx hb dX4_turn_29 (by decide) ?_
  refine lv_aload_n hx hb dX4_turn_30 rfl (lv_at hl 0 rfl) ?_
  obtain ⟨hob, h⟩ := h
  refine r_V C hS (ct_X4_many l Z w a0 _ h) 0 24 hob ⟨by decide, by decide +kernel⟩ (lw_V q1458 q1460 qs31 q71 q1461) ⟨rfl, by decide, by decide, by decide +kernel⟩ ⟨Nat.le_of_ble_eq_true rfl, Nat.le_of_ble_eq_true rfl⟩ rfl hl.1 rfl (wcat4 (Nat.le_of_ble_eq_true rfl)) dX4_turn_31 ⟨Nat.le_of_ble_eq_true rfl, Nat.le_of_ble_eq_true rfl⟩ (fun v_ w6 H locs hv hS => ?_)
  obtain ⟨v5, rfl, h⟩ := hv
  refine lv_ishl hx hb dX4_turn_34 ?_
  refine r_icmp_ge (tgt := 100) hx hb h dX4_turn_35 (by decide) (fun h => ?_) (fun h => ?_)
  · refine lv_iload_n hx hb dX4_turn_100 rfl (lv_at hl 3 rfl) ?_
    refine lv_iconst (v := -1) hx hb dX4_turn_101 (by decide) ?_
    refine r_icmp_ne (tgt := 109) hx hb h dX4_turn_102 (by decide) (fun h => ?_) (fun h => ?_)
    · refine lv_iload_n hx hb dX4_turn_109 rfl (lv_at hl 1 rfl) ?_
      refine r_if_ne (tgt := 120) hx hb h dX4_turn_110 (by decide) (fun h => ?_) (fun h => ?_)
      · refine lv_iload_n hx hb dX4_turn_120 rfl (lv_at hl 3 rfl) ?_
        exact r_iret C hS h rfl rfl (Nat.le_of_ble_eq_true rfl) (Nat.le_of_ble_eq_true rfl) dX4_turn_121
      · refine lv_iload_n hx hb dX4_turn_113 rfl (lv_at hl 3 rfl) ?_
        refine r_S C hS (ct_X4_ones l Z w6 l3 _ h) 1 (lw_S q1766 q1767 q71 q1768) ⟨by decide, by decide, by decide +kernel⟩ ⟨Nat.le_of_ble_eq_true rfl, Nat.le_of_ble_eq_true rfl⟩ rfl hl.1 rfl (wcat4 (Nat.le_of_ble_eq_true rfl)) dX4_turn_114 ⟨Nat.le_of_ble_eq_true rfl, Nat.le_of_ble_eq_true rfl⟩ (fun v_ w8 H locs hv hS => ?_)
        obtain ⟨v7, rfl, h⟩ := hv
        refine lv_goto (tgt := 121) hx hb dX4_turn_117 (by decide) ?_
        exact r_iret C hS h rfl rfl (Nat.le_of_ble_eq_true rfl) (Nat.le_of_ble_eq_true rfl) dX4_turn_121
    · refine lv_iconst (v := -1) hx hb dX4_turn_105 (by decide) ?_
      refine lv_goto (tgt := 121) hx hb dX4_turn_106 (by decide) ?_
      exact r_iret C hS h rfl rfl (Nat.le_of_ble_eq_true rfl) (Nat.le_of_ble_eq_true rfl) dX4_turn_121
  · refine lv_aload_n hx hb dX4_turn_38 rfl (lv_at hl 0 rfl) ?_
    refine lv_iload hx hb dX4_turn_39 (lv_at hl 4 rfl) ?_
    obtain ⟨hob, h⟩ := h
    refine r_V C hS (ct_X4_change l Z w6 a0 l4 _ h) 1 24 hob ⟨by decide, by decide +kernel⟩ (lw_V q1758 q1760 qs62 q71 q1761) ⟨rfl, by decide, by decide, by decide +kernel⟩ ⟨Nat.le_of_ble_eq_true rfl, Nat.le_of_ble_eq_true rfl⟩ rfl hl.1 rfl (wcat4 (Nat.le_of_ble_eq_true rfl)) dX4_turn_41 ⟨Nat.le_of_ble_eq_true rfl, Nat.le_of_ble_eq_true rfl⟩ (fun v_ w9 H locs hv hS => ?_)
    obtain ⟨rfl, h⟩ := hv
    refine lv_aload_n hx hb dX4_turn_44 rfl (lv_at hl 0 rfl) ?_
    obtain ⟨hob, h⟩ := h
    refine r_V C hS (ct_X4_carries l Z w9 a0 _ h) 0 24 hob ⟨by decide, by decide +kernel⟩ (lw_V q1757 q1738 q1739 q71 q1740) ⟨rfl, by decide, by decide, by decide +kernel⟩ ⟨Nat.le_of_ble_eq_true rfl, Nat.le_of_ble_eq_true rfl⟩ rfl hl.1 rfl (wcat4 (Nat.le_of_ble_eq_true rfl)) dX4_turn_45 ⟨Nat.le_of_ble_eq_true rfl, Nat.le_of_ble_eq_true rfl⟩ (fun v_ w11 H locs hv hS => ?_)
    obtain ⟨v10, rfl, h⟩ := hv
    refine lv_iload_n hx hb dX4_turn_48 rfl (lv_at hl 2 rfl) ?_
    refine r_icmp_eq (tgt := 56) hx hb h dX4_turn_49 (by decide) (fun h => ?_) (fun h => ?_)
    · refine lv_iconst (v := 0) hx hb dX4_turn_56 (by decide) ?_
      exact kb_X4_turn_57 C k L27 hL27 w11 a0 l1 l2 l3 l4 0 _ _ _ h hS (lv_sub hl [0, 1, 2, 3, 4] rfl)
    · refine lv_iconst (v := 1) hx hb dX4_turn_52 (by decide) ?_
      refine lv_goto (tgt := 57) hx hb dX4_turn_53 (by decide) ?_
      exact kb_X4_turn_57 C k L27 hL27 w11 a0 l1 l2 l3 l4 1 _ _ _ h hS (lv_sub hl [0, 1, 2, 3, 4] rfl)
set_option maxHeartbeats 4000000 in
theorem kl_X4_turn_27 (C : wC p l s m args meth c cX4_turn 6 (some .int) RX4 "turn" Z A) (k : Int32 → Wd → Prop) : ∀ (n : Nat), ∀ (w : Wd) (a0 : Nat) (l1 : Int32) (l2 : Int32) (l3 : Int32) (l4 : Int32) (H : Heap) (locs : List Loc) (ls : Array Slot), wl_X4_turn_27 k n w a0 l1 l2 l3 l4 → wS Z A s w H locs → lv_has ls 6 [(0, .ref a0), (1, .int l1), (2, .int l2), (3, .int l3), (4, .int l4)] → W p l e ({ frames := 3, cells := 0, slots := 0, locals := 65 } : Room) s m args below meth c H locs 0 0 (MQ below (wQc Z A (pI k)) args s 0 0 A) (F0 m 27 ls []) := by
  intro n
  induction n with
  | zero =>
    intro w a0 l1 l2 l3 l4 H locs ls h
    exact h.elim
  | succ n ih =>
    intro w a0 l1 l2 l3 l4 H locs ls h hS hl
    exact kb_X4_turn_27 C k (wl_X4_turn_27 k n) ih w a0 l1 l2 l3 l4 H locs ls h hS hl
set_option maxHeartbeats 4000000 in
theorem ct_X4_turn (l : Launch) (Z : wZ) (w : Wd) (a0 : Nat) (a1 : Int32) (k : Int32 → Wd → Prop) (h : wp_X4_turn w a0 a1 k) : wMet l Z yX4_turn cX4_turn 6 (some .int) 3 65 0 0 [.ref a0, .int a1] w (pI k) := by
  refine wM_of (by decide +kernel) (Nat.le_of_ble_eq_true rfl) ?_
  intro p e s m below meth c ls C hS hl
  replace C : wC p l s m _ meth c cX4_turn 6 (some .int) RX4 "turn" Z _ := C
  have hl : lv_has ls 6 [(0, .ref a0), (1, .int a1)] := hl
  have hx := C.hx
  have hb := C.hb
  unfold wp_X4_turn at h
  generalize wA w = A at C hS ⊢
  refine lv_iload_n hx hb dX4_turn_0 rfl (lv_at hl 1 rfl) ?_
  refine lv_i2l hx hb dX4_turn_1 rfl ?_
  refine lv_lconst (v := 0) hx hb dX4_turn_2 (by decide) ?_
  refine lv_lconst (v := 1) hx hb dX4_turn_3 (by decide) ?_
  refine r_S C hS (ct_X4_isIn l Z w (a1.toInt64) 0 1 _ h) 3 (lw_S q1439 q1440 q71 q1441) ⟨by decide, by decide, by decide +kernel⟩ ⟨Nat.le_of_ble_eq_true rfl, Nat.le_of_ble_eq_true rfl⟩ rfl hl.1 rfl (wcat4 (Nat.le_of_ble_eq_true rfl)) dX4_turn_4 ⟨Nat.le_of_ble_eq_true rfl, Nat.le_of_ble_eq_true rfl⟩ (fun v_ w2 H locs hv hS => ?_)
  obtain ⟨v1, rfl, h⟩ := hv
  refine r_if_ne (tgt := 17) hx hb h dX4_turn_7 (by decide) (fun h => ?_) (fun h => ?_)
  · refine lv_aload_n hx hb dX4_turn_17 rfl (lv_at hl 0 rfl) ?_
    obtain ⟨hob, h⟩ := h
    refine r_V C hS (ct_X4_carries l Z w2 a0 _ h) 0 24 hob ⟨by decide, by decide +kernel⟩ (lw_V q1757 q1738 q1739 q71 q1740) ⟨rfl, by decide, by decide, by decide +kernel⟩ ⟨Nat.le_of_ble_eq_true rfl, Nat.le_of_ble_eq_true rfl⟩ rfl hl.1 rfl (wcat4 (Nat.le_of_ble_eq_true rfl)) dX4_turn_18 ⟨Nat.le_of_ble_eq_true rfl, Nat.le_of_ble_eq_true rfl⟩ (fun v_ w4 H locs hv hS => ?_)
    obtain ⟨v3, rfl, h⟩ := hv
    refine lv_istore_n (i := 2) (lv' := [(2, .int v3), (0, .ref a0), (1, .int a1)]) hx hb dX4_turn_21 rfl hl (by decide) rfl (fun ls hl => ?_)
    refine lv_iconst (v := -1) hx hb dX4_turn_22 (by decide) ?_
    refine lv_istore_n (i := 3) (lv' := [(3, .int (-1)), (2, .int v3), (0, .ref a0), (1, .int a1)]) hx hb dX4_turn_23 rfl hl (by decide) rfl (fun ls hl => ?_)
    refine lv_iconst (v := 1) hx hb dX4_turn_24 (by decide) ?_
    refine lv_istore (i := 4) (lv' := [(4, .int 1), (3, .int (-1)), (2, .int v3), (0, .ref a0), (1, .int a1)]) hx hb dX4_turn_25 hl (by decide) rfl (fun ls hl => ?_)
    exact kl_X4_turn_27 C k FU w4 a0 a1 v3 (-1) 1 _ _ _ h hS (lv_sub hl [3, 4, 2, 1, 0] rfl)
  · refine lv_aload_n hx hb dX4_turn_10 rfl (lv_at hl 0 rfl) ?_
    refine lv_bipush (v := -2) hx hb dX4_turn_11 (by decide) ?_
    obtain ⟨hob, h⟩ := h
    refine r_V C hS (ct_X4_refuse l Z w2 a0 (-2) _ h) 1 24 hob ⟨by decide, by decide +kernel⟩ (lw_V q1442 q1444 qs28 q71 q1445) ⟨rfl, by decide, by decide, by decide +kernel⟩ ⟨Nat.le_of_ble_eq_true rfl, Nat.le_of_ble_eq_true rfl⟩ rfl hl.1 rfl (wcat4 (Nat.le_of_ble_eq_true rfl)) dX4_turn_13 ⟨Nat.le_of_ble_eq_true rfl, Nat.le_of_ble_eq_true rfl⟩ (fun v_ w18 H locs hv hS => ?_)
    obtain ⟨v17, rfl, h⟩ := hv
    exact r_iret C hS h rfl rfl (Nat.le_of_ble_eq_true rfl) (Nat.le_of_ble_eq_true rfl) dX4_turn_16
end VX4_turn
/-! LeftIsAgreedOnModel.agreed()I -/
section VX4_agreed
variable {p : Program} {l : Launch} {e : Env} {s : State} {m : MethodId} {args : Array Value} {below : List Frame} {meth : Method} {c : Code} {Z : wZ} {A : Nat → Prop}
set_option maxHeartbeats 4000000 in
theorem kb_X4_agreed_4 (C : wC p l s m args meth c cX4_agreed 3 (some .int) RX4 "agreed" Z A) (k : Int32 → Wd → Prop) (L4 : Wd → Nat → Int32 → Int32 → Prop) (hL4 : ∀ (w : Wd) (x0 : Nat) (x1 : Int32) (x2 : Int32) (H : Heap) (locs : List Loc) (ls : Array Slot), L4 w x0 x1 x2 → wS Z A s w H locs → lv_has ls 3 [(0, .ref x0), (1, .int x1), (2, .int x2)] → W p l e ({ frames := 4, cells := 0, slots := 0, locals := 97 } : Room) s m args below meth c H locs 0 0 (MQ below (wQc Z A (pI k)) args s 0 0 A) (F0 m 4 ls [])) : ∀ (w : Wd) (a0 : Nat) (l1 : Int32) (l2 : Int32) (H : Heap) (locs : List Loc) (ls : Array Slot), wb_X4_agreed_4 k L4 w a0 l1 l2 → wS Z A s w H locs → lv_has ls 3 [(0, .ref a0), (1, .int l1), (2, .int l2)] → W p l e ({ frames := 4, cells := 0, slots := 0, locals := 97 } : Room) s m args below meth c H locs 0 0 (MQ below (wQc Z A (pI k)) args s 0 0 A) (F0 m 4 ls []) := by
  intro w a0 l1 l2 H locs ls h hS hl
  have hx := C.hx
  have hb := C.hb
  unfold wb_X4_agreed_4 at h
  refine lv_iload_n hx hb dX4_agreed_4 rfl (lv_at hl 2 rfl) ?_
  refine lv_aload_n hx hb dX4_agreed_5 rfl (lv_at hl 0 rfl) ?_
  obtain ⟨hob, h⟩ := h
  refine r_V C hS (ct_X4_many l Z w a0 _ h) 0 24 hob ⟨by decide, by decide +kernel⟩ (lw_V q1458 q1460 qs31 q71 q1461) ⟨rfl, by decide, by decide, by decide +kernel⟩ ⟨Nat.le_of_ble_eq_true rfl, Nat.le_of_ble_eq_true rfl⟩ rfl hl.1 rfl (wcat4 (Nat.le_of_ble_eq_true rfl)) dX4_agreed_6 ⟨Nat.le_of_ble_eq_true rfl, Nat.le_of_ble_eq_true rfl⟩ (fun v_ w2 H locs hv hS => ?_)
  obtain ⟨v1, rfl, h⟩ := hv
  refine r_icmp_ge (tgt := 60) hx hb h dX4_agreed_9 (by decide) (fun h => ?_) (fun h => ?_)
  · refine lv_iload_n hx hb dX4_agreed_60 rfl (lv_at hl 1 rfl) ?_
    exact r_iret C hS h rfl rfl (Nat.le_of_ble_eq_true rfl) (Nat.le_of_ble_eq_true rfl) dX4_agreed_61
  · refine lv_aload_n hx hb dX4_agreed_12 rfl (lv_at hl 0 rfl) ?_
    refine lv_iconst (v := 0) hx hb dX4_agreed_13 (by decide) ?_
    refine lv_aload_n hx hb dX4_agreed_14 rfl (lv_at hl 0 rfl) ?_
    refine lv_iload_n hx hb dX4_agreed_15 rfl (lv_at hl 2 rfl) ?_
    obtain ⟨hob, h⟩ := h
    refine r_V C hS (ct_X4_cell l Z w2 a0 l2 _ h) 1 24 hob ⟨by decide, by decide +kernel⟩ (lw_V q1462 q1464 qs32 q71 q1465) ⟨rfl, by decide, by decide, by decide +kernel⟩ ⟨Nat.le_of_ble_eq_true rfl, Nat.le_of_ble_eq_true rfl⟩ rfl hl.1 rfl (wcat4 (Nat.le_of_ble_eq_true rfl)) dX4_agreed_16 ⟨Nat.le_of_ble_eq_true rfl, Nat.le_of_ble_eq_true rfl⟩ (fun v_ w4 H locs hv hS => ?_)
    obtain ⟨v3, rfl, h⟩ := hv
    refine lv_aload_n hx hb dX4_agreed_19 rfl (lv_at hl 0 rfl) ?_
    refine lv_iload_n hx hb dX4_agreed_20 rfl (lv_at hl 2 rfl) ?_
    obtain ⟨hob, h⟩ := h
    refine r_V C hS (ct_X4_faces l Z w4 a0 l2 _ h) 1 24 hob ⟨by decide, by decide +kernel⟩ (lw_V q1603 q1605 qs47 q71 q1606) ⟨rfl, by decide, by decide, by decide +kernel⟩ ⟨Nat.le_of_ble_eq_true rfl, Nat.le_of_ble_eq_true rfl⟩ rfl hl.1 rfl (wcat4 (Nat.le_of_ble_eq_true rfl)) dX4_agreed_21 ⟨Nat.le_of_ble_eq_true rfl, Nat.le_of_ble_eq_true rfl⟩ (fun v_ w6 H locs hv hS => ?_)
    obtain ⟨v5, rfl, h⟩ := hv
    obtain ⟨hob, h⟩ := h
    refine r_V C hS (ct_X4_start l Z w6 a0 0 v3 v5 _ h) 3 24 hob ⟨by decide, by decide +kernel⟩ (lw_V q1607 q1609 qs48 q71 q1610) ⟨rfl, by decide, by decide, by decide +kernel⟩ ⟨Nat.le_of_ble_eq_true rfl, Nat.le_of_ble_eq_true rfl⟩ rfl hl.1 rfl (wcat4 (Nat.le_of_ble_eq_true rfl)) dX4_agreed_24 ⟨Nat.le_of_ble_eq_true rfl, Nat.le_of_ble_eq_true rfl⟩ (fun v_ w7 H locs hv hS => ?_)
    obtain ⟨rfl, h⟩ := hv
    refine lv_iload_n hx hb dX4_agreed_27 rfl (lv_at hl 1 rfl) ?_
    refine lv_aload_n hx hb dX4_agreed_28 rfl (lv_at hl 0 rfl) ?_
    refine lv_iconst (v := 0) hx hb dX4_agreed_29 (by decide) ?_
    refine lv_iload_n hx hb dX4_agreed_30 rfl (lv_at hl 2 rfl) ?_
    refine lv_iconst (v := 1) hx hb dX4_agreed_31 (by decide) ?_
    obtain ⟨hob, h⟩ := h
    refine r_V C hS (ct_X4_goesBy l Z w7 a0 0 l2 1 _ h) 3 24 hob ⟨by decide, by decide +kernel⟩ (lw_V q1619 q1621 qs51 q71 q1622) ⟨rfl, by decide, by decide, by decide +kernel⟩ ⟨Nat.le_of_ble_eq_true rfl, Nat.le_of_ble_eq_true rfl⟩ rfl hl.1 rfl (wcat4 (Nat.le_of_ble_eq_true rfl)) dX4_agreed_32 ⟨Nat.le_of_ble_eq_true rfl, Nat.le_of_ble_eq_true rfl⟩ (fun v_ w9 H locs hv hS => ?_)
    obtain ⟨v8, rfl, h⟩ := hv
    refine lv_aload_n hx hb dX4_agreed_35 rfl (lv_at hl 0 rfl) ?_
    refine r_getG C hS h gk_56 q1355 dX4_agreed_36 (fun v10 h => ?_)
    refine lv_bipush (v := 91) hx hb dX4_agreed_39 (by decide) ?_
    refine r_iald C hS h dX4_agreed_41 (fun v11 h => ?_)
    refine r_icmp_ne (tgt := 51) hx hb h dX4_agreed_42 (by decide) (fun h => ?_) (fun h => ?_)
    · refine lv_iconst (v := 0) hx hb dX4_agreed_51 (by decide) ?_
      refine lv_ior hx hb dX4_agreed_52 ?_
      refine lv_istore_n (i := 1) (lv' := [(1, .int (l1 ||| 0)), (0, .ref a0), (2, .int l2)]) hx hb dX4_agreed_53 rfl hl (by decide) rfl (fun ls hl => ?_)
      refine lv_iinc (i := 2) (v := (l2 + 1)) (lv' := [(2, .int (l2 + 1)), (1, .int (l1 ||| 0)), (0, .ref a0)]) hx hb dX4_agreed_54 hl (k := 2) rfl rfl (by decide) rfl (fun ls hl => ?_)
      refine lv_goto (tgt := 4) hx hb dX4_agreed_57 (by decide) ?_
      exact hL4 w9 a0 (l1 ||| 0) (l2 + 1) _ _ _ h hS (lv_sub hl [2, 1, 0] rfl)
    · refine lv_iconst (v := 1) hx hb dX4_agreed_45 (by decide) ?_
      refine lv_iload_n hx hb dX4_agreed_46 rfl (lv_at hl 2 rfl) ?_
      refine lv_ishl hx hb dX4_agreed_47 ?_
      refine lv_goto (tgt := 52) hx hb dX4_agreed_48 (by decide) ?_
      refine lv_ior hx hb dX4_agreed_52 ?_
      refine lv_istore_n (i := 1) (lv' := [(1, .int (l1 ||| (1 <<< (l2 &&& 31)))), (0, .ref a0), (2, .int l2)]) hx hb dX4_agreed_53 rfl hl (by decide) rfl (fun ls hl => ?_)
      refine lv_iinc (i := 2) (v := (l2 + 1)) (lv' := [(2, .int (l2 + 1)), (1, .int (l1 ||| (1 <<< (l2 &&& 31)))), (0, .ref a0)]) hx hb dX4_agreed_54 hl (k := 2) rfl rfl (by decide) rfl (fun ls hl => ?_)
      refine lv_goto (tgt := 4) hx hb dX4_agreed_57 (by decide) ?_
      exact hL4 w9 a0 (l1 ||| (1 <<< (l2 &&& 31))) (l2 + 1) _ _ _ h hS (lv_sub hl [2, 1, 0] rfl)
set_option maxHeartbeats 4000000 in
theorem kl_X4_agreed_4 (C : wC p l s m args meth c cX4_agreed 3 (some .int) RX4 "agreed" Z A) (k : Int32 → Wd → Prop) : ∀ (n : Nat), ∀ (w : Wd) (a0 : Nat) (l1 : Int32) (l2 : Int32) (H : Heap) (locs : List Loc) (ls : Array Slot), wl_X4_agreed_4 k n w a0 l1 l2 → wS Z A s w H locs → lv_has ls 3 [(0, .ref a0), (1, .int l1), (2, .int l2)] → W p l e ({ frames := 4, cells := 0, slots := 0, locals := 97 } : Room) s m args below meth c H locs 0 0 (MQ below (wQc Z A (pI k)) args s 0 0 A) (F0 m 4 ls []) := by
  intro n
  induction n with
  | zero =>
    intro w a0 l1 l2 H locs ls h
    exact h.elim
  | succ n ih =>
    intro w a0 l1 l2 H locs ls h hS hl
    exact kb_X4_agreed_4 C k (wl_X4_agreed_4 k n) ih w a0 l1 l2 H locs ls h hS hl
set_option maxHeartbeats 4000000 in
theorem ct_X4_agreed (l : Launch) (Z : wZ) (w : Wd) (a0 : Nat) (k : Int32 → Wd → Prop) (h : wp_X4_agreed w a0 k) : wMet l Z yX4_agreed cX4_agreed 3 (some .int) 4 97 0 0 [.ref a0] w (pI k) := by
  refine wM_of (by decide +kernel) (Nat.le_of_ble_eq_true rfl) ?_
  intro p e s m below meth c ls C hS hl
  replace C : wC p l s m _ meth c cX4_agreed 3 (some .int) RX4 "agreed" Z _ := C
  have hl : lv_has ls 3 [(0, .ref a0)] := hl
  have hx := C.hx
  have hb := C.hb
  unfold wp_X4_agreed at h
  generalize wA w = A at C hS ⊢
  refine lv_iconst (v := 0) hx hb dX4_agreed_0 (by decide) ?_
  refine lv_istore_n (i := 1) (lv' := [(1, .int 0), (0, .ref a0)]) hx hb dX4_agreed_1 rfl hl (by decide) rfl (fun ls hl => ?_)
  refine lv_iconst (v := 0) hx hb dX4_agreed_2 (by decide) ?_
  refine lv_istore_n (i := 2) (lv' := [(2, .int 0), (1, .int 0), (0, .ref a0)]) hx hb dX4_agreed_3 rfl hl (by decide) rfl (fun ls hl => ?_)
  exact kl_X4_agreed_4 C k FU w a0 0 0 _ _ _ h hS (lv_sub hl [2, 1, 0] rfl)
end VX4_agreed
/-! LeftIsAgreedOnModel.loadBoth(IIIIII)I -/
section VX4_loadBoth
variable {p : Program} {l : Launch} {e : Env} {s : State} {m : MethodId} {args : Array Value} {below : List Frame} {meth : Method} {c : Code} {Z : wZ} {A : Nat → Prop}
set_option maxHeartbeats 4000000 in
theorem kb_X4_loadBoth_184 (C : wC p l s m args meth c cX4_loadBoth 9 (some .int) RX4 "loadBoth" Z A) (k : Int32 → Wd → Prop) : ∀ (w : Wd) (a0 : Nat) (l4 : Int32) (l5 : Int32) (l7 : Int32) (H : Heap) (locs : List Loc) (ls : Array Slot), wb_X4_loadBoth_184 k w a0 l4 l5 l7 → wS Z A s w H locs → lv_has ls 9 [(0, .ref a0), (4, .int l4), (5, .int l5), (7, .int l7)] → W p l e ({ frames := 2, cells := 0, slots := 0, locals := 48 } : Room) s m args below meth c H locs 0 0 (MQ below (wQc Z A (pI k)) args s 0 0 A) (F0 m 184 ls []) := by
  intro w a0 l4 l5 l7 H locs ls h hS hl
  have hx := C.hx
  have hb := C.hb
  unfold wb_X4_loadBoth_184 at h
  refine lv_iload hx hb dX4_loadBoth_184 (lv_at hl 3 rfl) ?_
  refine lv_iconst (v := 1) hx hb dX4_loadBoth_186 (by decide) ?_
  refine r_icmp_ne (tgt := 201) hx hb h dX4_loadBoth_187 (by decide) (fun h => ?_) (fun h => ?_)
  · refine lv_iload hx hb dX4_loadBoth_201 (lv_at hl 3 rfl) ?_
    exact r_iret C hS h rfl rfl (Nat.le_of_ble_eq_true rfl) (Nat.le_of_ble_eq_true rfl) dX4_loadBoth_203
  · refine lv_aload_n hx hb dX4_loadBoth_190 rfl (lv_at hl 0 rfl) ?_
    refine lv_iload hx hb dX4_loadBoth_191 (lv_at hl 1 rfl) ?_
    refine lv_iload hx hb dX4_loadBoth_193 (lv_at hl 2 rfl) ?_
    obtain ⟨hob, h⟩ := h
    refine r_V C hS (ct_X4_load l Z w a0 l4 l5 _ h) 2 24 hob ⟨by decide, by decide +kernel⟩ (lw_V q1635 q1637 qs54 q71 q1638) ⟨rfl, by decide, by decide, by decide +kernel⟩ ⟨Nat.le_of_ble_eq_true rfl, Nat.le_of_ble_eq_true rfl⟩ rfl hl.1 rfl (wcat4 (Nat.le_of_ble_eq_true rfl)) dX4_loadBoth_195 ⟨Nat.le_of_ble_eq_true rfl, Nat.le_of_ble_eq_true rfl⟩ (fun v_ w28 H locs hv hS => ?_)
    obtain ⟨v27, rfl, h⟩ := hv
    refine lv_goto (tgt := 203) hx hb dX4_loadBoth_198 (by decide) ?_
    exact r_iret C hS h rfl rfl (Nat.le_of_ble_eq_true rfl) (Nat.le_of_ble_eq_true rfl) dX4_loadBoth_203
set_option maxHeartbeats 4000000 in
theorem kb_X4_loadBoth_152 (C : wC p l s m args meth c cX4_loadBoth 9 (some .int) RX4 "loadBoth" Z A) (k : Int32 → Wd → Prop) (L152 : Wd → Nat → Int32 → Int32 → Int32 → Int32 → Int32 → Prop) (hL152 : ∀ (w : Wd) (x0 : Nat) (x2 : Int32) (x4 : Int32) (x5 : Int32) (x7 : Int32) (x8 : Int32) (H : Heap) (locs : List Loc) (ls : Array Slot), L152 w x0 x2 x4 x5 x7 x8 → wS Z A s w H locs → lv_has ls 9 [(0, .ref x0), (2, .int x2), (4, .int x4), (5, .int x5), (7, .int x7), (8, .int x8)] → W p l e ({ frames := 2, cells := 0, slots := 0, locals := 48 } : Room) s m args below meth c H locs 0 0 (MQ below (wQc Z A (pI k)) args s 0 0 A) (F0 m 152 ls [])) : ∀ (w : Wd) (a0 : Nat) (l2 : Int32) (l4 : Int32) (l5 : Int32) (l7 : Int32) (l8 : Int32) (H : Heap) (locs : List Loc) (ls : Array Slot), wb_X4_loadBoth_152 k L152 w a0 l2 l4 l5 l7 l8 → wS Z A s w H locs → lv_has ls 9 [(0, .ref a0), (2, .int l2), (4, .int l4), (5, .int l5), (7, .int l7), (8, .int l8)] → W p l e ({ frames := 2, cells := 0, slots := 0, locals := 48 } : Room) s m args below meth c H locs 0 0 (MQ below (wQc Z A (pI k)) args s 0 0 A) (F0 m 152 ls []) := by
  intro w a0 l2 l4 l5 l7 l8 H locs ls h hS hl
  have hx := C.hx
  have hb := C.hb
  unfold wb_X4_loadBoth_152 at h
  refine lv_iload hx hb dX4_loadBoth_152 (lv_at hl 5 rfl) ?_
  refine lv_iload_n hx hb dX4_loadBoth_154 rfl (lv_at hl 1 rfl) ?_
  refine r_icmp_ge (tgt := 184) hx hb h dX4_loadBoth_155 (by decide) (fun h => ?_) (fun h => ?_)
  · exact kb_X4_loadBoth_184 C k w a0 l4 l5 l7 _ _ _ h hS (lv_sub hl [0, 2, 3, 4] rfl)
  · refine lv_iload hx hb dX4_loadBoth_158 (lv_at hl 4 rfl) ?_
    refine lv_iconst (v := 1) hx hb dX4_loadBoth_160 (by decide) ?_
    refine r_icmp_ne (tgt := 184) hx hb h dX4_loadBoth_161 (by decide) (fun h => ?_) (fun h => ?_)
    · exact kb_X4_loadBoth_184 C k w a0 l4 l5 l7 _ _ _ h hS (lv_sub hl [0, 2, 3, 4] rfl)
    · refine lv_aload_n hx hb dX4_loadBoth_164 rfl (lv_at hl 0 rfl) ?_
      refine r_getG C hS h gk_74 q1379 dX4_loadBoth_165 (fun v29 h => ?_)
      refine lv_iload hx hb dX4_loadBoth_168 (lv_at hl 5 rfl) ?_
      refine lv_aload_n hx hb dX4_loadBoth_170 rfl (lv_at hl 0 rfl) ?_
      refine r_getG C hS h gk_67 q1372 dX4_loadBoth_171 (fun v30 h => ?_)
      refine lv_iload hx hb dX4_loadBoth_174 (lv_at hl 5 rfl) ?_
      refine r_iald C hS h dX4_loadBoth_176 (fun v31 h => ?_)
      refine r_iast C hS h dX4_loadBoth_177 (fun w32 H locs h hS => ?_)
      refine lv_iinc (i := 8) (v := (l8 + 1)) (lv' := [(8, .int (l8 + 1)), (0, .ref a0), (2, .int l2), (4, .int l4), (5, .int l5), (7, .int l7)]) hx hb dX4_loadBoth_178 hl (k := 5) rfl rfl (by decide) rfl (fun ls hl => ?_)
      refine lv_goto (tgt := 152) hx hb dX4_loadBoth_181 (by decide) ?_
      exact hL152 w32 a0 l2 l4 l5 l7 (l8 + 1) _ _ _ h hS (lv_sub hl [1, 2, 3, 4, 5, 0] rfl)
set_option maxHeartbeats 4000000 in
theorem kl_X4_loadBoth_152 (C : wC p l s m args meth c cX4_loadBoth 9 (some .int) RX4 "loadBoth" Z A) (k : Int32 → Wd → Prop) : ∀ (n : Nat), ∀ (w : Wd) (a0 : Nat) (l2 : Int32) (l4 : Int32) (l5 : Int32) (l7 : Int32) (l8 : Int32) (H : Heap) (locs : List Loc) (ls : Array Slot), wl_X4_loadBoth_152 k n w a0 l2 l4 l5 l7 l8 → wS Z A s w H locs → lv_has ls 9 [(0, .ref a0), (2, .int l2), (4, .int l4), (5, .int l5), (7, .int l7), (8, .int l8)] → W p l e ({ frames := 2, cells := 0, slots := 0, locals := 48 } : Room) s m args below meth c H locs 0 0 (MQ below (wQc Z A (pI k)) args s 0 0 A) (F0 m 152 ls []) := by
  intro n
  induction n with
  | zero =>
    intro w a0 l2 l4 l5 l7 l8 H locs ls h
    exact h.elim
  | succ n ih =>
    intro w a0 l2 l4 l5 l7 l8 H locs ls h hS hl
    exact kb_X4_loadBoth_152 C k (wl_X4_loadBoth_152 k n) ih w a0 l2 l4 l5 l7 l8 H locs ls h hS hl
set_option maxHeartbeats 4000000 in
theorem ct_X4_loadBoth (l : Launch) (Z : wZ) (w : Wd) (a0 : Nat) (a1 : Int32) (a2 : Int32) (a3 : Int32) (a4 : Int32) (a5 : Int32) (a6 : Int32) (k : Int32 → Wd → Prop) (h : wp_X4_loadBoth w a0 a1 a2 a3 a4 a5 a6 k) : wMet l Z yX4_loadBoth cX4_loadBoth 9 (some .int) 2 48 0 0 [.ref a0, .int a1, .int a2, .int a3, .int a4, .int a5, .int a6] w (pI k) := by
  refine wM_of (by decide +kernel) (Nat.le_of_ble_eq_true rfl) ?_
  intro p e s m below meth c ls C hS hl
  replace C : wC p l s m _ meth c cX4_loadBoth 9 (some .int) RX4 "loadBoth" Z _ := C
  have hl : lv_has ls 9 [(0, .ref a0), (1, .int a1), (2, .int a2), (3, .int a3), (4, .int a4), (5, .int a5), (6, .int a6)] := hl
  have hx := C.hx
  have hb := C.hb
  unfold wp_X4_loadBoth at h
  generalize wA w = A at C hS ⊢
  refine lv_iload_n hx hb dX4_loadBoth_0 rfl (lv_at hl 1 rfl) ?_
  refine r_S C hS (ct_X4_isShelf l Z w a1 _ h) 1 (lw_S q1562 q1563 q71 q1564) ⟨by decide, by decide, by decide +kernel⟩ ⟨Nat.le_of_ble_eq_true rfl, Nat.le_of_ble_eq_true rfl⟩ rfl hl.1 rfl (wcat4 (Nat.le_of_ble_eq_true rfl)) dX4_loadBoth_1 ⟨Nat.le_of_ble_eq_true rfl, Nat.le_of_ble_eq_true rfl⟩ (fun v_ w2 H locs hv hS => ?_)
  obtain ⟨v1, rfl, h⟩ := hv
  refine r_if_eq (tgt := 63) hx hb h dX4_loadBoth_4 (by decide) (fun h => ?_) (fun h => ?_)
  · refine lv_bipush (v := -2) hx hb dX4_loadBoth_63 (by decide) ?_
    exact r_iret C hS h rfl rfl (Nat.le_of_ble_eq_true rfl) (Nat.le_of_ble_eq_true rfl) dX4_loadBoth_65
  · refine lv_iload hx hb dX4_loadBoth_7 (lv_at hl 4 rfl) ?_
    refine r_S C hS (ct_X4_isShelf l Z w2 a4 _ h) 1 (lw_S q1562 q1563 q71 q1564) ⟨by decide, by decide, by decide +kernel⟩ ⟨Nat.le_of_ble_eq_true rfl, Nat.le_of_ble_eq_true rfl⟩ rfl hl.1 rfl (wcat4 (Nat.le_of_ble_eq_true rfl)) dX4_loadBoth_9 ⟨Nat.le_of_ble_eq_true rfl, Nat.le_of_ble_eq_true rfl⟩ (fun v_ w4 H locs hv hS => ?_)
    obtain ⟨v3, rfl, h⟩ := hv
    refine r_if_eq (tgt := 63) hx hb h dX4_loadBoth_12 (by decide) (fun h => ?_) (fun h => ?_)
    · refine lv_bipush (v := -2) hx hb dX4_loadBoth_63 (by decide) ?_
      exact r_iret C hS h rfl rfl (Nat.le_of_ble_eq_true rfl) (Nat.le_of_ble_eq_true rfl) dX4_loadBoth_65
    · refine lv_iload_n hx hb dX4_loadBoth_15 rfl (lv_at hl 2 rfl) ?_
      refine lv_i2l hx hb dX4_loadBoth_16 rfl ?_
      refine lv_lconst (v := 0) hx hb dX4_loadBoth_17 (by decide) ?_
      refine lv_ldc2 (v := 40) hx hb C.ow (C.hts _ q1566) dX4_loadBoth_18 ?_
      refine r_S C hS (ct_X4_isIn l Z w4 (a2.toInt64) 0 40 _ h) 3 (lw_S q1439 q1440 q71 q1441) ⟨by decide, by decide, by decide +kernel⟩ ⟨Nat.le_of_ble_eq_true rfl, Nat.le_of_ble_eq_true rfl⟩ rfl hl.1 rfl (wcat4 (Nat.le_of_ble_eq_true rfl)) dX4_loadBoth_21 ⟨Nat.le_of_ble_eq_true rfl, Nat.le_of_ble_eq_true rfl⟩ (fun v_ w6 H locs hv hS => ?_)
      obtain ⟨v5, rfl, h⟩ := hv
      refine r_if_eq (tgt := 63) hx hb h dX4_loadBoth_24 (by decide) (fun h => ?_) (fun h => ?_)
      · refine lv_bipush (v := -2) hx hb dX4_loadBoth_63 (by decide) ?_
        exact r_iret C hS h rfl rfl (Nat.le_of_ble_eq_true rfl) (Nat.le_of_ble_eq_true rfl) dX4_loadBoth_65
      · refine lv_iload hx hb dX4_loadBoth_27 (lv_at hl 5 rfl) ?_
        refine lv_i2l hx hb dX4_loadBoth_29 rfl ?_
        refine lv_lconst (v := 0) hx hb dX4_loadBoth_30 (by decide) ?_
        refine lv_ldc2 (v := 40) hx hb C.ow (C.hts _ q1566) dX4_loadBoth_31 ?_
        refine r_S C hS (ct_X4_isIn l Z w6 (a5.toInt64) 0 40 _ h) 3 (lw_S q1439 q1440 q71 q1441) ⟨by decide, by decide, by decide +kernel⟩ ⟨Nat.le_of_ble_eq_true rfl, Nat.le_of_ble_eq_true rfl⟩ rfl hl.1 rfl (wcat4 (Nat.le_of_ble_eq_true rfl)) dX4_loadBoth_34 ⟨Nat.le_of_ble_eq_true rfl, Nat.le_of_ble_eq_true rfl⟩ (fun v_ w8 H locs hv hS => ?_)
        obtain ⟨v7, rfl, h⟩ := hv
        refine r_if_eq (tgt := 63) hx hb h dX4_loadBoth_37 (by decide) (fun h => ?_) (fun h => ?_)
        · refine lv_bipush (v := -2) hx hb dX4_loadBoth_63 (by decide) ?_
          exact r_iret C hS h rfl rfl (Nat.le_of_ble_eq_true rfl) (Nat.le_of_ble_eq_true rfl) dX4_loadBoth_65
        · refine lv_aload_n hx hb dX4_loadBoth_40 rfl (lv_at hl 0 rfl) ?_
          refine lv_iload_n hx hb dX4_loadBoth_41 rfl (lv_at hl 3 rfl) ?_
          obtain ⟨hob, h⟩ := h
          refine r_V C hS (ct_X4_isPerson l Z w8 a0 a3 _ h) 1 24 hob ⟨by decide, by decide +kernel⟩ (lw_V q1494 q1496 qs35 q71 q1497) ⟨rfl, by decide, by decide, by decide +kernel⟩ ⟨Nat.le_of_ble_eq_true rfl, Nat.le_of_ble_eq_true rfl⟩ rfl hl.1 rfl (wcat4 (Nat.le_of_ble_eq_true rfl)) dX4_loadBoth_42 ⟨Nat.le_of_ble_eq_true rfl, Nat.le_of_ble_eq_true rfl⟩ (fun v_ w10 H locs hv hS => ?_)
          obtain ⟨v9, rfl, h⟩ := hv
          refine r_if_eq (tgt := 63) hx hb h dX4_loadBoth_45 (by decide) (fun h => ?_) (fun h => ?_)
          · refine lv_bipush (v := -2) hx hb dX4_loadBoth_63 (by decide) ?_
            exact r_iret C hS h rfl rfl (Nat.le_of_ble_eq_true rfl) (Nat.le_of_ble_eq_true rfl) dX4_loadBoth_65
          · refine lv_aload_n hx hb dX4_loadBoth_48 rfl (lv_at hl 0 rfl) ?_
            refine lv_iload hx hb dX4_loadBoth_49 (lv_at hl 6 rfl) ?_
            obtain ⟨hob, h⟩ := h
            refine r_V C hS (ct_X4_isPerson l Z w10 a0 a6 _ h) 1 24 hob ⟨by decide, by decide +kernel⟩ (lw_V q1494 q1496 qs35 q71 q1497) ⟨rfl, by decide, by decide, by decide +kernel⟩ ⟨Nat.le_of_ble_eq_true rfl, Nat.le_of_ble_eq_true rfl⟩ rfl hl.1 rfl (wcat4 (Nat.le_of_ble_eq_true rfl)) dX4_loadBoth_51 ⟨Nat.le_of_ble_eq_true rfl, Nat.le_of_ble_eq_true rfl⟩ (fun v_ w12 H locs hv hS => ?_)
            obtain ⟨v11, rfl, h⟩ := hv
            refine r_if_eq (tgt := 63) hx hb h dX4_loadBoth_54 (by decide) (fun h => ?_) (fun h => ?_)
            · refine lv_bipush (v := -2) hx hb dX4_loadBoth_63 (by decide) ?_
              exact r_iret C hS h rfl rfl (Nat.le_of_ble_eq_true rfl) (Nat.le_of_ble_eq_true rfl) dX4_loadBoth_65
            · refine lv_iload_n hx hb dX4_loadBoth_57 rfl (lv_at hl 3 rfl) ?_
              refine lv_iload hx hb dX4_loadBoth_58 (lv_at hl 6 rfl) ?_
              refine r_icmp_ne (tgt := 66) hx hb h dX4_loadBoth_60 (by decide) (fun h => ?_) (fun h => ?_)
              · refine lv_aload_n hx hb dX4_loadBoth_66 rfl (lv_at hl 0 rfl) ?_
                refine r_getG C hS h gk_68 q1373 dX4_loadBoth_67 (fun v13 h => ?_)
                refine lv_iload_n hx hb dX4_loadBoth_70 rfl (lv_at hl 1 rfl) ?_
                refine r_iald C hS h dX4_loadBoth_71 (fun v14 h => ?_)
                refine lv_bipush (v := 10) hx hb dX4_loadBoth_72 (by decide) ?_
                refine r_icmp_ge (tgt := 89) hx hb h dX4_loadBoth_74 (by decide) (fun h => ?_) (fun h => ?_)
                · refine lv_bipush (v := -3) hx hb dX4_loadBoth_89 (by decide) ?_
                  exact r_iret C hS h rfl rfl (Nat.le_of_ble_eq_true rfl) (Nat.le_of_ble_eq_true rfl) dX4_loadBoth_91
                · refine lv_aload_n hx hb dX4_loadBoth_77 rfl (lv_at hl 0 rfl) ?_
                  refine r_getG C hS h gk_68 q1373 dX4_loadBoth_78 (fun v15 h => ?_)
                  refine lv_iload hx hb dX4_loadBoth_81 (lv_at hl 4 rfl) ?_
                  refine r_iald C hS h dX4_loadBoth_83 (fun v16 h => ?_)
                  refine lv_bipush (v := 10) hx hb dX4_loadBoth_84 (by decide) ?_
                  refine r_icmp_lt (tgt := 92) hx hb h dX4_loadBoth_86 (by decide) (fun h => ?_) (fun h => ?_)
                  · refine lv_aload_n hx hb dX4_loadBoth_92 rfl (lv_at hl 0 rfl) ?_
                    refine r_getG C hS h gk_68 q1373 dX4_loadBoth_93 (fun v17 h => ?_)
                    refine lv_iload_n hx hb dX4_loadBoth_96 rfl (lv_at hl 1 rfl) ?_
                    refine r_iald C hS h dX4_loadBoth_97 (fun v18 h => ?_)
                    refine lv_iconst (v := -1) hx hb dX4_loadBoth_98 (by decide) ?_
                    refine r_icmp_eq (tgt := 113) hx hb h dX4_loadBoth_99 (by decide) (fun h => ?_) (fun h => ?_)
                    · refine lv_bipush (v := -4) hx hb dX4_loadBoth_113 (by decide) ?_
                      exact r_iret C hS h rfl rfl (Nat.le_of_ble_eq_true rfl) (Nat.le_of_ble_eq_true rfl) dX4_loadBoth_115
                    · refine lv_aload_n hx hb dX4_loadBoth_102 rfl (lv_at hl 0 rfl) ?_
                      refine r_getG C hS h gk_68 q1373 dX4_loadBoth_103 (fun v19 h => ?_)
                      refine lv_iload hx hb dX4_loadBoth_106 (lv_at hl 4 rfl) ?_
                      refine r_iald C hS h dX4_loadBoth_108 (fun v20 h => ?_)
                      refine lv_iconst (v := -1) hx hb dX4_loadBoth_109 (by decide) ?_
                      refine r_icmp_ne (tgt := 116) hx hb h dX4_loadBoth_110 (by decide) (fun h => ?_) (fun h => ?_)
                      · refine lv_iload_n hx hb dX4_loadBoth_116 rfl (lv_at hl 2 rfl) ?_
                        refine lv_aload_n hx hb dX4_loadBoth_117 rfl (lv_at hl 0 rfl) ?_
                        refine r_getG C hS h gk_69 q1374 dX4_loadBoth_118 (fun v21 h => ?_)
                        refine lv_iload_n hx hb dX4_loadBoth_121 rfl (lv_at hl 1 rfl) ?_
                        refine r_iald C hS h dX4_loadBoth_122 (fun v22 h => ?_)
                        refine r_icmp_gt (tgt := 138) hx hb h dX4_loadBoth_123 (by decide) (fun h => ?_) (fun h => ?_)
                        · refine lv_bipush (v := -2) hx hb dX4_loadBoth_138 (by decide) ?_
                          exact r_iret C hS h rfl rfl (Nat.le_of_ble_eq_true rfl) (Nat.le_of_ble_eq_true rfl) dX4_loadBoth_140
                        · refine lv_iload hx hb dX4_loadBoth_126 (lv_at hl 5 rfl) ?_
                          refine lv_aload_n hx hb dX4_loadBoth_128 rfl (lv_at hl 0 rfl) ?_
                          refine r_getG C hS h gk_69 q1374 dX4_loadBoth_129 (fun v23 h => ?_)
                          refine lv_iload hx hb dX4_loadBoth_132 (lv_at hl 4 rfl) ?_
                          refine r_iald C hS h dX4_loadBoth_134 (fun v24 h => ?_)
                          refine r_icmp_le (tgt := 141) hx hb h dX4_loadBoth_135 (by decide) (fun h => ?_) (fun h => ?_)
                          · refine lv_aload_n hx hb dX4_loadBoth_141 rfl (lv_at hl 0 rfl) ?_
                            refine lv_iload_n hx hb dX4_loadBoth_142 rfl (lv_at hl 1 rfl) ?_
                            refine lv_iload_n hx hb dX4_loadBoth_143 rfl (lv_at hl 2 rfl) ?_
                            obtain ⟨hob, h⟩ := h
                            refine r_V C hS (ct_X4_load l Z w12 a0 a1 a2 _ h) 2 24 hob ⟨by decide, by decide +kernel⟩ (lw_V q1635 q1637 qs54 q71 q1638) ⟨rfl, by decide, by decide, by decide +kernel⟩ ⟨Nat.le_of_ble_eq_true rfl, Nat.le_of_ble_eq_true rfl⟩ rfl hl.1 rfl (wcat4 (Nat.le_of_ble_eq_true rfl)) dX4_loadBoth_144 ⟨Nat.le_of_ble_eq_true rfl, Nat.le_of_ble_eq_true rfl⟩ (fun v_ w26 H locs hv hS => ?_)
                            obtain ⟨v25, rfl, h⟩ := hv
                            refine lv_istore (i := 7) (lv' := [(7, .int v25), (0, .ref a0), (1, .int a1), (2, .int a2), (3, .int a3), (4, .int a4), (5, .int a5), (6, .int a6)]) hx hb dX4_loadBoth_147 hl (by decide) rfl (fun ls hl => ?_)
                            refine lv_iconst (v := 0) hx hb dX4_loadBoth_149 (by decide) ?_
                            refine lv_istore (i := 8) (lv' := [(8, .int 0), (7, .int v25), (0, .ref a0), (1, .int a1), (2, .int a2), (3, .int a3), (4, .int a4), (5, .int a5), (6, .int a6)]) hx hb dX4_loadBoth_150 hl (by decide) rfl (fun ls hl => ?_)
                            exact kl_X4_loadBoth_152 C k FU w26 a0 a2 a4 a5 v25 0 _ _ _ h hS (lv_sub hl [2, 4, 6, 7, 1, 0] rfl)
                          · refine lv_bipush (v := -2) hx hb dX4_loadBoth_138 (by decide) ?_
                            exact r_iret C hS h rfl rfl (Nat.le_of_ble_eq_true rfl) (Nat.le_of_ble_eq_true rfl) dX4_loadBoth_140
                      · refine lv_bipush (v := -4) hx hb dX4_loadBoth_113 (by decide) ?_
                        exact r_iret C hS h rfl rfl (Nat.le_of_ble_eq_true rfl) (Nat.le_of_ble_eq_true rfl) dX4_loadBoth_115
                  · refine lv_bipush (v := -3) hx hb dX4_loadBoth_89 (by decide) ?_
                    exact r_iret C hS h rfl rfl (Nat.le_of_ble_eq_true rfl) (Nat.le_of_ble_eq_true rfl) dX4_loadBoth_91
              · refine lv_bipush (v := -2) hx hb dX4_loadBoth_63 (by decide) ?_
                exact r_iret C hS h rfl rfl (Nat.le_of_ble_eq_true rfl) (Nat.le_of_ble_eq_true rfl) dX4_loadBoth_65
end VX4_loadBoth
/-! LeftIsAgreedOnModel.met(IIIII)I -/
section VX4_met
variable {p : Program} {l : Launch} {e : Env} {s : State} {m : MethodId} {args : Array Value} {below : List Frame} {meth : Method} {c : Code} {Z : wZ} {A : Nat → Prop}
set_option maxHeartbeats 4000000 in
theorem kb_X4_met_143 (C : wC p l s m args meth c cX4_met 9 (some .int) RX4 "met" Z A) (k : Int32 → Wd → Prop) (L52 : Wd → Nat → Int32 → Int32 → Int32 → Int32 → Int32 → Int32 → Prop) (hL52 : ∀ (w : Wd) (x0 : Nat) (x1 : Int32) (x2 : Int32) (x3 : Int32) (x4 : Int32) (x5 : Int32) (x6 : Int32) (H : Heap) (locs : List Loc) (ls : Array Slot), L52 w x0 x1 x2 x3 x4 x5 x6 → wS Z A s w H locs → lv_has ls 9 [(0, .ref x0), (1, .int x1), (2, .int x2), (3, .int x3), (4, .int x4), (5, .int x5), (6, .int x6)] → W p l e ({ frames := 5, cells := 0, slots := 0, locals := 122 } : Room) s m args below meth c H locs 0 0 (MQ below (wQc Z A (pI k)) args s 0 0 A) (F0 m 52 ls [])) : ∀ (w : Wd) (a0 : Nat) (l1 : Int32) (l2 : Int32) (l3 : Int32) (l4 : Int32) (l5 : Int32) (l6 : Int32) (l7 : Int32) (l8 : Int32) (s0 : Option Nat) (s1 : Int32) (s2 : Int32) (s3 : Int32) (H : Heap) (locs : List Loc) (ls : Array Slot), wb_X4_met_143 k L52 w a0 l1 l2 l3 l4 l5 l6 l7 l8 s0 s1 s2 s3 → wS Z A s w H locs → lv_has ls 9 [(0, .ref a0), (1, .int l1), (2, .int l2), (3, .int l3), (4, .int l4), (5, .int l5), (6, .int l6), (7, .int l7), (8, .int l8)] → W p l e ({ frames := 5, cells := 0, slots := 0, locals := 122 } : Room) s m args below meth c H locs 0 0 (MQ below (wQc Z A (pI k)) args s 0 0 A) (F0 m 143 ls [.int s3, .int s2, .int s1, va_rf s0]) := by
  intro w a0 l1 l2 l3 l4 l5 l6 l7 l8 s0 s1 s2 s3 H locs ls h hS hl
  have hx := C.hx
  have hb := C.hb
  unfold wb_X4_met_143 at h
  refine lv_iload hx hb dX4_met_143 (lv_at hl 6 rfl) ?_
  obtain ⟨b26, hb_, h⟩ := wnn_spec h
  cases hb_
  obtain ⟨hob, h⟩ := h
  refine r_V C hS (ct_X4_step l Z w b26 s1 s2 s3 l6 _ h) 4 24 hob ⟨by decide, by decide +kernel⟩ (lw_V q1611 q1613 qs49 q71 q1614) ⟨rfl, by decide, by decide, by decide +kernel⟩ ⟨Nat.le_of_ble_eq_true rfl, Nat.le_of_ble_eq_true rfl⟩ rfl hl.1 rfl (wcat4 (Nat.le_of_ble_eq_true rfl)) dX4_met_145 ⟨Nat.le_of_ble_eq_true rfl, Nat.le_of_ble_eq_true rfl⟩ (fun v_ w25 H locs hv hS => ?_)
  obtain ⟨rfl, h⟩ := hv
  refine lv_aload_n hx hb dX4_met_148 rfl (lv_at hl 0 rfl) ?_
  refine r_getG C hS h gk_61 q1365 dX4_met_149 (fun v27 h => ?_)
  refine lv_iconst (v := 0) hx hb dX4_met_152 (by decide) ?_
  refine r_iald C hS h dX4_met_153 (fun v28 h => ?_)
  refine lv_aload_n hx hb dX4_met_154 rfl (lv_at hl 0 rfl) ?_
  refine r_getG C hS h gk_61 q1365 dX4_met_155 (fun v29 h => ?_)
  refine lv_iconst (v := 1) hx hb dX4_met_158 (by decide) ?_
  refine r_iald C hS h dX4_met_159 (fun v30 h => ?_)
  refine r_icmp_eq (tgt := 185) hx hb h dX4_met_160 (by decide) (fun h => ?_) (fun h => ?_)
  · refine lv_iload hx hb dX4_met_185 (lv_at hl 6 rfl) ?_
    refine lv_iconst (v := 1) hx hb dX4_met_187 (by decide) ?_
    refine lv_iadd hx hb dX4_met_188 ?_
    exact r_iret C hS h rfl rfl (Nat.le_of_ble_eq_true rfl) (Nat.le_of_ble_eq_true rfl) dX4_met_189
  · refine lv_aload_n hx hb dX4_met_163 rfl (lv_at hl 0 rfl) ?_
    refine r_getG C hS h gk_61 q1365 dX4_met_164 (fun v31 h => ?_)
    refine lv_iconst (v := 0) hx hb dX4_met_167 (by decide) ?_
    refine r_iald C hS h dX4_met_168 (fun v32 h => ?_)
    refine lv_iload hx hb dX4_met_169 (lv_at hl 8 rfl) ?_
    refine r_icmp_ne (tgt := 190) hx hb h dX4_met_171 (by decide) (fun h => ?_) (fun h => ?_)
    · refine lv_iinc (i := 6) (v := (l6 + 1)) (lv' := [(6, .int (l6 + 1)), (0, .ref a0), (1, .int l1), (2, .int l2), (3, .int l3), (4, .int l4), (5, .int l5), (7, .int l7), (8, .int l8)]) hx hb dX4_met_190 hl (k := 6) rfl rfl (by decide) rfl (fun ls hl => ?_)
      refine lv_goto (tgt := 52) hx hb dX4_met_193 (by decide) ?_
      exact hL52 w25 a0 l1 l2 l3 l4 l5 (l6 + 1) _ _ _ h hS (lv_sub hl [1, 2, 3, 4, 5, 6, 0] rfl)
    · refine lv_aload_n hx hb dX4_met_174 rfl (lv_at hl 0 rfl) ?_
      refine r_getG C hS h gk_61 q1365 dX4_met_175 (fun v33 h => ?_)
      refine lv_iconst (v := 1) hx hb dX4_met_178 (by decide) ?_
      refine r_iald C hS h dX4_met_179 (fun v34 h => ?_)
      refine lv_iload hx hb dX4_met_180 (lv_at hl 7 rfl) ?_
      refine r_icmp_ne (tgt := 190) hx hb h dX4_met_182 (by decide) (fun h => ?_) (fun h => ?_)
      · refine lv_iinc (i := 6) (v := (l6 + 1)) (lv' := [(6, .int (l6 + 1)), (0, .ref a0), (1, .int l1), (2, .int l2), (3, .int l3), (4, .int l4), (5, .int l5), (7, .int l7), (8, .int l8)]) hx hb dX4_met_190 hl (k := 6) rfl rfl (by decide) rfl (fun ls hl => ?_)
        refine lv_goto (tgt := 52) hx hb dX4_met_193 (by decide) ?_
        exact hL52 w25 a0 l1 l2 l3 l4 l5 (l6 + 1) _ _ _ h hS (lv_sub hl [1, 2, 3, 4, 5, 6, 0] rfl)
      · refine lv_iload hx hb dX4_met_185 (lv_at hl 6 rfl) ?_
        refine lv_iconst (v := 1) hx hb dX4_met_187 (by decide) ?_
        refine lv_iadd hx hb dX4_met_188 ?_
        exact r_iret C hS h rfl rfl (Nat.le_of_ble_eq_true rfl) (Nat.le_of_ble_eq_true rfl) dX4_met_189
set_option maxHeartbeats 4000000 in
theorem kb_X4_met_101 (C : wC p l s m args meth c cX4_met 9 (some .int) RX4 "met" Z A) (k : Int32 → Wd → Prop) (L52 : Wd → Nat → Int32 → Int32 → Int32 → Int32 → Int32 → Int32 → Prop) (hL52 : ∀ (w : Wd) (x0 : Nat) (x1 : Int32) (x2 : Int32) (x3 : Int32) (x4 : Int32) (x5 : Int32) (x6 : Int32) (H : Heap) (locs : List Loc) (ls : Array Slot), L52 w x0 x1 x2 x3 x4 x5 x6 → wS Z A s w H locs → lv_has ls 9 [(0, .ref x0), (1, .int x1), (2, .int x2), (3, .int x3), (4, .int x4), (5, .int x5), (6, .int x6)] → W p l e ({ frames := 5, cells := 0, slots := 0, locals := 122 } : Room) s m args below meth c H locs 0 0 (MQ below (wQc Z A (pI k)) args s 0 0 A) (F0 m 52 ls [])) : ∀ (w : Wd) (a0 : Nat) (l1 : Int32) (l2 : Int32) (l3 : Int32) (l4 : Int32) (l5 : Int32) (l6 : Int32) (l7 : Int32) (l8 : Int32) (s0 : Option Nat) (s1 : Int32) (s2 : Int32) (s3 : Int32) (H : Heap) (locs : List Loc) (ls : Array Slot), wb_X4_met_101 k L52 w a0 l1 l2 l3 l4 l5 l6 l7 l8 s0 s1 s2 s3 → wS Z A s w H locs → lv_has ls 9 [(0, .ref a0), (1, .int l1), (2, .int l2), (3, .int l3), (4, .int l4), (5, .int l5), (6, .int l6), (7, .int l7), (8, .int l8)] → W p l e ({ frames := 5, cells := 0, slots := 0, locals := 122 } : Room) s m args below meth c H locs 0 0 (MQ below (wQc Z A (pI k)) args s 0 0 A) (F0 m 101 ls [.int s3, .int s2, .int s1, va_rf s0]) := by
  intro w a0 l1 l2 l3 l4 l5 l6 l7 l8 s0 s1 s2 s3 H locs ls h hS hl
  have hx := C.hx
  have hb := C.hb
  unfold wb_X4_met_101 at h
  refine lv_iload hx hb dX4_met_101 (lv_at hl 6 rfl) ?_
  obtain ⟨b22, hb_, h⟩ := wnn_spec h
  cases hb_
  obtain ⟨hob, h⟩ := h
  refine r_V C hS (ct_X4_step l Z w b22 s1 s2 s3 l6 _ h) 4 24 hob ⟨by decide, by decide +kernel⟩ (lw_V q1611 q1613 qs49 q71 q1614) ⟨rfl, by decide, by decide, by decide +kernel⟩ ⟨Nat.le_of_ble_eq_true rfl, Nat.le_of_ble_eq_true rfl⟩ rfl hl.1 rfl (wcat4 (Nat.le_of_ble_eq_true rfl)) dX4_met_103 ⟨Nat.le_of_ble_eq_true rfl, Nat.le_of_ble_eq_true rfl⟩ (fun v_ w21 H locs hv hS => ?_)
  obtain ⟨rfl, h⟩ := hv
  refine lv_aload_n hx hb dX4_met_106 rfl (lv_at hl 0 rfl) ?_
  refine lv_iconst (v := 1) hx hb dX4_met_107 (by decide) ?_
  refine lv_iload hx hb dX4_met_108 (lv_at hl 4 rfl) ?_
  refine lv_iload hx hb dX4_met_110 (lv_at hl 6 rfl) ?_
  refine lv_i2l hx hb dX4_met_112 rfl ?_
  refine lv_iload hx hb dX4_met_113 (lv_at hl 5 rfl) ?_
  refine lv_i2l hx hb dX4_met_115 rfl ?_
  refine lv_iload_n hx hb dX4_met_116 rfl (lv_at hl 3 rfl) ?_
  refine lv_iload hx hb dX4_met_117 (lv_at hl 5 rfl) ?_
  refine lv_iadd hx hb dX4_met_119 ?_
  refine lv_iconst (v := 1) hx hb dX4_met_120 (by decide) ?_
  refine lv_isub hx hb dX4_met_121 ?_
  refine lv_i2l hx hb dX4_met_122 rfl ?_
  refine r_S C hS (ct_X4_isIn l Z w21 (l6.toInt64) (l5.toInt64) (((l3 + l5) - 1).toInt64) _ h) 3 (lw_S q1439 q1440 q71 q1441) ⟨by decide, by decide, by decide +kernel⟩ ⟨Nat.le_of_ble_eq_true rfl, Nat.le_of_ble_eq_true rfl⟩ rfl hl.1 rfl (wcat4 (Nat.le_of_ble_eq_true rfl)) dX4_met_123 ⟨Nat.le_of_ble_eq_true rfl, Nat.le_of_ble_eq_true rfl⟩ (fun v_ w24 H locs hv hS => ?_)
  obtain ⟨v23, rfl, h⟩ := hv
  refine r_if_eq (tgt := 142) hx hb h dX4_met_126 (by decide) (fun h => ?_) (fun h => ?_)
  · refine lv_iconst (v := 3) hx hb dX4_met_142 (by decide) ?_
    exact kb_X4_met_143 C k L52 hL52 w24 a0 l1 l2 l3 l4 l5 l6 l7 l8 (some a0) 1 l4 3 _ _ _ h hS (lv_sub hl [0, 1, 2, 3, 4, 5, 6, 7, 8] rfl)
  · refine lv_aload_n hx hb dX4_met_129 rfl (lv_at hl 0 rfl) ?_
    refine r_getG C hS h gk_67 q1372 dX4_met_130 (fun v35 h => ?_)
    refine lv_iload hx hb dX4_met_133 (lv_at hl 6 rfl) ?_
    refine lv_iload hx hb dX4_met_135 (lv_at hl 5 rfl) ?_
    refine lv_isub hx hb dX4_met_137 ?_
    refine r_iald C hS h dX4_met_138 (fun v36 h => ?_)
    refine lv_goto (tgt := 143) hx hb dX4_met_139 (by decide) ?_
    exact kb_X4_met_143 C k L52 hL52 w24 a0 l1 l2 l3 l4 l5 l6 l7 l8 (some a0) 1 l4 v36 _ _ _ h hS (lv_sub hl [0, 1, 2, 3, 4, 5, 6, 7, 8] rfl)
set_option maxHeartbeats 4000000 in
theorem kb_X4_met_52 (C : wC p l s m args meth c cX4_met 9 (some .int) RX4 "met" Z A) (k : Int32 → Wd → Prop) (L52 : Wd → Nat → Int32 → Int32 → Int32 → Int32 → Int32 → Int32 → Prop) (hL52 : ∀ (w : Wd) (x0 : Nat) (x1 : Int32) (x2 : Int32) (x3 : Int32) (x4 : Int32) (x5 : Int32) (x6 : Int32) (H : Heap) (locs : List Loc) (ls : Array Slot), L52 w x0 x1 x2 x3 x4 x5 x6 → wS Z A s w H locs → lv_has ls 9 [(0, .ref x0), (1, .int x1), (2, .int x2), (3, .int x3), (4, .int x4), (5, .int x5), (6, .int x6)] → W p l e ({ frames := 5, cells := 0, slots := 0, locals := 122 } : Room) s m args below meth c H locs 0 0 (MQ below (wQc Z A (pI k)) args s 0 0 A) (F0 m 52 ls [])) : ∀ (w : Wd) (a0 : Nat) (l1 : Int32) (l2 : Int32) (l3 : Int32) (l4 : Int32) (l5 : Int32) (l6 : Int32) (H : Heap) (locs : List Loc) (ls : Array Slot), wb_X4_met_52 k L52 w a0 l1 l2 l3 l4 l5 l6 → wS Z A s w H locs → lv_has ls 9 [(0, .ref a0), (1, .int l1), (2, .int l2), (3, .int l3), (4, .int l4), (5, .int l5), (6, .int l6)] → W p l e ({ frames := 5, cells := 0, slots := 0, locals := 122 } : Room) s m args below meth c H locs 0 0 (MQ below (wQc Z A (pI k)) args s 0 0 A) (F0 m 52 ls []) := by
  intro w a0 l1 l2 l3 l4 l5 l6 H locs ls h hS hl
  have hx := C.hx
  have hb := C.hb
  unfold wb_X4_met_52 at h
  refine lv_iload hx hb dX4_met_52 (lv_at hl 6 rfl) ?_
  refine lv_iload_n hx hb dX4_met_54 rfl (lv_at hl 1 rfl) ?_
  refine lv_iload_n hx hb dX4_met_55 rfl (lv_at hl 3 rfl) ?_
  refine lv_iload hx hb dX4_met_56 (lv_at hl 5 rfl) ?_
  refine lv_iadd hx hb dX4_met_58 ?_
  refine r_S C hS (ct_J14_max l Z w l1 (l3 + l5) _ h) 2 (lw_S q1785 q808 q95 q809) ⟨by decide, by decide, by decide +kernel⟩ ⟨Nat.le_of_ble_eq_true rfl, Nat.le_of_ble_eq_true rfl⟩ rfl hl.1 rfl (wcat4 (Nat.le_of_ble_eq_true rfl)) dX4_met_59 ⟨Nat.le_of_ble_eq_true rfl, Nat.le_of_ble_eq_true rfl⟩ (fun v_ w16 H locs hv hS => ?_)
  obtain ⟨v15, rfl, h⟩ := hv
  refine r_icmp_ge (tgt := 196) hx hb h dX4_met_62 (by decide) (fun h => ?_) (fun h => ?_)
  · refine lv_iconst (v := -1) hx hb dX4_met_196 (by decide) ?_
    exact r_iret C hS h rfl rfl (Nat.le_of_ble_eq_true rfl) (Nat.le_of_ble_eq_true rfl) dX4_met_197
  · refine lv_aload_n hx hb dX4_met_65 rfl (lv_at hl 0 rfl) ?_
    refine r_getG C hS h gk_61 q1365 dX4_met_66 (fun v17 h => ?_)
    refine lv_iconst (v := 0) hx hb dX4_met_69 (by decide) ?_
    refine r_iald C hS h dX4_met_70 (fun v18 h => ?_)
    refine lv_istore (i := 7) (lv' := [(7, .int v18), (0, .ref a0), (1, .int l1), (2, .int l2), (3, .int l3), (4, .int l4), (5, .int l5), (6, .int l6)]) hx hb dX4_met_71 hl (by decide) rfl (fun ls hl => ?_)
    refine lv_aload_n hx hb dX4_met_73 rfl (lv_at hl 1 rfl) ?_
    refine r_getG C hS h gk_61 q1365 dX4_met_74 (fun v19 h => ?_)
    refine lv_iconst (v := 1) hx hb dX4_met_77 (by decide) ?_
    refine r_iald C hS h dX4_met_78 (fun v20 h => ?_)
    refine lv_istore (i := 8) (lv' := [(8, .int v20), (7, .int v18), (0, .ref a0), (1, .int l1), (2, .int l2), (3, .int l3), (4, .int l4), (5, .int l5), (6, .int l6)]) hx hb dX4_met_79 hl (by decide) rfl (fun ls hl => ?_)
    refine lv_aload_n hx hb dX4_met_81 rfl (lv_at hl 2 rfl) ?_
    refine lv_iconst (v := 0) hx hb dX4_met_82 (by decide) ?_
    refine lv_iload_n hx hb dX4_met_83 rfl (lv_at hl 4 rfl) ?_
    refine lv_iload hx hb dX4_met_84 (lv_at hl 8 rfl) ?_
    refine lv_iload_n hx hb dX4_met_86 rfl (lv_at hl 3 rfl) ?_
    refine r_icmp_ge (tgt := 100) hx hb h dX4_met_87 (by decide) (fun h => ?_) (fun h => ?_)
    · refine lv_iconst (v := 3) hx hb dX4_met_100 (by decide) ?_
      exact kb_X4_met_101 C k L52 hL52 w16 a0 l1 l2 l3 l4 l5 l6 v18 v20 (some a0) 0 l2 3 _ _ _ h hS (lv_sub hl [2, 3, 4, 5, 6, 7, 8, 1, 0] rfl)
    · refine lv_aload_n hx hb dX4_met_90 rfl (lv_at hl 2 rfl) ?_
      refine r_getG C hS h gk_74 q1379 dX4_met_91 (fun v37 h => ?_)
      refine lv_iload hx hb dX4_met_94 (lv_at hl 8 rfl) ?_
      refine r_iald C hS h dX4_met_96 (fun v38 h => ?_)
      refine lv_goto (tgt := 101) hx hb dX4_met_97 (by decide) ?_
      exact kb_X4_met_101 C k L52 hL52 w16 a0 l1 l2 l3 l4 l5 l6 v18 v20 (some a0) 0 l2 v38 _ _ _ h hS (lv_sub hl [2, 3, 4, 5, 6, 7, 8, 1, 0] rfl)
set_option maxHeartbeats 4000000 in
theorem kl_X4_met_52 (C : wC p l s m args meth c cX4_met 9 (some .int) RX4 "met" Z A) (k : Int32 → Wd → Prop) : ∀ (n : Nat), ∀ (w : Wd) (a0 : Nat) (l1 : Int32) (l2 : Int32) (l3 : Int32) (l4 : Int32) (l5 : Int32) (l6 : Int32) (H : Heap) (locs : List Loc) (ls : Array Slot), wl_X4_met_52 k n w a0 l1 l2 l3 l4 l5 l6 → wS Z A s w H locs → lv_has ls 9 [(0, .ref a0), (1, .int l1), (2, .int l2), (3, .int l3), (4, .int l4), (5, .int l5), (6, .int l6)] → W p l e ({ frames := 5, cells := 0, slots := 0, locals := 122 } : Room) s m args below meth c H locs 0 0 (MQ below (wQc Z A (pI k)) args s 0 0 A) (F0 m 52 ls []) := by
  intro n
  induction n with
  | zero =>
    intro w a0 l1 l2 l3 l4 l5 l6 H locs ls h
    exact h.elim
  | succ n ih =>
    intro w a0 l1 l2 l3 l4 l5 l6 H locs ls h hS hl
    exact kb_X4_met_52 C k (wl_X4_met_52 k n) ih w a0 l1 l2 l3 l4 l5 l6 H locs ls h hS hl
set_option maxHeartbeats 4000000 in
theorem ct_X4_met (l : Launch) (Z : wZ) (w : Wd) (a0 : Nat) (a1 : Int32) (a2 : Int32) (a3 : Int32) (a4 : Int32) (a5 : Int32) (k : Int32 → Wd → Prop) (h : wp_X4_met w a0 a1 a2 a3 a4 a5 k) : wMet l Z yX4_met cX4_met 9 (some .int) 5 122 0 0 [.ref a0, .int a1, .int a2, .int a3, .int a4, .int a5] w (pI k) := by
  refine wM_of (by decide +kernel) (Nat.le_of_ble_eq_true rfl) ?_
  intro p e s m below meth c ls C hS hl
  replace C : wC p l s m _ meth c cX4_met 9 (some .int) RX4 "met" Z _ := C
  have hl : lv_has ls 9 [(0, .ref a0), (1, .int a1), (2, .int a2), (3, .int a3), (4, .int a4), (5, .int a5)] := hl
  have hx := C.hx
  have hb := C.hb
  unfold wp_X4_met at h
  generalize wA w = A at C hS ⊢
  refine lv_aload_n hx hb dX4_met_0 rfl (lv_at hl 0 rfl) ?_
  refine lv_iconst (v := 0) hx hb dX4_met_1 (by decide) ?_
  refine lv_aload_n hx hb dX4_met_2 rfl (lv_at hl 0 rfl) ?_
  refine lv_iload_n hx hb dX4_met_3 rfl (lv_at hl 2 rfl) ?_
  obtain ⟨hob, h⟩ := h
  refine r_V C hS (ct_X4_cell l Z w a0 a2 _ h) 1 24 hob ⟨by decide, by decide +kernel⟩ (lw_V q1462 q1464 qs32 q71 q1465) ⟨rfl, by decide, by decide, by decide +kernel⟩ ⟨Nat.le_of_ble_eq_true rfl, Nat.le_of_ble_eq_true rfl⟩ rfl hl.1 rfl (wcat4 (Nat.le_of_ble_eq_true rfl)) dX4_met_4 ⟨Nat.le_of_ble_eq_true rfl, Nat.le_of_ble_eq_true rfl⟩ (fun v_ w2 H locs hv hS => ?_)
  obtain ⟨v1, rfl, h⟩ := hv
  refine lv_aload_n hx hb dX4_met_7 rfl (lv_at hl 0 rfl) ?_
  refine lv_iload_n hx hb dX4_met_8 rfl (lv_at hl 2 rfl) ?_
  obtain ⟨hob, h⟩ := h
  refine r_V C hS (ct_X4_faces l Z w2 a0 a2 _ h) 1 24 hob ⟨by decide, by decide +kernel⟩ (lw_V q1603 q1605 qs47 q71 q1606) ⟨rfl, by decide, by decide, by decide +kernel⟩ ⟨Nat.le_of_ble_eq_true rfl, Nat.le_of_ble_eq_true rfl⟩ rfl hl.1 rfl (wcat4 (Nat.le_of_ble_eq_true rfl)) dX4_met_9 ⟨Nat.le_of_ble_eq_true rfl, Nat.le_of_ble_eq_true rfl⟩ (fun v_ w4 H locs hv hS => ?_)
  obtain ⟨v3, rfl, h⟩ := hv
  obtain ⟨hob, h⟩ := h
  refine r_V C hS (ct_X4_start l Z w4 a0 0 v1 v3 _ h) 3 24 hob ⟨by decide, by decide +kernel⟩ (lw_V q1607 q1609 qs48 q71 q1610) ⟨rfl, by decide, by decide, by decide +kernel⟩ ⟨Nat.le_of_ble_eq_true rfl, Nat.le_of_ble_eq_true rfl⟩ rfl hl.1 rfl (wcat4 (Nat.le_of_ble_eq_true rfl)) dX4_met_12 ⟨Nat.le_of_ble_eq_true rfl, Nat.le_of_ble_eq_true rfl⟩ (fun v_ w5 H locs hv hS => ?_)
  obtain ⟨rfl, h⟩ := hv
  refine lv_aload_n hx hb dX4_met_15 rfl (lv_at hl 0 rfl) ?_
  refine lv_iconst (v := 1) hx hb dX4_met_16 (by decide) ?_
  refine lv_aload_n hx hb dX4_met_17 rfl (lv_at hl 0 rfl) ?_
  refine lv_iload hx hb dX4_met_18 (lv_at hl 4 rfl) ?_
  obtain ⟨hob, h⟩ := h
  refine r_V C hS (ct_X4_cell l Z w5 a0 a4 _ h) 1 24 hob ⟨by decide, by decide +kernel⟩ (lw_V q1462 q1464 qs32 q71 q1465) ⟨rfl, by decide, by decide, by decide +kernel⟩ ⟨Nat.le_of_ble_eq_true rfl, Nat.le_of_ble_eq_true rfl⟩ rfl hl.1 rfl (wcat4 (Nat.le_of_ble_eq_true rfl)) dX4_met_20 ⟨Nat.le_of_ble_eq_true rfl, Nat.le_of_ble_eq_true rfl⟩ (fun v_ w7 H locs hv hS => ?_)
  obtain ⟨v6, rfl, h⟩ := hv
  refine lv_aload_n hx hb dX4_met_23 rfl (lv_at hl 0 rfl) ?_
  refine lv_iload hx hb dX4_met_24 (lv_at hl 4 rfl) ?_
  obtain ⟨hob, h⟩ := h
  refine r_V C hS (ct_X4_faces l Z w7 a0 a4 _ h) 1 24 hob ⟨by decide, by decide +kernel⟩ (lw_V q1603 q1605 qs47 q71 q1606) ⟨rfl, by decide, by decide, by decide +kernel⟩ ⟨Nat.le_of_ble_eq_true rfl, Nat.le_of_ble_eq_true rfl⟩ rfl hl.1 rfl (wcat4 (Nat.le_of_ble_eq_true rfl)) dX4_met_26 ⟨Nat.le_of_ble_eq_true rfl, Nat.le_of_ble_eq_true rfl⟩ (fun v_ w9 H locs hv hS => ?_)
  obtain ⟨v8, rfl, h⟩ := hv
  obtain ⟨hob, h⟩ := h
  refine r_V C hS (ct_X4_start l Z w9 a0 1 v6 v8 _ h) 3 24 hob ⟨by decide, by decide +kernel⟩ (lw_V q1607 q1609 qs48 q71 q1610) ⟨rfl, by decide, by decide, by decide +kernel⟩ ⟨Nat.le_of_ble_eq_true rfl, Nat.le_of_ble_eq_true rfl⟩ rfl hl.1 rfl (wcat4 (Nat.le_of_ble_eq_true rfl)) dX4_met_29 ⟨Nat.le_of_ble_eq_true rfl, Nat.le_of_ble_eq_true rfl⟩ (fun v_ w10 H locs hv hS => ?_)
  obtain ⟨rfl, h⟩ := hv
  refine lv_aload_n hx hb dX4_met_32 rfl (lv_at hl 0 rfl) ?_
  refine r_getG C hS h gk_61 q1365 dX4_met_33 (fun v11 h => ?_)
  refine lv_iconst (v := 0) hx hb dX4_met_36 (by decide) ?_
  refine r_iald C hS h dX4_met_37 (fun v12 h => ?_)
  refine lv_aload_n hx hb dX4_met_38 rfl (lv_at hl 0 rfl) ?_
  refine r_getG C hS h gk_61 q1365 dX4_met_39 (fun v13 h => ?_)
  refine lv_iconst (v := 1) hx hb dX4_met_42 (by decide) ?_
  refine r_iald C hS h dX4_met_43 (fun v14 h => ?_)
  refine r_icmp_ne (tgt := 49) hx hb h dX4_met_44 (by decide) (fun h => ?_) (fun h => ?_)
  · refine lv_iconst (v := 0) hx hb dX4_met_49 (by decide) ?_
    refine lv_istore (i := 6) (lv' := [(6, .int 0), (0, .ref a0), (1, .int a1), (2, .int a2), (3, .int a3), (4, .int a4), (5, .int a5)]) hx hb dX4_met_50 hl (by decide) rfl (fun ls hl => ?_)
    exact kl_X4_met_52 C k FU w10 a0 a1 a2 a3 a4 a5 0 _ _ _ h hS (lv_sub hl [1, 2, 3, 4, 5, 6, 0] rfl)
  · refine lv_iconst (v := 0) hx hb dX4_met_47 (by decide) ?_
    exact r_iret C hS h rfl rfl (Nat.le_of_ble_eq_true rfl) (Nat.le_of_ble_eq_true rfl) dX4_met_48
end VX4_met
/-! LeftIsAgreedOnModel.meet(IIIIII)I -/
section VX4_meet
variable {p : Program} {l : Launch} {e : Env} {s : State} {m : MethodId} {args : Array Value} {below : List Frame} {meth : Method} {c : Code} {Z : wZ} {A : Nat → Prop}
set_option maxHeartbeats 4000000 in
theorem ct_X4_meet (l : Launch) (Z : wZ) (w : Wd) (a0 : Nat) (a1 : Int32) (a2 : Int32) (a3 : Int32) (a4 : Int32) (a5 : Int32) (a6 : Int32) (k : Int32 → Wd → Prop) (h : wp_X4_meet w a0 a1 a2 a3 a4 a5 a6 k) : wMet l Z yX4_meet cX4_meet 8 (some .int) 6 150 0 0 [.ref a0, .int a1, .int a2, .int a3, .int a4, .int a5, .int a6] w (pI k) := by
  refine wM_of (by decide +kernel) (Nat.le_of_ble_eq_true rfl) ?_
  intro p e s m below meth c ls C hS hl
  replace C : wC p l s m _ meth c cX4_meet 8 (some .int) RX4 "meet" Z _ := C
  have hl : lv_has ls 8 [(0, .ref a0), (1, .int a1), (2, .int a2), (3, .int a3), (4, .int a4), (5, .int a5), (6, .int a6)] := hl
  have hx := C.hx
  have hb := C.hb
  unfold wp_X4_meet at h
  generalize wA w = A at C hS ⊢
  refine lv_aload_n hx hb dX4_meet_0 rfl (lv_at hl 0 rfl) ?_
  refine lv_iload_n hx hb dX4_meet_1 rfl (lv_at hl 1 rfl) ?_
  refine lv_iload_n hx hb dX4_meet_2 rfl (lv_at hl 2 rfl) ?_
  refine lv_iload_n hx hb dX4_meet_3 rfl (lv_at hl 3 rfl) ?_
  refine lv_iload hx hb dX4_meet_4 (lv_at hl 4 rfl) ?_
  refine lv_iload hx hb dX4_meet_6 (lv_at hl 5 rfl) ?_
  refine lv_iload hx hb dX4_meet_8 (lv_at hl 6 rfl) ?_
  obtain ⟨hob, h⟩ := h
  refine r_V C hS (ct_X4_loadBoth l Z w a0 a1 a2 a3 a4 a5 a6 _ h) 6 24 hob ⟨by decide, by decide +kernel⟩ (lw_V q1777 q1779 qs63 q71 q1780) ⟨rfl, by decide, by decide, by decide +kernel⟩ ⟨Nat.le_of_ble_eq_true rfl, Nat.le_of_ble_eq_true rfl⟩ rfl hl.1 rfl (wcat4 (Nat.le_of_ble_eq_true rfl)) dX4_meet_10 ⟨Nat.le_of_ble_eq_true rfl, Nat.le_of_ble_eq_true rfl⟩ (fun v_ w2 H locs hv hS => ?_)
  obtain ⟨v1, rfl, h⟩ := hv
  refine lv_istore (i := 7) (lv' := [(7, .int v1), (0, .ref a0), (1, .int a1), (2, .int a2), (3, .int a3), (4, .int a4), (5, .int a5), (6, .int a6)]) hx hb dX4_meet_13 hl (by decide) rfl (fun ls hl => ?_)
  refine lv_iload hx hb dX4_meet_15 (lv_at hl 0 rfl) ?_
  refine r_if_ge (tgt := 29) hx hb h dX4_meet_17 (by decide) (fun h => ?_) (fun h => ?_)
  · refine lv_aload_n hx hb dX4_meet_29 rfl (lv_at hl 1 rfl) ?_
    refine lv_iload_n hx hb dX4_meet_30 rfl (lv_at hl 3 rfl) ?_
    refine lv_iload_n hx hb dX4_meet_31 rfl (lv_at hl 4 rfl) ?_
    refine lv_iload hx hb dX4_meet_32 (lv_at hl 6 rfl) ?_
    refine lv_iload hx hb dX4_meet_34 (lv_at hl 7 rfl) ?_
    refine lv_iconst (v := 0) hx hb dX4_meet_36 (by decide) ?_
    obtain ⟨hob, h⟩ := h
    refine r_V C hS (ct_X4_met l Z w2 a0 a2 a3 a5 a6 0 _ h) 5 24 hob ⟨by decide, by decide +kernel⟩ (lw_V q1781 q1783 qs64 q71 q1784) ⟨rfl, by decide, by decide, by decide +kernel⟩ ⟨Nat.le_of_ble_eq_true rfl, Nat.le_of_ble_eq_true rfl⟩ rfl hl.1 rfl (wcat4 (Nat.le_of_ble_eq_true rfl)) dX4_meet_37 ⟨Nat.le_of_ble_eq_true rfl, Nat.le_of_ble_eq_true rfl⟩ (fun v_ w4 H locs hv hS => ?_)
    obtain ⟨v3, rfl, h⟩ := hv
    exact r_iret C hS h rfl rfl (Nat.le_of_ble_eq_true rfl) (Nat.le_of_ble_eq_true rfl) dX4_meet_40
  · refine lv_aload_n hx hb dX4_meet_20 rfl (lv_at hl 1 rfl) ?_
    refine lv_iload hx hb dX4_meet_21 (lv_at hl 0 rfl) ?_
    obtain ⟨hob, h⟩ := h
    refine r_V C hS (ct_X4_refuse l Z w2 a0 v1 _ h) 1 24 hob ⟨by decide, by decide +kernel⟩ (lw_V q1442 q1444 qs28 q71 q1445) ⟨rfl, by decide, by decide, by decide +kernel⟩ ⟨Nat.le_of_ble_eq_true rfl, Nat.le_of_ble_eq_true rfl⟩ rfl hl.1 rfl (wcat4 (Nat.le_of_ble_eq_true rfl)) dX4_meet_23 ⟨Nat.le_of_ble_eq_true rfl, Nat.le_of_ble_eq_true rfl⟩ (fun v_ w6 H locs hv hS => ?_)
    obtain ⟨v5, rfl, h⟩ := hv
    refine lv_goto (tgt := 40) hx hb dX4_meet_26 (by decide) ?_
    exact r_iret C hS h rfl rfl (Nat.le_of_ble_eq_true rfl) (Nat.le_of_ble_eq_true rfl) dX4_meet_40
end VX4_meet
/-! LeftIsAgreedOnModel.waits(IIIIII)I -/
section VX4_waits
variable {p : Program} {l : Launch} {e : Env} {s : State} {m : MethodId} {args : Array Value} {below : List Frame} {meth : Method} {c : Code} {Z : wZ} {A : Nat → Prop}
set_option maxHeartbeats 4000000 in
theorem kb_X4_waits_30 (C : wC p l s m args meth c cX4_waits 9 (some .int) RX4 "waits" Z A) (k : Int32 → Wd → Prop) (L30 : Wd → Nat → Int32 → Int32 → Int32 → Int32 → Int32 → Prop) (hL30 : ∀ (w : Wd) (x0 : Nat) (x2 : Int32) (x3 : Int32) (x5 : Int32) (x6 : Int32) (x8 : Int32) (H : Heap) (locs : List Loc) (ls : Array Slot), L30 w x0 x2 x3 x5 x6 x8 → wS Z A s w H locs → lv_has ls 9 [(0, .ref x0), (2, .int x2), (3, .int x3), (5, .int x5), (6, .int x6), (8, .int x8)] → W p l e ({ frames := 6, cells := 0, slots := 0, locals := 150 } : Room) s m args below meth c H locs 0 0 (MQ below (wQc Z A (pI k)) args s 0 0 A) (F0 m 30 ls [])) : ∀ (w : Wd) (a0 : Nat) (l2 : Int32) (l3 : Int32) (l5 : Int32) (l6 : Int32) (l8 : Int32) (H : Heap) (locs : List Loc) (ls : Array Slot), wb_X4_waits_30 k L30 w a0 l2 l3 l5 l6 l8 → wS Z A s w H locs → lv_has ls 9 [(0, .ref a0), (2, .int l2), (3, .int l3), (5, .int l5), (6, .int l6), (8, .int l8)] → W p l e ({ frames := 6, cells := 0, slots := 0, locals := 150 } : Room) s m args below meth c H locs 0 0 (MQ below (wQc Z A (pI k)) args s 0 0 A) (F0 m 30 ls []) := by
  intro w a0 l2 l3 l5 l6 l8 H locs ls h hS hl
  have hx := C.hx
  have hb := C.hb
  unfold wb_X4_waits_30 at h
  refine lv_iload hx hb dX4_waits_30 (lv_at hl 5 rfl) ?_
  refine lv_bipush (v := 10) hx hb dX4_waits_32 (by decide) ?_
  refine r_icmp_ge (tgt := 62) hx hb h dX4_waits_34 (by decide) (fun h => ?_) (fun h => ?_)
  · refine lv_iconst (v := -1) hx hb dX4_waits_62 (by decide) ?_
    exact r_iret C hS h rfl rfl (Nat.le_of_ble_eq_true rfl) (Nat.le_of_ble_eq_true rfl) dX4_waits_63
  · refine lv_aload_n hx hb dX4_waits_37 rfl (lv_at hl 0 rfl) ?_
    refine lv_iload_n hx hb dX4_waits_38 rfl (lv_at hl 1 rfl) ?_
    refine lv_iload_n hx hb dX4_waits_39 rfl (lv_at hl 2 rfl) ?_
    refine lv_iload hx hb dX4_waits_40 (lv_at hl 3 rfl) ?_
    refine lv_iload hx hb dX4_waits_42 (lv_at hl 4 rfl) ?_
    refine lv_iload hx hb dX4_waits_44 (lv_at hl 5 rfl) ?_
    obtain ⟨hob, h⟩ := h
    refine r_V C hS (ct_X4_met l Z w a0 l2 l3 l5 l6 l8 _ h) 5 24 hob ⟨by decide, by decide +kernel⟩ (lw_V q1781 q1783 qs64 q71 q1784) ⟨rfl, by decide, by decide, by decide +kernel⟩ ⟨Nat.le_of_ble_eq_true rfl, Nat.le_of_ble_eq_true rfl⟩ rfl hl.1 rfl (wcat4 (Nat.le_of_ble_eq_true rfl)) dX4_waits_46 ⟨Nat.le_of_ble_eq_true rfl, Nat.le_of_ble_eq_true rfl⟩ (fun v_ w4 H locs hv hS => ?_)
    obtain ⟨v3, rfl, h⟩ := hv
    refine lv_iconst (v := -1) hx hb dX4_waits_49 (by decide) ?_
    refine r_icmp_ne (tgt := 56) hx hb h dX4_waits_50 (by decide) (fun h => ?_) (fun h => ?_)
    · refine lv_iinc (i := 8) (v := (l8 + 1)) (lv' := [(8, .int (l8 + 1)), (0, .ref a0), (2, .int l2), (3, .int l3), (5, .int l5), (6, .int l6)]) hx hb dX4_waits_56 hl (k := 5) rfl rfl (by decide) rfl (fun ls hl => ?_)
      refine lv_goto (tgt := 30) hx hb dX4_waits_59 (by decide) ?_
      exact hL30 w4 a0 l2 l3 l5 l6 (l8 + 1) _ _ _ h hS (lv_sub hl [1, 2, 3, 4, 5, 0] rfl)
    · refine lv_iload hx hb dX4_waits_53 (lv_at hl 5 rfl) ?_
      exact r_iret C hS h rfl rfl (Nat.le_of_ble_eq_true rfl) (Nat.le_of_ble_eq_true rfl) dX4_waits_55
set_option maxHeartbeats 4000000 in
theorem kl_X4_waits_30 (C : wC p l s m args meth c cX4_waits 9 (some .int) RX4 "waits" Z A) (k : Int32 → Wd → Prop) : ∀ (n : Nat), ∀ (w : Wd) (a0 : Nat) (l2 : Int32) (l3 : Int32) (l5 : Int32) (l6 : Int32) (l8 : Int32) (H : Heap) (locs : List Loc) (ls : Array Slot), wl_X4_waits_30 k n w a0 l2 l3 l5 l6 l8 → wS Z A s w H locs → lv_has ls 9 [(0, .ref a0), (2, .int l2), (3, .int l3), (5, .int l5), (6, .int l6), (8, .int l8)] → W p l e ({ frames := 6, cells := 0, slots := 0, locals := 150 } : Room) s m args below meth c H locs 0 0 (MQ below (wQc Z A (pI k)) args s 0 0 A) (F0 m 30 ls []) := by
  intro n
  induction n with
  | zero =>
    intro w a0 l2 l3 l5 l6 l8 H locs ls h
    exact h.elim
  | succ n ih =>
    intro w a0 l2 l3 l5 l6 l8 H locs ls h hS hl
    exact kb_X4_waits_30 C k (wl_X4_waits_30 k n) ih w a0 l2 l3 l5 l6 l8 H locs ls h hS hl
set_option maxHeartbeats 4000000 in
theorem ct_X4_waits (l : Launch) (Z : wZ) (w : Wd) (a0 : Nat) (a1 : Int32) (a2 : Int32) (a3 : Int32) (a4 : Int32) (a5 : Int32) (a6 : Int32) (k : Int32 → Wd → Prop) (h : wp_X4_waits w a0 a1 a2 a3 a4 a5 a6 k) : wMet l Z yX4_waits cX4_waits 9 (some .int) 6 150 0 0 [.ref a0, .int a1, .int a2, .int a3, .int a4, .int a5, .int a6] w (pI k) := by
  refine wM_of (by decide +kernel) (Nat.le_of_ble_eq_true rfl) ?_
  intro p e s m below meth c ls C hS hl
  replace C : wC p l s m _ meth c cX4_waits 9 (some .int) RX4 "waits" Z _ := C
  have hl : lv_has ls 9 [(0, .ref a0), (1, .int a1), (2, .int a2), (3, .int a3), (4, .int a4), (5, .int a5), (6, .int a6)] := hl
  have hx := C.hx
  have hb := C.hb
  unfold wp_X4_waits at h
  generalize wA w = A at C hS ⊢
  refine lv_aload_n hx hb dX4_waits_0 rfl (lv_at hl 0 rfl) ?_
  refine lv_iload_n hx hb dX4_waits_1 rfl (lv_at hl 1 rfl) ?_
  refine lv_iload_n hx hb dX4_waits_2 rfl (lv_at hl 2 rfl) ?_
  refine lv_iload_n hx hb dX4_waits_3 rfl (lv_at hl 3 rfl) ?_
  refine lv_iload hx hb dX4_waits_4 (lv_at hl 4 rfl) ?_
  refine lv_iload hx hb dX4_waits_6 (lv_at hl 5 rfl) ?_
  refine lv_iload hx hb dX4_waits_8 (lv_at hl 6 rfl) ?_
  obtain ⟨hob, h⟩ := h
  refine r_V C hS (ct_X4_loadBoth l Z w a0 a1 a2 a3 a4 a5 a6 _ h) 6 24 hob ⟨by decide, by decide +kernel⟩ (lw_V q1777 q1779 qs63 q71 q1780) ⟨rfl, by decide, by decide, by decide +kernel⟩ ⟨Nat.le_of_ble_eq_true rfl, Nat.le_of_ble_eq_true rfl⟩ rfl hl.1 rfl (wcat4 (Nat.le_of_ble_eq_true rfl)) dX4_waits_10 ⟨Nat.le_of_ble_eq_true rfl, Nat.le_of_ble_eq_true rfl⟩ (fun v_ w2 H locs hv hS => ?_)
  obtain ⟨v1, rfl, h⟩ := hv
  refine lv_istore (i := 7) (lv' := [(7, .int v1), (0, .ref a0), (1, .int a1), (2, .int a2), (3, .int a3), (4, .int a4), (5, .int a5), (6, .int a6)]) hx hb dX4_waits_13 hl (by decide) rfl (fun ls hl => ?_)
  refine lv_iload hx hb dX4_waits_15 (lv_at hl 0 rfl) ?_
  refine r_if_ge (tgt := 27) hx hb h dX4_waits_17 (by decide) (fun h => ?_) (fun h => ?_)
  · refine lv_iconst (v := 0) hx hb dX4_waits_27 (by decide) ?_
    refine lv_istore (i := 8) (lv' := [(8, .int 0), (7, .int v1), (0, .ref a0), (1, .int a1), (2, .int a2), (3, .int a3), (4, .int a4), (5, .int a5), (6, .int a6)]) hx hb dX4_waits_28 hl (by decide) rfl (fun ls hl => ?_)
    exact kl_X4_waits_30 C k FU w2 a0 a2 a3 a5 a6 0 _ _ _ h hS (lv_sub hl [2, 4, 5, 7, 8, 0] rfl)
  · refine lv_aload_n hx hb dX4_waits_20 rfl (lv_at hl 1 rfl) ?_
    refine lv_iload hx hb dX4_waits_21 (lv_at hl 0 rfl) ?_
    obtain ⟨hob, h⟩ := h
    refine r_V C hS (ct_X4_refuse l Z w2 a0 v1 _ h) 1 24 hob ⟨by decide, by decide +kernel⟩ (lw_V q1442 q1444 qs28 q71 q1445) ⟨rfl, by decide, by decide, by decide +kernel⟩ ⟨Nat.le_of_ble_eq_true rfl, Nat.le_of_ble_eq_true rfl⟩ rfl hl.1 rfl (wcat4 (Nat.le_of_ble_eq_true rfl)) dX4_waits_23 ⟨Nat.le_of_ble_eq_true rfl, Nat.le_of_ble_eq_true rfl⟩ (fun v_ w6 H locs hv hS => ?_)
    obtain ⟨v5, rfl, h⟩ := hv
    exact r_iret C hS h rfl rfl (Nat.le_of_ble_eq_true rfl) (Nat.le_of_ble_eq_true rfl) dX4_waits_26
end VX4_waits
/-! LeftIsAgreedOnModel.judge(II)I -/
section VX4_judge
variable {p : Program} {l : Launch} {e : Env} {s : State} {m : MethodId} {args : Array Value} {below : List Frame} {meth : Method} {c : Code} {Z : wZ} {A : Nat → Prop}
set_option maxHeartbeats 4000000 in
theorem kb_X4_judge_63 (C : wC p l s m args meth c cX4_judge 4 (some .int) RX4 "judge" Z A) (k : Int32 → Wd → Prop) (L63 : Wd → Nat → Int32 → Int32 → Int32 → Prop) (hL63 : ∀ (w : Wd) (x0 : Nat) (x1 : Int32) (x2 : Int32) (x3 : Int32) (H : Heap) (locs : List Loc) (ls : Array Slot), L63 w x0 x1 x2 x3 → wS Z A s w H locs → lv_has ls 4 [(0, .ref x0), (1, .int x1), (2, .int x2), (3, .int x3)] → W p l e ({ frames := 2, cells := 0, slots := 0, locals := 45 } : Room) s m args below meth c H locs 0 0 (MQ below (wQc Z A (pI k)) args s 0 0 A) (F0 m 63 ls [])) : ∀ (w : Wd) (a0 : Nat) (l1 : Int32) (l2 : Int32) (l3 : Int32) (H : Heap) (locs : List Loc) (ls : Array Slot), wb_X4_judge_63 k L63 w a0 l1 l2 l3 → wS Z A s w H locs → lv_has ls 4 [(0, .ref a0), (1, .int l1), (2, .int l2), (3, .int l3)] → W p l e ({ frames := 2, cells := 0, slots := 0, locals := 45 } : Room) s m args below meth c H locs 0 0 (MQ below (wQc Z A (pI k)) args s 0 0 A) (F0 m 63 ls []) := by
  intro w a0 l1 l2 l3 H locs ls h hS hl
  have hx := C.hx
  have hb := C.hb
  unfold wb_X4_judge_63 at h
  refine lv_iload_n hx hb dX4_judge_63 rfl (lv_at hl 3 rfl) ?_
  refine lv_iload_n hx hb dX4_judge_64 rfl (lv_at hl 2 rfl) ?_
  refine r_icmp_ge (tgt := 97) hx hb h dX4_judge_65 (by decide) (fun h => ?_) (fun h => ?_)
  · refine lv_iconst (v := -1) hx hb dX4_judge_97 (by decide) ?_
    exact r_iret C hS h rfl rfl (Nat.le_of_ble_eq_true rfl) (Nat.le_of_ble_eq_true rfl) dX4_judge_98
  · refine lv_aload_n hx hb dX4_judge_68 rfl (lv_at hl 0 rfl) ?_
    refine r_getG C hS h gk_70 q1375 dX4_judge_69 (fun v11 h => ?_)
    refine lv_bipush (v := 40) hx hb dX4_judge_72 (by decide) ?_
    refine lv_iload_n hx hb dX4_judge_74 rfl (lv_at hl 1 rfl) ?_
    refine lv_imul hx hb dX4_judge_75 ?_
    refine lv_iload_n hx hb dX4_judge_76 rfl (lv_at hl 3 rfl) ?_
    refine lv_iadd hx hb dX4_judge_77 ?_
    refine r_lald C hS h dX4_judge_78 (fun v12 h => ?_)
    refine lv_lconst (v := 0) hx hb dX4_judge_79 (by decide) ?_
    refine lv_ldc2 (v := 3) hx hb C.ow (C.hts _ q1475) dX4_judge_80 ?_
    refine r_S C hS (ct_X4_isIn l Z w v12 0 3 _ h) 3 (lw_S q1439 q1440 q71 q1441) ⟨by decide, by decide, by decide +kernel⟩ ⟨Nat.le_of_ble_eq_true rfl, Nat.le_of_ble_eq_true rfl⟩ rfl hl.1 rfl (wcat4 (Nat.le_of_ble_eq_true rfl)) dX4_judge_83 ⟨Nat.le_of_ble_eq_true rfl, Nat.le_of_ble_eq_true rfl⟩ (fun v_ w14 H locs hv hS => ?_)
    obtain ⟨v13, rfl, h⟩ := hv
    refine r_if_ne (tgt := 91) hx hb h dX4_judge_86 (by decide) (fun h => ?_) (fun h => ?_)
    · refine lv_iinc (i := 3) (v := (l3 + 1)) (lv' := [(3, .int (l3 + 1)), (0, .ref a0), (1, .int l1), (2, .int l2)]) hx hb dX4_judge_91 hl (k := 3) rfl rfl (by decide) rfl (fun ls hl => ?_)
      refine lv_goto (tgt := 63) hx hb dX4_judge_94 (by decide) ?_
      exact hL63 w14 a0 l1 l2 (l3 + 1) _ _ _ h hS (lv_sub hl [1, 2, 3, 0] rfl)
    · refine lv_iload_n hx hb dX4_judge_89 rfl (lv_at hl 3 rfl) ?_
      exact r_iret C hS h rfl rfl (Nat.le_of_ble_eq_true rfl) (Nat.le_of_ble_eq_true rfl) dX4_judge_90
set_option maxHeartbeats 4000000 in
theorem kl_X4_judge_63 (C : wC p l s m args meth c cX4_judge 4 (some .int) RX4 "judge" Z A) (k : Int32 → Wd → Prop) : ∀ (n : Nat), ∀ (w : Wd) (a0 : Nat) (l1 : Int32) (l2 : Int32) (l3 : Int32) (H : Heap) (locs : List Loc) (ls : Array Slot), wl_X4_judge_63 k n w a0 l1 l2 l3 → wS Z A s w H locs → lv_has ls 4 [(0, .ref a0), (1, .int l1), (2, .int l2), (3, .int l3)] → W p l e ({ frames := 2, cells := 0, slots := 0, locals := 45 } : Room) s m args below meth c H locs 0 0 (MQ below (wQc Z A (pI k)) args s 0 0 A) (F0 m 63 ls []) := by
  intro n
  induction n with
  | zero =>
    intro w a0 l1 l2 l3 H locs ls h
    exact h.elim
  | succ n ih =>
    intro w a0 l1 l2 l3 H locs ls h hS hl
    exact kb_X4_judge_63 C k (wl_X4_judge_63 k n) ih w a0 l1 l2 l3 H locs ls h hS hl
set_option maxHeartbeats 4000000 in
theorem ct_X4_judge (l : Launch) (Z : wZ) (w : Wd) (a0 : Nat) (a1 : Int32) (a2 : Int32) (k : Int32 → Wd → Prop) (h : wp_X4_judge w a0 a1 a2 k) : wMet l Z yX4_judge cX4_judge 4 (some .int) 2 45 0 0 [.ref a0, .int a1, .int a2] w (pI k) := by
  refine wM_of (by decide +kernel) (Nat.le_of_ble_eq_true rfl) ?_
  intro p e s m below meth c ls C hS hl
  replace C : wC p l s m _ meth c cX4_judge 4 (some .int) RX4 "judge" Z _ := C
  have hl : lv_has ls 4 [(0, .ref a0), (1, .int a1), (2, .int a2)] := hl
  have hx := C.hx
  have hb := C.hb
  unfold wp_X4_judge at h
  generalize wA w = A at C hS ⊢
  refine lv_iload_n hx hb dX4_judge_0 rfl (lv_at hl 1 rfl) ?_
  refine r_S C hS (ct_X4_isShelf l Z w a1 _ h) 1 (lw_S q1562 q1563 q71 q1564) ⟨by decide, by decide, by decide +kernel⟩ ⟨Nat.le_of_ble_eq_true rfl, Nat.le_of_ble_eq_true rfl⟩ rfl hl.1 rfl (wcat4 (Nat.le_of_ble_eq_true rfl)) dX4_judge_1 ⟨Nat.le_of_ble_eq_true rfl, Nat.le_of_ble_eq_true rfl⟩ (fun v_ w2 H locs hv hS => ?_)
  obtain ⟨v1, rfl, h⟩ := hv
  refine r_if_eq (tgt := 19) hx hb h dX4_judge_4 (by decide) (fun h => ?_) (fun h => ?_)
  · refine lv_aload_n hx hb dX4_judge_19 rfl (lv_at hl 0 rfl) ?_
    refine lv_bipush (v := -2) hx hb dX4_judge_20 (by decide) ?_
    obtain ⟨hob, h⟩ := h
    refine r_V C hS (ct_X4_refuse l Z w2 a0 (-2) _ h) 1 24 hob ⟨by decide, by decide +kernel⟩ (lw_V q1442 q1444 qs28 q71 q1445) ⟨rfl, by decide, by decide, by decide +kernel⟩ ⟨Nat.le_of_ble_eq_true rfl, Nat.le_of_ble_eq_true rfl⟩ rfl hl.1 rfl (wcat4 (Nat.le_of_ble_eq_true rfl)) dX4_judge_22 ⟨Nat.le_of_ble_eq_true rfl, Nat.le_of_ble_eq_true rfl⟩ (fun v_ w4 H locs hv hS => ?_)
    obtain ⟨v3, rfl, h⟩ := hv
    exact r_iret C hS h rfl rfl (Nat.le_of_ble_eq_true rfl) (Nat.le_of_ble_eq_true rfl) dX4_judge_25
  · refine lv_iload_n hx hb dX4_judge_7 rfl (lv_at hl 2 rfl) ?_
    refine lv_i2l hx hb dX4_judge_8 rfl ?_
    refine lv_lconst (v := 0) hx hb dX4_judge_9 (by decide) ?_
    refine lv_ldc2 (v := 40) hx hb C.ow (C.hts _ q1566) dX4_judge_10 ?_
    refine r_S C hS (ct_X4_isIn l Z w2 (a2.toInt64) 0 40 _ h) 3 (lw_S q1439 q1440 q71 q1441) ⟨by decide, by decide, by decide +kernel⟩ ⟨Nat.le_of_ble_eq_true rfl, Nat.le_of_ble_eq_true rfl⟩ rfl hl.1 rfl (wcat4 (Nat.le_of_ble_eq_true rfl)) dX4_judge_13 ⟨Nat.le_of_ble_eq_true rfl, Nat.le_of_ble_eq_true rfl⟩ (fun v_ w6 H locs hv hS => ?_)
    obtain ⟨v5, rfl, h⟩ := hv
    refine r_if_ne (tgt := 26) hx hb h dX4_judge_16 (by decide) (fun h => ?_) (fun h => ?_)
    · refine lv_aload_n hx hb dX4_judge_26 rfl (lv_at hl 0 rfl) ?_
      refine lv_iload_n hx hb dX4_judge_27 rfl (lv_at hl 1 rfl) ?_
      obtain ⟨hob, h⟩ := h
      refine r_V C hS (ct_X4_rowIn l Z w6 a0 a1 _ h) 1 24 hob ⟨by decide, by decide +kernel⟩ (lw_V q1571 q1573 qs44 q71 q1574) ⟨rfl, by decide, by decide, by decide +kernel⟩ ⟨Nat.le_of_ble_eq_true rfl, Nat.le_of_ble_eq_true rfl⟩ rfl hl.1 rfl (wcat4 (Nat.le_of_ble_eq_true rfl)) dX4_judge_28 ⟨Nat.le_of_ble_eq_true rfl, Nat.le_of_ble_eq_true rfl⟩ (fun v_ w8 H locs hv hS => ?_)
      obtain ⟨v7, rfl, h⟩ := hv
      refine r_if_ge (tgt := 44) hx hb h dX4_judge_31 (by decide) (fun h => ?_) (fun h => ?_)
      · refine lv_iload_n hx hb dX4_judge_44 rfl (lv_at hl 2 rfl) ?_
        refine lv_aload_n hx hb dX4_judge_45 rfl (lv_at hl 0 rfl) ?_
        refine r_getG C hS h gk_69 q1374 dX4_judge_46 (fun v9 h => ?_)
        refine lv_iload_n hx hb dX4_judge_49 rfl (lv_at hl 1 rfl) ?_
        refine r_iald C hS h dX4_judge_50 (fun v10 h => ?_)
        refine r_icmp_le (tgt := 61) hx hb h dX4_judge_51 (by decide) (fun h => ?_) (fun h => ?_)
        · refine lv_iconst (v := 0) hx hb dX4_judge_61 (by decide) ?_
          refine lv_istore_n (i := 3) (lv' := [(3, .int 0), (0, .ref a0), (1, .int a1), (2, .int a2)]) hx hb dX4_judge_62 rfl hl (by decide) rfl (fun ls hl => ?_)
          exact kl_X4_judge_63 C k FU w8 a0 a1 a2 0 _ _ _ h hS (lv_sub hl [1, 2, 3, 0] rfl)
        · refine lv_aload_n hx hb dX4_judge_54 rfl (lv_at hl 0 rfl) ?_
          refine lv_bipush (v := -2) hx hb dX4_judge_55 (by decide) ?_
          obtain ⟨hob, h⟩ := h
          refine r_V C hS (ct_X4_refuse l Z w8 a0 (-2) _ h) 1 24 hob ⟨by decide, by decide +kernel⟩ (lw_V q1442 q1444 qs28 q71 q1445) ⟨rfl, by decide, by decide, by decide +kernel⟩ ⟨Nat.le_of_ble_eq_true rfl, Nat.le_of_ble_eq_true rfl⟩ rfl hl.1 rfl (wcat4 (Nat.le_of_ble_eq_true rfl)) dX4_judge_57 ⟨Nat.le_of_ble_eq_true rfl, Nat.le_of_ble_eq_true rfl⟩ (fun v_ w16 H locs hv hS => ?_)
          obtain ⟨v15, rfl, h⟩ := hv
          exact r_iret C hS h rfl rfl (Nat.le_of_ble_eq_true rfl) (Nat.le_of_ble_eq_true rfl) dX4_judge_60
      · refine lv_aload_n hx hb dX4_judge_34 rfl (lv_at hl 0 rfl) ?_
        refine lv_aload_n hx hb dX4_judge_35 rfl (lv_at hl 0 rfl) ?_
        refine lv_iload_n hx hb dX4_judge_36 rfl (lv_at hl 1 rfl) ?_
        obtain ⟨hob, h⟩ := h
        refine r_V C hS (ct_X4_rowIn l Z w8 a0 a1 _ h) 1 24 hob ⟨by decide, by decide +kernel⟩ (lw_V q1571 q1573 qs44 q71 q1574) ⟨rfl, by decide, by decide, by decide +kernel⟩ ⟨Nat.le_of_ble_eq_true rfl, Nat.le_of_ble_eq_true rfl⟩ rfl hl.1 rfl (wcat4 (Nat.le_of_ble_eq_true rfl)) dX4_judge_37 ⟨Nat.le_of_ble_eq_true rfl, Nat.le_of_ble_eq_true rfl⟩ (fun v_ w18 H locs hv hS => ?_)
        obtain ⟨v17, rfl, h⟩ := hv
        obtain ⟨hob, h⟩ := h
        refine r_V C hS (ct_X4_refuse l Z w18 a0 v17 _ h) 1 24 hob ⟨by decide, by decide +kernel⟩ (lw_V q1442 q1444 qs28 q71 q1445) ⟨rfl, by decide, by decide, by decide +kernel⟩ ⟨Nat.le_of_ble_eq_true rfl, Nat.le_of_ble_eq_true rfl⟩ rfl hl.1 rfl (wcat4 (Nat.le_of_ble_eq_true rfl)) dX4_judge_40 ⟨Nat.le_of_ble_eq_true rfl, Nat.le_of_ble_eq_true rfl⟩ (fun v_ w20 H locs hv hS => ?_)
        obtain ⟨v19, rfl, h⟩ := hv
        exact r_iret C hS h rfl rfl (Nat.le_of_ble_eq_true rfl) (Nat.le_of_ble_eq_true rfl) dX4_judge_43
    · refine lv_aload_n hx hb dX4_judge_19 rfl (lv_at hl 0 rfl) ?_
      refine lv_bipush (v := -2) hx hb dX4_judge_20 (by decide) ?_
      obtain ⟨hob, h⟩ := h
      refine r_V C hS (ct_X4_refuse l Z w6 a0 (-2) _ h) 1 24 hob ⟨by decide, by decide +kernel⟩ (lw_V q1442 q1444 qs28 q71 q1445) ⟨rfl, by decide, by decide, by decide +kernel⟩ ⟨Nat.le_of_ble_eq_true rfl, Nat.le_of_ble_eq_true rfl⟩ rfl hl.1 rfl (wcat4 (Nat.le_of_ble_eq_true rfl)) dX4_judge_22 ⟨Nat.le_of_ble_eq_true rfl, Nat.le_of_ble_eq_true rfl⟩ (fun v_ w22 H locs hv hS => ?_)
      obtain ⟨v21, rfl, h⟩ := hv
      exact r_iret C hS h rfl rfl (Nat.le_of_ble_eq_true rfl) (Nat.le_of_ble_eq_true rfl) dX4_judge_25
end VX4_judge
/-! LeftIsAgreedOnModel.walk(III)I -/
section VX4_walk
variable {p : Program} {l : Launch} {e : Env} {s : State} {m : MethodId} {args : Array Value} {below : List Frame} {meth : Method} {c : Code} {Z : wZ} {A : Nat → Prop}
set_option maxHeartbeats 4000000 in
theorem kb_X4_walk_75 (C : wC p l s m args meth c cX4_walk 6 (some .int) RX4 "walk" Z A) (k : Int32 → Wd → Prop) : ∀ (w : Wd) (a0 : Nat) (l3 : Int32) (l5 : Int32) (s0 : Option Nat) (s1 : Int32) (s2 : Int32) (H : Heap) (locs : List Loc) (ls : Array Slot), wb_X4_walk_75 k w a0 l3 l5 s0 s1 s2 → wS Z A s w H locs → lv_has ls 6 [(0, .ref a0), (3, .int l3), (5, .int l5)] → W p l e ({ frames := 6, cells := 0, slots := 0, locals := 145 } : Room) s m args below meth c H locs 0 0 (MQ below (wQc Z A (pI k)) args s 0 0 A) (F0 m 75 ls [.int s2, .int s1, va_rf s0]) := by
  intro w a0 l3 l5 s0 s1 s2 H locs ls h hS hl
  have hx := C.hx
  have hb := C.hb
  unfold wb_X4_walk_75 at h
  refine r_iast C hS h dX4_walk_75 (fun w11 H locs h hS => ?_)
  refine lv_aload_n hx hb dX4_walk_76 rfl (lv_at hl 0 rfl) ?_
  refine r_getG C hS h gk_56 q1355 dX4_walk_77 (fun v12 h => ?_)
  refine lv_iconst (v := 5) hx hb dX4_walk_80 (by decide) ?_
  refine lv_iload_n hx hb dX4_walk_81 rfl (lv_at hl 1 rfl) ?_
  refine lv_imul hx hb dX4_walk_82 ?_
  refine lv_iconst (v := 3) hx hb dX4_walk_83 (by decide) ?_
  refine lv_iadd hx hb dX4_walk_84 ?_
  refine lv_aload_n hx hb dX4_walk_85 rfl (lv_at hl 0 rfl) ?_
  refine r_getG C hS h gk_62 q1366 dX4_walk_86 (fun v13 h => ?_)
  refine lv_iconst (v := 0) hx hb dX4_walk_89 (by decide) ?_
  refine r_iald C hS h dX4_walk_90 (fun v14 h => ?_)
  refine r_iast C hS h dX4_walk_91 (fun w15 H locs h hS => ?_)
  refine lv_aload_n hx hb dX4_walk_92 rfl (lv_at hl 0 rfl) ?_
  refine r_getG C hS h gk_56 q1355 dX4_walk_93 (fun v16 h => ?_)
  refine lv_bipush (v := 95) hx hb dX4_walk_96 (by decide) ?_
  refine lv_dup2_11 hx hb dX4_walk_98 rfl (va_rf_cat _) ?_
  refine r_iald C hS h dX4_walk_99 (fun v17 h => ?_)
  refine lv_iload hx hb dX4_walk_100 (lv_at hl 2 rfl) ?_
  refine r_if_eq (tgt := 109) hx hb h dX4_walk_102 (by decide) (fun h => ?_) (fun h => ?_)
  · refine lv_iconst (v := 0) hx hb dX4_walk_109 (by decide) ?_
    refine lv_iadd hx hb dX4_walk_110 ?_
    refine r_iast C hS h dX4_walk_111 (fun w18 H locs h hS => ?_)
    refine lv_aload_n hx hb dX4_walk_112 rfl (lv_at hl 0 rfl) ?_
    refine lv_iload_n hx hb dX4_walk_113 rfl (lv_at hl 1 rfl) ?_
    obtain ⟨hob, h⟩ := h
    refine r_V C hS (ct_X4_cell l Z w18 a0 l3 _ h) 1 24 hob ⟨by decide, by decide +kernel⟩ (lw_V q1462 q1464 qs32 q71 q1465) ⟨rfl, by decide, by decide, by decide +kernel⟩ ⟨Nat.le_of_ble_eq_true rfl, Nat.le_of_ble_eq_true rfl⟩ rfl hl.1 rfl (wcat4 (Nat.le_of_ble_eq_true rfl)) dX4_walk_114 ⟨Nat.le_of_ble_eq_true rfl, Nat.le_of_ble_eq_true rfl⟩ (fun v_ w20 H locs hv hS => ?_)
    obtain ⟨v19, rfl, h⟩ := hv
    exact r_iret C hS h rfl rfl (Nat.le_of_ble_eq_true rfl) (Nat.le_of_ble_eq_true rfl) dX4_walk_117
  · refine lv_iconst (v := 1) hx hb dX4_walk_105 (by decide) ?_
    refine lv_goto (tgt := 110) hx hb dX4_walk_106 (by decide) ?_
    refine lv_iadd hx hb dX4_walk_110 ?_
    refine r_iast C hS h dX4_walk_111 (fun w21 H locs h hS => ?_)
    refine lv_aload_n hx hb dX4_walk_112 rfl (lv_at hl 0 rfl) ?_
    refine lv_iload_n hx hb dX4_walk_113 rfl (lv_at hl 1 rfl) ?_
    obtain ⟨hob, h⟩ := h
    refine r_V C hS (ct_X4_cell l Z w21 a0 l3 _ h) 1 24 hob ⟨by decide, by decide +kernel⟩ (lw_V q1462 q1464 qs32 q71 q1465) ⟨rfl, by decide, by decide, by decide +kernel⟩ ⟨Nat.le_of_ble_eq_true rfl, Nat.le_of_ble_eq_true rfl⟩ rfl hl.1 rfl (wcat4 (Nat.le_of_ble_eq_true rfl)) dX4_walk_114 ⟨Nat.le_of_ble_eq_true rfl, Nat.le_of_ble_eq_true rfl⟩ (fun v_ w23 H locs hv hS => ?_)
    obtain ⟨v22, rfl, h⟩ := hv
    exact r_iret C hS h rfl rfl (Nat.le_of_ble_eq_true rfl) (Nat.le_of_ble_eq_true rfl) dX4_walk_117
set_option maxHeartbeats 4000000 in
theorem kb_X4_walk_46 (C : wC p l s m args meth c cX4_walk 6 (some .int) RX4 "walk" Z A) (k : Int32 → Wd → Prop) : ∀ (w : Wd) (a0 : Nat) (l3 : Int32) (s0 : Int32) (H : Heap) (locs : List Loc) (ls : Array Slot), wb_X4_walk_46 k w a0 l3 s0 → wS Z A s w H locs → lv_has ls 6 [(0, .ref a0), (3, .int l3)] → W p l e ({ frames := 6, cells := 0, slots := 0, locals := 145 } : Room) s m args below meth c H locs 0 0 (MQ below (wQc Z A (pI k)) args s 0 0 A) (F0 m 46 ls [.int s0]) := by
  intro w a0 l3 s0 H locs ls h hS hl
  have hx := C.hx
  have hb := C.hb
  unfold wb_X4_walk_46 at h
  refine lv_istore (i := 5) (lv' := [(5, .int s0), (0, .ref a0), (3, .int l3)]) hx hb dX4_walk_46 hl (by decide) rfl (fun ls hl => ?_)
  refine lv_aload_n hx hb dX4_walk_48 rfl (lv_at hl 1 rfl) ?_
  refine r_getG C hS h gk_56 q1355 dX4_walk_49 (fun v8 h => ?_)
  refine lv_iconst (v := 5) hx hb dX4_walk_52 (by decide) ?_
  refine lv_iload_n hx hb dX4_walk_53 rfl (lv_at hl 2 rfl) ?_
  refine lv_imul hx hb dX4_walk_54 ?_
  refine lv_iconst (v := 2) hx hb dX4_walk_55 (by decide) ?_
  refine lv_iadd hx hb dX4_walk_56 ?_
  refine lv_iload hx hb dX4_walk_57 (lv_at hl 0 rfl) ?_
  refine r_if_eq (tgt := 69) hx hb h dX4_walk_59 (by decide) (fun h => ?_) (fun h => ?_)
  · refine lv_aload_n hx hb dX4_walk_69 rfl (lv_at hl 1 rfl) ?_
    refine r_getG C hS h gk_61 q1365 dX4_walk_70 (fun v9 h => ?_)
    refine lv_iconst (v := 0) hx hb dX4_walk_73 (by decide) ?_
    refine r_iald C hS h dX4_walk_74 (fun v10 h => ?_)
    exact kb_X4_walk_75 C k w a0 l3 s0 v8 ((5 * l3) + 2) v10 _ _ _ h hS (lv_sub hl [1, 2, 0] rfl)
  · refine lv_aload_n hx hb dX4_walk_62 rfl (lv_at hl 1 rfl) ?_
    refine r_getF C hS h gk_79 q1371 dX4_walk_63 (fun v24 h => ?_)
    refine lv_goto (tgt := 75) hx hb dX4_walk_66 (by decide) ?_
    exact kb_X4_walk_75 C k w a0 l3 s0 v8 ((5 * l3) + 2) v24 _ _ _ h hS (lv_sub hl [1, 2, 0] rfl)
set_option maxHeartbeats 4000000 in
theorem ct_X4_walk (l : Launch) (Z : wZ) (w : Wd) (a0 : Nat) (a1 : Int32) (a2 : Int32) (a3 : Int32) (k : Int32 → Wd → Prop) (h : wp_X4_walk w a0 a1 a2 a3 k) : wMet l Z yX4_walk cX4_walk 6 (some .int) 6 145 0 0 [.ref a0, .int a1, .int a2, .int a3] w (pI k) := by
  refine wM_of (by decide +kernel) (Nat.le_of_ble_eq_true rfl) ?_
  intro p e s m below meth c ls C hS hl
  replace C : wC p l s m _ meth c cX4_walk 6 (some .int) RX4 "walk" Z _ := C
  have hl : lv_has ls 6 [(0, .ref a0), (1, .int a1), (2, .int a2), (3, .int a3)] := hl
  have hx := C.hx
  have hb := C.hb
  unfold wp_X4_walk at h
  generalize wA w = A at C hS ⊢
  refine lv_aload_n hx hb dX4_walk_0 rfl (lv_at hl 0 rfl) ?_
  refine lv_aload_n hx hb dX4_walk_1 rfl (lv_at hl 0 rfl) ?_
  refine lv_iload_n hx hb dX4_walk_2 rfl (lv_at hl 3 rfl) ?_
  obtain ⟨hob, h⟩ := h
  refine r_V C hS (ct_X4_isPerson l Z w a0 a3 _ h) 1 24 hob ⟨by decide, by decide +kernel⟩ (lw_V q1494 q1496 qs35 q71 q1497) ⟨rfl, by decide, by decide, by decide +kernel⟩ ⟨Nat.le_of_ble_eq_true rfl, Nat.le_of_ble_eq_true rfl⟩ rfl hl.1 rfl (wcat4 (Nat.le_of_ble_eq_true rfl)) dX4_walk_3 ⟨Nat.le_of_ble_eq_true rfl, Nat.le_of_ble_eq_true rfl⟩ (fun v_ w2 H locs hv hS => ?_)
  obtain ⟨v1, rfl, h⟩ := hv
  refine lv_iload_n hx hb dX4_walk_6 rfl (lv_at hl 1 rfl) ?_
  refine lv_iload_n hx hb dX4_walk_7 rfl (lv_at hl 2 rfl) ?_
  obtain ⟨hob, h⟩ := h
  refine r_V C hS (ct_X4_loadIf l Z w2 a0 v1 a1 a2 _ h) 3 24 hob ⟨by decide, by decide +kernel⟩ (lw_V q1631 q1633 qs53 q71 q1634) ⟨rfl, by decide, by decide, by decide +kernel⟩ ⟨Nat.le_of_ble_eq_true rfl, Nat.le_of_ble_eq_true rfl⟩ rfl hl.1 rfl (wcat4 (Nat.le_of_ble_eq_true rfl)) dX4_walk_8 ⟨Nat.le_of_ble_eq_true rfl, Nat.le_of_ble_eq_true rfl⟩ (fun v_ w4 H locs hv hS => ?_)
  obtain ⟨v3, rfl, h⟩ := hv
  refine lv_istore (i := 4) (lv' := [(4, .int v3), (0, .ref a0), (1, .int a1), (2, .int a2), (3, .int a3)]) hx hb dX4_walk_11 hl (by decide) rfl (fun ls hl => ?_)
  refine lv_iload hx hb dX4_walk_13 (lv_at hl 0 rfl) ?_
  refine r_if_ge (tgt := 25) hx hb h dX4_walk_15 (by decide) (fun h => ?_) (fun h => ?_)
  · refine lv_aload_n hx hb dX4_walk_25 rfl (lv_at hl 1 rfl) ?_
    refine lv_iload_n hx hb dX4_walk_26 rfl (lv_at hl 4 rfl) ?_
    refine lv_iload_n hx hb dX4_walk_27 rfl (lv_at hl 3 rfl) ?_
    obtain ⟨hob, h⟩ := h
    refine r_V C hS (ct_X4_go l Z w4 a0 a3 a2 _ h) 2 24 hob ⟨by decide, by decide +kernel⟩ (lw_V q1639 q1641 qs55 q71 q1642) ⟨rfl, by decide, by decide, by decide +kernel⟩ ⟨Nat.le_of_ble_eq_true rfl, Nat.le_of_ble_eq_true rfl⟩ rfl hl.1 rfl (wcat4 (Nat.le_of_ble_eq_true rfl)) dX4_walk_28 ⟨Nat.le_of_ble_eq_true rfl, Nat.le_of_ble_eq_true rfl⟩ (fun v_ w5 H locs hv hS => ?_)
    obtain ⟨rfl, h⟩ := hv
    refine lv_aload_n hx hb dX4_walk_31 rfl (lv_at hl 1 rfl) ?_
    refine r_getG C hS h gk_66 q1370 dX4_walk_32 (fun v6 h => ?_)
    refine lv_iconst (v := 0) hx hb dX4_walk_35 (by decide) ?_
    refine r_iald C hS h dX4_walk_36 (fun v7 h => ?_)
    refine lv_iconst (v := -1) hx hb dX4_walk_37 (by decide) ?_
    refine r_icmp_eq (tgt := 45) hx hb h dX4_walk_38 (by decide) (fun h => ?_) (fun h => ?_)
    · refine lv_iconst (v := 0) hx hb dX4_walk_45 (by decide) ?_
      exact kb_X4_walk_46 C k w5 a0 a3 0 _ _ _ h hS (lv_sub hl [1, 4] rfl)
    · refine lv_iconst (v := 1) hx hb dX4_walk_41 (by decide) ?_
      refine lv_goto (tgt := 46) hx hb dX4_walk_42 (by decide) ?_
      exact kb_X4_walk_46 C k w5 a0 a3 1 _ _ _ h hS (lv_sub hl [1, 4] rfl)
  · refine lv_aload_n hx hb dX4_walk_18 rfl (lv_at hl 1 rfl) ?_
    refine lv_iload hx hb dX4_walk_19 (lv_at hl 0 rfl) ?_
    obtain ⟨hob, h⟩ := h
    refine r_V C hS (ct_X4_refuse l Z w4 a0 v3 _ h) 1 24 hob ⟨by decide, by decide +kernel⟩ (lw_V q1442 q1444 qs28 q71 q1445) ⟨rfl, by decide, by decide, by decide +kernel⟩ ⟨Nat.le_of_ble_eq_true rfl, Nat.le_of_ble_eq_true rfl⟩ rfl hl.1 rfl (wcat4 (Nat.le_of_ble_eq_true rfl)) dX4_walk_21 ⟨Nat.le_of_ble_eq_true rfl, Nat.le_of_ble_eq_true rfl⟩ (fun v_ w26 H locs hv hS => ?_)
    obtain ⟨v25, rfl, h⟩ := hv
    exact r_iret C hS h rfl rfl (Nat.le_of_ble_eq_true rfl) (Nat.le_of_ble_eq_true rfl) dX4_walk_24
end VX4_walk
/-! LeftIsAgreedOnModel.draw(I)I -/
section VX4_draw
variable {p : Program} {l : Launch} {e : Env} {s : State} {m : MethodId} {args : Array Value} {below : List Frame} {meth : Method} {c : Code} {Z : wZ} {A : Nat → Prop}
set_option maxHeartbeats 4000000 in
theorem ct_X4_draw (l : Launch) (Z : wZ) (w : Wd) (a0 : Nat) (a1 : Int32) (k : Int32 → Wd → Prop) (h : wp_X4_draw w a0 a1 k) : wMet l Z yX4_draw cX4_draw 2 (some .int) 0 0 0 0 [.ref a0, .int a1] w (pI k) := by
  refine wM_of (by decide +kernel) (Nat.le_of_ble_eq_true rfl) ?_
  intro p e s m below meth c ls C hS hl
  replace C : wC p l s m _ meth c cX4_draw 2 (some .int) RX4 "draw" Z _ := C
  have hl : lv_has ls 2 [(0, .ref a0), (1, .int a1)] := hl
  have hx := C.hx
  have hb := C.hb
  unfold wp_X4_draw at h
  generalize wA w = A at C hS ⊢
  refine lv_aload_n hx hb dX4_draw_0 rfl (lv_at hl 0 rfl) ?_
  refine r_getG C hS h gk_56 q1355 dX4_draw_1 (fun v1 h => ?_)
  refine lv_bipush (v := 96) hx hb dX4_draw_4 (by decide) ?_
  refine lv_aload_n hx hb dX4_draw_6 rfl (lv_at hl 0 rfl) ?_
  refine r_getG C hS h gk_56 q1355 dX4_draw_7 (fun v2 h => ?_)
  refine lv_bipush (v := 96) hx hb dX4_draw_10 (by decide) ?_
  refine r_iald C hS h dX4_draw_12 (fun v3 h => ?_)
  refine lv_ldcw (v := 1103515245) hx hb C.ow (C.hts _ q1807) dX4_draw_13 ?_
  refine lv_imul hx hb dX4_draw_16 ?_
  refine lv_sipush (v := 12345) hx hb dX4_draw_17 (by decide) ?_
  refine lv_iadd hx hb dX4_draw_20 ?_
  refine r_iast C hS h dX4_draw_21 (fun w4 H locs h hS => ?_)
  refine lv_aload_n hx hb dX4_draw_22 rfl (lv_at hl 0 rfl) ?_
  refine r_getG C hS h gk_56 q1355 dX4_draw_23 (fun v5 h => ?_)
  refine lv_bipush (v := 96) hx hb dX4_draw_26 (by decide) ?_
  refine r_iald C hS h dX4_draw_28 (fun v6 h => ?_)
  refine lv_bipush (v := 16) hx hb dX4_draw_29 (by decide) ?_
  refine lv_iushr hx hb dX4_draw_31 rfl ?_
  refine lv_iload_n hx hb dX4_draw_32 rfl (lv_at hl 1 rfl) ?_
  obtain ⟨hne, h⟩ := h
  refine lv_irem hx hb dX4_draw_33 hne ?_
  exact r_iret C hS h rfl rfl (Nat.le_of_ble_eq_true rfl) (Nat.le_of_ble_eq_true rfl) dX4_draw_34
end VX4_draw
/-! LeftIsAgreedOnModel.years(I)I -/
section VX4_years
variable {p : Program} {l : Launch} {e : Env} {s : State} {m : MethodId} {args : Array Value} {below : List Frame} {meth : Method} {c : Code} {Z : wZ} {A : Nat → Prop}
set_option maxHeartbeats 4000000 in
theorem kb_X4_years_56 (C : wC p l s m args meth c cX4_years 5 (some .int) RX4 "years" Z A) (k : Int32 → Wd → Prop) (L21 : Wd → Nat → Int32 → Int32 → Prop) (hL21 : ∀ (w : Wd) (x0 : Nat) (x1 : Int32) (x2 : Int32) (H : Heap) (locs : List Loc) (ls : Array Slot), L21 w x0 x1 x2 → wS Z A s w H locs → lv_has ls 5 [(0, .ref x0), (1, .int x1), (2, .int x2)] → W p l e ({ frames := 3, cells := 0, slots := 0, locals := 65 } : Room) s m args below meth c H locs 0 0 (MQ below (wQc Z A (pI k)) args s 0 0 A) (F0 m 21 ls [])) (L56 : Wd → Nat → Int32 → Int32 → Int32 → Prop) (hL56 : ∀ (w : Wd) (x0 : Nat) (x1 : Int32) (x2 : Int32) (x4 : Int32) (H : Heap) (locs : List Loc) (ls : Array Slot), L56 w x0 x1 x2 x4 → wS Z A s w H locs → lv_has ls 5 [(0, .ref x0), (1, .int x1), (2, .int x2), (4, .int x4)] → W p l e ({ frames := 3, cells := 0, slots := 0, locals := 65 } : Room) s m args below meth c H locs 0 0 (MQ below (wQc Z A (pI k)) args s 0 0 A) (F0 m 56 ls [])) : ∀ (w : Wd) (a0 : Nat) (l1 : Int32) (l2 : Int32) (l4 : Int32) (H : Heap) (locs : List Loc) (ls : Array Slot), wb_X4_years_56 k L21 L56 w a0 l1 l2 l4 → wS Z A s w H locs → lv_has ls 5 [(0, .ref a0), (1, .int l1), (2, .int l2), (4, .int l4)] → W p l e ({ frames := 3, cells := 0, slots := 0, locals := 65 } : Room) s m args below meth c H locs 0 0 (MQ below (wQc Z A (pI k)) args s 0 0 A) (F0 m 56 ls []) := by
  intro w a0 l1 l2 l4 H locs ls h hS hl
  have hx := C.hx
  have hb := C.hb
  unfold wb_X4_years_56 at h
  refine lv_iload hx hb dX4_years_56 (lv_at hl 3 rfl) ?_
  refine lv_aload_n hx hb dX4_years_58 rfl (lv_at hl 0 rfl) ?_
  obtain ⟨hob, h⟩ := h
  refine r_V C hS (ct_X4_many l Z w a0 _ h) 0 24 hob ⟨by decide, by decide +kernel⟩ (lw_V q1458 q1460 qs31 q71 q1461) ⟨rfl, by decide, by decide, by decide +kernel⟩ ⟨Nat.le_of_ble_eq_true rfl, Nat.le_of_ble_eq_true rfl⟩ rfl hl.1 rfl (wcat4 (Nat.le_of_ble_eq_true rfl)) dX4_years_59 ⟨Nat.le_of_ble_eq_true rfl, Nat.le_of_ble_eq_true rfl⟩ (fun v_ w14 H locs hv hS => ?_)
  obtain ⟨v13, rfl, h⟩ := hv
  refine r_icmp_ge (tgt := 106) hx hb h dX4_years_62 (by decide) (fun h => ?_) (fun h => ?_)
  · refine lv_aload_n hx hb dX4_years_106 rfl (lv_at hl 0 rfl) ?_
    refine r_getG C hS h gk_56 q1355 dX4_years_107 (fun v15 h => ?_)
    refine lv_bipush (v := 94) hx hb dX4_years_110 (by decide) ?_
    refine lv_dup2_11 hx hb dX4_years_112 rfl (va_rf_cat _) ?_
    refine r_iald C hS h dX4_years_113 (fun v16 h => ?_)
    refine lv_iconst (v := 1) hx hb dX4_years_114 (by decide) ?_
    refine lv_iadd hx hb dX4_years_115 ?_
    refine r_iast C hS h dX4_years_116 (fun w17 H locs h hS => ?_)
    refine lv_iinc (i := 2) (v := (l2 + 1)) (lv' := [(2, .int (l2 + 1)), (0, .ref a0), (1, .int l1), (4, .int l4)]) hx hb dX4_years_117 hl (k := 2) rfl rfl (by decide) rfl (fun ls hl => ?_)
    refine lv_goto (tgt := 21) hx hb dX4_years_120 (by decide) ?_
    exact hL21 w17 a0 l1 (l2 + 1) _ _ _ h hS (lv_sub hl [1, 2, 0] rfl)
  · refine lv_aload_n hx hb dX4_years_65 rfl (lv_at hl 0 rfl) ?_
    refine r_getG C hS h gk_56 q1355 dX4_years_66 (fun v18 h => ?_)
    refine lv_iconst (v := 5) hx hb dX4_years_69 (by decide) ?_
    refine lv_iload hx hb dX4_years_70 (lv_at hl 3 rfl) ?_
    refine lv_imul hx hb dX4_years_72 ?_
    refine lv_iconst (v := 4) hx hb dX4_years_73 (by decide) ?_
    refine lv_iadd hx hb dX4_years_74 ?_
    refine lv_dup2_11 hx hb dX4_years_75 rfl (va_rf_cat _) ?_
    refine r_iald C hS h dX4_years_76 (fun v19 h => ?_)
    refine lv_aload_n hx hb dX4_years_77 rfl (lv_at hl 0 rfl) ?_
    refine lv_bipush (v := 12) hx hb dX4_years_78 (by decide) ?_
    obtain ⟨hob, h⟩ := h
    refine r_V C hS (ct_X4_draw l Z w14 a0 12 _ h) 1 24 hob ⟨by decide, by decide +kernel⟩ (lw_V q1803 q1805 qs65 q71 q1806) ⟨rfl, by decide, by decide, by decide +kernel⟩ ⟨Nat.le_of_ble_eq_true rfl, Nat.le_of_ble_eq_true rfl⟩ rfl hl.1 rfl (wcat4 (Nat.le_of_ble_eq_true rfl)) dX4_years_80 ⟨Nat.le_of_ble_eq_true rfl, Nat.le_of_ble_eq_true rfl⟩ (fun v_ w21 H locs hv hS => ?_)
    obtain ⟨v20, rfl, h⟩ := hv
    refine lv_aload_n hx hb dX4_years_83 rfl (lv_at hl 0 rfl) ?_
    refine r_getG C hS h gk_56 q1355 dX4_years_84 (fun v22 h => ?_)
    refine lv_bipush (v := 93) hx hb dX4_years_87 (by decide) ?_
    refine r_iald C hS h dX4_years_89 (fun v23 h => ?_)
    refine r_icmp_ge (tgt := 97) hx hb h dX4_years_90 (by decide) (fun h => ?_) (fun h => ?_)
    · refine lv_iconst (v := 0) hx hb dX4_years_97 (by decide) ?_
      refine lv_ixor hx hb dX4_years_98 ?_
      refine r_iast C hS h dX4_years_99 (fun w24 H locs h hS => ?_)
      refine lv_iinc (i := 4) (v := (l4 + 1)) (lv' := [(4, .int (l4 + 1)), (0, .ref a0), (1, .int l1), (2, .int l2)]) hx hb dX4_years_100 hl (k := 3) rfl rfl (by decide) rfl (fun ls hl => ?_)
      refine lv_goto (tgt := 56) hx hb dX4_years_103 (by decide) ?_
      exact hL56 w24 a0 l1 l2 (l4 + 1) _ _ _ h hS (lv_sub hl [1, 2, 3, 0] rfl)
    · refine lv_iconst (v := 1) hx hb dX4_years_93 (by decide) ?_
      refine lv_goto (tgt := 98) hx hb dX4_years_94 (by decide) ?_
      refine lv_ixor hx hb dX4_years_98 ?_
      refine r_iast C hS h dX4_years_99 (fun w25 H locs h hS => ?_)
      refine lv_iinc (i := 4) (v := (l4 + 1)) (lv' := [(4, .int (l4 + 1)), (0, .ref a0), (1, .int l1), (2, .int l2)]) hx hb dX4_years_100 hl (k := 3) rfl rfl (by decide) rfl (fun ls hl => ?_)
      refine lv_goto (tgt := 56) hx hb dX4_years_103 (by decide) ?_
      exact hL56 w25 a0 l1 l2 (l4 + 1) _ _ _ h hS (lv_sub hl [1, 2, 3, 0] rfl)
set_option maxHeartbeats 4000000 in
theorem kl_X4_years_56 (C : wC p l s m args meth c cX4_years 5 (some .int) RX4 "years" Z A) (k : Int32 → Wd → Prop) (L21 : Wd → Nat → Int32 → Int32 → Prop) (hL21 : ∀ (w : Wd) (x0 : Nat) (x1 : Int32) (x2 : Int32) (H : Heap) (locs : List Loc) (ls : Array Slot), L21 w x0 x1 x2 → wS Z A s w H locs → lv_has ls 5 [(0, .ref x0), (1, .int x1), (2, .int x2)] → W p l e ({ frames := 3, cells := 0, slots := 0, locals := 65 } : Room) s m args below meth c H locs 0 0 (MQ below (wQc Z A (pI k)) args s 0 0 A) (F0 m 21 ls [])) : ∀ (n : Nat), ∀ (w : Wd) (a0 : Nat) (l1 : Int32) (l2 : Int32) (l4 : Int32) (H : Heap) (locs : List Loc) (ls : Array Slot), wl_X4_years_56 k L21 n w a0 l1 l2 l4 → wS Z A s w H locs → lv_has ls 5 [(0, .ref a0), (1, .int l1), (2, .int l2), (4, .int l4)] → W p l e ({ frames := 3, cells := 0, slots := 0, locals := 65 } : Room) s m args below meth c H locs 0 0 (MQ below (wQc Z A (pI k)) args s 0 0 A) (F0 m 56 ls []) := by
  intro n
  induction n with
  | zero =>
    intro w a0 l1 l2 l4 H locs ls h
    exact h.elim
  | succ n ih =>
    intro w a0 l1 l2 l4 H locs ls h hS hl
    exact kb_X4_years_56 C k L21 hL21 (wl_X4_years_56 k L21 n) ih w a0 l1 l2 l4 H locs ls h hS hl
set_option maxHeartbeats 4000000 in
theorem kb_X4_years_21 (C : wC p l s m args meth c cX4_years 5 (some .int) RX4 "years" Z A) (k : Int32 → Wd → Prop) (L21 : Wd → Nat → Int32 → Int32 → Prop) (hL21 : ∀ (w : Wd) (x0 : Nat) (x1 : Int32) (x2 : Int32) (H : Heap) (locs : List Loc) (ls : Array Slot), L21 w x0 x1 x2 → wS Z A s w H locs → lv_has ls 5 [(0, .ref x0), (1, .int x1), (2, .int x2)] → W p l e ({ frames := 3, cells := 0, slots := 0, locals := 65 } : Room) s m args below meth c H locs 0 0 (MQ below (wQc Z A (pI k)) args s 0 0 A) (F0 m 21 ls [])) : ∀ (w : Wd) (a0 : Nat) (l1 : Int32) (l2 : Int32) (H : Heap) (locs : List Loc) (ls : Array Slot), wb_X4_years_21 k L21 w a0 l1 l2 → wS Z A s w H locs → lv_has ls 5 [(0, .ref a0), (1, .int l1), (2, .int l2)] → W p l e ({ frames := 3, cells := 0, slots := 0, locals := 65 } : Room) s m args below meth c H locs 0 0 (MQ below (wQc Z A (pI k)) args s 0 0 A) (F0 m 21 ls []) := by
  intro w a0 l1 l2 H locs ls h hS hl
  have hx := C.hx
  have hb := C.hb
  unfold wb_X4_years_21 at h
  refine lv_iload_n hx hb dX4_years_21 rfl (lv_at hl 2 rfl) ?_
  refine lv_iload_n hx hb dX4_years_22 rfl (lv_at hl 1 rfl) ?_
  refine r_icmp_ge (tgt := 123) hx hb h dX4_years_23 (by decide) (fun h => ?_) (fun h => ?_)
  · refine lv_aload_n hx hb dX4_years_123 rfl (lv_at hl 0 rfl) ?_
    refine r_getG C hS h gk_56 q1355 dX4_years_124 (fun v3 h => ?_)
    refine lv_bipush (v := 91) hx hb dX4_years_127 (by decide) ?_
    refine r_iald C hS h dX4_years_129 (fun v4 h => ?_)
    exact r_iret C hS h rfl rfl (Nat.le_of_ble_eq_true rfl) (Nat.le_of_ble_eq_true rfl) dX4_years_130
  · refine lv_aload_n hx hb dX4_years_26 rfl (lv_at hl 0 rfl) ?_
    obtain ⟨hob, h⟩ := h
    refine r_V C hS (ct_X4_carries l Z w a0 _ h) 0 24 hob ⟨by decide, by decide +kernel⟩ (lw_V q1757 q1738 q1739 q71 q1740) ⟨rfl, by decide, by decide, by decide +kernel⟩ ⟨Nat.le_of_ble_eq_true rfl, Nat.le_of_ble_eq_true rfl⟩ rfl hl.1 rfl (wcat4 (Nat.le_of_ble_eq_true rfl)) dX4_years_27 ⟨Nat.le_of_ble_eq_true rfl, Nat.le_of_ble_eq_true rfl⟩ (fun v_ w6 H locs hv hS => ?_)
    obtain ⟨v5, rfl, h⟩ := hv
    refine lv_istore_n (i := 3) (lv' := [(3, .int v5), (0, .ref a0), (1, .int l1), (2, .int l2)]) hx hb dX4_years_30 rfl hl (by decide) rfl (fun ls hl => ?_)
    refine lv_aload_n hx hb dX4_years_31 rfl (lv_at hl 1 rfl) ?_
    refine r_getG C hS h gk_56 q1355 dX4_years_32 (fun v7 h => ?_)
    refine lv_bipush (v := 92) hx hb dX4_years_35 (by decide) ?_
    refine lv_aload_n hx hb dX4_years_37 rfl (lv_at hl 1 rfl) ?_
    refine r_getG C hS h gk_56 q1355 dX4_years_38 (fun v8 h => ?_)
    refine lv_bipush (v := 91) hx hb dX4_years_41 (by decide) ?_
    refine r_iald C hS h dX4_years_43 (fun v9 h => ?_)
    refine r_iast C hS h dX4_years_44 (fun w10 H locs h hS => ?_)
    refine lv_aload_n hx hb dX4_years_45 rfl (lv_at hl 1 rfl) ?_
    refine r_getG C hS h gk_56 q1355 dX4_years_46 (fun v11 h => ?_)
    refine lv_bipush (v := 91) hx hb dX4_years_49 (by decide) ?_
    refine lv_iload_n hx hb dX4_years_51 rfl (lv_at hl 0 rfl) ?_
    refine r_iast C hS h dX4_years_52 (fun w12 H locs h hS => ?_)
    refine lv_iconst (v := 0) hx hb dX4_years_53 (by decide) ?_
    refine lv_istore (i := 4) (lv' := [(4, .int 0), (3, .int v5), (0, .ref a0), (1, .int l1), (2, .int l2)]) hx hb dX4_years_54 hl (by decide) rfl (fun ls hl => ?_)
    exact kl_X4_years_56 C k L21 hL21 FU w12 a0 l1 l2 0 _ _ _ h hS (lv_sub hl [2, 3, 4, 0] rfl)
set_option maxHeartbeats 4000000 in
theorem kl_X4_years_21 (C : wC p l s m args meth c cX4_years 5 (some .int) RX4 "years" Z A) (k : Int32 → Wd → Prop) : ∀ (n : Nat), ∀ (w : Wd) (a0 : Nat) (l1 : Int32) (l2 : Int32) (H : Heap) (locs : List Loc) (ls : Array Slot), wl_X4_years_21 k n w a0 l1 l2 → wS Z A s w H locs → lv_has ls 5 [(0, .ref a0), (1, .int l1), (2, .int l2)] → W p l e ({ frames := 3, cells := 0, slots := 0, locals := 65 } : Room) s m args below meth c H locs 0 0 (MQ below (wQc Z A (pI k)) args s 0 0 A) (F0 m 21 ls []) := by
  intro n
  induction n with
  | zero =>
    intro w a0 l1 l2 H locs ls h
    exact h.elim
  | succ n ih =>
    intro w a0 l1 l2 H locs ls h hS hl
    exact kb_X4_years_21 C k (wl_X4_years_21 k n) ih w a0 l1 l2 H locs ls h hS hl
set_option maxHeartbeats 4000000 in
theorem ct_X4_years (l : Launch) (Z : wZ) (w : Wd) (a0 : Nat) (a1 : Int32) (k : Int32 → Wd → Prop) (h : wp_X4_years w a0 a1 k) : wMet l Z yX4_years cX4_years 5 (some .int) 3 65 0 0 [.ref a0, .int a1] w (pI k) := by
  refine wM_of (by decide +kernel) (Nat.le_of_ble_eq_true rfl) ?_
  intro p e s m below meth c ls C hS hl
  replace C : wC p l s m _ meth c cX4_years 5 (some .int) RX4 "years" Z _ := C
  have hl : lv_has ls 5 [(0, .ref a0), (1, .int a1)] := hl
  have hx := C.hx
  have hb := C.hb
  unfold wp_X4_years at h
  generalize wA w = A at C hS ⊢
  refine lv_iload_n hx hb dX4_years_0 rfl (lv_at hl 1 rfl) ?_
  refine lv_i2l hx hb dX4_years_1 rfl ?_
  refine lv_lconst (v := 1) hx hb dX4_years_2 (by decide) ?_
  refine lv_ldc2 (v := 60) hx hb C.ow (C.hts _ q1802) dX4_years_3 ?_
  refine r_S C hS (ct_X4_isIn l Z w (a1.toInt64) 1 60 _ h) 3 (lw_S q1439 q1440 q71 q1441) ⟨by decide, by decide, by decide +kernel⟩ ⟨Nat.le_of_ble_eq_true rfl, Nat.le_of_ble_eq_true rfl⟩ rfl hl.1 rfl (wcat4 (Nat.le_of_ble_eq_true rfl)) dX4_years_6 ⟨Nat.le_of_ble_eq_true rfl, Nat.le_of_ble_eq_true rfl⟩ (fun v_ w2 H locs hv hS => ?_)
  obtain ⟨v1, rfl, h⟩ := hv
  refine r_if_ne (tgt := 19) hx hb h dX4_years_9 (by decide) (fun h => ?_) (fun h => ?_)
  · refine lv_iconst (v := 0) hx hb dX4_years_19 (by decide) ?_
    refine lv_istore_n (i := 2) (lv' := [(2, .int 0), (0, .ref a0), (1, .int a1)]) hx hb dX4_years_20 rfl hl (by decide) rfl (fun ls hl => ?_)
    exact kl_X4_years_21 C k FU w2 a0 a1 0 _ _ _ h hS (lv_sub hl [1, 2, 0] rfl)
  · refine lv_aload_n hx hb dX4_years_12 rfl (lv_at hl 0 rfl) ?_
    refine lv_bipush (v := -2) hx hb dX4_years_13 (by decide) ?_
    obtain ⟨hob, h⟩ := h
    refine r_V C hS (ct_X4_refuse l Z w2 a0 (-2) _ h) 1 24 hob ⟨by decide, by decide +kernel⟩ (lw_V q1442 q1444 qs28 q71 q1445) ⟨rfl, by decide, by decide, by decide +kernel⟩ ⟨Nat.le_of_ble_eq_true rfl, Nat.le_of_ble_eq_true rfl⟩ rfl hl.1 rfl (wcat4 (Nat.le_of_ble_eq_true rfl)) dX4_years_15 ⟨Nat.le_of_ble_eq_true rfl, Nat.le_of_ble_eq_true rfl⟩ (fun v_ w27 H locs hv hS => ?_)
    obtain ⟨v26, rfl, h⟩ := hv
    exact r_iret C hS h rfl rfl (Nat.le_of_ble_eq_true rfl) (Nat.le_of_ble_eq_true rfl) dX4_years_18
end VX4_years
/-! LeftIsAgreedOnModel.seed(I)I -/
section VX4_seed
variable {p : Program} {l : Launch} {e : Env} {s : State} {m : MethodId} {args : Array Value} {below : List Frame} {meth : Method} {c : Code} {Z : wZ} {A : Nat → Prop}
set_option maxHeartbeats 4000000 in
theorem ct_X4_seed (l : Launch) (Z : wZ) (w : Wd) (a0 : Nat) (a1 : Int32) (k : Int32 → Wd → Prop) (h : wp_X4_seed w a0 a1 k) : wMet l Z yX4_seed cX4_seed 3 (some .int) 0 0 0 0 [.ref a0, .int a1] w (pI k) := by
  refine wM_of (by decide +kernel) (Nat.le_of_ble_eq_true rfl) ?_
  intro p e s m below meth c ls C hS hl
  replace C : wC p l s m _ meth c cX4_seed 3 (some .int) RX4 "seed" Z _ := C
  have hl : lv_has ls 3 [(0, .ref a0), (1, .int a1)] := hl
  have hx := C.hx
  have hb := C.hb
  unfold wp_X4_seed at h
  generalize wA w = A at C hS ⊢
  refine lv_aload_n hx hb dX4_seed_0 rfl (lv_at hl 0 rfl) ?_
  refine r_getG C hS h gk_56 q1355 dX4_seed_1 (fun v1 h => ?_)
  refine lv_bipush (v := 96) hx hb dX4_seed_4 (by decide) ?_
  refine r_iald C hS h dX4_seed_6 (fun v2 h => ?_)
  refine lv_istore_n (i := 2) (lv' := [(2, .int v2), (0, .ref a0), (1, .int a1)]) hx hb dX4_seed_7 rfl hl (by decide) rfl (fun ls hl => ?_)
  refine lv_aload_n hx hb dX4_seed_8 rfl (lv_at hl 1 rfl) ?_
  refine r_getG C hS h gk_56 q1355 dX4_seed_9 (fun v3 h => ?_)
  refine lv_bipush (v := 96) hx hb dX4_seed_12 (by decide) ?_
  refine lv_iload_n hx hb dX4_seed_14 rfl (lv_at hl 2 rfl) ?_
  refine r_iast C hS h dX4_seed_15 (fun w4 H locs h hS => ?_)
  refine lv_iload_n hx hb dX4_seed_16 rfl (lv_at hl 0 rfl) ?_
  exact r_iret C hS h rfl rfl (Nat.le_of_ble_eq_true rfl) (Nat.le_of_ble_eq_true rfl) dX4_seed_17
end VX4_seed
/-! LeftIsAgreedOnModel.image()I -/
section VX4_image
variable {p : Program} {l : Launch} {e : Env} {s : State} {m : MethodId} {args : Array Value} {below : List Frame} {meth : Method} {c : Code} {Z : wZ} {A : Nat → Prop}
set_option maxHeartbeats 4000000 in
theorem ct_X4_image (l : Launch) (Z : wZ) (w : Wd) (a0 : Nat) (k : Int32 → Wd → Prop) (h : wp_X4_image w a0 k) : wMet l Z yX4_image cX4_image 1 (some .int) 1 22 0 0 [.ref a0] w (pI k) := by
  refine wM_of (by decide +kernel) (Nat.le_of_ble_eq_true rfl) ?_
  intro p e s m below meth c ls C hS hl
  replace C : wC p l s m _ meth c cX4_image 1 (some .int) RX4 "image" Z _ := C
  have hl : lv_has ls 1 [(0, .ref a0)] := hl
  have hx := C.hx
  have hb := C.hb
  unfold wp_X4_image at h
  generalize wA w = A at C hS ⊢
  refine lv_aload_n hx hb dX4_image_0 rfl (lv_at hl 0 rfl) ?_
  refine r_getG C hS h gk_56 q1355 dX4_image_1 (fun v1 h => ?_)
  refine lv_aload_n hx hb dX4_image_4 rfl (lv_at hl 0 rfl) ?_
  refine r_getG C hS h gk_57 q1356 dX4_image_5 (fun v2 h => ?_)
  refine r_S C hS (ct_X4_move l Z w v1 v2 _ h) 2 (lw_S q1523 q1524 q71 q1525) ⟨by decide, by decide, by decide +kernel⟩ ⟨Nat.le_of_ble_eq_true rfl, Nat.le_of_ble_eq_true rfl⟩ rfl hl.1 rfl (wcat4 (Nat.le_of_ble_eq_true rfl)) dX4_image_8 ⟨Nat.le_of_ble_eq_true rfl, Nat.le_of_ble_eq_true rfl⟩ (fun v_ w3 H locs hv hS => ?_)
  obtain ⟨rfl, h⟩ := hv
  refine lv_aload_n hx hb dX4_image_11 rfl (lv_at hl 0 rfl) ?_
  refine lv_iconst (v := 1) hx hb dX4_image_12 (by decide) ?_
  refine r_putF (fin := false) C hS h gk_80 (ty := .boolean) (by decide +kernel) ⟨by decide +kernel, by decide +kernel⟩ gk_80f (fun h => by cases h) q1358 dX4_image_13 (fun w4 H locs h hS => ?_)
  refine lv_iconst (v := 1) hx hb dX4_image_16 (by decide) ?_
  exact r_iret C hS h rfl rfl (Nat.le_of_ble_eq_true rfl) (Nat.le_of_ble_eq_true rfl) dX4_image_17
end VX4_image
/-! LeftIsAgreedOnModel.back()I -/
section VX4_back
variable {p : Program} {l : Launch} {e : Env} {s : State} {m : MethodId} {args : Array Value} {below : List Frame} {meth : Method} {c : Code} {Z : wZ} {A : Nat → Prop}
set_option maxHeartbeats 4000000 in
theorem kb_X4_back_27 (C : wC p l s m args meth c cX4_back 2 (some .int) RX4 "back" Z A) (k : Int32 → Wd → Prop) (L27 : Wd → Nat → Int32 → Prop) (hL27 : ∀ (w : Wd) (x0 : Nat) (x1 : Int32) (H : Heap) (locs : List Loc) (ls : Array Slot), L27 w x0 x1 → wS Z A s w H locs → lv_has ls 2 [(0, .ref x0), (1, .int x1)] → W p l e ({ frames := 1, cells := 0, slots := 0, locals := 22 } : Room) s m args below meth c H locs 0 0 (MQ below (wQc Z A (pI k)) args s 0 0 A) (F0 m 27 ls [])) : ∀ (w : Wd) (a0 : Nat) (l1 : Int32) (H : Heap) (locs : List Loc) (ls : Array Slot), wb_X4_back_27 k L27 w a0 l1 → wS Z A s w H locs → lv_has ls 2 [(0, .ref a0), (1, .int l1)] → W p l e ({ frames := 1, cells := 0, slots := 0, locals := 22 } : Room) s m args below meth c H locs 0 0 (MQ below (wQc Z A (pI k)) args s 0 0 A) (F0 m 27 ls []) := by
  intro w a0 l1 H locs ls h hS hl
  have hx := C.hx
  have hb := C.hb
  unfold wb_X4_back_27 at h
  refine lv_iload_n hx hb dX4_back_27 rfl (lv_at hl 1 rfl) ?_
  refine lv_bipush (v := 8) hx hb dX4_back_28 (by decide) ?_
  refine r_icmp_ge (tgt := 71) hx hb h dX4_back_30 (by decide) (fun h => ?_) (fun h => ?_)
  · refine lv_iconst (v := 1) hx hb dX4_back_71 (by decide) ?_
    exact r_iret C hS h rfl rfl (Nat.le_of_ble_eq_true rfl) (Nat.le_of_ble_eq_true rfl) dX4_back_72
  · refine lv_aload_n hx hb dX4_back_33 rfl (lv_at hl 0 rfl) ?_
    refine r_getG C hS h gk_68 q1373 dX4_back_34 (fun v5 h => ?_)
    refine lv_iload_n hx hb dX4_back_37 rfl (lv_at hl 1 rfl) ?_
    refine lv_aload_n hx hb dX4_back_38 rfl (lv_at hl 0 rfl) ?_
    refine r_getG C hS h gk_68 q1373 dX4_back_39 (fun v6 h => ?_)
    refine lv_iload_n hx hb dX4_back_42 rfl (lv_at hl 1 rfl) ?_
    refine r_iald C hS h dX4_back_43 (fun v7 h => ?_)
    refine lv_bipush (v := 10) hx hb dX4_back_44 (by decide) ?_
    refine lv_aload_n hx hb dX4_back_46 rfl (lv_at hl 0 rfl) ?_
    obtain ⟨hob, h⟩ := h
    refine r_V C hS (ct_X4_many l Z w a0 _ h) 0 24 hob ⟨by decide, by decide +kernel⟩ (lw_V q1458 q1460 qs31 q71 q1461) ⟨rfl, by decide, by decide, by decide +kernel⟩ ⟨Nat.le_of_ble_eq_true rfl, Nat.le_of_ble_eq_true rfl⟩ rfl hl.1 rfl (wcat4 (Nat.le_of_ble_eq_true rfl)) dX4_back_47 ⟨Nat.le_of_ble_eq_true rfl, Nat.le_of_ble_eq_true rfl⟩ (fun v_ w9 H locs hv hS => ?_)
    obtain ⟨v8, rfl, h⟩ := hv
    refine lv_iadd hx hb dX4_back_50 ?_
    refine r_icmp_lt (tgt := 58) hx hb h dX4_back_51 (by decide) (fun h => ?_) (fun h => ?_)
    · refine lv_aload_n hx hb dX4_back_58 rfl (lv_at hl 0 rfl) ?_
      refine r_getG C hS h gk_68 q1373 dX4_back_59 (fun v10 h => ?_)
      refine lv_iload_n hx hb dX4_back_62 rfl (lv_at hl 1 rfl) ?_
      refine r_iald C hS h dX4_back_63 (fun v11 h => ?_)
      refine r_iast C hS h dX4_back_64 (fun w12 H locs h hS => ?_)
      refine lv_iinc (i := 1) (v := (l1 + 1)) (lv' := [(1, .int (l1 + 1)), (0, .ref a0)]) hx hb dX4_back_65 hl (k := 1) rfl rfl (by decide) rfl (fun ls hl => ?_)
      refine lv_goto (tgt := 27) hx hb dX4_back_68 (by decide) ?_
      exact hL27 w12 a0 (l1 + 1) _ _ _ h hS (lv_sub hl [1, 0] rfl)
    · refine lv_iconst (v := -1) hx hb dX4_back_54 (by decide) ?_
      refine lv_goto (tgt := 64) hx hb dX4_back_55 (by decide) ?_
      refine r_iast C hS h dX4_back_64 (fun w13 H locs h hS => ?_)
      refine lv_iinc (i := 1) (v := (l1 + 1)) (lv' := [(1, .int (l1 + 1)), (0, .ref a0)]) hx hb dX4_back_65 hl (k := 1) rfl rfl (by decide) rfl (fun ls hl => ?_)
      refine lv_goto (tgt := 27) hx hb dX4_back_68 (by decide) ?_
      exact hL27 w13 a0 (l1 + 1) _ _ _ h hS (lv_sub hl [1, 0] rfl)
set_option maxHeartbeats 4000000 in
theorem kl_X4_back_27 (C : wC p l s m args meth c cX4_back 2 (some .int) RX4 "back" Z A) (k : Int32 → Wd → Prop) : ∀ (n : Nat), ∀ (w : Wd) (a0 : Nat) (l1 : Int32) (H : Heap) (locs : List Loc) (ls : Array Slot), wl_X4_back_27 k n w a0 l1 → wS Z A s w H locs → lv_has ls 2 [(0, .ref a0), (1, .int l1)] → W p l e ({ frames := 1, cells := 0, slots := 0, locals := 22 } : Room) s m args below meth c H locs 0 0 (MQ below (wQc Z A (pI k)) args s 0 0 A) (F0 m 27 ls []) := by
  intro n
  induction n with
  | zero =>
    intro w a0 l1 H locs ls h
    exact h.elim
  | succ n ih =>
    intro w a0 l1 H locs ls h hS hl
    exact kb_X4_back_27 C k (wl_X4_back_27 k n) ih w a0 l1 H locs ls h hS hl
set_option maxHeartbeats 4000000 in
theorem ct_X4_back (l : Launch) (Z : wZ) (w : Wd) (a0 : Nat) (k : Int32 → Wd → Prop) (h : wp_X4_back w a0 k) : wMet l Z yX4_back cX4_back 2 (some .int) 1 22 0 0 [.ref a0] w (pI k) := by
  refine wM_of (by decide +kernel) (Nat.le_of_ble_eq_true rfl) ?_
  intro p e s m below meth c ls C hS hl
  replace C : wC p l s m _ meth c cX4_back 2 (some .int) RX4 "back" Z _ := C
  have hl : lv_has ls 2 [(0, .ref a0)] := hl
  have hx := C.hx
  have hb := C.hb
  unfold wp_X4_back at h
  generalize wA w = A at C hS ⊢
  refine lv_aload_n hx hb dX4_back_0 rfl (lv_at hl 0 rfl) ?_
  refine r_getF C hS h gk_80 q1358 dX4_back_1 (fun v1 h => ?_)
  refine r_if_ne (tgt := 14) hx hb h dX4_back_4 (by decide) (fun h => ?_) (fun h => ?_)
  · refine lv_aload_n hx hb dX4_back_14 rfl (lv_at hl 0 rfl) ?_
    refine r_getG C hS h gk_57 q1356 dX4_back_15 (fun v2 h => ?_)
    refine lv_aload_n hx hb dX4_back_18 rfl (lv_at hl 0 rfl) ?_
    refine r_getG C hS h gk_56 q1355 dX4_back_19 (fun v3 h => ?_)
    refine r_S C hS (ct_X4_move l Z w v2 v3 _ h) 2 (lw_S q1523 q1524 q71 q1525) ⟨by decide, by decide, by decide +kernel⟩ ⟨Nat.le_of_ble_eq_true rfl, Nat.le_of_ble_eq_true rfl⟩ rfl hl.1 rfl (wcat4 (Nat.le_of_ble_eq_true rfl)) dX4_back_22 ⟨Nat.le_of_ble_eq_true rfl, Nat.le_of_ble_eq_true rfl⟩ (fun v_ w4 H locs hv hS => ?_)
    obtain ⟨rfl, h⟩ := hv
    refine lv_iconst (v := 0) hx hb dX4_back_25 (by decide) ?_
    refine lv_istore_n (i := 1) (lv' := [(1, .int 0), (0, .ref a0)]) hx hb dX4_back_26 rfl hl (by decide) rfl (fun ls hl => ?_)
    exact kl_X4_back_27 C k FU w4 a0 0 _ _ _ h hS (lv_sub hl [1, 0] rfl)
  · refine lv_aload_n hx hb dX4_back_7 rfl (lv_at hl 0 rfl) ?_
    refine lv_bipush (v := -5) hx hb dX4_back_8 (by decide) ?_
    obtain ⟨hob, h⟩ := h
    refine r_V C hS (ct_X4_refuse l Z w a0 (-5) _ h) 1 24 hob ⟨by decide, by decide +kernel⟩ (lw_V q1442 q1444 qs28 q71 q1445) ⟨rfl, by decide, by decide, by decide +kernel⟩ ⟨Nat.le_of_ble_eq_true rfl, Nat.le_of_ble_eq_true rfl⟩ rfl hl.1 rfl (wcat4 (Nat.le_of_ble_eq_true rfl)) dX4_back_10 ⟨Nat.le_of_ble_eq_true rfl, Nat.le_of_ble_eq_true rfl⟩ (fun v_ w15 H locs hv hS => ?_)
    obtain ⟨v14, rfl, h⟩ := hv
    exact r_iret C hS h rfl rfl (Nat.le_of_ble_eq_true rfl) (Nat.le_of_ble_eq_true rfl) dX4_back_13
end VX4_back
/-! LeftIsAgreedOnModel.status(I)I -/
section VX4_status
variable {p : Program} {l : Launch} {e : Env} {s : State} {m : MethodId} {args : Array Value} {below : List Frame} {meth : Method} {c : Code} {Z : wZ} {A : Nat → Prop}
set_option maxHeartbeats 4000000 in
theorem kb_X4_status_103 (C : wC p l s m args meth c cX4_status 4 (some .int) RX4 "status" Z A) (k : Int32 → Wd → Prop) (L103 : Wd → Nat → Int32 → Int32 → Prop) (hL103 : ∀ (w : Wd) (x0 : Nat) (x2 : Int32) (x3 : Int32) (H : Heap) (locs : List Loc) (ls : Array Slot), L103 w x0 x2 x3 → wS Z A s w H locs → lv_has ls 4 [(0, .ref x0), (2, .int x2), (3, .int x3)] → W p l e ({ frames := 1, cells := 0, slots := 0, locals := 25 } : Room) s m args below meth c H locs 0 0 (MQ below (wQc Z A (pI k)) args s 0 0 A) (F0 m 103 ls [])) : ∀ (w : Wd) (a0 : Nat) (l2 : Int32) (l3 : Int32) (H : Heap) (locs : List Loc) (ls : Array Slot), wb_X4_status_103 k L103 w a0 l2 l3 → wS Z A s w H locs → lv_has ls 4 [(0, .ref a0), (2, .int l2), (3, .int l3)] → W p l e ({ frames := 1, cells := 0, slots := 0, locals := 25 } : Room) s m args below meth c H locs 0 0 (MQ below (wQc Z A (pI k)) args s 0 0 A) (F0 m 103 ls []) := by
  intro w a0 l2 l3 H locs ls h hS hl
  have hx := C.hx
  have hb := C.hb
  unfold wb_X4_status_103 at h
  refine lv_iload_n hx hb dX4_status_103 rfl (lv_at hl 2 rfl) ?_
  refine lv_bipush (v := 49) hx hb dX4_status_104 (by decide) ?_
  refine r_icmp_ge (tgt := 127) hx hb h dX4_status_106 (by decide) (fun h => ?_) (fun h => ?_)
  · refine lv_iload_n hx hb dX4_status_127 rfl (lv_at hl 1 rfl) ?_
    exact r_iret C hS h rfl rfl (Nat.le_of_ble_eq_true rfl) (Nat.le_of_ble_eq_true rfl) dX4_status_128
  · refine lv_iload_n hx hb dX4_status_109 rfl (lv_at hl 1 rfl) ?_
    refine lv_aload_n hx hb dX4_status_110 rfl (lv_at hl 0 rfl) ?_
    refine r_getG C hS h gk_56 q1355 dX4_status_111 (fun v13 h => ?_)
    refine lv_bipush (v := 40) hx hb dX4_status_114 (by decide) ?_
    refine lv_iload_n hx hb dX4_status_116 rfl (lv_at hl 2 rfl) ?_
    refine lv_iadd hx hb dX4_status_117 ?_
    refine r_iald C hS h dX4_status_118 (fun v14 h => ?_)
    refine lv_iadd hx hb dX4_status_119 ?_
    refine lv_istore_n (i := 2) (lv' := [(2, .int (l2 + v14)), (0, .ref a0), (3, .int l3)]) hx hb dX4_status_120 rfl hl (by decide) rfl (fun ls hl => ?_)
    refine lv_iinc (i := 3) (v := (l3 + 1)) (lv' := [(3, .int (l3 + 1)), (2, .int (l2 + v14)), (0, .ref a0)]) hx hb dX4_status_121 hl (k := 2) rfl rfl (by decide) rfl (fun ls hl => ?_)
    refine lv_goto (tgt := 103) hx hb dX4_status_124 (by decide) ?_
    exact hL103 w a0 (l2 + v14) (l3 + 1) _ _ _ h hS (lv_sub hl [2, 1, 0] rfl)
set_option maxHeartbeats 4000000 in
theorem kl_X4_status_103 (C : wC p l s m args meth c cX4_status 4 (some .int) RX4 "status" Z A) (k : Int32 → Wd → Prop) : ∀ (n : Nat), ∀ (w : Wd) (a0 : Nat) (l2 : Int32) (l3 : Int32) (H : Heap) (locs : List Loc) (ls : Array Slot), wl_X4_status_103 k n w a0 l2 l3 → wS Z A s w H locs → lv_has ls 4 [(0, .ref a0), (2, .int l2), (3, .int l3)] → W p l e ({ frames := 1, cells := 0, slots := 0, locals := 25 } : Room) s m args below meth c H locs 0 0 (MQ below (wQc Z A (pI k)) args s 0 0 A) (F0 m 103 ls []) := by
  intro n
  induction n with
  | zero =>
    intro w a0 l2 l3 H locs ls h
    exact h.elim
  | succ n ih =>
    intro w a0 l2 l3 H locs ls h hS hl
    exact kb_X4_status_103 C k (wl_X4_status_103 k n) ih w a0 l2 l3 H locs ls h hS hl
set_option maxHeartbeats 4000000 in
theorem kb_X4_status_157 (C : wC p l s m args meth c cX4_status 4 (some .int) RX4 "status" Z A) (k : Int32 → Wd → Prop) (L157 : Wd → Nat → Int32 → Int32 → Prop) (hL157 : ∀ (w : Wd) (x0 : Nat) (x2 : Int32) (x3 : Int32) (H : Heap) (locs : List Loc) (ls : Array Slot), L157 w x0 x2 x3 → wS Z A s w H locs → lv_has ls 4 [(0, .ref x0), (2, .int x2), (3, .int x3)] → W p l e ({ frames := 1, cells := 0, slots := 0, locals := 25 } : Room) s m args below meth c H locs 0 0 (MQ below (wQc Z A (pI k)) args s 0 0 A) (F0 m 157 ls [])) : ∀ (w : Wd) (a0 : Nat) (l2 : Int32) (l3 : Int32) (H : Heap) (locs : List Loc) (ls : Array Slot), wb_X4_status_157 k L157 w a0 l2 l3 → wS Z A s w H locs → lv_has ls 4 [(0, .ref a0), (2, .int l2), (3, .int l3)] → W p l e ({ frames := 1, cells := 0, slots := 0, locals := 25 } : Room) s m args below meth c H locs 0 0 (MQ below (wQc Z A (pI k)) args s 0 0 A) (F0 m 157 ls []) := by
  intro w a0 l2 l3 H locs ls h hS hl
  have hx := C.hx
  have hb := C.hb
  unfold wb_X4_status_157 at h
  refine lv_iload_n hx hb dX4_status_157 rfl (lv_at hl 2 rfl) ?_
  refine lv_bipush (v := 8) hx hb dX4_status_158 (by decide) ?_
  refine r_icmp_ge (tgt := 187) hx hb h dX4_status_160 (by decide) (fun h => ?_) (fun h => ?_)
  · refine lv_iload_n hx hb dX4_status_187 rfl (lv_at hl 1 rfl) ?_
    exact r_iret C hS h rfl rfl (Nat.le_of_ble_eq_true rfl) (Nat.le_of_ble_eq_true rfl) dX4_status_188
  · refine lv_iload_n hx hb dX4_status_163 rfl (lv_at hl 1 rfl) ?_
    refine lv_aload_n hx hb dX4_status_164 rfl (lv_at hl 0 rfl) ?_
    refine r_getG C hS h gk_68 q1373 dX4_status_165 (fun v22 h => ?_)
    refine lv_iload_n hx hb dX4_status_168 rfl (lv_at hl 2 rfl) ?_
    refine r_iald C hS h dX4_status_169 (fun v23 h => ?_)
    refine lv_iconst (v := -1) hx hb dX4_status_170 (by decide) ?_
    refine r_icmp_ne (tgt := 178) hx hb h dX4_status_171 (by decide) (fun h => ?_) (fun h => ?_)
    · refine lv_iconst (v := 1) hx hb dX4_status_178 (by decide) ?_
      refine lv_iadd hx hb dX4_status_179 ?_
      refine lv_istore_n (i := 2) (lv' := [(2, .int (l2 + 1)), (0, .ref a0), (3, .int l3)]) hx hb dX4_status_180 rfl hl (by decide) rfl (fun ls hl => ?_)
      refine lv_iinc (i := 3) (v := (l3 + 1)) (lv' := [(3, .int (l3 + 1)), (2, .int (l2 + 1)), (0, .ref a0)]) hx hb dX4_status_181 hl (k := 2) rfl rfl (by decide) rfl (fun ls hl => ?_)
      refine lv_goto (tgt := 157) hx hb dX4_status_184 (by decide) ?_
      exact hL157 w a0 (l2 + 1) (l3 + 1) _ _ _ h hS (lv_sub hl [2, 1, 0] rfl)
    · refine lv_iconst (v := 0) hx hb dX4_status_174 (by decide) ?_
      refine lv_goto (tgt := 179) hx hb dX4_status_175 (by decide) ?_
      refine lv_iadd hx hb dX4_status_179 ?_
      refine lv_istore_n (i := 2) (lv' := [(2, .int (l2 + 0)), (0, .ref a0), (3, .int l3)]) hx hb dX4_status_180 rfl hl (by decide) rfl (fun ls hl => ?_)
      refine lv_iinc (i := 3) (v := (l3 + 1)) (lv' := [(3, .int (l3 + 1)), (2, .int (l2 + 0)), (0, .ref a0)]) hx hb dX4_status_181 hl (k := 2) rfl rfl (by decide) rfl (fun ls hl => ?_)
      refine lv_goto (tgt := 157) hx hb dX4_status_184 (by decide) ?_
      exact hL157 w a0 (l2 + 0) (l3 + 1) _ _ _ h hS (lv_sub hl [2, 1, 0] rfl)
set_option maxHeartbeats 4000000 in
theorem kl_X4_status_157 (C : wC p l s m args meth c cX4_status 4 (some .int) RX4 "status" Z A) (k : Int32 → Wd → Prop) : ∀ (n : Nat), ∀ (w : Wd) (a0 : Nat) (l2 : Int32) (l3 : Int32) (H : Heap) (locs : List Loc) (ls : Array Slot), wl_X4_status_157 k n w a0 l2 l3 → wS Z A s w H locs → lv_has ls 4 [(0, .ref a0), (2, .int l2), (3, .int l3)] → W p l e ({ frames := 1, cells := 0, slots := 0, locals := 25 } : Room) s m args below meth c H locs 0 0 (MQ below (wQc Z A (pI k)) args s 0 0 A) (F0 m 157 ls []) := by
  intro n
  induction n with
  | zero =>
    intro w a0 l2 l3 H locs ls h
    exact h.elim
  | succ n ih =>
    intro w a0 l2 l3 H locs ls h hS hl
    exact kb_X4_status_157 C k (wl_X4_status_157 k n) ih w a0 l2 l3 H locs ls h hS hl
set_option maxHeartbeats 4000000 in
theorem ct_X4_status (l : Launch) (Z : wZ) (w : Wd) (a0 : Nat) (a1 : Int32) (k : Int32 → Wd → Prop) (h : wp_X4_status w a0 a1 k) : wMet l Z yX4_status cX4_status 4 (some .int) 1 25 0 0 [.ref a0, .int a1] w (pI k) := by
  refine wM_of (by decide +kernel) (Nat.le_of_ble_eq_true rfl) ?_
  intro p e s m below meth c ls C hS hl
  replace C : wC p l s m _ meth c cX4_status 4 (some .int) RX4 "status" Z _ := C
  have hl : lv_has ls 4 [(0, .ref a0), (1, .int a1)] := hl
  have hx := C.hx
  have hb := C.hb
  unfold wp_X4_status at h
  generalize wA w = A at C hS ⊢
  refine lv_iload_n hx hb dX4_status_0 rfl (lv_at hl 1 rfl) ?_
  refine lv_i2l hx hb dX4_status_1 rfl ?_
  refine lv_ldc2 (v := 12) hx hb C.ow (C.hts _ q1489) dX4_status_2 ?_
  refine lv_ldc2 (v := 16) hx hb C.ow (C.hts _ q1824) dX4_status_5 ?_
  refine r_S C hS (ct_X4_isIn l Z w (a1.toInt64) 12 16 _ h) 3 (lw_S q1439 q1440 q71 q1441) ⟨by decide, by decide, by decide +kernel⟩ ⟨Nat.le_of_ble_eq_true rfl, Nat.le_of_ble_eq_true rfl⟩ rfl hl.1 rfl (wcat4 (Nat.le_of_ble_eq_true rfl)) dX4_status_8 ⟨Nat.le_of_ble_eq_true rfl, Nat.le_of_ble_eq_true rfl⟩ (fun v_ w2 H locs hv hS => ?_)
  obtain ⟨v1, rfl, h⟩ := hv
  refine r_if_eq (tgt := 24) hx hb h dX4_status_11 (by decide) (fun h => ?_) (fun h => ?_)
  · refine lv_iconst (v := 0) hx hb dX4_status_24 (by decide) ?_
    refine lv_istore_n (i := 2) (lv' := [(2, .int 0), (0, .ref a0), (1, .int a1)]) hx hb dX4_status_25 rfl hl (by decide) rfl (fun ls hl => ?_)
    refine lv_iload_n hx hb dX4_status_26 rfl (lv_at hl 2 rfl) ?_
    by_cases c27_0 : a1 = 0
    · rw [if_pos c27_0] at h
      refine lv_tableIn (tgt := 84) hx hb dX4_status_27 (by rw [c27_0]; decide) (by rw [c27_0]; decide) (by rw [c27_0]; rfl) (by decide) ?_
      refine lv_aload_n hx hb dX4_status_84 rfl (lv_at hl 1 rfl) ?_
      obtain ⟨hob, h⟩ := h
      refine r_V C hS (ct_X4_many l Z w2 a0 _ h) 0 24 hob ⟨by decide, by decide +kernel⟩ (lw_V q1458 q1460 qs31 q71 q1461) ⟨rfl, by decide, by decide, by decide +kernel⟩ ⟨Nat.le_of_ble_eq_true rfl, Nat.le_of_ble_eq_true rfl⟩ rfl hl.1 rfl (wcat4 (Nat.le_of_ble_eq_true rfl)) dX4_status_85 ⟨Nat.le_of_ble_eq_true rfl, Nat.le_of_ble_eq_true rfl⟩ (fun v_ w4 H locs hv hS => ?_)
      obtain ⟨v3, rfl, h⟩ := hv
      exact r_iret C hS h rfl rfl (Nat.le_of_ble_eq_true rfl) (Nat.le_of_ble_eq_true rfl) dX4_status_88
    rw [if_neg c27_0] at h
    by_cases c27_1 : a1 = 1
    · rw [if_pos c27_1] at h
      refine lv_tableIn (tgt := 89) hx hb dX4_status_27 (by rw [c27_1]; decide) (by rw [c27_1]; decide) (by rw [c27_1]; rfl) (by decide) ?_
      refine lv_aload_n hx hb dX4_status_89 rfl (lv_at hl 1 rfl) ?_
      refine r_getG C hS h gk_56 q1355 dX4_status_90 (fun v5 h => ?_)
      refine lv_bipush (v := 90) hx hb dX4_status_93 (by decide) ?_
      refine lv_iload_n hx hb dX4_status_95 rfl (lv_at hl 2 rfl) ?_
      refine lv_iadd hx hb dX4_status_96 ?_
      refine lv_iconst (v := 1) hx hb dX4_status_97 (by decide) ?_
      refine lv_isub hx hb dX4_status_98 ?_
      refine r_iald C hS h dX4_status_99 (fun v6 h => ?_)
      exact r_iret C hS h rfl rfl (Nat.le_of_ble_eq_true rfl) (Nat.le_of_ble_eq_true rfl) dX4_status_100
    rw [if_neg c27_1] at h
    by_cases c27_2 : a1 = 2
    · rw [if_pos c27_2] at h
      refine lv_tableIn (tgt := 89) hx hb dX4_status_27 (by rw [c27_2]; decide) (by rw [c27_2]; decide) (by rw [c27_2]; rfl) (by decide) ?_
      refine lv_aload_n hx hb dX4_status_89 rfl (lv_at hl 1 rfl) ?_
      refine r_getG C hS h gk_56 q1355 dX4_status_90 (fun v7 h => ?_)
      refine lv_bipush (v := 90) hx hb dX4_status_93 (by decide) ?_
      refine lv_iload_n hx hb dX4_status_95 rfl (lv_at hl 2 rfl) ?_
      refine lv_iadd hx hb dX4_status_96 ?_
      refine lv_iconst (v := 1) hx hb dX4_status_97 (by decide) ?_
      refine lv_isub hx hb dX4_status_98 ?_
      refine r_iald C hS h dX4_status_99 (fun v8 h => ?_)
      exact r_iret C hS h rfl rfl (Nat.le_of_ble_eq_true rfl) (Nat.le_of_ble_eq_true rfl) dX4_status_100
    rw [if_neg c27_2] at h
    by_cases c27_3 : a1 = 3
    · rw [if_pos c27_3] at h
      refine lv_tableIn (tgt := 89) hx hb dX4_status_27 (by rw [c27_3]; decide) (by rw [c27_3]; decide) (by rw [c27_3]; rfl) (by decide) ?_
      refine lv_aload_n hx hb dX4_status_89 rfl (lv_at hl 1 rfl) ?_
      refine r_getG C hS h gk_56 q1355 dX4_status_90 (fun v9 h => ?_)
      refine lv_bipush (v := 90) hx hb dX4_status_93 (by decide) ?_
      refine lv_iload_n hx hb dX4_status_95 rfl (lv_at hl 2 rfl) ?_
      refine lv_iadd hx hb dX4_status_96 ?_
      refine lv_iconst (v := 1) hx hb dX4_status_97 (by decide) ?_
      refine lv_isub hx hb dX4_status_98 ?_
      refine r_iald C hS h dX4_status_99 (fun v10 h => ?_)
      exact r_iret C hS h rfl rfl (Nat.le_of_ble_eq_true rfl) (Nat.le_of_ble_eq_true rfl) dX4_status_100
    rw [if_neg c27_3] at h
    by_cases c27_4 : a1 = 4
    · rw [if_pos c27_4] at h
      refine lv_tableIn (tgt := 89) hx hb dX4_status_27 (by rw [c27_4]; decide) (by rw [c27_4]; decide) (by rw [c27_4]; rfl) (by decide) ?_
      refine lv_aload_n hx hb dX4_status_89 rfl (lv_at hl 1 rfl) ?_
      refine r_getG C hS h gk_56 q1355 dX4_status_90 (fun v11 h => ?_)
      refine lv_bipush (v := 90) hx hb dX4_status_93 (by decide) ?_
      refine lv_iload_n hx hb dX4_status_95 rfl (lv_at hl 2 rfl) ?_
      refine lv_iadd hx hb dX4_status_96 ?_
      refine lv_iconst (v := 1) hx hb dX4_status_97 (by decide) ?_
      refine lv_isub hx hb dX4_status_98 ?_
      refine r_iald C hS h dX4_status_99 (fun v12 h => ?_)
      exact r_iret C hS h rfl rfl (Nat.le_of_ble_eq_true rfl) (Nat.le_of_ble_eq_true rfl) dX4_status_100
    rw [if_neg c27_4] at h
    by_cases c27_5 : a1 = 5
    · rw [if_pos c27_5] at h
      refine lv_tableIn (tgt := 101) hx hb dX4_status_27 (by rw [c27_5]; decide) (by rw [c27_5]; decide) (by rw [c27_5]; rfl) (by decide) ?_
      refine lv_iconst (v := 0) hx hb dX4_status_101 (by decide) ?_
      refine lv_istore_n (i := 3) (lv' := [(3, .int 0), (2, .int 0), (0, .ref a0), (1, .int a1)]) hx hb dX4_status_102 rfl hl (by decide) rfl (fun ls hl => ?_)
      exact kl_X4_status_103 C k FU w2 a0 0 0 _ _ _ h hS (lv_sub hl [2, 1, 0] rfl)
    rw [if_neg c27_5] at h
    by_cases c27_6 : a1 = 6
    · rw [if_pos c27_6] at h
      refine lv_tableIn (tgt := 129) hx hb dX4_status_27 (by rw [c27_6]; decide) (by rw [c27_6]; decide) (by rw [c27_6]; rfl) (by decide) ?_
      refine lv_aload_n hx hb dX4_status_129 rfl (lv_at hl 1 rfl) ?_
      refine r_getG C hS h gk_56 q1355 dX4_status_130 (fun v15 h => ?_)
      refine lv_bipush (v := 94) hx hb dX4_status_133 (by decide) ?_
      refine lv_iload_n hx hb dX4_status_135 rfl (lv_at hl 2 rfl) ?_
      refine lv_iadd hx hb dX4_status_136 ?_
      refine lv_bipush (v := 6) hx hb dX4_status_137 (by decide) ?_
      refine lv_isub hx hb dX4_status_139 ?_
      refine r_iald C hS h dX4_status_140 (fun v16 h => ?_)
      exact r_iret C hS h rfl rfl (Nat.le_of_ble_eq_true rfl) (Nat.le_of_ble_eq_true rfl) dX4_status_141
    rw [if_neg c27_6] at h
    by_cases c27_7 : a1 = 7
    · rw [if_pos c27_7] at h
      refine lv_tableIn (tgt := 129) hx hb dX4_status_27 (by rw [c27_7]; decide) (by rw [c27_7]; decide) (by rw [c27_7]; rfl) (by decide) ?_
      refine lv_aload_n hx hb dX4_status_129 rfl (lv_at hl 1 rfl) ?_
      refine r_getG C hS h gk_56 q1355 dX4_status_130 (fun v17 h => ?_)
      refine lv_bipush (v := 94) hx hb dX4_status_133 (by decide) ?_
      refine lv_iload_n hx hb dX4_status_135 rfl (lv_at hl 2 rfl) ?_
      refine lv_iadd hx hb dX4_status_136 ?_
      refine lv_bipush (v := 6) hx hb dX4_status_137 (by decide) ?_
      refine lv_isub hx hb dX4_status_139 ?_
      refine r_iald C hS h dX4_status_140 (fun v18 h => ?_)
      exact r_iret C hS h rfl rfl (Nat.le_of_ble_eq_true rfl) (Nat.le_of_ble_eq_true rfl) dX4_status_141
    rw [if_neg c27_7] at h
    by_cases c27_8 : a1 = 8
    · rw [if_pos c27_8] at h
      refine lv_tableIn (tgt := 142) hx hb dX4_status_27 (by rw [c27_8]; decide) (by rw [c27_8]; decide) (by rw [c27_8]; rfl) (by decide) ?_
      refine lv_aload_n hx hb dX4_status_142 rfl (lv_at hl 1 rfl) ?_
      refine r_getF C hS h gk_75 q1360 dX4_status_143 (fun v19 h => ?_)
      exact r_iret C hS h rfl rfl (Nat.le_of_ble_eq_true rfl) (Nat.le_of_ble_eq_true rfl) dX4_status_146
    rw [if_neg c27_8] at h
    by_cases c27_9 : a1 = 9
    · rw [if_pos c27_9] at h
      refine lv_tableIn (tgt := 147) hx hb dX4_status_27 (by rw [c27_9]; decide) (by rw [c27_9]; decide) (by rw [c27_9]; rfl) (by decide) ?_
      refine lv_aload_n hx hb dX4_status_147 rfl (lv_at hl 1 rfl) ?_
      refine r_getG C hS h gk_56 q1355 dX4_status_148 (fun v20 h => ?_)
      refine lv_bipush (v := 96) hx hb dX4_status_151 (by decide) ?_
      refine r_iald C hS h dX4_status_153 (fun v21 h => ?_)
      exact r_iret C hS h rfl rfl (Nat.le_of_ble_eq_true rfl) (Nat.le_of_ble_eq_true rfl) dX4_status_154
    rw [if_neg c27_9] at h
    by_cases c27_10 : a1 = 10
    · rw [if_pos c27_10] at h
      refine lv_tableIn (tgt := 155) hx hb dX4_status_27 (by rw [c27_10]; decide) (by rw [c27_10]; decide) (by rw [c27_10]; rfl) (by decide) ?_
      refine lv_iconst (v := 0) hx hb dX4_status_155 (by decide) ?_
      refine lv_istore_n (i := 3) (lv' := [(3, .int 0), (2, .int 0), (0, .ref a0), (1, .int a1)]) hx hb dX4_status_156 rfl hl (by decide) rfl (fun ls hl => ?_)
      exact kl_X4_status_157 C k FU w2 a0 0 0 _ _ _ h hS (lv_sub hl [2, 1, 0] rfl)
    rw [if_neg c27_10] at h
    have e27_0 := lv_neT c27_0 (show Int32.toInt 0 = 0 by decide)
    have e27_1 := lv_neT c27_1 (show Int32.toInt 1 = 1 by decide)
    have e27_2 := lv_neT c27_2 (show Int32.toInt 2 = 2 by decide)
    have e27_3 := lv_neT c27_3 (show Int32.toInt 3 = 3 by decide)
    have e27_4 := lv_neT c27_4 (show Int32.toInt 4 = 4 by decide)
    have e27_5 := lv_neT c27_5 (show Int32.toInt 5 = 5 by decide)
    have e27_6 := lv_neT c27_6 (show Int32.toInt 6 = 6 by decide)
    have e27_7 := lv_neT c27_7 (show Int32.toInt 7 = 7 by decide)
    have e27_8 := lv_neT c27_8 (show Int32.toInt 8 = 8 by decide)
    have e27_9 := lv_neT c27_9 (show Int32.toInt 9 = 9 by decide)
    have e27_10 := lv_neT c27_10 (show Int32.toInt 10 = 10 by decide)
    refine lv_tableOut (tgt := 189) hx hb dX4_status_27 (by omega) (by decide) ?_
    refine lv_iconst (v := -1) hx hb dX4_status_189 (by decide) ?_
    exact r_iret C hS h rfl rfl (Nat.le_of_ble_eq_true rfl) (Nat.le_of_ble_eq_true rfl) dX4_status_190
  · refine lv_aload_n hx hb dX4_status_14 rfl (lv_at hl 0 rfl) ?_
    refine r_getG C hS h gk_55 q1354 dX4_status_15 (fun v24 h => ?_)
    refine lv_iload_n hx hb dX4_status_18 rfl (lv_at hl 1 rfl) ?_
    refine lv_bipush (v := 10) hx hb dX4_status_19 (by decide) ?_
    refine lv_isub hx hb dX4_status_21 ?_
    refine r_iald C hS h dX4_status_22 (fun v25 h => ?_)
    exact r_iret C hS h rfl rfl (Nat.le_of_ble_eq_true rfl) (Nat.le_of_ble_eq_true rfl) dX4_status_23
end VX4_status
