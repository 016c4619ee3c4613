/-! MelodeonModel -/
set_option maxRecDepth 100000
def RX6 : String := "MelodeonModel"
def TX6 : u_T := fun k => match k with
  | 0 => ("MelodeonModel", "thrown", "I", false)
  | _ => ("MelodeonModel", "w", "LMelodeonModel$Desk;", true)
def tyX6 : Nat → FieldType := fun k => match k with
  | 0 => .int
  | _ => .object "MelodeonModel$Desk"
abbrev wsX60 : List Cond := u_ws RX6 TX6 2
theorem nmX6 : ∀ a, a < 2 → ∀ b, b < 2 → a ≠ b → (TX6 a).2.1 ≠ (TX6 b).2.1 := by decide +kernel
theorem tyX6_ok : ∀ k, k < 2 → parseFieldDescriptor (TX6 k).2.2.1 = some (tyX6 k) := by decide +kernel
abbrev cX6_init : ByteArray := prog_7_method_4_code
def yX6_init : MethodName := ⟨RX6, "<init>", "()V"⟩
def dkwX6_init_0 : List UInt8 := [42, 183, 0, 16, 42, 187, 0, 22, 89, 183, 0, 24, 181, 0, 25, 177]
abbrev dktX6_init_0 : List UInt8 := dkwX6_init_0 ++ []
theorem dksX6_init_0 : cX6_init.data.toList.drop 0 = dktX6_init_0 := by decide +kernel
theorem dX6_init_0 : decode cX6_init 0 = .ok (.aload_n 0, 1) := dk_42 (dk_at dksX6_init_0 0 rfl rfl)
theorem dX6_init_1 : decode cX6_init 1 = .ok (.invokespecial 16, 3) := dk_183 0 16 (dk_at dksX6_init_0 1 rfl rfl)
theorem dX6_init_4 : decode cX6_init 4 = .ok (.aload_n 0, 1) := dk_42 (dk_at dksX6_init_0 4 rfl rfl)
theorem dX6_init_5 : decode cX6_init 5 = .ok (.new 22, 3) := dk_187 0 22 (dk_at dksX6_init_0 5 rfl rfl)
theorem dX6_init_8 : decode cX6_init 8 = .ok (.dup, 1) := dk_89 (dk_at dksX6_init_0 8 rfl rfl)
theorem dX6_init_9 : decode cX6_init 9 = .ok (.invokespecial 24, 3) := dk_183 0 24 (dk_at dksX6_init_0 9 rfl rfl)
theorem dX6_init_12 : decode cX6_init 12 = .ok (.putfield 25, 3) := dk_181 0 25 (dk_at dksX6_init_0 12 rfl rfl)
theorem dX6_init_15 : decode cX6_init 15 = .ok (.return_, 1) := dk_177 (dk_at dksX6_init_0 15 rfl rfl)
abbrev cX6_thrown : ByteArray := prog_7_method_5_code
def yX6_thrown : MethodName := ⟨RX6, "thrown", "()I"⟩
theorem dX6_thrown_0 : decode cX6_thrown 0 = .ok (.aload_n 0, 1) := by decide +kernel
theorem dX6_thrown_1 : decode cX6_thrown 1 = .ok (.getfield 31, 3) := by decide +kernel
theorem dX6_thrown_4 : decode cX6_thrown 4 = .ok (.ireturn, 1) := by decide +kernel
abbrev cX6_draw : ByteArray := prog_7_method_8_code
def yX6_draw : MethodName := ⟨RX6, "draw", "(II)I"⟩
def dkwX6_draw_2 : List UInt8 := [180, 0, 43, 27, 46, 62, 42, 180, 0, 25, 180, 0, 43, 27, 28, 79, 29, 172]
abbrev dktX6_draw_2 : List UInt8 := dkwX6_draw_2 ++ []
def dkwX6_draw_1 : List UInt8 := [17, 252, 24, 17, 3, 232, 184, 0, 35, 154, 0, 9, 42, 5, 182, 0, 39, 172, 42, 180, 0, 25]
abbrev dktX6_draw_1 : List UInt8 := dkwX6_draw_1 ++ dktX6_draw_2
def dkwX6_draw_0 : List UInt8 := [42, 3, 181, 0, 31, 27, 3, 16, 31, 184, 0, 35, 154, 0, 9, 42, 4, 182, 0, 39, 172, 28]
abbrev dktX6_draw_0 : List UInt8 := dkwX6_draw_0 ++ dktX6_draw_1
theorem dksX6_draw_0 : cX6_draw.data.toList.drop 0 = dktX6_draw_0 := by decide +kernel
theorem dksX6_draw_1 : cX6_draw.data.toList.drop 22 = dktX6_draw_1 := dk_seg dksX6_draw_0 22 rfl rfl
theorem dksX6_draw_2 : cX6_draw.data.toList.drop 44 = dktX6_draw_2 := dk_seg dksX6_draw_1 22 rfl rfl
theorem dX6_draw_0 : decode cX6_draw 0 = .ok (.aload_n 0, 1) := dk_42 (dk_at dksX6_draw_0 0 rfl rfl)
theorem dX6_draw_1 : decode cX6_draw 1 = .ok (.iconst 0, 1) := dk_3 (dk_at dksX6_draw_0 1 rfl rfl)
theorem dX6_draw_2 : decode cX6_draw 2 = .ok (.putfield 31, 3) := dk_181 0 31 (dk_at dksX6_draw_0 2 rfl rfl)
theorem dX6_draw_5 : decode cX6_draw 5 = .ok (.iload_n 1, 1) := dk_27 (dk_at dksX6_draw_0 5 rfl rfl)
theorem dX6_draw_6 : decode cX6_draw 6 = .ok (.iconst 0, 1) := dk_3 (dk_at dksX6_draw_0 6 rfl rfl)
theorem dX6_draw_7 : decode cX6_draw 7 = .ok (.bipush 31, 2) := dk_16 31 (dk_at dksX6_draw_0 7 rfl rfl)
theorem dX6_draw_9 : decode cX6_draw 9 = .ok (.invokestatic 35, 3) := dk_184 0 35 (dk_at dksX6_draw_0 9 rfl rfl)
theorem dX6_draw_12 : decode cX6_draw 12 = .ok (.ifCond .ne 9, 3) := dk_154 0 9 (dk_at dksX6_draw_0 12 rfl rfl)
theorem dX6_draw_15 : decode cX6_draw 15 = .ok (.aload_n 0, 1) := dk_42 (dk_at dksX6_draw_0 15 rfl rfl)
theorem dX6_draw_16 : decode cX6_draw 16 = .ok (.iconst 1, 1) := dk_4 (dk_at dksX6_draw_0 16 rfl rfl)
theorem dX6_draw_17 : decode cX6_draw 17 = .ok (.invokevirtual 39, 3) := dk_182 0 39 (dk_at dksX6_draw_0 17 rfl rfl)
theorem dX6_draw_20 : decode cX6_draw 20 = .ok (.ireturn, 1) := dk_172 (dk_at dksX6_draw_0 20 rfl rfl)
theorem dX6_draw_21 : decode cX6_draw 21 = .ok (.iload_n 2, 1) := dk_28 (dk_at dksX6_draw_0 21 rfl rfl)
theorem dX6_draw_22 : decode cX6_draw 22 = .ok (.sipush (-1000), 3) := dk_17 252 24 (dk_at dksX6_draw_1 0 rfl rfl)
theorem dX6_draw_25 : decode cX6_draw 25 = .ok (.sipush 1000, 3) := dk_17 3 232 (dk_at dksX6_draw_1 3 rfl rfl)
theorem dX6_draw_28 : decode cX6_draw 28 = .ok (.invokestatic 35, 3) := dk_184 0 35 (dk_at dksX6_draw_1 6 rfl rfl)
theorem dX6_draw_31 : decode cX6_draw 31 = .ok (.ifCond .ne 9, 3) := dk_154 0 9 (dk_at dksX6_draw_1 9 rfl rfl)
theorem dX6_draw_34 : decode cX6_draw 34 = .ok (.aload_n 0, 1) := dk_42 (dk_at dksX6_draw_1 12 rfl rfl)
theorem dX6_draw_35 : decode cX6_draw 35 = .ok (.iconst 2, 1) := dk_5 (dk_at dksX6_draw_1 13 rfl rfl)
theorem dX6_draw_36 : decode cX6_draw 36 = .ok (.invokevirtual 39, 3) := dk_182 0 39 (dk_at dksX6_draw_1 14 rfl rfl)
theorem dX6_draw_39 : decode cX6_draw 39 = .ok (.ireturn, 1) := dk_172 (dk_at dksX6_draw_1 17 rfl rfl)
theorem dX6_draw_40 : decode cX6_draw 40 = .ok (.aload_n 0, 1) := dk_42 (dk_at dksX6_draw_1 18 rfl rfl)
theorem dX6_draw_41 : decode cX6_draw 41 = .ok (.getfield 25, 3) := dk_180 0 25 (dk_at dksX6_draw_1 19 rfl rfl)
theorem dX6_draw_44 : decode cX6_draw 44 = .ok (.getfield 43, 3) := dk_180 0 43 (dk_at dksX6_draw_2 0 rfl rfl)
theorem dX6_draw_47 : decode cX6_draw 47 = .ok (.iload_n 1, 1) := dk_27 (dk_at dksX6_draw_2 3 rfl rfl)
theorem dX6_draw_48 : decode cX6_draw 48 = .ok (.iaload, 1) := dk_46 (dk_at dksX6_draw_2 4 rfl rfl)
theorem dX6_draw_49 : decode cX6_draw 49 = .ok (.istore_n 3, 1) := dk_62 (dk_at dksX6_draw_2 5 rfl rfl)
theorem dX6_draw_50 : decode cX6_draw 50 = .ok (.aload_n 0, 1) := dk_42 (dk_at dksX6_draw_2 6 rfl rfl)
theorem dX6_draw_51 : decode cX6_draw 51 = .ok (.getfield 25, 3) := dk_180 0 25 (dk_at dksX6_draw_2 7 rfl rfl)
theorem dX6_draw_54 : decode cX6_draw 54 = .ok (.getfield 43, 3) := dk_180 0 43 (dk_at dksX6_draw_2 10 rfl rfl)
theorem dX6_draw_57 : decode cX6_draw 57 = .ok (.iload_n 1, 1) := dk_27 (dk_at dksX6_draw_2 13 rfl rfl)
theorem dX6_draw_58 : decode cX6_draw 58 = .ok (.iload_n 2, 1) := dk_28 (dk_at dksX6_draw_2 14 rfl rfl)
theorem dX6_draw_59 : decode cX6_draw 59 = .ok (.iastore, 1) := dk_79 (dk_at dksX6_draw_2 15 rfl rfl)
theorem dX6_draw_60 : decode cX6_draw 60 = .ok (.iload_n 3, 1) := dk_29 (dk_at dksX6_draw_2 16 rfl rfl)
theorem dX6_draw_61 : decode cX6_draw 61 = .ok (.ireturn, 1) := dk_172 (dk_at dksX6_draw_2 17 rfl rfl)
abbrev cX6_isIn : ByteArray := prog_7_method_1_code
def yX6_isIn : MethodName := ⟨RX6, "isIn", "(III)Z"⟩
def dkwX6_isIn_0 : List UInt8 := [26, 27, 161, 0, 12, 26, 28, 163, 0, 7, 4, 167, 0, 4, 3, 172]
abbrev dktX6_isIn_0 : List UInt8 := dkwX6_isIn_0 ++ []
theorem dksX6_isIn_0 : cX6_isIn.data.toList.drop 0 = dktX6_isIn_0 := by decide +kernel
theorem dX6_isIn_0 : decode cX6_isIn 0 = .ok (.iload_n 0, 1) := dk_26 (dk_at dksX6_isIn_0 0 rfl rfl)
theorem dX6_isIn_1 : decode cX6_isIn 1 = .ok (.iload_n 1, 1) := dk_27 (dk_at dksX6_isIn_0 1 rfl rfl)
theorem dX6_isIn_2 : decode cX6_isIn 2 = .ok (.if_icmp .lt 12, 3) := dk_161 0 12 (dk_at dksX6_isIn_0 2 rfl rfl)
theorem dX6_isIn_5 : decode cX6_isIn 5 = .ok (.iload_n 0, 1) := dk_26 (dk_at dksX6_isIn_0 5 rfl rfl)
theorem dX6_isIn_6 : decode cX6_isIn 6 = .ok (.iload_n 2, 1) := dk_28 (dk_at dksX6_isIn_0 6 rfl rfl)
theorem dX6_isIn_7 : decode cX6_isIn 7 = .ok (.if_icmp .gt 7, 3) := dk_163 0 7 (dk_at dksX6_isIn_0 7 rfl rfl)
theorem dX6_isIn_10 : decode cX6_isIn 10 = .ok (.iconst 1, 1) := dk_4 (dk_at dksX6_isIn_0 10 rfl rfl)
theorem dX6_isIn_11 : decode cX6_isIn 11 = .ok (.goto 4, 3) := dk_167 0 4 (dk_at dksX6_isIn_0 11 rfl rfl)
theorem dX6_isIn_14 : decode cX6_isIn 14 = .ok (.iconst 0, 1) := dk_3 (dk_at dksX6_isIn_0 14 rfl rfl)
theorem dX6_isIn_15 : decode cX6_isIn 15 = .ok (.ireturn, 1) := dk_172 (dk_at dksX6_isIn_0 15 rfl rfl)
abbrev cX6_no : ByteArray := prog_7_method_6_code
def yX6_no : MethodName := ⟨RX6, "no", "(I)I"⟩
def dkwX6_no_0 : List UInt8 := [42, 27, 181, 0, 31, 3, 172]
abbrev dktX6_no_0 : List UInt8 := dkwX6_no_0 ++ []
theorem dksX6_no_0 : cX6_no.data.toList.drop 0 = dktX6_no_0 := by decide +kernel
theorem dX6_no_0 : decode cX6_no 0 = .ok (.aload_n 0, 1) := dk_42 (dk_at dksX6_no_0 0 rfl rfl)
theorem dX6_no_1 : decode cX6_no 1 = .ok (.iload_n 1, 1) := dk_27 (dk_at dksX6_no_0 1 rfl rfl)
theorem dX6_no_2 : decode cX6_no 2 = .ok (.putfield 31, 3) := dk_181 0 31 (dk_at dksX6_no_0 2 rfl rfl)
theorem dX6_no_5 : decode cX6_no 5 = .ok (.iconst 0, 1) := dk_3 (dk_at dksX6_no_0 5 rfl rfl)
theorem dX6_no_6 : decode cX6_no 6 = .ok (.ireturn, 1) := dk_172 (dk_at dksX6_no_0 6 rfl rfl)
abbrev cX6_wave : ByteArray := prog_7_method_11_code
def yX6_wave : MethodName := ⟨RX6, "wave", "(II)I"⟩
def dkwX6_wave_1 : List UInt8 := [184, 0, 35, 153, 0, 15, 42, 180, 0, 25, 27, 28, 182, 0, 52, 167, 0, 8, 42, 5, 182, 0, 39, 172]
abbrev dktX6_wave_1 : List UInt8 := dkwX6_wave_1 ++ []
def dkwX6_wave_0 : List UInt8 := [42, 3, 181, 0, 31, 27, 184, 0, 47, 154, 0, 9, 42, 4, 182, 0, 39, 172, 28, 3, 18, 51]
abbrev dktX6_wave_0 : List UInt8 := dkwX6_wave_0 ++ dktX6_wave_1
theorem dksX6_wave_0 : cX6_wave.data.toList.drop 0 = dktX6_wave_0 := by decide +kernel
theorem dksX6_wave_1 : cX6_wave.data.toList.drop 22 = dktX6_wave_1 := dk_seg dksX6_wave_0 22 rfl rfl
theorem dX6_wave_0 : decode cX6_wave 0 = .ok (.aload_n 0, 1) := dk_42 (dk_at dksX6_wave_0 0 rfl rfl)
theorem dX6_wave_1 : decode cX6_wave 1 = .ok (.iconst 0, 1) := dk_3 (dk_at dksX6_wave_0 1 rfl rfl)
theorem dX6_wave_2 : decode cX6_wave 2 = .ok (.putfield 31, 3) := dk_181 0 31 (dk_at dksX6_wave_0 2 rfl rfl)
theorem dX6_wave_5 : decode cX6_wave 5 = .ok (.iload_n 1, 1) := dk_27 (dk_at dksX6_wave_0 5 rfl rfl)
theorem dX6_wave_6 : decode cX6_wave 6 = .ok (.invokestatic 47, 3) := dk_184 0 47 (dk_at dksX6_wave_0 6 rfl rfl)
theorem dX6_wave_9 : decode cX6_wave 9 = .ok (.ifCond .ne 9, 3) := dk_154 0 9 (dk_at dksX6_wave_0 9 rfl rfl)
theorem dX6_wave_12 : decode cX6_wave 12 = .ok (.aload_n 0, 1) := dk_42 (dk_at dksX6_wave_0 12 rfl rfl)
theorem dX6_wave_13 : decode cX6_wave 13 = .ok (.iconst 1, 1) := dk_4 (dk_at dksX6_wave_0 13 rfl rfl)
theorem dX6_wave_14 : decode cX6_wave 14 = .ok (.invokevirtual 39, 3) := dk_182 0 39 (dk_at dksX6_wave_0 14 rfl rfl)
theorem dX6_wave_17 : decode cX6_wave 17 = .ok (.ireturn, 1) := dk_172 (dk_at dksX6_wave_0 17 rfl rfl)
theorem dX6_wave_18 : decode cX6_wave 18 = .ok (.iload_n 2, 1) := dk_28 (dk_at dksX6_wave_0 18 rfl rfl)
theorem dX6_wave_19 : decode cX6_wave 19 = .ok (.iconst 0, 1) := dk_3 (dk_at dksX6_wave_0 19 rfl rfl)
theorem dX6_wave_20 : decode cX6_wave 20 = .ok (.ldc 51, 2) := dk_18 51 (dk_at dksX6_wave_0 20 rfl rfl)
theorem dX6_wave_22 : decode cX6_wave 22 = .ok (.invokestatic 35, 3) := dk_184 0 35 (dk_at dksX6_wave_1 0 rfl rfl)
theorem dX6_wave_25 : decode cX6_wave 25 = .ok (.ifCond .eq 15, 3) := dk_153 0 15 (dk_at dksX6_wave_1 3 rfl rfl)
theorem dX6_wave_28 : decode cX6_wave 28 = .ok (.aload_n 0, 1) := dk_42 (dk_at dksX6_wave_1 6 rfl rfl)
theorem dX6_wave_29 : decode cX6_wave 29 = .ok (.getfield 25, 3) := dk_180 0 25 (dk_at dksX6_wave_1 7 rfl rfl)
theorem dX6_wave_32 : decode cX6_wave 32 = .ok (.iload_n 1, 1) := dk_27 (dk_at dksX6_wave_1 10 rfl rfl)
theorem dX6_wave_33 : decode cX6_wave 33 = .ok (.iload_n 2, 1) := dk_28 (dk_at dksX6_wave_1 11 rfl rfl)
theorem dX6_wave_34 : decode cX6_wave 34 = .ok (.invokevirtual 52, 3) := dk_182 0 52 (dk_at dksX6_wave_1 12 rfl rfl)
theorem dX6_wave_37 : decode cX6_wave 37 = .ok (.goto 8, 3) := dk_167 0 8 (dk_at dksX6_wave_1 15 rfl rfl)
theorem dX6_wave_40 : decode cX6_wave 40 = .ok (.aload_n 0, 1) := dk_42 (dk_at dksX6_wave_1 18 rfl rfl)
theorem dX6_wave_41 : decode cX6_wave 41 = .ok (.iconst 2, 1) := dk_5 (dk_at dksX6_wave_1 19 rfl rfl)
theorem dX6_wave_42 : decode cX6_wave 42 = .ok (.invokevirtual 39, 3) := dk_182 0 39 (dk_at dksX6_wave_1 20 rfl rfl)
theorem dX6_wave_45 : decode cX6_wave 45 = .ok (.ireturn, 1) := dk_172 (dk_at dksX6_wave_1 23 rfl rfl)
abbrev cX6_isWave : ByteArray := prog_7_method_9_code
def yX6_isWave : MethodName := ⟨RX6, "isWave", "(I)Z"⟩
def dkwX6_isWave_0 : List UInt8 := [26, 3, 6, 184, 0, 35, 172]
abbrev dktX6_isWave_0 : List UInt8 := dkwX6_isWave_0 ++ []
theorem dksX6_isWave_0 : cX6_isWave.data.toList.drop 0 = dktX6_isWave_0 := by decide +kernel
theorem dX6_isWave_0 : decode cX6_isWave 0 = .ok (.iload_n 0, 1) := dk_26 (dk_at dksX6_isWave_0 0 rfl rfl)
theorem dX6_isWave_1 : decode cX6_isWave 1 = .ok (.iconst 0, 1) := dk_3 (dk_at dksX6_isWave_0 1 rfl rfl)
theorem dX6_isWave_2 : decode cX6_isWave 2 = .ok (.iconst 3, 1) := dk_6 (dk_at dksX6_isWave_0 2 rfl rfl)
theorem dX6_isWave_3 : decode cX6_isWave 3 = .ok (.invokestatic 35, 3) := dk_184 0 35 (dk_at dksX6_isWave_0 3 rfl rfl)
theorem dX6_isWave_6 : decode cX6_isWave 6 = .ok (.ireturn, 1) := dk_172 (dk_at dksX6_isWave_0 6 rfl rfl)
abbrev cX6_stride : ByteArray := prog_7_method_12_code
def yX6_stride : MethodName := ⟨RX6, "stride", "(I)I"⟩
def dkwX6_stride_1 : List UInt8 := [182, 0, 39, 172]
abbrev dktX6_stride_1 : List UInt8 := dkwX6_stride_1 ++ []
def dkwX6_stride_0 : List UInt8 := [42, 3, 181, 0, 31, 27, 3, 16, 47, 184, 0, 35, 153, 0, 10, 27, 184, 0, 55, 167, 0, 8, 42, 4]
abbrev dktX6_stride_0 : List UInt8 := dkwX6_stride_0 ++ dktX6_stride_1
theorem dksX6_stride_0 : cX6_stride.data.toList.drop 0 = dktX6_stride_0 := by decide +kernel
theorem dksX6_stride_1 : cX6_stride.data.toList.drop 24 = dktX6_stride_1 := dk_seg dksX6_stride_0 24 rfl rfl
theorem dX6_stride_0 : decode cX6_stride 0 = .ok (.aload_n 0, 1) := dk_42 (dk_at dksX6_stride_0 0 rfl rfl)
theorem dX6_stride_1 : decode cX6_stride 1 = .ok (.iconst 0, 1) := dk_3 (dk_at dksX6_stride_0 1 rfl rfl)
theorem dX6_stride_2 : decode cX6_stride 2 = .ok (.putfield 31, 3) := dk_181 0 31 (dk_at dksX6_stride_0 2 rfl rfl)
theorem dX6_stride_5 : decode cX6_stride 5 = .ok (.iload_n 1, 1) := dk_27 (dk_at dksX6_stride_0 5 rfl rfl)
theorem dX6_stride_6 : decode cX6_stride 6 = .ok (.iconst 0, 1) := dk_3 (dk_at dksX6_stride_0 6 rfl rfl)
theorem dX6_stride_7 : decode cX6_stride 7 = .ok (.bipush 47, 2) := dk_16 47 (dk_at dksX6_stride_0 7 rfl rfl)
theorem dX6_stride_9 : decode cX6_stride 9 = .ok (.invokestatic 35, 3) := dk_184 0 35 (dk_at dksX6_stride_0 9 rfl rfl)
theorem dX6_stride_12 : decode cX6_stride 12 = .ok (.ifCond .eq 10, 3) := dk_153 0 10 (dk_at dksX6_stride_0 12 rfl rfl)
theorem dX6_stride_15 : decode cX6_stride 15 = .ok (.iload_n 1, 1) := dk_27 (dk_at dksX6_stride_0 15 rfl rfl)
theorem dX6_stride_16 : decode cX6_stride 16 = .ok (.invokestatic 55, 3) := dk_184 0 55 (dk_at dksX6_stride_0 16 rfl rfl)
theorem dX6_stride_19 : decode cX6_stride 19 = .ok (.goto 8, 3) := dk_167 0 8 (dk_at dksX6_stride_0 19 rfl rfl)
theorem dX6_stride_22 : decode cX6_stride 22 = .ok (.aload_n 0, 1) := dk_42 (dk_at dksX6_stride_0 22 rfl rfl)
theorem dX6_stride_23 : decode cX6_stride 23 = .ok (.iconst 1, 1) := dk_4 (dk_at dksX6_stride_0 23 rfl rfl)
theorem dX6_stride_24 : decode cX6_stride 24 = .ok (.invokevirtual 39, 3) := dk_182 0 39 (dk_at dksX6_stride_1 0 rfl rfl)
theorem dX6_stride_27 : decode cX6_stride 27 = .ok (.ireturn, 1) := dk_172 (dk_at dksX6_stride_1 3 rfl rfl)
abbrev cX6_setWaves : ByteArray := prog_7_method_14_code
def yX6_setWaves : MethodName := ⟨RX6, "setWaves", "(IIIII)I"⟩
def dkwX6_setWaves_3 : List UInt8 := [5, 21, 4, 79, 89, 6, 21, 5, 79, 182, 0, 64, 167, 0, 8, 42, 5, 182, 0, 39, 172]
abbrev dktX6_setWaves_3 : List UInt8 := dkwX6_setWaves_3 ++ []
def dkwX6_setWaves_2 : List UInt8 := [16, 100, 184, 0, 35, 153, 0, 34, 42, 27, 3, 6, 7, 188, 10, 89, 3, 28, 79, 89, 4, 29, 79, 89]
abbrev dktX6_setWaves_2 : List UInt8 := dkwX6_setWaves_2 ++ dktX6_setWaves_3
def dkwX6_setWaves_1 : List UInt8 := [154, 0, 9, 42, 4, 182, 0, 39, 172, 21, 4, 16, 192, 16, 64, 184, 0, 35, 153, 0, 45, 21, 5, 3]
abbrev dktX6_setWaves_1 : List UInt8 := dkwX6_setWaves_1 ++ dktX6_setWaves_2
def dkwX6_setWaves_0 : List UInt8 := [42, 3, 181, 0, 31, 27, 184, 0, 61, 153, 0, 17, 28, 184, 0, 47, 153, 0, 10, 29, 184, 0, 47]
abbrev dktX6_setWaves_0 : List UInt8 := dkwX6_setWaves_0 ++ dktX6_setWaves_1
theorem dksX6_setWaves_0 : cX6_setWaves.data.toList.drop 0 = dktX6_setWaves_0 := by decide +kernel
theorem dksX6_setWaves_1 : cX6_setWaves.data.toList.drop 23 = dktX6_setWaves_1 := dk_seg dksX6_setWaves_0 23 rfl rfl
theorem dksX6_setWaves_2 : cX6_setWaves.data.toList.drop 47 = dktX6_setWaves_2 := dk_seg dksX6_setWaves_1 24 rfl rfl
theorem dksX6_setWaves_3 : cX6_setWaves.data.toList.drop 71 = dktX6_setWaves_3 := dk_seg dksX6_setWaves_2 24 rfl rfl
theorem dX6_setWaves_0 : decode cX6_setWaves 0 = .ok (.aload_n 0, 1) := dk_42 (dk_at dksX6_setWaves_0 0 rfl rfl)
theorem dX6_setWaves_1 : decode cX6_setWaves 1 = .ok (.iconst 0, 1) := dk_3 (dk_at dksX6_setWaves_0 1 rfl rfl)
theorem dX6_setWaves_2 : decode cX6_setWaves 2 = .ok (.putfield 31, 3) := dk_181 0 31 (dk_at dksX6_setWaves_0 2 rfl rfl)
theorem dX6_setWaves_5 : decode cX6_setWaves 5 = .ok (.iload_n 1, 1) := dk_27 (dk_at dksX6_setWaves_0 5 rfl rfl)
theorem dX6_setWaves_6 : decode cX6_setWaves 6 = .ok (.invokestatic 61, 3) := dk_184 0 61 (dk_at dksX6_setWaves_0 6 rfl rfl)
theorem dX6_setWaves_9 : decode cX6_setWaves 9 = .ok (.ifCond .eq 17, 3) := dk_153 0 17 (dk_at dksX6_setWaves_0 9 rfl rfl)
theorem dX6_setWaves_12 : decode cX6_setWaves 12 = .ok (.iload_n 2, 1) := dk_28 (dk_at dksX6_setWaves_0 12 rfl rfl)
theorem dX6_setWaves_13 : decode cX6_setWaves 13 = .ok (.invokestatic 47, 3) := dk_184 0 47 (dk_at dksX6_setWaves_0 13 rfl rfl)
theorem dX6_setWaves_16 : decode cX6_setWaves 16 = .ok (.ifCond .eq 10, 3) := dk_153 0 10 (dk_at dksX6_setWaves_0 16 rfl rfl)
theorem dX6_setWaves_19 : decode cX6_setWaves 19 = .ok (.iload_n 3, 1) := dk_29 (dk_at dksX6_setWaves_0 19 rfl rfl)
theorem dX6_setWaves_20 : decode cX6_setWaves 20 = .ok (.invokestatic 47, 3) := dk_184 0 47 (dk_at dksX6_setWaves_0 20 rfl rfl)
theorem dX6_setWaves_23 : decode cX6_setWaves 23 = .ok (.ifCond .ne 9, 3) := dk_154 0 9 (dk_at dksX6_setWaves_1 0 rfl rfl)
theorem dX6_setWaves_26 : decode cX6_setWaves 26 = .ok (.aload_n 0, 1) := dk_42 (dk_at dksX6_setWaves_1 3 rfl rfl)
theorem dX6_setWaves_27 : decode cX6_setWaves 27 = .ok (.iconst 1, 1) := dk_4 (dk_at dksX6_setWaves_1 4 rfl rfl)
theorem dX6_setWaves_28 : decode cX6_setWaves 28 = .ok (.invokevirtual 39, 3) := dk_182 0 39 (dk_at dksX6_setWaves_1 5 rfl rfl)
theorem dX6_setWaves_31 : decode cX6_setWaves 31 = .ok (.ireturn, 1) := dk_172 (dk_at dksX6_setWaves_1 8 rfl rfl)
theorem dX6_setWaves_32 : decode cX6_setWaves 32 = .ok (.iload 4, 2) := dk_21 4 (dk_at dksX6_setWaves_1 9 rfl rfl)
theorem dX6_setWaves_34 : decode cX6_setWaves 34 = .ok (.bipush (-64), 2) := dk_16 192 (dk_at dksX6_setWaves_1 11 rfl rfl)
theorem dX6_setWaves_36 : decode cX6_setWaves 36 = .ok (.bipush 64, 2) := dk_16 64 (dk_at dksX6_setWaves_1 13 rfl rfl)
theorem dX6_setWaves_38 : decode cX6_setWaves 38 = .ok (.invokestatic 35, 3) := dk_184 0 35 (dk_at dksX6_setWaves_1 15 rfl rfl)
theorem dX6_setWaves_41 : decode cX6_setWaves 41 = .ok (.ifCond .eq 45, 3) := dk_153 0 45 (dk_at dksX6_setWaves_1 18 rfl rfl)
theorem dX6_setWaves_44 : decode cX6_setWaves 44 = .ok (.iload 5, 2) := dk_21 5 (dk_at dksX6_setWaves_1 21 rfl rfl)
theorem dX6_setWaves_46 : decode cX6_setWaves 46 = .ok (.iconst 0, 1) := dk_3 (dk_at dksX6_setWaves_1 23 rfl rfl)
theorem dX6_setWaves_47 : decode cX6_setWaves 47 = .ok (.bipush 100, 2) := dk_16 100 (dk_at dksX6_setWaves_2 0 rfl rfl)
theorem dX6_setWaves_49 : decode cX6_setWaves 49 = .ok (.invokestatic 35, 3) := dk_184 0 35 (dk_at dksX6_setWaves_2 2 rfl rfl)
theorem dX6_setWaves_52 : decode cX6_setWaves 52 = .ok (.ifCond .eq 34, 3) := dk_153 0 34 (dk_at dksX6_setWaves_2 5 rfl rfl)
theorem dX6_setWaves_55 : decode cX6_setWaves 55 = .ok (.aload_n 0, 1) := dk_42 (dk_at dksX6_setWaves_2 8 rfl rfl)
theorem dX6_setWaves_56 : decode cX6_setWaves 56 = .ok (.iload_n 1, 1) := dk_27 (dk_at dksX6_setWaves_2 9 rfl rfl)
theorem dX6_setWaves_57 : decode cX6_setWaves 57 = .ok (.iconst 0, 1) := dk_3 (dk_at dksX6_setWaves_2 10 rfl rfl)
theorem dX6_setWaves_58 : decode cX6_setWaves 58 = .ok (.iconst 3, 1) := dk_6 (dk_at dksX6_setWaves_2 11 rfl rfl)
theorem dX6_setWaves_59 : decode cX6_setWaves 59 = .ok (.iconst 4, 1) := dk_7 (dk_at dksX6_setWaves_2 12 rfl rfl)
theorem dX6_setWaves_60 : decode cX6_setWaves 60 = .ok (.newarray .int, 2) := dk_188_10 (dk_at dksX6_setWaves_2 13 rfl rfl)
theorem dX6_setWaves_62 : decode cX6_setWaves 62 = .ok (.dup, 1) := dk_89 (dk_at dksX6_setWaves_2 15 rfl rfl)
theorem dX6_setWaves_63 : decode cX6_setWaves 63 = .ok (.iconst 0, 1) := dk_3 (dk_at dksX6_setWaves_2 16 rfl rfl)
theorem dX6_setWaves_64 : decode cX6_setWaves 64 = .ok (.iload_n 2, 1) := dk_28 (dk_at dksX6_setWaves_2 17 rfl rfl)
theorem dX6_setWaves_65 : decode cX6_setWaves 65 = .ok (.iastore, 1) := dk_79 (dk_at dksX6_setWaves_2 18 rfl rfl)
theorem dX6_setWaves_66 : decode cX6_setWaves 66 = .ok (.dup, 1) := dk_89 (dk_at dksX6_setWaves_2 19 rfl rfl)
theorem dX6_setWaves_67 : decode cX6_setWaves 67 = .ok (.iconst 1, 1) := dk_4 (dk_at dksX6_setWaves_2 20 rfl rfl)
theorem dX6_setWaves_68 : decode cX6_setWaves 68 = .ok (.iload_n 3, 1) := dk_29 (dk_at dksX6_setWaves_2 21 rfl rfl)
theorem dX6_setWaves_69 : decode cX6_setWaves 69 = .ok (.iastore, 1) := dk_79 (dk_at dksX6_setWaves_2 22 rfl rfl)
theorem dX6_setWaves_70 : decode cX6_setWaves 70 = .ok (.dup, 1) := dk_89 (dk_at dksX6_setWaves_2 23 rfl rfl)
theorem dX6_setWaves_71 : decode cX6_setWaves 71 = .ok (.iconst 2, 1) := dk_5 (dk_at dksX6_setWaves_3 0 rfl rfl)
theorem dX6_setWaves_72 : decode cX6_setWaves 72 = .ok (.iload 4, 2) := dk_21 4 (dk_at dksX6_setWaves_3 1 rfl rfl)
theorem dX6_setWaves_74 : decode cX6_setWaves 74 = .ok (.iastore, 1) := dk_79 (dk_at dksX6_setWaves_3 3 rfl rfl)
theorem dX6_setWaves_75 : decode cX6_setWaves 75 = .ok (.dup, 1) := dk_89 (dk_at dksX6_setWaves_3 4 rfl rfl)
theorem dX6_setWaves_76 : decode cX6_setWaves 76 = .ok (.iconst 3, 1) := dk_6 (dk_at dksX6_setWaves_3 5 rfl rfl)
theorem dX6_setWaves_77 : decode cX6_setWaves 77 = .ok (.iload 5, 2) := dk_21 5 (dk_at dksX6_setWaves_3 6 rfl rfl)
theorem dX6_setWaves_79 : decode cX6_setWaves 79 = .ok (.iastore, 1) := dk_79 (dk_at dksX6_setWaves_3 8 rfl rfl)
theorem dX6_setWaves_80 : decode cX6_setWaves 80 = .ok (.invokevirtual 64, 3) := dk_182 0 64 (dk_at dksX6_setWaves_3 9 rfl rfl)
theorem dX6_setWaves_83 : decode cX6_setWaves 83 = .ok (.goto 8, 3) := dk_167 0 8 (dk_at dksX6_setWaves_3 12 rfl rfl)
theorem dX6_setWaves_86 : decode cX6_setWaves 86 = .ok (.aload_n 0, 1) := dk_42 (dk_at dksX6_setWaves_3 15 rfl rfl)
theorem dX6_setWaves_87 : decode cX6_setWaves 87 = .ok (.iconst 2, 1) := dk_5 (dk_at dksX6_setWaves_3 16 rfl rfl)
theorem dX6_setWaves_88 : decode cX6_setWaves 88 = .ok (.invokevirtual 39, 3) := dk_182 0 39 (dk_at dksX6_setWaves_3 17 rfl rfl)
theorem dX6_setWaves_91 : decode cX6_setWaves 91 = .ok (.ireturn, 1) := dk_172 (dk_at dksX6_setWaves_3 20 rfl rfl)
abbrev cX6_isInstrument : ByteArray := prog_7_method_10_code
def yX6_isInstrument : MethodName := ⟨RX6, "isInstrument", "(I)Z"⟩
def dkwX6_isInstrument_0 : List UInt8 := [26, 3, 6, 184, 0, 35, 172]
abbrev dktX6_isInstrument_0 : List UInt8 := dkwX6_isInstrument_0 ++ []
theorem dksX6_isInstrument_0 : cX6_isInstrument.data.toList.drop 0 = dktX6_isInstrument_0 := by decide +kernel
theorem dX6_isInstrument_0 : decode cX6_isInstrument 0 = .ok (.iload_n 0, 1) := dk_26 (dk_at dksX6_isInstrument_0 0 rfl rfl)
theorem dX6_isInstrument_1 : decode cX6_isInstrument 1 = .ok (.iconst 0, 1) := dk_3 (dk_at dksX6_isInstrument_0 1 rfl rfl)
theorem dX6_isInstrument_2 : decode cX6_isInstrument 2 = .ok (.iconst 3, 1) := dk_6 (dk_at dksX6_isInstrument_0 2 rfl rfl)
theorem dX6_isInstrument_3 : decode cX6_isInstrument 3 = .ok (.invokestatic 35, 3) := dk_184 0 35 (dk_at dksX6_isInstrument_0 3 rfl rfl)
theorem dX6_isInstrument_6 : decode cX6_isInstrument 6 = .ok (.ireturn, 1) := dk_172 (dk_at dksX6_isInstrument_0 6 rfl rfl)
abbrev cX6_put : ByteArray := prog_7_method_13_code
def yX6_put : MethodName := ⟨RX6, "put", "(III[I)I"⟩
def dkwX6_put_1 : List UInt8 := [180, 0, 58, 27, 16, 12, 104, 28, 96, 25, 4, 190, 184, 0, 10, 21, 5, 172]
abbrev dktX6_put_1 : List UInt8 := dkwX6_put_1 ++ []
def dkwX6_put_0 : List UInt8 := [42, 180, 0, 25, 180, 0, 58, 27, 16, 12, 104, 29, 96, 46, 54, 5, 25, 4, 3, 42, 180, 0, 25]
abbrev dktX6_put_0 : List UInt8 := dkwX6_put_0 ++ dktX6_put_1
theorem dksX6_put_0 : cX6_put.data.toList.drop 0 = dktX6_put_0 := by decide +kernel
theorem dksX6_put_1 : cX6_put.data.toList.drop 23 = dktX6_put_1 := dk_seg dksX6_put_0 23 rfl rfl
theorem dX6_put_0 : decode cX6_put 0 = .ok (.aload_n 0, 1) := dk_42 (dk_at dksX6_put_0 0 rfl rfl)
theorem dX6_put_1 : decode cX6_put 1 = .ok (.getfield 25, 3) := dk_180 0 25 (dk_at dksX6_put_0 1 rfl rfl)
theorem dX6_put_4 : decode cX6_put 4 = .ok (.getfield 58, 3) := dk_180 0 58 (dk_at dksX6_put_0 4 rfl rfl)
theorem dX6_put_7 : decode cX6_put 7 = .ok (.iload_n 1, 1) := dk_27 (dk_at dksX6_put_0 7 rfl rfl)
theorem dX6_put_8 : decode cX6_put 8 = .ok (.bipush 12, 2) := dk_16 12 (dk_at dksX6_put_0 8 rfl rfl)
theorem dX6_put_10 : decode cX6_put 10 = .ok (.imul, 1) := dk_104 (dk_at dksX6_put_0 10 rfl rfl)
theorem dX6_put_11 : decode cX6_put 11 = .ok (.iload_n 3, 1) := dk_29 (dk_at dksX6_put_0 11 rfl rfl)
theorem dX6_put_12 : decode cX6_put 12 = .ok (.iadd, 1) := dk_96 (dk_at dksX6_put_0 12 rfl rfl)
theorem dX6_put_13 : decode cX6_put 13 = .ok (.iaload, 1) := dk_46 (dk_at dksX6_put_0 13 rfl rfl)
theorem dX6_put_14 : decode cX6_put 14 = .ok (.istore 5, 2) := dk_54 5 (dk_at dksX6_put_0 14 rfl rfl)
theorem dX6_put_16 : decode cX6_put 16 = .ok (.aload 4, 2) := dk_25 4 (dk_at dksX6_put_0 16 rfl rfl)
theorem dX6_put_18 : decode cX6_put 18 = .ok (.iconst 0, 1) := dk_3 (dk_at dksX6_put_0 18 rfl rfl)
theorem dX6_put_19 : decode cX6_put 19 = .ok (.aload_n 0, 1) := dk_42 (dk_at dksX6_put_0 19 rfl rfl)
theorem dX6_put_20 : decode cX6_put 20 = .ok (.getfield 25, 3) := dk_180 0 25 (dk_at dksX6_put_0 20 rfl rfl)
theorem dX6_put_23 : decode cX6_put 23 = .ok (.getfield 58, 3) := dk_180 0 58 (dk_at dksX6_put_1 0 rfl rfl)
theorem dX6_put_26 : decode cX6_put 26 = .ok (.iload_n 1, 1) := dk_27 (dk_at dksX6_put_1 3 rfl rfl)
theorem dX6_put_27 : decode cX6_put 27 = .ok (.bipush 12, 2) := dk_16 12 (dk_at dksX6_put_1 4 rfl rfl)
theorem dX6_put_29 : decode cX6_put 29 = .ok (.imul, 1) := dk_104 (dk_at dksX6_put_1 6 rfl rfl)
theorem dX6_put_30 : decode cX6_put 30 = .ok (.iload_n 2, 1) := dk_28 (dk_at dksX6_put_1 7 rfl rfl)
theorem dX6_put_31 : decode cX6_put 31 = .ok (.iadd, 1) := dk_96 (dk_at dksX6_put_1 8 rfl rfl)
theorem dX6_put_32 : decode cX6_put 32 = .ok (.aload 4, 2) := dk_25 4 (dk_at dksX6_put_1 9 rfl rfl)
theorem dX6_put_34 : decode cX6_put 34 = .ok (.arraylength, 1) := dk_190 (dk_at dksX6_put_1 11 rfl rfl)
theorem dX6_put_35 : decode cX6_put 35 = .ok (.invokestatic 10, 3) := dk_184 0 10 (dk_at dksX6_put_1 12 rfl rfl)
theorem dX6_put_38 : decode cX6_put 38 = .ok (.iload 5, 2) := dk_21 5 (dk_at dksX6_put_1 15 rfl rfl)
theorem dX6_put_40 : decode cX6_put 40 = .ok (.ireturn, 1) := dk_172 (dk_at dksX6_put_1 17 rfl rfl)
abbrev cX6_setEnvelope : ByteArray := prog_7_method_15_code
def yX6_setEnvelope : MethodName := ⟨RX6, "setEnvelope", "(IIIII)I"⟩
def dkwX6_setEnvelope_4 : List UInt8 := [167, 0, 8, 42, 5, 182, 0, 39, 172]
abbrev dktX6_setEnvelope_4 : List UInt8 := dkwX6_setEnvelope_4 ++ []
def dkwX6_setEnvelope_3 : List UInt8 := [188, 10, 89, 3, 28, 79, 89, 4, 29, 79, 89, 5, 21, 4, 79, 89, 6, 21, 5, 79, 182, 0, 64]
abbrev dktX6_setEnvelope_3 : List UInt8 := dkwX6_setEnvelope_3 ++ dktX6_setEnvelope_4
def dkwX6_setEnvelope_2 : List UInt8 := [184, 0, 35, 153, 0, 47, 21, 5, 4, 17, 1, 144, 184, 0, 35, 153, 0, 35, 42, 27, 7, 16, 6, 7]
abbrev dktX6_setEnvelope_2 : List UInt8 := dkwX6_setEnvelope_2 ++ dktX6_setEnvelope_3
def dkwX6_setEnvelope_1 : List UInt8 := [184, 0, 35, 153, 0, 70, 29, 4, 17, 1, 144, 184, 0, 35, 153, 0, 59, 21, 4, 3, 17, 3, 232]
abbrev dktX6_setEnvelope_1 : List UInt8 := dkwX6_setEnvelope_1 ++ dktX6_setEnvelope_2
def dkwX6_setEnvelope_0 : List UInt8 := [42, 3, 181, 0, 31, 27, 184, 0, 61, 154, 0, 9, 42, 4, 182, 0, 39, 172, 28, 4, 17, 1, 144]
abbrev dktX6_setEnvelope_0 : List UInt8 := dkwX6_setEnvelope_0 ++ dktX6_setEnvelope_1
theorem dksX6_setEnvelope_0 : cX6_setEnvelope.data.toList.drop 0 = dktX6_setEnvelope_0 := by decide +kernel
theorem dksX6_setEnvelope_1 : cX6_setEnvelope.data.toList.drop 23 = dktX6_setEnvelope_1 := dk_seg dksX6_setEnvelope_0 23 rfl rfl
theorem dksX6_setEnvelope_2 : cX6_setEnvelope.data.toList.drop 46 = dktX6_setEnvelope_2 := dk_seg dksX6_setEnvelope_1 23 rfl rfl
theorem dksX6_setEnvelope_3 : cX6_setEnvelope.data.toList.drop 70 = dktX6_setEnvelope_3 := dk_seg dksX6_setEnvelope_2 24 rfl rfl
theorem dksX6_setEnvelope_4 : cX6_setEnvelope.data.toList.drop 93 = dktX6_setEnvelope_4 := dk_seg dksX6_setEnvelope_3 23 rfl rfl
theorem dX6_setEnvelope_0 : decode cX6_setEnvelope 0 = .ok (.aload_n 0, 1) := dk_42 (dk_at dksX6_setEnvelope_0 0 rfl rfl)
theorem dX6_setEnvelope_1 : decode cX6_setEnvelope 1 = .ok (.iconst 0, 1) := dk_3 (dk_at dksX6_setEnvelope_0 1 rfl rfl)
theorem dX6_setEnvelope_2 : decode cX6_setEnvelope 2 = .ok (.putfield 31, 3) := dk_181 0 31 (dk_at dksX6_setEnvelope_0 2 rfl rfl)
theorem dX6_setEnvelope_5 : decode cX6_setEnvelope 5 = .ok (.iload_n 1, 1) := dk_27 (dk_at dksX6_setEnvelope_0 5 rfl rfl)
theorem dX6_setEnvelope_6 : decode cX6_setEnvelope 6 = .ok (.invokestatic 61, 3) := dk_184 0 61 (dk_at dksX6_setEnvelope_0 6 rfl rfl)
theorem dX6_setEnvelope_9 : decode cX6_setEnvelope 9 = .ok (.ifCond .ne 9, 3) := dk_154 0 9 (dk_at dksX6_setEnvelope_0 9 rfl rfl)
theorem dX6_setEnvelope_12 : decode cX6_setEnvelope 12 = .ok (.aload_n 0, 1) := dk_42 (dk_at dksX6_setEnvelope_0 12 rfl rfl)
theorem dX6_setEnvelope_13 : decode cX6_setEnvelope 13 = .ok (.iconst 1, 1) := dk_4 (dk_at dksX6_setEnvelope_0 13 rfl rfl)
theorem dX6_setEnvelope_14 : decode cX6_setEnvelope 14 = .ok (.invokevirtual 39, 3) := dk_182 0 39 (dk_at dksX6_setEnvelope_0 14 rfl rfl)
theorem dX6_setEnvelope_17 : decode cX6_setEnvelope 17 = .ok (.ireturn, 1) := dk_172 (dk_at dksX6_setEnvelope_0 17 rfl rfl)
theorem dX6_setEnvelope_18 : decode cX6_setEnvelope 18 = .ok (.iload_n 2, 1) := dk_28 (dk_at dksX6_setEnvelope_0 18 rfl rfl)
theorem dX6_setEnvelope_19 : decode cX6_setEnvelope 19 = .ok (.iconst 1, 1) := dk_4 (dk_at dksX6_setEnvelope_0 19 rfl rfl)
theorem dX6_setEnvelope_20 : decode cX6_setEnvelope 20 = .ok (.sipush 400, 3) := dk_17 1 144 (dk_at dksX6_setEnvelope_0 20 rfl rfl)
theorem dX6_setEnvelope_23 : decode cX6_setEnvelope 23 = .ok (.invokestatic 35, 3) := dk_184 0 35 (dk_at dksX6_setEnvelope_1 0 rfl rfl)
theorem dX6_setEnvelope_26 : decode cX6_setEnvelope 26 = .ok (.ifCond .eq 70, 3) := dk_153 0 70 (dk_at dksX6_setEnvelope_1 3 rfl rfl)
theorem dX6_setEnvelope_29 : decode cX6_setEnvelope 29 = .ok (.iload_n 3, 1) := dk_29 (dk_at dksX6_setEnvelope_1 6 rfl rfl)
theorem dX6_setEnvelope_30 : decode cX6_setEnvelope 30 = .ok (.iconst 1, 1) := dk_4 (dk_at dksX6_setEnvelope_1 7 rfl rfl)
theorem dX6_setEnvelope_31 : decode cX6_setEnvelope 31 = .ok (.sipush 400, 3) := dk_17 1 144 (dk_at dksX6_setEnvelope_1 8 rfl rfl)
theorem dX6_setEnvelope_34 : decode cX6_setEnvelope 34 = .ok (.invokestatic 35, 3) := dk_184 0 35 (dk_at dksX6_setEnvelope_1 11 rfl rfl)
theorem dX6_setEnvelope_37 : decode cX6_setEnvelope 37 = .ok (.ifCond .eq 59, 3) := dk_153 0 59 (dk_at dksX6_setEnvelope_1 14 rfl rfl)
theorem dX6_setEnvelope_40 : decode cX6_setEnvelope 40 = .ok (.iload 4, 2) := dk_21 4 (dk_at dksX6_setEnvelope_1 17 rfl rfl)
theorem dX6_setEnvelope_42 : decode cX6_setEnvelope 42 = .ok (.iconst 0, 1) := dk_3 (dk_at dksX6_setEnvelope_1 19 rfl rfl)
theorem dX6_setEnvelope_43 : decode cX6_setEnvelope 43 = .ok (.sipush 1000, 3) := dk_17 3 232 (dk_at dksX6_setEnvelope_1 20 rfl rfl)
theorem dX6_setEnvelope_46 : decode cX6_setEnvelope 46 = .ok (.invokestatic 35, 3) := dk_184 0 35 (dk_at dksX6_setEnvelope_2 0 rfl rfl)
theorem dX6_setEnvelope_49 : decode cX6_setEnvelope 49 = .ok (.ifCond .eq 47, 3) := dk_153 0 47 (dk_at dksX6_setEnvelope_2 3 rfl rfl)
theorem dX6_setEnvelope_52 : decode cX6_setEnvelope 52 = .ok (.iload 5, 2) := dk_21 5 (dk_at dksX6_setEnvelope_2 6 rfl rfl)
theorem dX6_setEnvelope_54 : decode cX6_setEnvelope 54 = .ok (.iconst 1, 1) := dk_4 (dk_at dksX6_setEnvelope_2 8 rfl rfl)
theorem dX6_setEnvelope_55 : decode cX6_setEnvelope 55 = .ok (.sipush 400, 3) := dk_17 1 144 (dk_at dksX6_setEnvelope_2 9 rfl rfl)
theorem dX6_setEnvelope_58 : decode cX6_setEnvelope 58 = .ok (.invokestatic 35, 3) := dk_184 0 35 (dk_at dksX6_setEnvelope_2 12 rfl rfl)
theorem dX6_setEnvelope_61 : decode cX6_setEnvelope 61 = .ok (.ifCond .eq 35, 3) := dk_153 0 35 (dk_at dksX6_setEnvelope_2 15 rfl rfl)
theorem dX6_setEnvelope_64 : decode cX6_setEnvelope 64 = .ok (.aload_n 0, 1) := dk_42 (dk_at dksX6_setEnvelope_2 18 rfl rfl)
theorem dX6_setEnvelope_65 : decode cX6_setEnvelope 65 = .ok (.iload_n 1, 1) := dk_27 (dk_at dksX6_setEnvelope_2 19 rfl rfl)
theorem dX6_setEnvelope_66 : decode cX6_setEnvelope 66 = .ok (.iconst 4, 1) := dk_7 (dk_at dksX6_setEnvelope_2 20 rfl rfl)
theorem dX6_setEnvelope_67 : decode cX6_setEnvelope 67 = .ok (.bipush 6, 2) := dk_16 6 (dk_at dksX6_setEnvelope_2 21 rfl rfl)
theorem dX6_setEnvelope_69 : decode cX6_setEnvelope 69 = .ok (.iconst 4, 1) := dk_7 (dk_at dksX6_setEnvelope_2 23 rfl rfl)
theorem dX6_setEnvelope_70 : decode cX6_setEnvelope 70 = .ok (.newarray .int, 2) := dk_188_10 (dk_at dksX6_setEnvelope_3 0 rfl rfl)
theorem dX6_setEnvelope_72 : decode cX6_setEnvelope 72 = .ok (.dup, 1) := dk_89 (dk_at dksX6_setEnvelope_3 2 rfl rfl)
theorem dX6_setEnvelope_73 : decode cX6_setEnvelope 73 = .ok (.iconst 0, 1) := dk_3 (dk_at dksX6_setEnvelope_3 3 rfl rfl)
theorem dX6_setEnvelope_74 : decode cX6_setEnvelope 74 = .ok (.iload_n 2, 1) := dk_28 (dk_at dksX6_setEnvelope_3 4 rfl rfl)
theorem dX6_setEnvelope_75 : decode cX6_setEnvelope 75 = .ok (.iastore, 1) := dk_79 (dk_at dksX6_setEnvelope_3 5 rfl rfl)
theorem dX6_setEnvelope_76 : decode cX6_setEnvelope 76 = .ok (.dup, 1) := dk_89 (dk_at dksX6_setEnvelope_3 6 rfl rfl)
theorem dX6_setEnvelope_77 : decode cX6_setEnvelope 77 = .ok (.iconst 1, 1) := dk_4 (dk_at dksX6_setEnvelope_3 7 rfl rfl)
theorem dX6_setEnvelope_78 : decode cX6_setEnvelope 78 = .ok (.iload_n 3, 1) := dk_29 (dk_at dksX6_setEnvelope_3 8 rfl rfl)
theorem dX6_setEnvelope_79 : decode cX6_setEnvelope 79 = .ok (.iastore, 1) := dk_79 (dk_at dksX6_setEnvelope_3 9 rfl rfl)
theorem dX6_setEnvelope_80 : decode cX6_setEnvelope 80 = .ok (.dup, 1) := dk_89 (dk_at dksX6_setEnvelope_3 10 rfl rfl)
theorem dX6_setEnvelope_81 : decode cX6_setEnvelope 81 = .ok (.iconst 2, 1) := dk_5 (dk_at dksX6_setEnvelope_3 11 rfl rfl)
theorem dX6_setEnvelope_82 : decode cX6_setEnvelope 82 = .ok (.iload 4, 2) := dk_21 4 (dk_at dksX6_setEnvelope_3 12 rfl rfl)
theorem dX6_setEnvelope_84 : decode cX6_setEnvelope 84 = .ok (.iastore, 1) := dk_79 (dk_at dksX6_setEnvelope_3 14 rfl rfl)
theorem dX6_setEnvelope_85 : decode cX6_setEnvelope 85 = .ok (.dup, 1) := dk_89 (dk_at dksX6_setEnvelope_3 15 rfl rfl)
theorem dX6_setEnvelope_86 : decode cX6_setEnvelope 86 = .ok (.iconst 3, 1) := dk_6 (dk_at dksX6_setEnvelope_3 16 rfl rfl)
theorem dX6_setEnvelope_87 : decode cX6_setEnvelope 87 = .ok (.iload 5, 2) := dk_21 5 (dk_at dksX6_setEnvelope_3 17 rfl rfl)
theorem dX6_setEnvelope_89 : decode cX6_setEnvelope 89 = .ok (.iastore, 1) := dk_79 (dk_at dksX6_setEnvelope_3 19 rfl rfl)
theorem dX6_setEnvelope_90 : decode cX6_setEnvelope 90 = .ok (.invokevirtual 64, 3) := dk_182 0 64 (dk_at dksX6_setEnvelope_3 20 rfl rfl)
theorem dX6_setEnvelope_93 : decode cX6_setEnvelope 93 = .ok (.goto 8, 3) := dk_167 0 8 (dk_at dksX6_setEnvelope_4 0 rfl rfl)
theorem dX6_setEnvelope_96 : decode cX6_setEnvelope 96 = .ok (.aload_n 0, 1) := dk_42 (dk_at dksX6_setEnvelope_4 3 rfl rfl)
theorem dX6_setEnvelope_97 : decode cX6_setEnvelope 97 = .ok (.iconst 2, 1) := dk_5 (dk_at dksX6_setEnvelope_4 4 rfl rfl)
theorem dX6_setEnvelope_98 : decode cX6_setEnvelope 98 = .ok (.invokevirtual 39, 3) := dk_182 0 39 (dk_at dksX6_setEnvelope_4 5 rfl rfl)
theorem dX6_setEnvelope_101 : decode cX6_setEnvelope 101 = .ok (.ireturn, 1) := dk_172 (dk_at dksX6_setEnvelope_4 8 rfl rfl)
abbrev cX6_setFilter : ByteArray := prog_7_method_16_code
def yX6_setFilter : MethodName := ⟨RX6, "setFilter", "(III)I"⟩
def dkwX6_setFilter_2 : List UInt8 := [5, 188, 10, 89, 3, 28, 79, 89, 4, 29, 79, 182, 0, 64, 167, 0, 8, 42, 5, 182, 0, 39, 172]
abbrev dktX6_setFilter_2 : List UInt8 := dkwX6_setFilter_2 ++ []
def dkwX6_setFilter_1 : List UInt8 := [184, 0, 35, 153, 0, 38, 29, 16, 16, 17, 1, 0, 184, 0, 35, 153, 0, 26, 42, 27, 16, 8, 16, 8]
abbrev dktX6_setFilter_1 : List UInt8 := dkwX6_setFilter_1 ++ dktX6_setFilter_2
def dkwX6_setFilter_0 : List UInt8 := [42, 3, 181, 0, 31, 27, 184, 0, 61, 154, 0, 9, 42, 4, 182, 0, 39, 172, 28, 4, 17, 0, 128]
abbrev dktX6_setFilter_0 : List UInt8 := dkwX6_setFilter_0 ++ dktX6_setFilter_1
theorem dksX6_setFilter_0 : cX6_setFilter.data.toList.drop 0 = dktX6_setFilter_0 := by decide +kernel
theorem dksX6_setFilter_1 : cX6_setFilter.data.toList.drop 23 = dktX6_setFilter_1 := dk_seg dksX6_setFilter_0 23 rfl rfl
theorem dksX6_setFilter_2 : cX6_setFilter.data.toList.drop 47 = dktX6_setFilter_2 := dk_seg dksX6_setFilter_1 24 rfl rfl
theorem dX6_setFilter_0 : decode cX6_setFilter 0 = .ok (.aload_n 0, 1) := dk_42 (dk_at dksX6_setFilter_0 0 rfl rfl)
theorem dX6_setFilter_1 : decode cX6_setFilter 1 = .ok (.iconst 0, 1) := dk_3 (dk_at dksX6_setFilter_0 1 rfl rfl)
theorem dX6_setFilter_2 : decode cX6_setFilter 2 = .ok (.putfield 31, 3) := dk_181 0 31 (dk_at dksX6_setFilter_0 2 rfl rfl)
theorem dX6_setFilter_5 : decode cX6_setFilter 5 = .ok (.iload_n 1, 1) := dk_27 (dk_at dksX6_setFilter_0 5 rfl rfl)
theorem dX6_setFilter_6 : decode cX6_setFilter 6 = .ok (.invokestatic 61, 3) := dk_184 0 61 (dk_at dksX6_setFilter_0 6 rfl rfl)
theorem dX6_setFilter_9 : decode cX6_setFilter 9 = .ok (.ifCond .ne 9, 3) := dk_154 0 9 (dk_at dksX6_setFilter_0 9 rfl rfl)
theorem dX6_setFilter_12 : decode cX6_setFilter 12 = .ok (.aload_n 0, 1) := dk_42 (dk_at dksX6_setFilter_0 12 rfl rfl)
theorem dX6_setFilter_13 : decode cX6_setFilter 13 = .ok (.iconst 1, 1) := dk_4 (dk_at dksX6_setFilter_0 13 rfl rfl)
theorem dX6_setFilter_14 : decode cX6_setFilter 14 = .ok (.invokevirtual 39, 3) := dk_182 0 39 (dk_at dksX6_setFilter_0 14 rfl rfl)
theorem dX6_setFilter_17 : decode cX6_setFilter 17 = .ok (.ireturn, 1) := dk_172 (dk_at dksX6_setFilter_0 17 rfl rfl)
theorem dX6_setFilter_18 : decode cX6_setFilter 18 = .ok (.iload_n 2, 1) := dk_28 (dk_at dksX6_setFilter_0 18 rfl rfl)
theorem dX6_setFilter_19 : decode cX6_setFilter 19 = .ok (.iconst 1, 1) := dk_4 (dk_at dksX6_setFilter_0 19 rfl rfl)
theorem dX6_setFilter_20 : decode cX6_setFilter 20 = .ok (.sipush 128, 3) := dk_17 0 128 (dk_at dksX6_setFilter_0 20 rfl rfl)
theorem dX6_setFilter_23 : decode cX6_setFilter 23 = .ok (.invokestatic 35, 3) := dk_184 0 35 (dk_at dksX6_setFilter_1 0 rfl rfl)
theorem dX6_setFilter_26 : decode cX6_setFilter 26 = .ok (.ifCond .eq 38, 3) := dk_153 0 38 (dk_at dksX6_setFilter_1 3 rfl rfl)
theorem dX6_setFilter_29 : decode cX6_setFilter 29 = .ok (.iload_n 3, 1) := dk_29 (dk_at dksX6_setFilter_1 6 rfl rfl)
theorem dX6_setFilter_30 : decode cX6_setFilter 30 = .ok (.bipush 16, 2) := dk_16 16 (dk_at dksX6_setFilter_1 7 rfl rfl)
theorem dX6_setFilter_32 : decode cX6_setFilter 32 = .ok (.sipush 256, 3) := dk_17 1 0 (dk_at dksX6_setFilter_1 9 rfl rfl)
theorem dX6_setFilter_35 : decode cX6_setFilter 35 = .ok (.invokestatic 35, 3) := dk_184 0 35 (dk_at dksX6_setFilter_1 12 rfl rfl)
theorem dX6_setFilter_38 : decode cX6_setFilter 38 = .ok (.ifCond .eq 26, 3) := dk_153 0 26 (dk_at dksX6_setFilter_1 15 rfl rfl)
theorem dX6_setFilter_41 : decode cX6_setFilter 41 = .ok (.aload_n 0, 1) := dk_42 (dk_at dksX6_setFilter_1 18 rfl rfl)
theorem dX6_setFilter_42 : decode cX6_setFilter 42 = .ok (.iload_n 1, 1) := dk_27 (dk_at dksX6_setFilter_1 19 rfl rfl)
theorem dX6_setFilter_43 : decode cX6_setFilter 43 = .ok (.bipush 8, 2) := dk_16 8 (dk_at dksX6_setFilter_1 20 rfl rfl)
theorem dX6_setFilter_45 : decode cX6_setFilter 45 = .ok (.bipush 8, 2) := dk_16 8 (dk_at dksX6_setFilter_1 22 rfl rfl)
theorem dX6_setFilter_47 : decode cX6_setFilter 47 = .ok (.iconst 2, 1) := dk_5 (dk_at dksX6_setFilter_2 0 rfl rfl)
theorem dX6_setFilter_48 : decode cX6_setFilter 48 = .ok (.newarray .int, 2) := dk_188_10 (dk_at dksX6_setFilter_2 1 rfl rfl)
theorem dX6_setFilter_50 : decode cX6_setFilter 50 = .ok (.dup, 1) := dk_89 (dk_at dksX6_setFilter_2 3 rfl rfl)
theorem dX6_setFilter_51 : decode cX6_setFilter 51 = .ok (.iconst 0, 1) := dk_3 (dk_at dksX6_setFilter_2 4 rfl rfl)
theorem dX6_setFilter_52 : decode cX6_setFilter 52 = .ok (.iload_n 2, 1) := dk_28 (dk_at dksX6_setFilter_2 5 rfl rfl)
theorem dX6_setFilter_53 : decode cX6_setFilter 53 = .ok (.iastore, 1) := dk_79 (dk_at dksX6_setFilter_2 6 rfl rfl)
theorem dX6_setFilter_54 : decode cX6_setFilter 54 = .ok (.dup, 1) := dk_89 (dk_at dksX6_setFilter_2 7 rfl rfl)
theorem dX6_setFilter_55 : decode cX6_setFilter 55 = .ok (.iconst 1, 1) := dk_4 (dk_at dksX6_setFilter_2 8 rfl rfl)
theorem dX6_setFilter_56 : decode cX6_setFilter 56 = .ok (.iload_n 3, 1) := dk_29 (dk_at dksX6_setFilter_2 9 rfl rfl)
theorem dX6_setFilter_57 : decode cX6_setFilter 57 = .ok (.iastore, 1) := dk_79 (dk_at dksX6_setFilter_2 10 rfl rfl)
theorem dX6_setFilter_58 : decode cX6_setFilter 58 = .ok (.invokevirtual 64, 3) := dk_182 0 64 (dk_at dksX6_setFilter_2 11 rfl rfl)
theorem dX6_setFilter_61 : decode cX6_setFilter 61 = .ok (.goto 8, 3) := dk_167 0 8 (dk_at dksX6_setFilter_2 14 rfl rfl)
theorem dX6_setFilter_64 : decode cX6_setFilter 64 = .ok (.aload_n 0, 1) := dk_42 (dk_at dksX6_setFilter_2 17 rfl rfl)
theorem dX6_setFilter_65 : decode cX6_setFilter 65 = .ok (.iconst 2, 1) := dk_5 (dk_at dksX6_setFilter_2 18 rfl rfl)
theorem dX6_setFilter_66 : decode cX6_setFilter 66 = .ok (.invokevirtual 39, 3) := dk_182 0 39 (dk_at dksX6_setFilter_2 19 rfl rfl)
theorem dX6_setFilter_69 : decode cX6_setFilter 69 = .ok (.ireturn, 1) := dk_172 (dk_at dksX6_setFilter_2 22 rfl rfl)
abbrev cX6_setVibrato : ByteArray := prog_7_method_17_code
def yX6_setVibrato : MethodName := ⟨RX6, "setVibrato", "(III)I"⟩
def dkwX6_setVibrato_2 : List UInt8 := [5, 188, 10, 89, 3, 28, 79, 89, 4, 29, 79, 182, 0, 64, 167, 0, 8, 42, 5, 182, 0, 39, 172]
abbrev dktX6_setVibrato_2 : List UInt8 := dkwX6_setVibrato_2 ++ []
def dkwX6_setVibrato_1 : List UInt8 := [184, 0, 35, 153, 0, 38, 29, 16, 8, 17, 0, 255, 184, 0, 35, 153, 0, 26, 42, 27, 16, 10, 16, 10]
abbrev dktX6_setVibrato_1 : List UInt8 := dkwX6_setVibrato_1 ++ dktX6_setVibrato_2
def dkwX6_setVibrato_0 : List UInt8 := [42, 3, 181, 0, 31, 27, 184, 0, 61, 154, 0, 9, 42, 4, 182, 0, 39, 172, 28, 3, 16, 64]
abbrev dktX6_setVibrato_0 : List UInt8 := dkwX6_setVibrato_0 ++ dktX6_setVibrato_1
theorem dksX6_setVibrato_0 : cX6_setVibrato.data.toList.drop 0 = dktX6_setVibrato_0 := by decide +kernel
theorem dksX6_setVibrato_1 : cX6_setVibrato.data.toList.drop 22 = dktX6_setVibrato_1 := dk_seg dksX6_setVibrato_0 22 rfl rfl
theorem dksX6_setVibrato_2 : cX6_setVibrato.data.toList.drop 46 = dktX6_setVibrato_2 := dk_seg dksX6_setVibrato_1 24 rfl rfl
theorem dX6_setVibrato_0 : decode cX6_setVibrato 0 = .ok (.aload_n 0, 1) := dk_42 (dk_at dksX6_setVibrato_0 0 rfl rfl)
theorem dX6_setVibrato_1 : decode cX6_setVibrato 1 = .ok (.iconst 0, 1) := dk_3 (dk_at dksX6_setVibrato_0 1 rfl rfl)
theorem dX6_setVibrato_2 : decode cX6_setVibrato 2 = .ok (.putfield 31, 3) := dk_181 0 31 (dk_at dksX6_setVibrato_0 2 rfl rfl)
theorem dX6_setVibrato_5 : decode cX6_setVibrato 5 = .ok (.iload_n 1, 1) := dk_27 (dk_at dksX6_setVibrato_0 5 rfl rfl)
theorem dX6_setVibrato_6 : decode cX6_setVibrato 6 = .ok (.invokestatic 61, 3) := dk_184 0 61 (dk_at dksX6_setVibrato_0 6 rfl rfl)
theorem dX6_setVibrato_9 : decode cX6_setVibrato 9 = .ok (.ifCond .ne 9, 3) := dk_154 0 9 (dk_at dksX6_setVibrato_0 9 rfl rfl)
theorem dX6_setVibrato_12 : decode cX6_setVibrato 12 = .ok (.aload_n 0, 1) := dk_42 (dk_at dksX6_setVibrato_0 12 rfl rfl)
theorem dX6_setVibrato_13 : decode cX6_setVibrato 13 = .ok (.iconst 1, 1) := dk_4 (dk_at dksX6_setVibrato_0 13 rfl rfl)
theorem dX6_setVibrato_14 : decode cX6_setVibrato 14 = .ok (.invokevirtual 39, 3) := dk_182 0 39 (dk_at dksX6_setVibrato_0 14 rfl rfl)
theorem dX6_setVibrato_17 : decode cX6_setVibrato 17 = .ok (.ireturn, 1) := dk_172 (dk_at dksX6_setVibrato_0 17 rfl rfl)
theorem dX6_setVibrato_18 : decode cX6_setVibrato 18 = .ok (.iload_n 2, 1) := dk_28 (dk_at dksX6_setVibrato_0 18 rfl rfl)
theorem dX6_setVibrato_19 : decode cX6_setVibrato 19 = .ok (.iconst 0, 1) := dk_3 (dk_at dksX6_setVibrato_0 19 rfl rfl)
theorem dX6_setVibrato_20 : decode cX6_setVibrato 20 = .ok (.bipush 64, 2) := dk_16 64 (dk_at dksX6_setVibrato_0 20 rfl rfl)
theorem dX6_setVibrato_22 : decode cX6_setVibrato 22 = .ok (.invokestatic 35, 3) := dk_184 0 35 (dk_at dksX6_setVibrato_1 0 rfl rfl)
theorem dX6_setVibrato_25 : decode cX6_setVibrato 25 = .ok (.ifCond .eq 38, 3) := dk_153 0 38 (dk_at dksX6_setVibrato_1 3 rfl rfl)
theorem dX6_setVibrato_28 : decode cX6_setVibrato 28 = .ok (.iload_n 3, 1) := dk_29 (dk_at dksX6_setVibrato_1 6 rfl rfl)
theorem dX6_setVibrato_29 : decode cX6_setVibrato 29 = .ok (.bipush 8, 2) := dk_16 8 (dk_at dksX6_setVibrato_1 7 rfl rfl)
theorem dX6_setVibrato_31 : decode cX6_setVibrato 31 = .ok (.sipush 255, 3) := dk_17 0 255 (dk_at dksX6_setVibrato_1 9 rfl rfl)
theorem dX6_setVibrato_34 : decode cX6_setVibrato 34 = .ok (.invokestatic 35, 3) := dk_184 0 35 (dk_at dksX6_setVibrato_1 12 rfl rfl)
theorem dX6_setVibrato_37 : decode cX6_setVibrato 37 = .ok (.ifCond .eq 26, 3) := dk_153 0 26 (dk_at dksX6_setVibrato_1 15 rfl rfl)
theorem dX6_setVibrato_40 : decode cX6_setVibrato 40 = .ok (.aload_n 0, 1) := dk_42 (dk_at dksX6_setVibrato_1 18 rfl rfl)
theorem dX6_setVibrato_41 : decode cX6_setVibrato 41 = .ok (.iload_n 1, 1) := dk_27 (dk_at dksX6_setVibrato_1 19 rfl rfl)
theorem dX6_setVibrato_42 : decode cX6_setVibrato 42 = .ok (.bipush 10, 2) := dk_16 10 (dk_at dksX6_setVibrato_1 20 rfl rfl)
theorem dX6_setVibrato_44 : decode cX6_setVibrato 44 = .ok (.bipush 10, 2) := dk_16 10 (dk_at dksX6_setVibrato_1 22 rfl rfl)
theorem dX6_setVibrato_46 : decode cX6_setVibrato 46 = .ok (.iconst 2, 1) := dk_5 (dk_at dksX6_setVibrato_2 0 rfl rfl)
theorem dX6_setVibrato_47 : decode cX6_setVibrato 47 = .ok (.newarray .int, 2) := dk_188_10 (dk_at dksX6_setVibrato_2 1 rfl rfl)
theorem dX6_setVibrato_49 : decode cX6_setVibrato 49 = .ok (.dup, 1) := dk_89 (dk_at dksX6_setVibrato_2 3 rfl rfl)
theorem dX6_setVibrato_50 : decode cX6_setVibrato 50 = .ok (.iconst 0, 1) := dk_3 (dk_at dksX6_setVibrato_2 4 rfl rfl)
theorem dX6_setVibrato_51 : decode cX6_setVibrato 51 = .ok (.iload_n 2, 1) := dk_28 (dk_at dksX6_setVibrato_2 5 rfl rfl)
theorem dX6_setVibrato_52 : decode cX6_setVibrato 52 = .ok (.iastore, 1) := dk_79 (dk_at dksX6_setVibrato_2 6 rfl rfl)
theorem dX6_setVibrato_53 : decode cX6_setVibrato 53 = .ok (.dup, 1) := dk_89 (dk_at dksX6_setVibrato_2 7 rfl rfl)
theorem dX6_setVibrato_54 : decode cX6_setVibrato 54 = .ok (.iconst 1, 1) := dk_4 (dk_at dksX6_setVibrato_2 8 rfl rfl)
theorem dX6_setVibrato_55 : decode cX6_setVibrato 55 = .ok (.iload_n 3, 1) := dk_29 (dk_at dksX6_setVibrato_2 9 rfl rfl)
theorem dX6_setVibrato_56 : decode cX6_setVibrato 56 = .ok (.iastore, 1) := dk_79 (dk_at dksX6_setVibrato_2 10 rfl rfl)
theorem dX6_setVibrato_57 : decode cX6_setVibrato 57 = .ok (.invokevirtual 64, 3) := dk_182 0 64 (dk_at dksX6_setVibrato_2 11 rfl rfl)
theorem dX6_setVibrato_60 : decode cX6_setVibrato 60 = .ok (.goto 8, 3) := dk_167 0 8 (dk_at dksX6_setVibrato_2 14 rfl rfl)
theorem dX6_setVibrato_63 : decode cX6_setVibrato 63 = .ok (.aload_n 0, 1) := dk_42 (dk_at dksX6_setVibrato_2 17 rfl rfl)
theorem dX6_setVibrato_64 : decode cX6_setVibrato 64 = .ok (.iconst 2, 1) := dk_5 (dk_at dksX6_setVibrato_2 18 rfl rfl)
theorem dX6_setVibrato_65 : decode cX6_setVibrato 65 = .ok (.invokevirtual 39, 3) := dk_182 0 39 (dk_at dksX6_setVibrato_2 19 rfl rfl)
theorem dX6_setVibrato_68 : decode cX6_setVibrato 68 = .ok (.ireturn, 1) := dk_172 (dk_at dksX6_setVibrato_2 22 rfl rfl)
abbrev cX6_setGain : ByteArray := prog_7_method_18_code
def yX6_setGain : MethodName := ⟨RX6, "setGain", "(I)I"⟩
def dkwX6_setGain_1 : List UInt8 := [180, 0, 25, 180, 0, 68, 61, 42, 180, 0, 25, 27, 181, 0, 68, 28, 172]
abbrev dktX6_setGain_1 : List UInt8 := dkwX6_setGain_1 ++ []
def dkwX6_setGain_0 : List UInt8 := [42, 3, 181, 0, 31, 27, 3, 17, 1, 0, 184, 0, 35, 154, 0, 9, 42, 4, 182, 0, 39, 172, 42]
abbrev dktX6_setGain_0 : List UInt8 := dkwX6_setGain_0 ++ dktX6_setGain_1
theorem dksX6_setGain_0 : cX6_setGain.data.toList.drop 0 = dktX6_setGain_0 := by decide +kernel
theorem dksX6_setGain_1 : cX6_setGain.data.toList.drop 23 = dktX6_setGain_1 := dk_seg dksX6_setGain_0 23 rfl rfl
theorem dX6_setGain_0 : decode cX6_setGain 0 = .ok (.aload_n 0, 1) := dk_42 (dk_at dksX6_setGain_0 0 rfl rfl)
theorem dX6_setGain_1 : decode cX6_setGain 1 = .ok (.iconst 0, 1) := dk_3 (dk_at dksX6_setGain_0 1 rfl rfl)
theorem dX6_setGain_2 : decode cX6_setGain 2 = .ok (.putfield 31, 3) := dk_181 0 31 (dk_at dksX6_setGain_0 2 rfl rfl)
theorem dX6_setGain_5 : decode cX6_setGain 5 = .ok (.iload_n 1, 1) := dk_27 (dk_at dksX6_setGain_0 5 rfl rfl)
theorem dX6_setGain_6 : decode cX6_setGain 6 = .ok (.iconst 0, 1) := dk_3 (dk_at dksX6_setGain_0 6 rfl rfl)
theorem dX6_setGain_7 : decode cX6_setGain 7 = .ok (.sipush 256, 3) := dk_17 1 0 (dk_at dksX6_setGain_0 7 rfl rfl)
theorem dX6_setGain_10 : decode cX6_setGain 10 = .ok (.invokestatic 35, 3) := dk_184 0 35 (dk_at dksX6_setGain_0 10 rfl rfl)
theorem dX6_setGain_13 : decode cX6_setGain 13 = .ok (.ifCond .ne 9, 3) := dk_154 0 9 (dk_at dksX6_setGain_0 13 rfl rfl)
theorem dX6_setGain_16 : decode cX6_setGain 16 = .ok (.aload_n 0, 1) := dk_42 (dk_at dksX6_setGain_0 16 rfl rfl)
theorem dX6_setGain_17 : decode cX6_setGain 17 = .ok (.iconst 1, 1) := dk_4 (dk_at dksX6_setGain_0 17 rfl rfl)
theorem dX6_setGain_18 : decode cX6_setGain 18 = .ok (.invokevirtual 39, 3) := dk_182 0 39 (dk_at dksX6_setGain_0 18 rfl rfl)
theorem dX6_setGain_21 : decode cX6_setGain 21 = .ok (.ireturn, 1) := dk_172 (dk_at dksX6_setGain_0 21 rfl rfl)
theorem dX6_setGain_22 : decode cX6_setGain 22 = .ok (.aload_n 0, 1) := dk_42 (dk_at dksX6_setGain_0 22 rfl rfl)
theorem dX6_setGain_23 : decode cX6_setGain 23 = .ok (.getfield 25, 3) := dk_180 0 25 (dk_at dksX6_setGain_1 0 rfl rfl)
theorem dX6_setGain_26 : decode cX6_setGain 26 = .ok (.getfield 68, 3) := dk_180 0 68 (dk_at dksX6_setGain_1 3 rfl rfl)
theorem dX6_setGain_29 : decode cX6_setGain 29 = .ok (.istore_n 2, 1) := dk_61 (dk_at dksX6_setGain_1 6 rfl rfl)
theorem dX6_setGain_30 : decode cX6_setGain 30 = .ok (.aload_n 0, 1) := dk_42 (dk_at dksX6_setGain_1 7 rfl rfl)
theorem dX6_setGain_31 : decode cX6_setGain 31 = .ok (.getfield 25, 3) := dk_180 0 25 (dk_at dksX6_setGain_1 8 rfl rfl)
theorem dX6_setGain_34 : decode cX6_setGain 34 = .ok (.iload_n 1, 1) := dk_27 (dk_at dksX6_setGain_1 11 rfl rfl)
theorem dX6_setGain_35 : decode cX6_setGain 35 = .ok (.putfield 68, 3) := dk_181 0 68 (dk_at dksX6_setGain_1 12 rfl rfl)
theorem dX6_setGain_38 : decode cX6_setGain 38 = .ok (.iload_n 2, 1) := dk_28 (dk_at dksX6_setGain_1 15 rfl rfl)
theorem dX6_setGain_39 : decode cX6_setGain 39 = .ok (.ireturn, 1) := dk_172 (dk_at dksX6_setGain_1 16 rfl rfl)
abbrev cX6_setDelay : ByteArray := prog_7_method_19_code
def yX6_setDelay : MethodName := ⟨RX6, "setDelay", "(III)I"⟩
def dkwX6_setDelay_4 : List UInt8 := [180, 0, 80, 21, 5, 3, 79, 132, 5, 1, 167, 255, 234, 21, 4, 172]
abbrev dktX6_setDelay_4 : List UInt8 := dkwX6_setDelay_4 ++ []
def dkwX6_setDelay_3 : List UInt8 := [180, 0, 25, 29, 181, 0, 77, 3, 54, 5, 21, 5, 17, 0, 200, 162, 0, 20, 42, 180, 0, 25]
abbrev dktX6_setDelay_3 : List UInt8 := dkwX6_setDelay_3 ++ dktX6_setDelay_4
def dkwX6_setDelay_2 : List UInt8 := [180, 0, 71, 54, 4, 42, 180, 0, 25, 27, 181, 0, 71, 42, 180, 0, 25, 28, 181, 0, 74, 42]
abbrev dktX6_setDelay_2 : List UInt8 := dkwX6_setDelay_2 ++ dktX6_setDelay_3
def dkwX6_setDelay_1 : List UInt8 := [153, 0, 14, 29, 3, 17, 1, 0, 184, 0, 35, 154, 0, 9, 42, 4, 182, 0, 39, 172, 42, 180, 0, 25]
abbrev dktX6_setDelay_1 : List UInt8 := dkwX6_setDelay_1 ++ dktX6_setDelay_2
def dkwX6_setDelay_0 : List UInt8 := [42, 3, 181, 0, 31, 27, 3, 17, 0, 200, 184, 0, 35, 153, 0, 25, 28, 3, 17, 1, 0, 184, 0, 35]
abbrev dktX6_setDelay_0 : List UInt8 := dkwX6_setDelay_0 ++ dktX6_setDelay_1
theorem dksX6_setDelay_0 : cX6_setDelay.data.toList.drop 0 = dktX6_setDelay_0 := by decide +kernel
theorem dksX6_setDelay_1 : cX6_setDelay.data.toList.drop 24 = dktX6_setDelay_1 := dk_seg dksX6_setDelay_0 24 rfl rfl
theorem dksX6_setDelay_2 : cX6_setDelay.data.toList.drop 48 = dktX6_setDelay_2 := dk_seg dksX6_setDelay_1 24 rfl rfl
theorem dksX6_setDelay_3 : cX6_setDelay.data.toList.drop 70 = dktX6_setDelay_3 := dk_seg dksX6_setDelay_2 22 rfl rfl
theorem dksX6_setDelay_4 : cX6_setDelay.data.toList.drop 92 = dktX6_setDelay_4 := dk_seg dksX6_setDelay_3 22 rfl rfl
theorem dX6_setDelay_0 : decode cX6_setDelay 0 = .ok (.aload_n 0, 1) := dk_42 (dk_at dksX6_setDelay_0 0 rfl rfl)
theorem dX6_setDelay_1 : decode cX6_setDelay 1 = .ok (.iconst 0, 1) := dk_3 (dk_at dksX6_setDelay_0 1 rfl rfl)
theorem dX6_setDelay_2 : decode cX6_setDelay 2 = .ok (.putfield 31, 3) := dk_181 0 31 (dk_at dksX6_setDelay_0 2 rfl rfl)
theorem dX6_setDelay_5 : decode cX6_setDelay 5 = .ok (.iload_n 1, 1) := dk_27 (dk_at dksX6_setDelay_0 5 rfl rfl)
theorem dX6_setDelay_6 : decode cX6_setDelay 6 = .ok (.iconst 0, 1) := dk_3 (dk_at dksX6_setDelay_0 6 rfl rfl)
theorem dX6_setDelay_7 : decode cX6_setDelay 7 = .ok (.sipush 200, 3) := dk_17 0 200 (dk_at dksX6_setDelay_0 7 rfl rfl)
theorem dX6_setDelay_10 : decode cX6_setDelay 10 = .ok (.invokestatic 35, 3) := dk_184 0 35 (dk_at dksX6_setDelay_0 10 rfl rfl)
theorem dX6_setDelay_13 : decode cX6_setDelay 13 = .ok (.ifCond .eq 25, 3) := dk_153 0 25 (dk_at dksX6_setDelay_0 13 rfl rfl)
theorem dX6_setDelay_16 : decode cX6_setDelay 16 = .ok (.iload_n 2, 1) := dk_28 (dk_at dksX6_setDelay_0 16 rfl rfl)
theorem dX6_setDelay_17 : decode cX6_setDelay 17 = .ok (.iconst 0, 1) := dk_3 (dk_at dksX6_setDelay_0 17 rfl rfl)
theorem dX6_setDelay_18 : decode cX6_setDelay 18 = .ok (.sipush 256, 3) := dk_17 1 0 (dk_at dksX6_setDelay_0 18 rfl rfl)
theorem dX6_setDelay_21 : decode cX6_setDelay 21 = .ok (.invokestatic 35, 3) := dk_184 0 35 (dk_at dksX6_setDelay_0 21 rfl rfl)
theorem dX6_setDelay_24 : decode cX6_setDelay 24 = .ok (.ifCond .eq 14, 3) := dk_153 0 14 (dk_at dksX6_setDelay_1 0 rfl rfl)
theorem dX6_setDelay_27 : decode cX6_setDelay 27 = .ok (.iload_n 3, 1) := dk_29 (dk_at dksX6_setDelay_1 3 rfl rfl)
theorem dX6_setDelay_28 : decode cX6_setDelay 28 = .ok (.iconst 0, 1) := dk_3 (dk_at dksX6_setDelay_1 4 rfl rfl)
theorem dX6_setDelay_29 : decode cX6_setDelay 29 = .ok (.sipush 256, 3) := dk_17 1 0 (dk_at dksX6_setDelay_1 5 rfl rfl)
theorem dX6_setDelay_32 : decode cX6_setDelay 32 = .ok (.invokestatic 35, 3) := dk_184 0 35 (dk_at dksX6_setDelay_1 8 rfl rfl)
theorem dX6_setDelay_35 : decode cX6_setDelay 35 = .ok (.ifCond .ne 9, 3) := dk_154 0 9 (dk_at dksX6_setDelay_1 11 rfl rfl)
theorem dX6_setDelay_38 : decode cX6_setDelay 38 = .ok (.aload_n 0, 1) := dk_42 (dk_at dksX6_setDelay_1 14 rfl rfl)
theorem dX6_setDelay_39 : decode cX6_setDelay 39 = .ok (.iconst 1, 1) := dk_4 (dk_at dksX6_setDelay_1 15 rfl rfl)
theorem dX6_setDelay_40 : decode cX6_setDelay 40 = .ok (.invokevirtual 39, 3) := dk_182 0 39 (dk_at dksX6_setDelay_1 16 rfl rfl)
theorem dX6_setDelay_43 : decode cX6_setDelay 43 = .ok (.ireturn, 1) := dk_172 (dk_at dksX6_setDelay_1 19 rfl rfl)
theorem dX6_setDelay_44 : decode cX6_setDelay 44 = .ok (.aload_n 0, 1) := dk_42 (dk_at dksX6_setDelay_1 20 rfl rfl)
theorem dX6_setDelay_45 : decode cX6_setDelay 45 = .ok (.getfield 25, 3) := dk_180 0 25 (dk_at dksX6_setDelay_1 21 rfl rfl)
theorem dX6_setDelay_48 : decode cX6_setDelay 48 = .ok (.getfield 71, 3) := dk_180 0 71 (dk_at dksX6_setDelay_2 0 rfl rfl)
theorem dX6_setDelay_51 : decode cX6_setDelay 51 = .ok (.istore 4, 2) := dk_54 4 (dk_at dksX6_setDelay_2 3 rfl rfl)
theorem dX6_setDelay_53 : decode cX6_setDelay 53 = .ok (.aload_n 0, 1) := dk_42 (dk_at dksX6_setDelay_2 5 rfl rfl)
theorem dX6_setDelay_54 : decode cX6_setDelay 54 = .ok (.getfield 25, 3) := dk_180 0 25 (dk_at dksX6_setDelay_2 6 rfl rfl)
theorem dX6_setDelay_57 : decode cX6_setDelay 57 = .ok (.iload_n 1, 1) := dk_27 (dk_at dksX6_setDelay_2 9 rfl rfl)
theorem dX6_setDelay_58 : decode cX6_setDelay 58 = .ok (.putfield 71, 3) := dk_181 0 71 (dk_at dksX6_setDelay_2 10 rfl rfl)
theorem dX6_setDelay_61 : decode cX6_setDelay 61 = .ok (.aload_n 0, 1) := dk_42 (dk_at dksX6_setDelay_2 13 rfl rfl)
theorem dX6_setDelay_62 : decode cX6_setDelay 62 = .ok (.getfield 25, 3) := dk_180 0 25 (dk_at dksX6_setDelay_2 14 rfl rfl)
theorem dX6_setDelay_65 : decode cX6_setDelay 65 = .ok (.iload_n 2, 1) := dk_28 (dk_at dksX6_setDelay_2 17 rfl rfl)
theorem dX6_setDelay_66 : decode cX6_setDelay 66 = .ok (.putfield 74, 3) := dk_181 0 74 (dk_at dksX6_setDelay_2 18 rfl rfl)
theorem dX6_setDelay_69 : decode cX6_setDelay 69 = .ok (.aload_n 0, 1) := dk_42 (dk_at dksX6_setDelay_2 21 rfl rfl)
theorem dX6_setDelay_70 : decode cX6_setDelay 70 = .ok (.getfield 25, 3) := dk_180 0 25 (dk_at dksX6_setDelay_3 0 rfl rfl)
theorem dX6_setDelay_73 : decode cX6_setDelay 73 = .ok (.iload_n 3, 1) := dk_29 (dk_at dksX6_setDelay_3 3 rfl rfl)
theorem dX6_setDelay_74 : decode cX6_setDelay 74 = .ok (.putfield 77, 3) := dk_181 0 77 (dk_at dksX6_setDelay_3 4 rfl rfl)
theorem dX6_setDelay_77 : decode cX6_setDelay 77 = .ok (.iconst 0, 1) := dk_3 (dk_at dksX6_setDelay_3 7 rfl rfl)
theorem dX6_setDelay_78 : decode cX6_setDelay 78 = .ok (.istore 5, 2) := dk_54 5 (dk_at dksX6_setDelay_3 8 rfl rfl)
theorem dX6_setDelay_80 : decode cX6_setDelay 80 = .ok (.iload 5, 2) := dk_21 5 (dk_at dksX6_setDelay_3 10 rfl rfl)
theorem dX6_setDelay_82 : decode cX6_setDelay 82 = .ok (.sipush 200, 3) := dk_17 0 200 (dk_at dksX6_setDelay_3 12 rfl rfl)
theorem dX6_setDelay_85 : decode cX6_setDelay 85 = .ok (.if_icmp .ge 20, 3) := dk_162 0 20 (dk_at dksX6_setDelay_3 15 rfl rfl)
theorem dX6_setDelay_88 : decode cX6_setDelay 88 = .ok (.aload_n 0, 1) := dk_42 (dk_at dksX6_setDelay_3 18 rfl rfl)
theorem dX6_setDelay_89 : decode cX6_setDelay 89 = .ok (.getfield 25, 3) := dk_180 0 25 (dk_at dksX6_setDelay_3 19 rfl rfl)
theorem dX6_setDelay_92 : decode cX6_setDelay 92 = .ok (.getfield 80, 3) := dk_180 0 80 (dk_at dksX6_setDelay_4 0 rfl rfl)
theorem dX6_setDelay_95 : decode cX6_setDelay 95 = .ok (.iload 5, 2) := dk_21 5 (dk_at dksX6_setDelay_4 3 rfl rfl)
theorem dX6_setDelay_97 : decode cX6_setDelay 97 = .ok (.iconst 0, 1) := dk_3 (dk_at dksX6_setDelay_4 5 rfl rfl)
theorem dX6_setDelay_98 : decode cX6_setDelay 98 = .ok (.iastore, 1) := dk_79 (dk_at dksX6_setDelay_4 6 rfl rfl)
theorem dX6_setDelay_99 : decode cX6_setDelay 99 = .ok (.iinc 5 1, 3) := dk_132 5 1 (dk_at dksX6_setDelay_4 7 rfl rfl)
theorem dX6_setDelay_102 : decode cX6_setDelay 102 = .ok (.goto (-22), 3) := dk_167 255 234 (dk_at dksX6_setDelay_4 10 rfl rfl)
theorem dX6_setDelay_105 : decode cX6_setDelay 105 = .ok (.iload 4, 2) := dk_21 4 (dk_at dksX6_setDelay_4 13 rfl rfl)
theorem dX6_setDelay_107 : decode cX6_setDelay 107 = .ok (.ireturn, 1) := dk_172 (dk_at dksX6_setDelay_4 15 rfl rfl)
abbrev cX6_begin : ByteArray := prog_7_method_20_code
def yX6_begin : MethodName := ⟨RX6, "begin", "(III)I"⟩
def dkwX6_begin_2 : List UInt8 := [182, 0, 83, 167, 0, 8, 42, 5, 182, 0, 39, 172]
abbrev dktX6_begin_2 : List UInt8 := dkwX6_begin_2 ++ []
def dkwX6_begin_1 : List UInt8 := [184, 0, 35, 153, 0, 27, 29, 4, 16, 127, 184, 0, 35, 153, 0, 17, 42, 180, 0, 25, 27, 28, 29, 2]
abbrev dktX6_begin_1 : List UInt8 := dkwX6_begin_1 ++ dktX6_begin_2
def dkwX6_begin_0 : List UInt8 := [42, 3, 181, 0, 31, 27, 184, 0, 61, 154, 0, 9, 42, 4, 182, 0, 39, 172, 28, 3, 16, 47]
abbrev dktX6_begin_0 : List UInt8 := dkwX6_begin_0 ++ dktX6_begin_1
theorem dksX6_begin_0 : cX6_begin.data.toList.drop 0 = dktX6_begin_0 := by decide +kernel
theorem dksX6_begin_1 : cX6_begin.data.toList.drop 22 = dktX6_begin_1 := dk_seg dksX6_begin_0 22 rfl rfl
theorem dksX6_begin_2 : cX6_begin.data.toList.drop 46 = dktX6_begin_2 := dk_seg dksX6_begin_1 24 rfl rfl
theorem dX6_begin_0 : decode cX6_begin 0 = .ok (.aload_n 0, 1) := dk_42 (dk_at dksX6_begin_0 0 rfl rfl)
theorem dX6_begin_1 : decode cX6_begin 1 = .ok (.iconst 0, 1) := dk_3 (dk_at dksX6_begin_0 1 rfl rfl)
theorem dX6_begin_2 : decode cX6_begin 2 = .ok (.putfield 31, 3) := dk_181 0 31 (dk_at dksX6_begin_0 2 rfl rfl)
theorem dX6_begin_5 : decode cX6_begin 5 = .ok (.iload_n 1, 1) := dk_27 (dk_at dksX6_begin_0 5 rfl rfl)
theorem dX6_begin_6 : decode cX6_begin 6 = .ok (.invokestatic 61, 3) := dk_184 0 61 (dk_at dksX6_begin_0 6 rfl rfl)
theorem dX6_begin_9 : decode cX6_begin 9 = .ok (.ifCond .ne 9, 3) := dk_154 0 9 (dk_at dksX6_begin_0 9 rfl rfl)
theorem dX6_begin_12 : decode cX6_begin 12 = .ok (.aload_n 0, 1) := dk_42 (dk_at dksX6_begin_0 12 rfl rfl)
theorem dX6_begin_13 : decode cX6_begin 13 = .ok (.iconst 1, 1) := dk_4 (dk_at dksX6_begin_0 13 rfl rfl)
theorem dX6_begin_14 : decode cX6_begin 14 = .ok (.invokevirtual 39, 3) := dk_182 0 39 (dk_at dksX6_begin_0 14 rfl rfl)
theorem dX6_begin_17 : decode cX6_begin 17 = .ok (.ireturn, 1) := dk_172 (dk_at dksX6_begin_0 17 rfl rfl)
theorem dX6_begin_18 : decode cX6_begin 18 = .ok (.iload_n 2, 1) := dk_28 (dk_at dksX6_begin_0 18 rfl rfl)
theorem dX6_begin_19 : decode cX6_begin 19 = .ok (.iconst 0, 1) := dk_3 (dk_at dksX6_begin_0 19 rfl rfl)
theorem dX6_begin_20 : decode cX6_begin 20 = .ok (.bipush 47, 2) := dk_16 47 (dk_at dksX6_begin_0 20 rfl rfl)
theorem dX6_begin_22 : decode cX6_begin 22 = .ok (.invokestatic 35, 3) := dk_184 0 35 (dk_at dksX6_begin_1 0 rfl rfl)
theorem dX6_begin_25 : decode cX6_begin 25 = .ok (.ifCond .eq 27, 3) := dk_153 0 27 (dk_at dksX6_begin_1 3 rfl rfl)
theorem dX6_begin_28 : decode cX6_begin 28 = .ok (.iload_n 3, 1) := dk_29 (dk_at dksX6_begin_1 6 rfl rfl)
theorem dX6_begin_29 : decode cX6_begin 29 = .ok (.iconst 1, 1) := dk_4 (dk_at dksX6_begin_1 7 rfl rfl)
theorem dX6_begin_30 : decode cX6_begin 30 = .ok (.bipush 127, 2) := dk_16 127 (dk_at dksX6_begin_1 8 rfl rfl)
theorem dX6_begin_32 : decode cX6_begin 32 = .ok (.invokestatic 35, 3) := dk_184 0 35 (dk_at dksX6_begin_1 10 rfl rfl)
theorem dX6_begin_35 : decode cX6_begin 35 = .ok (.ifCond .eq 17, 3) := dk_153 0 17 (dk_at dksX6_begin_1 13 rfl rfl)
theorem dX6_begin_38 : decode cX6_begin 38 = .ok (.aload_n 0, 1) := dk_42 (dk_at dksX6_begin_1 16 rfl rfl)
theorem dX6_begin_39 : decode cX6_begin 39 = .ok (.getfield 25, 3) := dk_180 0 25 (dk_at dksX6_begin_1 17 rfl rfl)
theorem dX6_begin_42 : decode cX6_begin 42 = .ok (.iload_n 1, 1) := dk_27 (dk_at dksX6_begin_1 20 rfl rfl)
theorem dX6_begin_43 : decode cX6_begin 43 = .ok (.iload_n 2, 1) := dk_28 (dk_at dksX6_begin_1 21 rfl rfl)
theorem dX6_begin_44 : decode cX6_begin 44 = .ok (.iload_n 3, 1) := dk_29 (dk_at dksX6_begin_1 22 rfl rfl)
theorem dX6_begin_45 : decode cX6_begin 45 = .ok (.iconst (-1), 1) := dk_2 (dk_at dksX6_begin_1 23 rfl rfl)
theorem dX6_begin_46 : decode cX6_begin 46 = .ok (.invokevirtual 83, 3) := dk_182 0 83 (dk_at dksX6_begin_2 0 rfl rfl)
theorem dX6_begin_49 : decode cX6_begin 49 = .ok (.goto 8, 3) := dk_167 0 8 (dk_at dksX6_begin_2 3 rfl rfl)
theorem dX6_begin_52 : decode cX6_begin 52 = .ok (.aload_n 0, 1) := dk_42 (dk_at dksX6_begin_2 6 rfl rfl)
theorem dX6_begin_53 : decode cX6_begin 53 = .ok (.iconst 2, 1) := dk_5 (dk_at dksX6_begin_2 7 rfl rfl)
theorem dX6_begin_54 : decode cX6_begin 54 = .ok (.invokevirtual 39, 3) := dk_182 0 39 (dk_at dksX6_begin_2 8 rfl rfl)
theorem dX6_begin_57 : decode cX6_begin 57 = .ok (.ireturn, 1) := dk_172 (dk_at dksX6_begin_2 11 rfl rfl)
abbrev cX6_end : ByteArray := prog_7_method_22_code
def yX6_end : MethodName := ⟨RX6, "end", "(I)I"⟩
def dkwX6_end_1 : List UInt8 := [180, 0, 90, 27, 46, 61, 42, 180, 0, 25, 27, 182, 0, 93, 28, 172]
abbrev dktX6_end_1 : List UInt8 := dkwX6_end_1 ++ []
def dkwX6_end_0 : List UInt8 := [42, 3, 181, 0, 31, 27, 184, 0, 87, 154, 0, 9, 42, 4, 182, 0, 39, 172, 42, 180, 0, 25]
abbrev dktX6_end_0 : List UInt8 := dkwX6_end_0 ++ dktX6_end_1
theorem dksX6_end_0 : cX6_end.data.toList.drop 0 = dktX6_end_0 := by decide +kernel
theorem dksX6_end_1 : cX6_end.data.toList.drop 22 = dktX6_end_1 := dk_seg dksX6_end_0 22 rfl rfl
theorem dX6_end_0 : decode cX6_end 0 = .ok (.aload_n 0, 1) := dk_42 (dk_at dksX6_end_0 0 rfl rfl)
theorem dX6_end_1 : decode cX6_end 1 = .ok (.iconst 0, 1) := dk_3 (dk_at dksX6_end_0 1 rfl rfl)
theorem dX6_end_2 : decode cX6_end 2 = .ok (.putfield 31, 3) := dk_181 0 31 (dk_at dksX6_end_0 2 rfl rfl)
theorem dX6_end_5 : decode cX6_end 5 = .ok (.iload_n 1, 1) := dk_27 (dk_at dksX6_end_0 5 rfl rfl)
theorem dX6_end_6 : decode cX6_end 6 = .ok (.invokestatic 87, 3) := dk_184 0 87 (dk_at dksX6_end_0 6 rfl rfl)
theorem dX6_end_9 : decode cX6_end 9 = .ok (.ifCond .ne 9, 3) := dk_154 0 9 (dk_at dksX6_end_0 9 rfl rfl)
theorem dX6_end_12 : decode cX6_end 12 = .ok (.aload_n 0, 1) := dk_42 (dk_at dksX6_end_0 12 rfl rfl)
theorem dX6_end_13 : decode cX6_end 13 = .ok (.iconst 1, 1) := dk_4 (dk_at dksX6_end_0 13 rfl rfl)
theorem dX6_end_14 : decode cX6_end 14 = .ok (.invokevirtual 39, 3) := dk_182 0 39 (dk_at dksX6_end_0 14 rfl rfl)
theorem dX6_end_17 : decode cX6_end 17 = .ok (.ireturn, 1) := dk_172 (dk_at dksX6_end_0 17 rfl rfl)
theorem dX6_end_18 : decode cX6_end 18 = .ok (.aload_n 0, 1) := dk_42 (dk_at dksX6_end_0 18 rfl rfl)
theorem dX6_end_19 : decode cX6_end 19 = .ok (.getfield 25, 3) := dk_180 0 25 (dk_at dksX6_end_0 19 rfl rfl)
theorem dX6_end_22 : decode cX6_end 22 = .ok (.getfield 90, 3) := dk_180 0 90 (dk_at dksX6_end_1 0 rfl rfl)
theorem dX6_end_25 : decode cX6_end 25 = .ok (.iload_n 1, 1) := dk_27 (dk_at dksX6_end_1 3 rfl rfl)
theorem dX6_end_26 : decode cX6_end 26 = .ok (.iaload, 1) := dk_46 (dk_at dksX6_end_1 4 rfl rfl)
theorem dX6_end_27 : decode cX6_end 27 = .ok (.istore_n 2, 1) := dk_61 (dk_at dksX6_end_1 5 rfl rfl)
theorem dX6_end_28 : decode cX6_end 28 = .ok (.aload_n 0, 1) := dk_42 (dk_at dksX6_end_1 6 rfl rfl)
theorem dX6_end_29 : decode cX6_end 29 = .ok (.getfield 25, 3) := dk_180 0 25 (dk_at dksX6_end_1 7 rfl rfl)
theorem dX6_end_32 : decode cX6_end 32 = .ok (.iload_n 1, 1) := dk_27 (dk_at dksX6_end_1 10 rfl rfl)
theorem dX6_end_33 : decode cX6_end 33 = .ok (.invokevirtual 93, 3) := dk_182 0 93 (dk_at dksX6_end_1 11 rfl rfl)
theorem dX6_end_36 : decode cX6_end 36 = .ok (.iload_n 2, 1) := dk_28 (dk_at dksX6_end_1 14 rfl rfl)
theorem dX6_end_37 : decode cX6_end 37 = .ok (.ireturn, 1) := dk_172 (dk_at dksX6_end_1 15 rfl rfl)
abbrev cX6_isVoice : ByteArray := prog_7_method_21_code
def yX6_isVoice : MethodName := ⟨RX6, "isVoice", "(I)Z"⟩
def dkwX6_isVoice_0 : List UInt8 := [26, 3, 6, 184, 0, 35, 172]
abbrev dktX6_isVoice_0 : List UInt8 := dkwX6_isVoice_0 ++ []
theorem dksX6_isVoice_0 : cX6_isVoice.data.toList.drop 0 = dktX6_isVoice_0 := by decide +kernel
theorem dX6_isVoice_0 : decode cX6_isVoice 0 = .ok (.iload_n 0, 1) := dk_26 (dk_at dksX6_isVoice_0 0 rfl rfl)
theorem dX6_isVoice_1 : decode cX6_isVoice 1 = .ok (.iconst 0, 1) := dk_3 (dk_at dksX6_isVoice_0 1 rfl rfl)
theorem dX6_isVoice_2 : decode cX6_isVoice 2 = .ok (.iconst 3, 1) := dk_6 (dk_at dksX6_isVoice_0 2 rfl rfl)
theorem dX6_isVoice_3 : decode cX6_isVoice 3 = .ok (.invokestatic 35, 3) := dk_184 0 35 (dk_at dksX6_isVoice_0 3 rfl rfl)
theorem dX6_isVoice_6 : decode cX6_isVoice 6 = .ok (.ireturn, 1) := dk_172 (dk_at dksX6_isVoice_0 6 rfl rfl)
abbrev cX6_hush : ByteArray := prog_7_method_23_code
def yX6_hush : MethodName := ⟨RX6, "hush", "()I"⟩
def dkwX6_hush_2 : List UInt8 := [2, 79, 132, 2, 1, 167, 255, 218, 27, 172]
abbrev dktX6_hush_2 : List UInt8 := dkwX6_hush_2 ++ []
def dkwX6_hush_1 : List UInt8 := [180, 0, 90, 28, 3, 79, 42, 180, 0, 25, 180, 0, 101, 28, 3, 79, 42, 180, 0, 25, 180, 0, 104, 28]
abbrev dktX6_hush_1 : List UInt8 := dkwX6_hush_1 ++ dktX6_hush_2
def dkwX6_hush_0 : List UInt8 := [42, 3, 181, 0, 31, 42, 180, 0, 25, 182, 0, 97, 60, 3, 61, 28, 7, 162, 0, 39, 42, 180, 0, 25]
abbrev dktX6_hush_0 : List UInt8 := dkwX6_hush_0 ++ dktX6_hush_1
theorem dksX6_hush_0 : cX6_hush.data.toList.drop 0 = dktX6_hush_0 := by decide +kernel
theorem dksX6_hush_1 : cX6_hush.data.toList.drop 24 = dktX6_hush_1 := dk_seg dksX6_hush_0 24 rfl rfl
theorem dksX6_hush_2 : cX6_hush.data.toList.drop 48 = dktX6_hush_2 := dk_seg dksX6_hush_1 24 rfl rfl
theorem dX6_hush_0 : decode cX6_hush 0 = .ok (.aload_n 0, 1) := dk_42 (dk_at dksX6_hush_0 0 rfl rfl)
theorem dX6_hush_1 : decode cX6_hush 1 = .ok (.iconst 0, 1) := dk_3 (dk_at dksX6_hush_0 1 rfl rfl)
theorem dX6_hush_2 : decode cX6_hush 2 = .ok (.putfield 31, 3) := dk_181 0 31 (dk_at dksX6_hush_0 2 rfl rfl)
theorem dX6_hush_5 : decode cX6_hush 5 = .ok (.aload_n 0, 1) := dk_42 (dk_at dksX6_hush_0 5 rfl rfl)
theorem dX6_hush_6 : decode cX6_hush 6 = .ok (.getfield 25, 3) := dk_180 0 25 (dk_at dksX6_hush_0 6 rfl rfl)
theorem dX6_hush_9 : decode cX6_hush 9 = .ok (.invokevirtual 97, 3) := dk_182 0 97 (dk_at dksX6_hush_0 9 rfl rfl)
theorem dX6_hush_12 : decode cX6_hush 12 = .ok (.istore_n 1, 1) := dk_60 (dk_at dksX6_hush_0 12 rfl rfl)
theorem dX6_hush_13 : decode cX6_hush 13 = .ok (.iconst 0, 1) := dk_3 (dk_at dksX6_hush_0 13 rfl rfl)
theorem dX6_hush_14 : decode cX6_hush 14 = .ok (.istore_n 2, 1) := dk_61 (dk_at dksX6_hush_0 14 rfl rfl)
theorem dX6_hush_15 : decode cX6_hush 15 = .ok (.iload_n 2, 1) := dk_28 (dk_at dksX6_hush_0 15 rfl rfl)
theorem dX6_hush_16 : decode cX6_hush 16 = .ok (.iconst 4, 1) := dk_7 (dk_at dksX6_hush_0 16 rfl rfl)
theorem dX6_hush_17 : decode cX6_hush 17 = .ok (.if_icmp .ge 39, 3) := dk_162 0 39 (dk_at dksX6_hush_0 17 rfl rfl)
theorem dX6_hush_20 : decode cX6_hush 20 = .ok (.aload_n 0, 1) := dk_42 (dk_at dksX6_hush_0 20 rfl rfl)
theorem dX6_hush_21 : decode cX6_hush 21 = .ok (.getfield 25, 3) := dk_180 0 25 (dk_at dksX6_hush_0 21 rfl rfl)
theorem dX6_hush_24 : decode cX6_hush 24 = .ok (.getfield 90, 3) := dk_180 0 90 (dk_at dksX6_hush_1 0 rfl rfl)
theorem dX6_hush_27 : decode cX6_hush 27 = .ok (.iload_n 2, 1) := dk_28 (dk_at dksX6_hush_1 3 rfl rfl)
theorem dX6_hush_28 : decode cX6_hush 28 = .ok (.iconst 0, 1) := dk_3 (dk_at dksX6_hush_1 4 rfl rfl)
theorem dX6_hush_29 : decode cX6_hush 29 = .ok (.iastore, 1) := dk_79 (dk_at dksX6_hush_1 5 rfl rfl)
theorem dX6_hush_30 : decode cX6_hush 30 = .ok (.aload_n 0, 1) := dk_42 (dk_at dksX6_hush_1 6 rfl rfl)
theorem dX6_hush_31 : decode cX6_hush 31 = .ok (.getfield 25, 3) := dk_180 0 25 (dk_at dksX6_hush_1 7 rfl rfl)
theorem dX6_hush_34 : decode cX6_hush 34 = .ok (.getfield 101, 3) := dk_180 0 101 (dk_at dksX6_hush_1 10 rfl rfl)
theorem dX6_hush_37 : decode cX6_hush 37 = .ok (.iload_n 2, 1) := dk_28 (dk_at dksX6_hush_1 13 rfl rfl)
theorem dX6_hush_38 : decode cX6_hush 38 = .ok (.iconst 0, 1) := dk_3 (dk_at dksX6_hush_1 14 rfl rfl)
theorem dX6_hush_39 : decode cX6_hush 39 = .ok (.iastore, 1) := dk_79 (dk_at dksX6_hush_1 15 rfl rfl)
theorem dX6_hush_40 : decode cX6_hush 40 = .ok (.aload_n 0, 1) := dk_42 (dk_at dksX6_hush_1 16 rfl rfl)
theorem dX6_hush_41 : decode cX6_hush 41 = .ok (.getfield 25, 3) := dk_180 0 25 (dk_at dksX6_hush_1 17 rfl rfl)
theorem dX6_hush_44 : decode cX6_hush 44 = .ok (.getfield 104, 3) := dk_180 0 104 (dk_at dksX6_hush_1 20 rfl rfl)
theorem dX6_hush_47 : decode cX6_hush 47 = .ok (.iload_n 2, 1) := dk_28 (dk_at dksX6_hush_1 23 rfl rfl)
theorem dX6_hush_48 : decode cX6_hush 48 = .ok (.iconst (-1), 1) := dk_2 (dk_at dksX6_hush_2 0 rfl rfl)
theorem dX6_hush_49 : decode cX6_hush 49 = .ok (.iastore, 1) := dk_79 (dk_at dksX6_hush_2 1 rfl rfl)
theorem dX6_hush_50 : decode cX6_hush 50 = .ok (.iinc 2 1, 3) := dk_132 2 1 (dk_at dksX6_hush_2 2 rfl rfl)
theorem dX6_hush_53 : decode cX6_hush 53 = .ok (.goto (-38), 3) := dk_167 255 218 (dk_at dksX6_hush_2 5 rfl rfl)
theorem dX6_hush_56 : decode cX6_hush 56 = .ok (.iload_n 1, 1) := dk_27 (dk_at dksX6_hush_2 8 rfl rfl)
theorem dX6_hush_57 : decode cX6_hush 57 = .ok (.ireturn, 1) := dk_172 (dk_at dksX6_hush_2 9 rfl rfl)
abbrev cX6_write : ByteArray := prog_7_method_25_code
def yX6_write : MethodName := ⟨RX6, "write", "(IIIII)I"⟩
def dkwX6_write_6 : List UInt8 := [160, 0, 7, 3, 167, 0, 5, 21, 5, 79, 21, 7, 172]
abbrev dktX6_write_6 : List UInt8 := dkwX6_write_6 ++ []
def dkwX6_write_5 : List UInt8 := [160, 0, 7, 3, 167, 0, 5, 21, 4, 79, 42, 180, 0, 25, 180, 0, 110, 21, 6, 5, 96, 29, 2]
abbrev dktX6_write_5 : List UInt8 := dkwX6_write_5 ++ dktX6_write_6
def dkwX6_write_4 : List UInt8 := [180, 0, 25, 180, 0, 110, 21, 6, 29, 79, 42, 180, 0, 25, 180, 0, 110, 21, 6, 4, 96, 29, 2]
abbrev dktX6_write_4 : List UInt8 := dkwX6_write_4 ++ dktX6_write_5
def dkwX6_write_3 : List UInt8 := [27, 16, 8, 104, 28, 96, 6, 104, 54, 6, 42, 180, 0, 25, 180, 0, 110, 21, 6, 46, 54, 7, 42]
abbrev dktX6_write_3 : List UInt8 := dkwX6_write_3 ++ dktX6_write_4
def dkwX6_write_2 : List UInt8 := [184, 0, 35, 153, 0, 15, 21, 5, 4, 17, 0, 200, 184, 0, 35, 154, 0, 9, 42, 5, 182, 0, 39, 172]
abbrev dktX6_write_2 : List UInt8 := dkwX6_write_2 ++ dktX6_write_3
def dkwX6_write_1 : List UInt8 := [182, 0, 39, 172, 29, 2, 16, 47, 184, 0, 35, 153, 0, 31, 29, 2, 159, 0, 32, 21, 4, 4, 16, 127]
abbrev dktX6_write_1 : List UInt8 := dkwX6_write_1 ++ dktX6_write_2
def dkwX6_write_0 : List UInt8 := [42, 3, 181, 0, 31, 27, 3, 5, 184, 0, 35, 153, 0, 10, 28, 184, 0, 107, 154, 0, 9, 42, 4]
abbrev dktX6_write_0 : List UInt8 := dkwX6_write_0 ++ dktX6_write_1
theorem dksX6_write_0 : cX6_write.data.toList.drop 0 = dktX6_write_0 := by decide +kernel
theorem dksX6_write_1 : cX6_write.data.toList.drop 23 = dktX6_write_1 := dk_seg dksX6_write_0 23 rfl rfl
theorem dksX6_write_2 : cX6_write.data.toList.drop 47 = dktX6_write_2 := dk_seg dksX6_write_1 24 rfl rfl
theorem dksX6_write_3 : cX6_write.data.toList.drop 71 = dktX6_write_3 := dk_seg dksX6_write_2 24 rfl rfl
theorem dksX6_write_4 : cX6_write.data.toList.drop 94 = dktX6_write_4 := dk_seg dksX6_write_3 23 rfl rfl
theorem dksX6_write_5 : cX6_write.data.toList.drop 117 = dktX6_write_5 := dk_seg dksX6_write_4 23 rfl rfl
theorem dksX6_write_6 : cX6_write.data.toList.drop 140 = dktX6_write_6 := dk_seg dksX6_write_5 23 rfl rfl
theorem dX6_write_0 : decode cX6_write 0 = .ok (.aload_n 0, 1) := dk_42 (dk_at dksX6_write_0 0 rfl rfl)
theorem dX6_write_1 : decode cX6_write 1 = .ok (.iconst 0, 1) := dk_3 (dk_at dksX6_write_0 1 rfl rfl)
theorem dX6_write_2 : decode cX6_write 2 = .ok (.putfield 31, 3) := dk_181 0 31 (dk_at dksX6_write_0 2 rfl rfl)
theorem dX6_write_5 : decode cX6_write 5 = .ok (.iload_n 1, 1) := dk_27 (dk_at dksX6_write_0 5 rfl rfl)
theorem dX6_write_6 : decode cX6_write 6 = .ok (.iconst 0, 1) := dk_3 (dk_at dksX6_write_0 6 rfl rfl)
theorem dX6_write_7 : decode cX6_write 7 = .ok (.iconst 2, 1) := dk_5 (dk_at dksX6_write_0 7 rfl rfl)
theorem dX6_write_8 : decode cX6_write 8 = .ok (.invokestatic 35, 3) := dk_184 0 35 (dk_at dksX6_write_0 8 rfl rfl)
theorem dX6_write_11 : decode cX6_write 11 = .ok (.ifCond .eq 10, 3) := dk_153 0 10 (dk_at dksX6_write_0 11 rfl rfl)
theorem dX6_write_14 : decode cX6_write 14 = .ok (.iload_n 2, 1) := dk_28 (dk_at dksX6_write_0 14 rfl rfl)
theorem dX6_write_15 : decode cX6_write 15 = .ok (.invokestatic 107, 3) := dk_184 0 107 (dk_at dksX6_write_0 15 rfl rfl)
theorem dX6_write_18 : decode cX6_write 18 = .ok (.ifCond .ne 9, 3) := dk_154 0 9 (dk_at dksX6_write_0 18 rfl rfl)
theorem dX6_write_21 : decode cX6_write 21 = .ok (.aload_n 0, 1) := dk_42 (dk_at dksX6_write_0 21 rfl rfl)
theorem dX6_write_22 : decode cX6_write 22 = .ok (.iconst 1, 1) := dk_4 (dk_at dksX6_write_0 22 rfl rfl)
theorem dX6_write_23 : decode cX6_write 23 = .ok (.invokevirtual 39, 3) := dk_182 0 39 (dk_at dksX6_write_1 0 rfl rfl)
theorem dX6_write_26 : decode cX6_write 26 = .ok (.ireturn, 1) := dk_172 (dk_at dksX6_write_1 3 rfl rfl)
theorem dX6_write_27 : decode cX6_write 27 = .ok (.iload_n 3, 1) := dk_29 (dk_at dksX6_write_1 4 rfl rfl)
theorem dX6_write_28 : decode cX6_write 28 = .ok (.iconst (-1), 1) := dk_2 (dk_at dksX6_write_1 5 rfl rfl)
theorem dX6_write_29 : decode cX6_write 29 = .ok (.bipush 47, 2) := dk_16 47 (dk_at dksX6_write_1 6 rfl rfl)
theorem dX6_write_31 : decode cX6_write 31 = .ok (.invokestatic 35, 3) := dk_184 0 35 (dk_at dksX6_write_1 8 rfl rfl)
theorem dX6_write_34 : decode cX6_write 34 = .ok (.ifCond .eq 31, 3) := dk_153 0 31 (dk_at dksX6_write_1 11 rfl rfl)
theorem dX6_write_37 : decode cX6_write 37 = .ok (.iload_n 3, 1) := dk_29 (dk_at dksX6_write_1 14 rfl rfl)
theorem dX6_write_38 : decode cX6_write 38 = .ok (.iconst (-1), 1) := dk_2 (dk_at dksX6_write_1 15 rfl rfl)
theorem dX6_write_39 : decode cX6_write 39 = .ok (.if_icmp .eq 32, 3) := dk_159 0 32 (dk_at dksX6_write_1 16 rfl rfl)
theorem dX6_write_42 : decode cX6_write 42 = .ok (.iload 4, 2) := dk_21 4 (dk_at dksX6_write_1 19 rfl rfl)
theorem dX6_write_44 : decode cX6_write 44 = .ok (.iconst 1, 1) := dk_4 (dk_at dksX6_write_1 21 rfl rfl)
theorem dX6_write_45 : decode cX6_write 45 = .ok (.bipush 127, 2) := dk_16 127 (dk_at dksX6_write_1 22 rfl rfl)
theorem dX6_write_47 : decode cX6_write 47 = .ok (.invokestatic 35, 3) := dk_184 0 35 (dk_at dksX6_write_2 0 rfl rfl)
theorem dX6_write_50 : decode cX6_write 50 = .ok (.ifCond .eq 15, 3) := dk_153 0 15 (dk_at dksX6_write_2 3 rfl rfl)
theorem dX6_write_53 : decode cX6_write 53 = .ok (.iload 5, 2) := dk_21 5 (dk_at dksX6_write_2 6 rfl rfl)
theorem dX6_write_55 : decode cX6_write 55 = .ok (.iconst 1, 1) := dk_4 (dk_at dksX6_write_2 8 rfl rfl)
theorem dX6_write_56 : decode cX6_write 56 = .ok (.sipush 200, 3) := dk_17 0 200 (dk_at dksX6_write_2 9 rfl rfl)
theorem dX6_write_59 : decode cX6_write 59 = .ok (.invokestatic 35, 3) := dk_184 0 35 (dk_at dksX6_write_2 12 rfl rfl)
theorem dX6_write_62 : decode cX6_write 62 = .ok (.ifCond .ne 9, 3) := dk_154 0 9 (dk_at dksX6_write_2 15 rfl rfl)
theorem dX6_write_65 : decode cX6_write 65 = .ok (.aload_n 0, 1) := dk_42 (dk_at dksX6_write_2 18 rfl rfl)
theorem dX6_write_66 : decode cX6_write 66 = .ok (.iconst 2, 1) := dk_5 (dk_at dksX6_write_2 19 rfl rfl)
theorem dX6_write_67 : decode cX6_write 67 = .ok (.invokevirtual 39, 3) := dk_182 0 39 (dk_at dksX6_write_2 20 rfl rfl)
theorem dX6_write_70 : decode cX6_write 70 = .ok (.ireturn, 1) := dk_172 (dk_at dksX6_write_2 23 rfl rfl)
theorem dX6_write_71 : decode cX6_write 71 = .ok (.iload_n 1, 1) := dk_27 (dk_at dksX6_write_3 0 rfl rfl)
theorem dX6_write_72 : decode cX6_write 72 = .ok (.bipush 8, 2) := dk_16 8 (dk_at dksX6_write_3 1 rfl rfl)
theorem dX6_write_74 : decode cX6_write 74 = .ok (.imul, 1) := dk_104 (dk_at dksX6_write_3 3 rfl rfl)
theorem dX6_write_75 : decode cX6_write 75 = .ok (.iload_n 2, 1) := dk_28 (dk_at dksX6_write_3 4 rfl rfl)
theorem dX6_write_76 : decode cX6_write 76 = .ok (.iadd, 1) := dk_96 (dk_at dksX6_write_3 5 rfl rfl)
theorem dX6_write_77 : decode cX6_write 77 = .ok (.iconst 3, 1) := dk_6 (dk_at dksX6_write_3 6 rfl rfl)
theorem dX6_write_78 : decode cX6_write 78 = .ok (.imul, 1) := dk_104 (dk_at dksX6_write_3 7 rfl rfl)
theorem dX6_write_79 : decode cX6_write 79 = .ok (.istore 6, 2) := dk_54 6 (dk_at dksX6_write_3 8 rfl rfl)
theorem dX6_write_81 : decode cX6_write 81 = .ok (.aload_n 0, 1) := dk_42 (dk_at dksX6_write_3 10 rfl rfl)
theorem dX6_write_82 : decode cX6_write 82 = .ok (.getfield 25, 3) := dk_180 0 25 (dk_at dksX6_write_3 11 rfl rfl)
theorem dX6_write_85 : decode cX6_write 85 = .ok (.getfield 110, 3) := dk_180 0 110 (dk_at dksX6_write_3 14 rfl rfl)
theorem dX6_write_88 : decode cX6_write 88 = .ok (.iload 6, 2) := dk_21 6 (dk_at dksX6_write_3 17 rfl rfl)
theorem dX6_write_90 : decode cX6_write 90 = .ok (.iaload, 1) := dk_46 (dk_at dksX6_write_3 19 rfl rfl)
theorem dX6_write_91 : decode cX6_write 91 = .ok (.istore 7, 2) := dk_54 7 (dk_at dksX6_write_3 20 rfl rfl)
theorem dX6_write_93 : decode cX6_write 93 = .ok (.aload_n 0, 1) := dk_42 (dk_at dksX6_write_3 22 rfl rfl)
theorem dX6_write_94 : decode cX6_write 94 = .ok (.getfield 25, 3) := dk_180 0 25 (dk_at dksX6_write_4 0 rfl rfl)
theorem dX6_write_97 : decode cX6_write 97 = .ok (.getfield 110, 3) := dk_180 0 110 (dk_at dksX6_write_4 3 rfl rfl)
theorem dX6_write_100 : decode cX6_write 100 = .ok (.iload 6, 2) := dk_21 6 (dk_at dksX6_write_4 6 rfl rfl)
theorem dX6_write_102 : decode cX6_write 102 = .ok (.iload_n 3, 1) := dk_29 (dk_at dksX6_write_4 8 rfl rfl)
theorem dX6_write_103 : decode cX6_write 103 = .ok (.iastore, 1) := dk_79 (dk_at dksX6_write_4 9 rfl rfl)
theorem dX6_write_104 : decode cX6_write 104 = .ok (.aload_n 0, 1) := dk_42 (dk_at dksX6_write_4 10 rfl rfl)
theorem dX6_write_105 : decode cX6_write 105 = .ok (.getfield 25, 3) := dk_180 0 25 (dk_at dksX6_write_4 11 rfl rfl)
theorem dX6_write_108 : decode cX6_write 108 = .ok (.getfield 110, 3) := dk_180 0 110 (dk_at dksX6_write_4 14 rfl rfl)
theorem dX6_write_111 : decode cX6_write 111 = .ok (.iload 6, 2) := dk_21 6 (dk_at dksX6_write_4 17 rfl rfl)
theorem dX6_write_113 : decode cX6_write 113 = .ok (.iconst 1, 1) := dk_4 (dk_at dksX6_write_4 19 rfl rfl)
theorem dX6_write_114 : decode cX6_write 114 = .ok (.iadd, 1) := dk_96 (dk_at dksX6_write_4 20 rfl rfl)
theorem dX6_write_115 : decode cX6_write 115 = .ok (.iload_n 3, 1) := dk_29 (dk_at dksX6_write_4 21 rfl rfl)
theorem dX6_write_116 : decode cX6_write 116 = .ok (.iconst (-1), 1) := dk_2 (dk_at dksX6_write_4 22 rfl rfl)
theorem dX6_write_117 : decode cX6_write 117 = .ok (.if_icmp .ne 7, 3) := dk_160 0 7 (dk_at dksX6_write_5 0 rfl rfl)
theorem dX6_write_120 : decode cX6_write 120 = .ok (.iconst 0, 1) := dk_3 (dk_at dksX6_write_5 3 rfl rfl)
theorem dX6_write_121 : decode cX6_write 121 = .ok (.goto 5, 3) := dk_167 0 5 (dk_at dksX6_write_5 4 rfl rfl)
theorem dX6_write_124 : decode cX6_write 124 = .ok (.iload 4, 2) := dk_21 4 (dk_at dksX6_write_5 7 rfl rfl)
theorem dX6_write_126 : decode cX6_write 126 = .ok (.iastore, 1) := dk_79 (dk_at dksX6_write_5 9 rfl rfl)
theorem dX6_write_127 : decode cX6_write 127 = .ok (.aload_n 0, 1) := dk_42 (dk_at dksX6_write_5 10 rfl rfl)
theorem dX6_write_128 : decode cX6_write 128 = .ok (.getfield 25, 3) := dk_180 0 25 (dk_at dksX6_write_5 11 rfl rfl)
theorem dX6_write_131 : decode cX6_write 131 = .ok (.getfield 110, 3) := dk_180 0 110 (dk_at dksX6_write_5 14 rfl rfl)
theorem dX6_write_134 : decode cX6_write 134 = .ok (.iload 6, 2) := dk_21 6 (dk_at dksX6_write_5 17 rfl rfl)
theorem dX6_write_136 : decode cX6_write 136 = .ok (.iconst 2, 1) := dk_5 (dk_at dksX6_write_5 19 rfl rfl)
theorem dX6_write_137 : decode cX6_write 137 = .ok (.iadd, 1) := dk_96 (dk_at dksX6_write_5 20 rfl rfl)
theorem dX6_write_138 : decode cX6_write 138 = .ok (.iload_n 3, 1) := dk_29 (dk_at dksX6_write_5 21 rfl rfl)
theorem dX6_write_139 : decode cX6_write 139 = .ok (.iconst (-1), 1) := dk_2 (dk_at dksX6_write_5 22 rfl rfl)
theorem dX6_write_140 : decode cX6_write 140 = .ok (.if_icmp .ne 7, 3) := dk_160 0 7 (dk_at dksX6_write_6 0 rfl rfl)
theorem dX6_write_143 : decode cX6_write 143 = .ok (.iconst 0, 1) := dk_3 (dk_at dksX6_write_6 3 rfl rfl)
theorem dX6_write_144 : decode cX6_write 144 = .ok (.goto 5, 3) := dk_167 0 5 (dk_at dksX6_write_6 4 rfl rfl)
theorem dX6_write_147 : decode cX6_write 147 = .ok (.iload 5, 2) := dk_21 5 (dk_at dksX6_write_6 7 rfl rfl)
theorem dX6_write_149 : decode cX6_write 149 = .ok (.iastore, 1) := dk_79 (dk_at dksX6_write_6 9 rfl rfl)
theorem dX6_write_150 : decode cX6_write 150 = .ok (.iload 7, 2) := dk_21 7 (dk_at dksX6_write_6 10 rfl rfl)
theorem dX6_write_152 : decode cX6_write 152 = .ok (.ireturn, 1) := dk_172 (dk_at dksX6_write_6 12 rfl rfl)
abbrev cX6_isStep : ByteArray := prog_7_method_24_code
def yX6_isStep : MethodName := ⟨RX6, "isStep", "(I)Z"⟩
def dkwX6_isStep_0 : List UInt8 := [26, 3, 16, 7, 184, 0, 35, 172]
abbrev dktX6_isStep_0 : List UInt8 := dkwX6_isStep_0 ++ []
theorem dksX6_isStep_0 : cX6_isStep.data.toList.drop 0 = dktX6_isStep_0 := by decide +kernel
theorem dX6_isStep_0 : decode cX6_isStep 0 = .ok (.iload_n 0, 1) := dk_26 (dk_at dksX6_isStep_0 0 rfl rfl)
theorem dX6_isStep_1 : decode cX6_isStep 1 = .ok (.iconst 0, 1) := dk_3 (dk_at dksX6_isStep_0 1 rfl rfl)
theorem dX6_isStep_2 : decode cX6_isStep 2 = .ok (.bipush 7, 2) := dk_16 7 (dk_at dksX6_isStep_0 2 rfl rfl)
theorem dX6_isStep_4 : decode cX6_isStep 4 = .ok (.invokestatic 35, 3) := dk_184 0 35 (dk_at dksX6_isStep_0 4 rfl rfl)
theorem dX6_isStep_7 : decode cX6_isStep 7 = .ok (.ireturn, 1) := dk_172 (dk_at dksX6_isStep_0 7 rfl rfl)
abbrev cX6_setTrack : ByteArray := prog_7_method_26_code
def yX6_setTrack : MethodName := ⟨RX6, "setTrack", "(II)I"⟩
def dkwX6_setTrack_2 : List UInt8 := [29, 172]
abbrev dktX6_setTrack_2 : List UInt8 := dkwX6_setTrack_2 ++ []
def dkwX6_setTrack_1 : List UInt8 := [182, 0, 39, 172, 42, 180, 0, 25, 180, 0, 113, 27, 46, 62, 42, 180, 0, 25, 180, 0, 113, 27, 28, 79]
abbrev dktX6_setTrack_1 : List UInt8 := dkwX6_setTrack_1 ++ dktX6_setTrack_2
def dkwX6_setTrack_0 : List UInt8 := [42, 3, 181, 0, 31, 27, 3, 5, 184, 0, 35, 153, 0, 10, 28, 184, 0, 61, 154, 0, 9, 42, 4]
abbrev dktX6_setTrack_0 : List UInt8 := dkwX6_setTrack_0 ++ dktX6_setTrack_1
theorem dksX6_setTrack_0 : cX6_setTrack.data.toList.drop 0 = dktX6_setTrack_0 := by decide +kernel
theorem dksX6_setTrack_1 : cX6_setTrack.data.toList.drop 23 = dktX6_setTrack_1 := dk_seg dksX6_setTrack_0 23 rfl rfl
theorem dksX6_setTrack_2 : cX6_setTrack.data.toList.drop 47 = dktX6_setTrack_2 := dk_seg dksX6_setTrack_1 24 rfl rfl
theorem dX6_setTrack_0 : decode cX6_setTrack 0 = .ok (.aload_n 0, 1) := dk_42 (dk_at dksX6_setTrack_0 0 rfl rfl)
theorem dX6_setTrack_1 : decode cX6_setTrack 1 = .ok (.iconst 0, 1) := dk_3 (dk_at dksX6_setTrack_0 1 rfl rfl)
theorem dX6_setTrack_2 : decode cX6_setTrack 2 = .ok (.putfield 31, 3) := dk_181 0 31 (dk_at dksX6_setTrack_0 2 rfl rfl)
theorem dX6_setTrack_5 : decode cX6_setTrack 5 = .ok (.iload_n 1, 1) := dk_27 (dk_at dksX6_setTrack_0 5 rfl rfl)
theorem dX6_setTrack_6 : decode cX6_setTrack 6 = .ok (.iconst 0, 1) := dk_3 (dk_at dksX6_setTrack_0 6 rfl rfl)
theorem dX6_setTrack_7 : decode cX6_setTrack 7 = .ok (.iconst 2, 1) := dk_5 (dk_at dksX6_setTrack_0 7 rfl rfl)
theorem dX6_setTrack_8 : decode cX6_setTrack 8 = .ok (.invokestatic 35, 3) := dk_184 0 35 (dk_at dksX6_setTrack_0 8 rfl rfl)
theorem dX6_setTrack_11 : decode cX6_setTrack 11 = .ok (.ifCond .eq 10, 3) := dk_153 0 10 (dk_at dksX6_setTrack_0 11 rfl rfl)
theorem dX6_setTrack_14 : decode cX6_setTrack 14 = .ok (.iload_n 2, 1) := dk_28 (dk_at dksX6_setTrack_0 14 rfl rfl)
theorem dX6_setTrack_15 : decode cX6_setTrack 15 = .ok (.invokestatic 61, 3) := dk_184 0 61 (dk_at dksX6_setTrack_0 15 rfl rfl)
theorem dX6_setTrack_18 : decode cX6_setTrack 18 = .ok (.ifCond .ne 9, 3) := dk_154 0 9 (dk_at dksX6_setTrack_0 18 rfl rfl)
theorem dX6_setTrack_21 : decode cX6_setTrack 21 = .ok (.aload_n 0, 1) := dk_42 (dk_at dksX6_setTrack_0 21 rfl rfl)
theorem dX6_setTrack_22 : decode cX6_setTrack 22 = .ok (.iconst 1, 1) := dk_4 (dk_at dksX6_setTrack_0 22 rfl rfl)
theorem dX6_setTrack_23 : decode cX6_setTrack 23 = .ok (.invokevirtual 39, 3) := dk_182 0 39 (dk_at dksX6_setTrack_1 0 rfl rfl)
theorem dX6_setTrack_26 : decode cX6_setTrack 26 = .ok (.ireturn, 1) := dk_172 (dk_at dksX6_setTrack_1 3 rfl rfl)
theorem dX6_setTrack_27 : decode cX6_setTrack 27 = .ok (.aload_n 0, 1) := dk_42 (dk_at dksX6_setTrack_1 4 rfl rfl)
theorem dX6_setTrack_28 : decode cX6_setTrack 28 = .ok (.getfield 25, 3) := dk_180 0 25 (dk_at dksX6_setTrack_1 5 rfl rfl)
theorem dX6_setTrack_31 : decode cX6_setTrack 31 = .ok (.getfield 113, 3) := dk_180 0 113 (dk_at dksX6_setTrack_1 8 rfl rfl)
theorem dX6_setTrack_34 : decode cX6_setTrack 34 = .ok (.iload_n 1, 1) := dk_27 (dk_at dksX6_setTrack_1 11 rfl rfl)
theorem dX6_setTrack_35 : decode cX6_setTrack 35 = .ok (.iaload, 1) := dk_46 (dk_at dksX6_setTrack_1 12 rfl rfl)
theorem dX6_setTrack_36 : decode cX6_setTrack 36 = .ok (.istore_n 3, 1) := dk_62 (dk_at dksX6_setTrack_1 13 rfl rfl)
theorem dX6_setTrack_37 : decode cX6_setTrack 37 = .ok (.aload_n 0, 1) := dk_42 (dk_at dksX6_setTrack_1 14 rfl rfl)
theorem dX6_setTrack_38 : decode cX6_setTrack 38 = .ok (.getfield 25, 3) := dk_180 0 25 (dk_at dksX6_setTrack_1 15 rfl rfl)
theorem dX6_setTrack_41 : decode cX6_setTrack 41 = .ok (.getfield 113, 3) := dk_180 0 113 (dk_at dksX6_setTrack_1 18 rfl rfl)
theorem dX6_setTrack_44 : decode cX6_setTrack 44 = .ok (.iload_n 1, 1) := dk_27 (dk_at dksX6_setTrack_1 21 rfl rfl)
theorem dX6_setTrack_45 : decode cX6_setTrack 45 = .ok (.iload_n 2, 1) := dk_28 (dk_at dksX6_setTrack_1 22 rfl rfl)
theorem dX6_setTrack_46 : decode cX6_setTrack 46 = .ok (.iastore, 1) := dk_79 (dk_at dksX6_setTrack_1 23 rfl rfl)
theorem dX6_setTrack_47 : decode cX6_setTrack 47 = .ok (.iload_n 3, 1) := dk_29 (dk_at dksX6_setTrack_2 0 rfl rfl)
theorem dX6_setTrack_48 : decode cX6_setTrack 48 = .ok (.ireturn, 1) := dk_172 (dk_at dksX6_setTrack_2 1 rfl rfl)
abbrev cX6_setTempo : ByteArray := prog_7_method_27_code
def yX6_setTempo : MethodName := ⟨RX6, "setTempo", "(II)I"⟩
def dkwX6_setTempo_2 : List UInt8 := [181, 0, 116, 42, 180, 0, 25, 28, 181, 0, 119, 29, 172]
abbrev dktX6_setTempo_2 : List UInt8 := dkwX6_setTempo_2 ++ []
def dkwX6_setTempo_1 : List UInt8 := [154, 0, 9, 42, 4, 182, 0, 39, 172, 42, 180, 0, 25, 180, 0, 116, 62, 42, 180, 0, 25, 27]
abbrev dktX6_setTempo_1 : List UInt8 := dkwX6_setTempo_1 ++ dktX6_setTempo_2
def dkwX6_setTempo_0 : List UInt8 := [42, 3, 181, 0, 31, 27, 4, 17, 0, 200, 184, 0, 35, 153, 0, 14, 28, 3, 27, 4, 100, 184, 0, 35]
abbrev dktX6_setTempo_0 : List UInt8 := dkwX6_setTempo_0 ++ dktX6_setTempo_1
theorem dksX6_setTempo_0 : cX6_setTempo.data.toList.drop 0 = dktX6_setTempo_0 := by decide +kernel
theorem dksX6_setTempo_1 : cX6_setTempo.data.toList.drop 24 = dktX6_setTempo_1 := dk_seg dksX6_setTempo_0 24 rfl rfl
theorem dksX6_setTempo_2 : cX6_setTempo.data.toList.drop 46 = dktX6_setTempo_2 := dk_seg dksX6_setTempo_1 22 rfl rfl
theorem dX6_setTempo_0 : decode cX6_setTempo 0 = .ok (.aload_n 0, 1) := dk_42 (dk_at dksX6_setTempo_0 0 rfl rfl)
theorem dX6_setTempo_1 : decode cX6_setTempo 1 = .ok (.iconst 0, 1) := dk_3 (dk_at dksX6_setTempo_0 1 rfl rfl)
theorem dX6_setTempo_2 : decode cX6_setTempo 2 = .ok (.putfield 31, 3) := dk_181 0 31 (dk_at dksX6_setTempo_0 2 rfl rfl)
theorem dX6_setTempo_5 : decode cX6_setTempo 5 = .ok (.iload_n 1, 1) := dk_27 (dk_at dksX6_setTempo_0 5 rfl rfl)
theorem dX6_setTempo_6 : decode cX6_setTempo 6 = .ok (.iconst 1, 1) := dk_4 (dk_at dksX6_setTempo_0 6 rfl rfl)
theorem dX6_setTempo_7 : decode cX6_setTempo 7 = .ok (.sipush 200, 3) := dk_17 0 200 (dk_at dksX6_setTempo_0 7 rfl rfl)
theorem dX6_setTempo_10 : decode cX6_setTempo 10 = .ok (.invokestatic 35, 3) := dk_184 0 35 (dk_at dksX6_setTempo_0 10 rfl rfl)
theorem dX6_setTempo_13 : decode cX6_setTempo 13 = .ok (.ifCond .eq 14, 3) := dk_153 0 14 (dk_at dksX6_setTempo_0 13 rfl rfl)
theorem dX6_setTempo_16 : decode cX6_setTempo 16 = .ok (.iload_n 2, 1) := dk_28 (dk_at dksX6_setTempo_0 16 rfl rfl)
theorem dX6_setTempo_17 : decode cX6_setTempo 17 = .ok (.iconst 0, 1) := dk_3 (dk_at dksX6_setTempo_0 17 rfl rfl)
theorem dX6_setTempo_18 : decode cX6_setTempo 18 = .ok (.iload_n 1, 1) := dk_27 (dk_at dksX6_setTempo_0 18 rfl rfl)
theorem dX6_setTempo_19 : decode cX6_setTempo 19 = .ok (.iconst 1, 1) := dk_4 (dk_at dksX6_setTempo_0 19 rfl rfl)
theorem dX6_setTempo_20 : decode cX6_setTempo 20 = .ok (.isub, 1) := dk_100 (dk_at dksX6_setTempo_0 20 rfl rfl)
theorem dX6_setTempo_21 : decode cX6_setTempo 21 = .ok (.invokestatic 35, 3) := dk_184 0 35 (dk_at dksX6_setTempo_0 21 rfl rfl)
theorem dX6_setTempo_24 : decode cX6_setTempo 24 = .ok (.ifCond .ne 9, 3) := dk_154 0 9 (dk_at dksX6_setTempo_1 0 rfl rfl)
theorem dX6_setTempo_27 : decode cX6_setTempo 27 = .ok (.aload_n 0, 1) := dk_42 (dk_at dksX6_setTempo_1 3 rfl rfl)
theorem dX6_setTempo_28 : decode cX6_setTempo 28 = .ok (.iconst 1, 1) := dk_4 (dk_at dksX6_setTempo_1 4 rfl rfl)
theorem dX6_setTempo_29 : decode cX6_setTempo 29 = .ok (.invokevirtual 39, 3) := dk_182 0 39 (dk_at dksX6_setTempo_1 5 rfl rfl)
theorem dX6_setTempo_32 : decode cX6_setTempo 32 = .ok (.ireturn, 1) := dk_172 (dk_at dksX6_setTempo_1 8 rfl rfl)
theorem dX6_setTempo_33 : decode cX6_setTempo 33 = .ok (.aload_n 0, 1) := dk_42 (dk_at dksX6_setTempo_1 9 rfl rfl)
theorem dX6_setTempo_34 : decode cX6_setTempo 34 = .ok (.getfield 25, 3) := dk_180 0 25 (dk_at dksX6_setTempo_1 10 rfl rfl)
theorem dX6_setTempo_37 : decode cX6_setTempo 37 = .ok (.getfield 116, 3) := dk_180 0 116 (dk_at dksX6_setTempo_1 13 rfl rfl)
theorem dX6_setTempo_40 : decode cX6_setTempo 40 = .ok (.istore_n 3, 1) := dk_62 (dk_at dksX6_setTempo_1 16 rfl rfl)
theorem dX6_setTempo_41 : decode cX6_setTempo 41 = .ok (.aload_n 0, 1) := dk_42 (dk_at dksX6_setTempo_1 17 rfl rfl)
theorem dX6_setTempo_42 : decode cX6_setTempo 42 = .ok (.getfield 25, 3) := dk_180 0 25 (dk_at dksX6_setTempo_1 18 rfl rfl)
theorem dX6_setTempo_45 : decode cX6_setTempo 45 = .ok (.iload_n 1, 1) := dk_27 (dk_at dksX6_setTempo_1 21 rfl rfl)
theorem dX6_setTempo_46 : decode cX6_setTempo 46 = .ok (.putfield 116, 3) := dk_181 0 116 (dk_at dksX6_setTempo_2 0 rfl rfl)
theorem dX6_setTempo_49 : decode cX6_setTempo 49 = .ok (.aload_n 0, 1) := dk_42 (dk_at dksX6_setTempo_2 3 rfl rfl)
theorem dX6_setTempo_50 : decode cX6_setTempo 50 = .ok (.getfield 25, 3) := dk_180 0 25 (dk_at dksX6_setTempo_2 4 rfl rfl)
theorem dX6_setTempo_53 : decode cX6_setTempo 53 = .ok (.iload_n 2, 1) := dk_28 (dk_at dksX6_setTempo_2 7 rfl rfl)
theorem dX6_setTempo_54 : decode cX6_setTempo 54 = .ok (.putfield 119, 3) := dk_181 0 119 (dk_at dksX6_setTempo_2 8 rfl rfl)
theorem dX6_setTempo_57 : decode cX6_setTempo 57 = .ok (.iload_n 3, 1) := dk_29 (dk_at dksX6_setTempo_2 11 rfl rfl)
theorem dX6_setTempo_58 : decode cX6_setTempo 58 = .ok (.ireturn, 1) := dk_172 (dk_at dksX6_setTempo_2 12 rfl rfl)
abbrev cX6_play : ByteArray := prog_7_method_28_code
def yX6_play : MethodName := ⟨RX6, "play", "(I)Z"⟩
def dkwX6_play_2 : List UInt8 := [181, 0, 126, 42, 180, 0, 25, 3, 181, 0, 129, 28, 172]
abbrev dktX6_play_2 : List UInt8 := dkwX6_play_2 ++ []
def dkwX6_play_1 : List UInt8 := [172, 42, 180, 0, 25, 180, 0, 122, 61, 42, 180, 0, 25, 4, 181, 0, 122, 42, 180, 0, 25, 27]
abbrev dktX6_play_1 : List UInt8 := dkwX6_play_1 ++ dktX6_play_2
def dkwX6_play_0 : List UInt8 := [42, 27, 184, 0, 107, 153, 0, 7, 3, 167, 0, 4, 4, 181, 0, 31, 42, 180, 0, 31, 153, 0, 5, 3]
abbrev dktX6_play_0 : List UInt8 := dkwX6_play_0 ++ dktX6_play_1
theorem dksX6_play_0 : cX6_play.data.toList.drop 0 = dktX6_play_0 := by decide +kernel
theorem dksX6_play_1 : cX6_play.data.toList.drop 24 = dktX6_play_1 := dk_seg dksX6_play_0 24 rfl rfl
theorem dksX6_play_2 : cX6_play.data.toList.drop 46 = dktX6_play_2 := dk_seg dksX6_play_1 22 rfl rfl
theorem dX6_play_0 : decode cX6_play 0 = .ok (.aload_n 0, 1) := dk_42 (dk_at dksX6_play_0 0 rfl rfl)
theorem dX6_play_1 : decode cX6_play 1 = .ok (.iload_n 1, 1) := dk_27 (dk_at dksX6_play_0 1 rfl rfl)
theorem dX6_play_2 : decode cX6_play 2 = .ok (.invokestatic 107, 3) := dk_184 0 107 (dk_at dksX6_play_0 2 rfl rfl)
theorem dX6_play_5 : decode cX6_play 5 = .ok (.ifCond .eq 7, 3) := dk_153 0 7 (dk_at dksX6_play_0 5 rfl rfl)
theorem dX6_play_8 : decode cX6_play 8 = .ok (.iconst 0, 1) := dk_3 (dk_at dksX6_play_0 8 rfl rfl)
theorem dX6_play_9 : decode cX6_play 9 = .ok (.goto 4, 3) := dk_167 0 4 (dk_at dksX6_play_0 9 rfl rfl)
theorem dX6_play_12 : decode cX6_play 12 = .ok (.iconst 1, 1) := dk_4 (dk_at dksX6_play_0 12 rfl rfl)
theorem dX6_play_13 : decode cX6_play 13 = .ok (.putfield 31, 3) := dk_181 0 31 (dk_at dksX6_play_0 13 rfl rfl)
theorem dX6_play_16 : decode cX6_play 16 = .ok (.aload_n 0, 1) := dk_42 (dk_at dksX6_play_0 16 rfl rfl)
theorem dX6_play_17 : decode cX6_play 17 = .ok (.getfield 31, 3) := dk_180 0 31 (dk_at dksX6_play_0 17 rfl rfl)
theorem dX6_play_20 : decode cX6_play 20 = .ok (.ifCond .eq 5, 3) := dk_153 0 5 (dk_at dksX6_play_0 20 rfl rfl)
theorem dX6_play_23 : decode cX6_play 23 = .ok (.iconst 0, 1) := dk_3 (dk_at dksX6_play_0 23 rfl rfl)
theorem dX6_play_24 : decode cX6_play 24 = .ok (.ireturn, 1) := dk_172 (dk_at dksX6_play_1 0 rfl rfl)
theorem dX6_play_25 : decode cX6_play 25 = .ok (.aload_n 0, 1) := dk_42 (dk_at dksX6_play_1 1 rfl rfl)
theorem dX6_play_26 : decode cX6_play 26 = .ok (.getfield 25, 3) := dk_180 0 25 (dk_at dksX6_play_1 2 rfl rfl)
theorem dX6_play_29 : decode cX6_play 29 = .ok (.getfield 122, 3) := dk_180 0 122 (dk_at dksX6_play_1 5 rfl rfl)
theorem dX6_play_32 : decode cX6_play 32 = .ok (.istore_n 2, 1) := dk_61 (dk_at dksX6_play_1 8 rfl rfl)
theorem dX6_play_33 : decode cX6_play 33 = .ok (.aload_n 0, 1) := dk_42 (dk_at dksX6_play_1 9 rfl rfl)
theorem dX6_play_34 : decode cX6_play 34 = .ok (.getfield 25, 3) := dk_180 0 25 (dk_at dksX6_play_1 10 rfl rfl)
theorem dX6_play_37 : decode cX6_play 37 = .ok (.iconst 1, 1) := dk_4 (dk_at dksX6_play_1 13 rfl rfl)
theorem dX6_play_38 : decode cX6_play 38 = .ok (.putfield 122, 3) := dk_181 0 122 (dk_at dksX6_play_1 14 rfl rfl)
theorem dX6_play_41 : decode cX6_play 41 = .ok (.aload_n 0, 1) := dk_42 (dk_at dksX6_play_1 17 rfl rfl)
theorem dX6_play_42 : decode cX6_play 42 = .ok (.getfield 25, 3) := dk_180 0 25 (dk_at dksX6_play_1 18 rfl rfl)
theorem dX6_play_45 : decode cX6_play 45 = .ok (.iload_n 1, 1) := dk_27 (dk_at dksX6_play_1 21 rfl rfl)
theorem dX6_play_46 : decode cX6_play 46 = .ok (.putfield 126, 3) := dk_181 0 126 (dk_at dksX6_play_2 0 rfl rfl)
theorem dX6_play_49 : decode cX6_play 49 = .ok (.aload_n 0, 1) := dk_42 (dk_at dksX6_play_2 3 rfl rfl)
theorem dX6_play_50 : decode cX6_play 50 = .ok (.getfield 25, 3) := dk_180 0 25 (dk_at dksX6_play_2 4 rfl rfl)
theorem dX6_play_53 : decode cX6_play 53 = .ok (.iconst 0, 1) := dk_3 (dk_at dksX6_play_2 7 rfl rfl)
theorem dX6_play_54 : decode cX6_play 54 = .ok (.putfield 129, 3) := dk_181 0 129 (dk_at dksX6_play_2 8 rfl rfl)
theorem dX6_play_57 : decode cX6_play 57 = .ok (.iload_n 2, 1) := dk_28 (dk_at dksX6_play_2 11 rfl rfl)
theorem dX6_play_58 : decode cX6_play 58 = .ok (.ireturn, 1) := dk_172 (dk_at dksX6_play_2 12 rfl rfl)
abbrev cX6_stop : ByteArray := prog_7_method_30_code
def yX6_stop : MethodName := ⟨RX6, "stop", "()I"⟩
def dkwX6_stop_0 : List UInt8 := [42, 3, 181, 0, 31, 42, 182, 0, 132, 60, 42, 180, 0, 25, 3, 181, 0, 122, 27, 172]
abbrev dktX6_stop_0 : List UInt8 := dkwX6_stop_0 ++ []
theorem dksX6_stop_0 : cX6_stop.data.toList.drop 0 = dktX6_stop_0 := by decide +kernel
theorem dX6_stop_0 : decode cX6_stop 0 = .ok (.aload_n 0, 1) := dk_42 (dk_at dksX6_stop_0 0 rfl rfl)
theorem dX6_stop_1 : decode cX6_stop 1 = .ok (.iconst 0, 1) := dk_3 (dk_at dksX6_stop_0 1 rfl rfl)
theorem dX6_stop_2 : decode cX6_stop 2 = .ok (.putfield 31, 3) := dk_181 0 31 (dk_at dksX6_stop_0 2 rfl rfl)
theorem dX6_stop_5 : decode cX6_stop 5 = .ok (.aload_n 0, 1) := dk_42 (dk_at dksX6_stop_0 5 rfl rfl)
theorem dX6_stop_6 : decode cX6_stop 6 = .ok (.invokevirtual 132, 3) := dk_182 0 132 (dk_at dksX6_stop_0 6 rfl rfl)
theorem dX6_stop_9 : decode cX6_stop 9 = .ok (.istore_n 1, 1) := dk_60 (dk_at dksX6_stop_0 9 rfl rfl)
theorem dX6_stop_10 : decode cX6_stop 10 = .ok (.aload_n 0, 1) := dk_42 (dk_at dksX6_stop_0 10 rfl rfl)
theorem dX6_stop_11 : decode cX6_stop 11 = .ok (.getfield 25, 3) := dk_180 0 25 (dk_at dksX6_stop_0 11 rfl rfl)
theorem dX6_stop_14 : decode cX6_stop 14 = .ok (.iconst 0, 1) := dk_3 (dk_at dksX6_stop_0 14 rfl rfl)
theorem dX6_stop_15 : decode cX6_stop 15 = .ok (.putfield 122, 3) := dk_181 0 122 (dk_at dksX6_stop_0 15 rfl rfl)
theorem dX6_stop_18 : decode cX6_stop 18 = .ok (.iload_n 1, 1) := dk_27 (dk_at dksX6_stop_0 18 rfl rfl)
theorem dX6_stop_19 : decode cX6_stop 19 = .ok (.ireturn, 1) := dk_172 (dk_at dksX6_stop_0 19 rfl rfl)
abbrev cX6_stepNow : ByteArray := prog_7_method_29_code
def yX6_stepNow : MethodName := ⟨RX6, "stepNow", "()I"⟩
def dkwX6_stepNow_0 : List UInt8 := [42, 180, 0, 25, 180, 0, 122, 153, 0, 13, 42, 180, 0, 25, 180, 0, 126, 167, 0, 4, 2, 172]
abbrev dktX6_stepNow_0 : List UInt8 := dkwX6_stepNow_0 ++ []
theorem dksX6_stepNow_0 : cX6_stepNow.data.toList.drop 0 = dktX6_stepNow_0 := by decide +kernel
theorem dX6_stepNow_0 : decode cX6_stepNow 0 = .ok (.aload_n 0, 1) := dk_42 (dk_at dksX6_stepNow_0 0 rfl rfl)
theorem dX6_stepNow_1 : decode cX6_stepNow 1 = .ok (.getfield 25, 3) := dk_180 0 25 (dk_at dksX6_stepNow_0 1 rfl rfl)
theorem dX6_stepNow_4 : decode cX6_stepNow 4 = .ok (.getfield 122, 3) := dk_180 0 122 (dk_at dksX6_stepNow_0 4 rfl rfl)
theorem dX6_stepNow_7 : decode cX6_stepNow 7 = .ok (.ifCond .eq 13, 3) := dk_153 0 13 (dk_at dksX6_stepNow_0 7 rfl rfl)
theorem dX6_stepNow_10 : decode cX6_stepNow 10 = .ok (.aload_n 0, 1) := dk_42 (dk_at dksX6_stepNow_0 10 rfl rfl)
theorem dX6_stepNow_11 : decode cX6_stepNow 11 = .ok (.getfield 25, 3) := dk_180 0 25 (dk_at dksX6_stepNow_0 11 rfl rfl)
theorem dX6_stepNow_14 : decode cX6_stepNow 14 = .ok (.getfield 126, 3) := dk_180 0 126 (dk_at dksX6_stepNow_0 14 rfl rfl)
theorem dX6_stepNow_17 : decode cX6_stepNow 17 = .ok (.goto 4, 3) := dk_167 0 4 (dk_at dksX6_stepNow_0 17 rfl rfl)
theorem dX6_stepNow_20 : decode cX6_stepNow 20 = .ok (.iconst (-1), 1) := dk_2 (dk_at dksX6_stepNow_0 20 rfl rfl)
theorem dX6_stepNow_21 : decode cX6_stepNow 21 = .ok (.ireturn, 1) := dk_172 (dk_at dksX6_stepNow_0 21 rfl rfl)
abbrev cX6_sample : ByteArray := prog_7_method_31_code
def yX6_sample : MethodName := ⟨RX6, "sample", "()I"⟩
def dkwX6_sample_0 : List UInt8 := [42, 42, 180, 0, 25, 182, 0, 135, 182, 0, 138, 172]
abbrev dktX6_sample_0 : List UInt8 := dkwX6_sample_0 ++ []
theorem dksX6_sample_0 : cX6_sample.data.toList.drop 0 = dktX6_sample_0 := by decide +kernel
theorem dX6_sample_0 : decode cX6_sample 0 = .ok (.aload_n 0, 1) := dk_42 (dk_at dksX6_sample_0 0 rfl rfl)
theorem dX6_sample_1 : decode cX6_sample 1 = .ok (.aload_n 0, 1) := dk_42 (dk_at dksX6_sample_0 1 rfl rfl)
theorem dX6_sample_2 : decode cX6_sample 2 = .ok (.getfield 25, 3) := dk_180 0 25 (dk_at dksX6_sample_0 2 rfl rfl)
theorem dX6_sample_5 : decode cX6_sample 5 = .ok (.invokevirtual 135, 3) := dk_182 0 135 (dk_at dksX6_sample_0 5 rfl rfl)
theorem dX6_sample_8 : decode cX6_sample 8 = .ok (.invokevirtual 138, 3) := dk_182 0 138 (dk_at dksX6_sample_0 8 rfl rfl)
theorem dX6_sample_11 : decode cX6_sample 11 = .ok (.ireturn, 1) := dk_172 (dk_at dksX6_sample_0 11 rfl rfl)
abbrev cX6_keep : ByteArray := prog_7_method_2_code
def yX6_keep : MethodName := ⟨RX6, "keep", "(II)I"⟩
def dkwX6_keep_0 : List UInt8 := [27, 116, 27, 26, 184, 0, 1, 184, 0, 7, 172]
abbrev dktX6_keep_0 : List UInt8 := dkwX6_keep_0 ++ []
theorem dksX6_keep_0 : cX6_keep.data.toList.drop 0 = dktX6_keep_0 := by decide +kernel
theorem dX6_keep_0 : decode cX6_keep 0 = .ok (.iload_n 1, 1) := dk_27 (dk_at dksX6_keep_0 0 rfl rfl)
theorem dX6_keep_1 : decode cX6_keep 1 = .ok (.ineg, 1) := dk_116 (dk_at dksX6_keep_0 1 rfl rfl)
theorem dX6_keep_2 : decode cX6_keep 2 = .ok (.iload_n 1, 1) := dk_27 (dk_at dksX6_keep_0 2 rfl rfl)
theorem dX6_keep_3 : decode cX6_keep 3 = .ok (.iload_n 0, 1) := dk_26 (dk_at dksX6_keep_0 3 rfl rfl)
theorem dX6_keep_4 : decode cX6_keep 4 = .ok (.invokestatic 1, 3) := dk_184 0 1 (dk_at dksX6_keep_0 4 rfl rfl)
theorem dX6_keep_7 : decode cX6_keep 7 = .ok (.invokestatic 7, 3) := dk_184 0 7 (dk_at dksX6_keep_0 7 rfl rfl)
theorem dX6_keep_10 : decode cX6_keep 10 = .ok (.ireturn, 1) := dk_172 (dk_at dksX6_keep_0 10 rfl rfl)
abbrev cX6_ok : ByteArray := prog_7_method_7_code
def yX6_ok : MethodName := ⟨RX6, "ok", "(I)I"⟩
def dkwX6_ok_0 : List UInt8 := [42, 3, 181, 0, 31, 27, 172]
abbrev dktX6_ok_0 : List UInt8 := dkwX6_ok_0 ++ []
theorem dksX6_ok_0 : cX6_ok.data.toList.drop 0 = dktX6_ok_0 := by decide +kernel
theorem dX6_ok_0 : decode cX6_ok 0 = .ok (.aload_n 0, 1) := dk_42 (dk_at dksX6_ok_0 0 rfl rfl)
theorem dX6_ok_1 : decode cX6_ok 1 = .ok (.iconst 0, 1) := dk_3 (dk_at dksX6_ok_0 1 rfl rfl)
theorem dX6_ok_2 : decode cX6_ok 2 = .ok (.putfield 31, 3) := dk_181 0 31 (dk_at dksX6_ok_0 2 rfl rfl)
theorem dX6_ok_5 : decode cX6_ok 5 = .ok (.iload_n 1, 1) := dk_27 (dk_at dksX6_ok_0 5 rfl rfl)
theorem dX6_ok_6 : decode cX6_ok 6 = .ok (.ireturn, 1) := dk_172 (dk_at dksX6_ok_0 6 rfl rfl)
abbrev cX6_run : ByteArray := prog_7_method_32_code
def yX6_run : MethodName := ⟨RX6, "run", "(I)I"⟩
def dkwX6_run_1 : List UInt8 := [3, 62, 29, 27, 162, 0, 17, 42, 180, 0, 25, 182, 0, 135, 61, 132, 3, 1, 167, 255, 240, 28, 172]
abbrev dktX6_run_1 : List UInt8 := dkwX6_run_1 ++ []
def dkwX6_run_0 : List UInt8 := [42, 3, 181, 0, 31, 27, 4, 17, 0, 200, 184, 0, 35, 154, 0, 9, 42, 4, 182, 0, 39, 172, 3, 61]
abbrev dktX6_run_0 : List UInt8 := dkwX6_run_0 ++ dktX6_run_1
theorem dksX6_run_0 : cX6_run.data.toList.drop 0 = dktX6_run_0 := by decide +kernel
theorem dksX6_run_1 : cX6_run.data.toList.drop 24 = dktX6_run_1 := dk_seg dksX6_run_0 24 rfl rfl
theorem dX6_run_0 : decode cX6_run 0 = .ok (.aload_n 0, 1) := dk_42 (dk_at dksX6_run_0 0 rfl rfl)
theorem dX6_run_1 : decode cX6_run 1 = .ok (.iconst 0, 1) := dk_3 (dk_at dksX6_run_0 1 rfl rfl)
theorem dX6_run_2 : decode cX6_run 2 = .ok (.putfield 31, 3) := dk_181 0 31 (dk_at dksX6_run_0 2 rfl rfl)
theorem dX6_run_5 : decode cX6_run 5 = .ok (.iload_n 1, 1) := dk_27 (dk_at dksX6_run_0 5 rfl rfl)
theorem dX6_run_6 : decode cX6_run 6 = .ok (.iconst 1, 1) := dk_4 (dk_at dksX6_run_0 6 rfl rfl)
theorem dX6_run_7 : decode cX6_run 7 = .ok (.sipush 200, 3) := dk_17 0 200 (dk_at dksX6_run_0 7 rfl rfl)
theorem dX6_run_10 : decode cX6_run 10 = .ok (.invokestatic 35, 3) := dk_184 0 35 (dk_at dksX6_run_0 10 rfl rfl)
theorem dX6_run_13 : decode cX6_run 13 = .ok (.ifCond .ne 9, 3) := dk_154 0 9 (dk_at dksX6_run_0 13 rfl rfl)
theorem dX6_run_16 : decode cX6_run 16 = .ok (.aload_n 0, 1) := dk_42 (dk_at dksX6_run_0 16 rfl rfl)
theorem dX6_run_17 : decode cX6_run 17 = .ok (.iconst 1, 1) := dk_4 (dk_at dksX6_run_0 17 rfl rfl)
theorem dX6_run_18 : decode cX6_run 18 = .ok (.invokevirtual 39, 3) := dk_182 0 39 (dk_at dksX6_run_0 18 rfl rfl)
theorem dX6_run_21 : decode cX6_run 21 = .ok (.ireturn, 1) := dk_172 (dk_at dksX6_run_0 21 rfl rfl)
theorem dX6_run_22 : decode cX6_run 22 = .ok (.iconst 0, 1) := dk_3 (dk_at dksX6_run_0 22 rfl rfl)
theorem dX6_run_23 : decode cX6_run 23 = .ok (.istore_n 2, 1) := dk_61 (dk_at dksX6_run_0 23 rfl rfl)
theorem dX6_run_24 : decode cX6_run 24 = .ok (.iconst 0, 1) := dk_3 (dk_at dksX6_run_1 0 rfl rfl)
theorem dX6_run_25 : decode cX6_run 25 = .ok (.istore_n 3, 1) := dk_62 (dk_at dksX6_run_1 1 rfl rfl)
theorem dX6_run_26 : decode cX6_run 26 = .ok (.iload_n 3, 1) := dk_29 (dk_at dksX6_run_1 2 rfl rfl)
theorem dX6_run_27 : decode cX6_run 27 = .ok (.iload_n 1, 1) := dk_27 (dk_at dksX6_run_1 3 rfl rfl)
theorem dX6_run_28 : decode cX6_run 28 = .ok (.if_icmp .ge 17, 3) := dk_162 0 17 (dk_at dksX6_run_1 4 rfl rfl)
theorem dX6_run_31 : decode cX6_run 31 = .ok (.aload_n 0, 1) := dk_42 (dk_at dksX6_run_1 7 rfl rfl)
theorem dX6_run_32 : decode cX6_run 32 = .ok (.getfield 25, 3) := dk_180 0 25 (dk_at dksX6_run_1 8 rfl rfl)
theorem dX6_run_35 : decode cX6_run 35 = .ok (.invokevirtual 135, 3) := dk_182 0 135 (dk_at dksX6_run_1 11 rfl rfl)
theorem dX6_run_38 : decode cX6_run 38 = .ok (.istore_n 2, 1) := dk_61 (dk_at dksX6_run_1 14 rfl rfl)
theorem dX6_run_39 : decode cX6_run 39 = .ok (.iinc 3 1, 3) := dk_132 3 1 (dk_at dksX6_run_1 15 rfl rfl)
theorem dX6_run_42 : decode cX6_run 42 = .ok (.goto (-16), 3) := dk_167 255 240 (dk_at dksX6_run_1 18 rfl rfl)
theorem dX6_run_45 : decode cX6_run 45 = .ok (.iload_n 2, 1) := dk_28 (dk_at dksX6_run_1 21 rfl rfl)
theorem dX6_run_46 : decode cX6_run 46 = .ok (.ireturn, 1) := dk_172 (dk_at dksX6_run_1 22 rfl rfl)
abbrev cX6_heard : ByteArray := prog_7_method_33_code
def yX6_heard : MethodName := ⟨RX6, "heard", "(I)I"⟩
def dkwX6_heard_1 : List UInt8 := [167, 0, 8, 42, 4, 182, 0, 39, 172]
abbrev dktX6_heard_1 : List UInt8 := dkwX6_heard_1 ++ []
def dkwX6_heard_0 : List UInt8 := [42, 3, 181, 0, 31, 27, 3, 16, 63, 184, 0, 35, 153, 0, 15, 42, 180, 0, 25, 180, 0, 141, 27, 46]
abbrev dktX6_heard_0 : List UInt8 := dkwX6_heard_0 ++ dktX6_heard_1
theorem dksX6_heard_0 : cX6_heard.data.toList.drop 0 = dktX6_heard_0 := by decide +kernel
theorem dksX6_heard_1 : cX6_heard.data.toList.drop 24 = dktX6_heard_1 := dk_seg dksX6_heard_0 24 rfl rfl
theorem dX6_heard_0 : decode cX6_heard 0 = .ok (.aload_n 0, 1) := dk_42 (dk_at dksX6_heard_0 0 rfl rfl)
theorem dX6_heard_1 : decode cX6_heard 1 = .ok (.iconst 0, 1) := dk_3 (dk_at dksX6_heard_0 1 rfl rfl)
theorem dX6_heard_2 : decode cX6_heard 2 = .ok (.putfield 31, 3) := dk_181 0 31 (dk_at dksX6_heard_0 2 rfl rfl)
theorem dX6_heard_5 : decode cX6_heard 5 = .ok (.iload_n 1, 1) := dk_27 (dk_at dksX6_heard_0 5 rfl rfl)
theorem dX6_heard_6 : decode cX6_heard 6 = .ok (.iconst 0, 1) := dk_3 (dk_at dksX6_heard_0 6 rfl rfl)
theorem dX6_heard_7 : decode cX6_heard 7 = .ok (.bipush 63, 2) := dk_16 63 (dk_at dksX6_heard_0 7 rfl rfl)
theorem dX6_heard_9 : decode cX6_heard 9 = .ok (.invokestatic 35, 3) := dk_184 0 35 (dk_at dksX6_heard_0 9 rfl rfl)
theorem dX6_heard_12 : decode cX6_heard 12 = .ok (.ifCond .eq 15, 3) := dk_153 0 15 (dk_at dksX6_heard_0 12 rfl rfl)
theorem dX6_heard_15 : decode cX6_heard 15 = .ok (.aload_n 0, 1) := dk_42 (dk_at dksX6_heard_0 15 rfl rfl)
theorem dX6_heard_16 : decode cX6_heard 16 = .ok (.getfield 25, 3) := dk_180 0 25 (dk_at dksX6_heard_0 16 rfl rfl)
theorem dX6_heard_19 : decode cX6_heard 19 = .ok (.getfield 141, 3) := dk_180 0 141 (dk_at dksX6_heard_0 19 rfl rfl)
theorem dX6_heard_22 : decode cX6_heard 22 = .ok (.iload_n 1, 1) := dk_27 (dk_at dksX6_heard_0 22 rfl rfl)
theorem dX6_heard_23 : decode cX6_heard 23 = .ok (.iaload, 1) := dk_46 (dk_at dksX6_heard_0 23 rfl rfl)
theorem dX6_heard_24 : decode cX6_heard 24 = .ok (.goto 8, 3) := dk_167 0 8 (dk_at dksX6_heard_1 0 rfl rfl)
theorem dX6_heard_27 : decode cX6_heard 27 = .ok (.aload_n 0, 1) := dk_42 (dk_at dksX6_heard_1 3 rfl rfl)
theorem dX6_heard_28 : decode cX6_heard 28 = .ok (.iconst 1, 1) := dk_4 (dk_at dksX6_heard_1 4 rfl rfl)
theorem dX6_heard_29 : decode cX6_heard 29 = .ok (.invokevirtual 39, 3) := dk_182 0 39 (dk_at dksX6_heard_1 5 rfl rfl)
theorem dX6_heard_32 : decode cX6_heard 32 = .ok (.ireturn, 1) := dk_172 (dk_at dksX6_heard_1 8 rfl rfl)
abbrev cX6_clock : ByteArray := prog_7_method_34_code
def yX6_clock : MethodName := ⟨RX6, "clock", "()I"⟩
def dkwX6_clock_0 : List UInt8 := [42, 42, 180, 0, 25, 180, 0, 144, 182, 0, 138, 172]
abbrev dktX6_clock_0 : List UInt8 := dkwX6_clock_0 ++ []
theorem dksX6_clock_0 : cX6_clock.data.toList.drop 0 = dktX6_clock_0 := by decide +kernel
theorem dX6_clock_0 : decode cX6_clock 0 = .ok (.aload_n 0, 1) := dk_42 (dk_at dksX6_clock_0 0 rfl rfl)
theorem dX6_clock_1 : decode cX6_clock 1 = .ok (.aload_n 0, 1) := dk_42 (dk_at dksX6_clock_0 1 rfl rfl)
theorem dX6_clock_2 : decode cX6_clock 2 = .ok (.getfield 25, 3) := dk_180 0 25 (dk_at dksX6_clock_0 2 rfl rfl)
theorem dX6_clock_5 : decode cX6_clock 5 = .ok (.getfield 144, 3) := dk_180 0 144 (dk_at dksX6_clock_0 5 rfl rfl)
theorem dX6_clock_8 : decode cX6_clock 8 = .ok (.invokevirtual 138, 3) := dk_182 0 138 (dk_at dksX6_clock_0 8 rfl rfl)
theorem dX6_clock_11 : decode cX6_clock 11 = .ok (.ireturn, 1) := dk_172 (dk_at dksX6_clock_0 11 rfl rfl)
abbrev cX6_peak : ByteArray := prog_7_method_35_code
def yX6_peak : MethodName := ⟨RX6, "peak", "()I"⟩
def dkwX6_peak_0 : List UInt8 := [42, 42, 180, 0, 25, 180, 0, 147, 182, 0, 138, 172]
abbrev dktX6_peak_0 : List UInt8 := dkwX6_peak_0 ++ []
theorem dksX6_peak_0 : cX6_peak.data.toList.drop 0 = dktX6_peak_0 := by decide +kernel
theorem dX6_peak_0 : decode cX6_peak 0 = .ok (.aload_n 0, 1) := dk_42 (dk_at dksX6_peak_0 0 rfl rfl)
theorem dX6_peak_1 : decode cX6_peak 1 = .ok (.aload_n 0, 1) := dk_42 (dk_at dksX6_peak_0 1 rfl rfl)
theorem dX6_peak_2 : decode cX6_peak 2 = .ok (.getfield 25, 3) := dk_180 0 25 (dk_at dksX6_peak_0 2 rfl rfl)
theorem dX6_peak_5 : decode cX6_peak 5 = .ok (.getfield 147, 3) := dk_180 0 147 (dk_at dksX6_peak_0 5 rfl rfl)
theorem dX6_peak_8 : decode cX6_peak 8 = .ok (.invokevirtual 138, 3) := dk_182 0 138 (dk_at dksX6_peak_0 8 rfl rfl)
theorem dX6_peak_11 : decode cX6_peak 11 = .ok (.ireturn, 1) := dk_172 (dk_at dksX6_peak_0 11 rfl rfl)
abbrev cX6_loudness : ByteArray := prog_7_method_36_code
def yX6_loudness : MethodName := ⟨RX6, "loudness", "()D"⟩
def dkwX6_loudness_1 : List UInt8 := [180, 0, 153, 138, 42, 180, 0, 25, 180, 0, 150, 135, 111, 175]
abbrev dktX6_loudness_1 : List UInt8 := dkwX6_loudness_1 ++ []
def dkwX6_loudness_0 : List UInt8 := [42, 3, 181, 0, 31, 42, 180, 0, 25, 180, 0, 150, 154, 0, 7, 14, 167, 0, 20, 42, 180, 0, 25]
abbrev dktX6_loudness_0 : List UInt8 := dkwX6_loudness_0 ++ dktX6_loudness_1
theorem dksX6_loudness_0 : cX6_loudness.data.toList.drop 0 = dktX6_loudness_0 := by decide +kernel
theorem dksX6_loudness_1 : cX6_loudness.data.toList.drop 23 = dktX6_loudness_1 := dk_seg dksX6_loudness_0 23 rfl rfl
theorem dX6_loudness_0 : decode cX6_loudness 0 = .ok (.aload_n 0, 1) := dk_42 (dk_at dksX6_loudness_0 0 rfl rfl)
theorem dX6_loudness_1 : decode cX6_loudness 1 = .ok (.iconst 0, 1) := dk_3 (dk_at dksX6_loudness_0 1 rfl rfl)
theorem dX6_loudness_2 : decode cX6_loudness 2 = .ok (.putfield 31, 3) := dk_181 0 31 (dk_at dksX6_loudness_0 2 rfl rfl)
theorem dX6_loudness_5 : decode cX6_loudness 5 = .ok (.aload_n 0, 1) := dk_42 (dk_at dksX6_loudness_0 5 rfl rfl)
theorem dX6_loudness_6 : decode cX6_loudness 6 = .ok (.getfield 25, 3) := dk_180 0 25 (dk_at dksX6_loudness_0 6 rfl rfl)
theorem dX6_loudness_9 : decode cX6_loudness 9 = .ok (.getfield 150, 3) := dk_180 0 150 (dk_at dksX6_loudness_0 9 rfl rfl)
theorem dX6_loudness_12 : decode cX6_loudness 12 = .ok (.ifCond .ne 7, 3) := dk_154 0 7 (dk_at dksX6_loudness_0 12 rfl rfl)
theorem dX6_loudness_15 : decode cX6_loudness 15 = .ok (.dconst 0, 1) := dk_14 (dk_at dksX6_loudness_0 15 rfl rfl)
theorem dX6_loudness_16 : decode cX6_loudness 16 = .ok (.goto 20, 3) := dk_167 0 20 (dk_at dksX6_loudness_0 16 rfl rfl)
theorem dX6_loudness_19 : decode cX6_loudness 19 = .ok (.aload_n 0, 1) := dk_42 (dk_at dksX6_loudness_0 19 rfl rfl)
theorem dX6_loudness_20 : decode cX6_loudness 20 = .ok (.getfield 25, 3) := dk_180 0 25 (dk_at dksX6_loudness_0 20 rfl rfl)
theorem dX6_loudness_23 : decode cX6_loudness 23 = .ok (.getfield 153, 3) := dk_180 0 153 (dk_at dksX6_loudness_1 0 rfl rfl)
theorem dX6_loudness_26 : decode cX6_loudness 26 = .ok (.l2d, 1) := dk_138 (dk_at dksX6_loudness_1 3 rfl rfl)
theorem dX6_loudness_27 : decode cX6_loudness 27 = .ok (.aload_n 0, 1) := dk_42 (dk_at dksX6_loudness_1 4 rfl rfl)
theorem dX6_loudness_28 : decode cX6_loudness 28 = .ok (.getfield 25, 3) := dk_180 0 25 (dk_at dksX6_loudness_1 5 rfl rfl)
theorem dX6_loudness_31 : decode cX6_loudness 31 = .ok (.getfield 150, 3) := dk_180 0 150 (dk_at dksX6_loudness_1 8 rfl rfl)
theorem dX6_loudness_34 : decode cX6_loudness 34 = .ok (.i2d, 1) := dk_135 (dk_at dksX6_loudness_1 11 rfl rfl)
theorem dX6_loudness_35 : decode cX6_loudness 35 = .ok (.ddiv, 1) := dk_111 (dk_at dksX6_loudness_1 12 rfl rfl)
theorem dX6_loudness_36 : decode cX6_loudness 36 = .ok (.dreturn, 1) := dk_175 (dk_at dksX6_loudness_1 13 rfl rfl)
abbrev cX6_clipped : ByteArray := prog_7_method_37_code
def yX6_clipped : MethodName := ⟨RX6, "clipped", "()I"⟩
def dkwX6_clipped_0 : List UInt8 := [42, 42, 180, 0, 25, 180, 0, 157, 182, 0, 138, 172]
abbrev dktX6_clipped_0 : List UInt8 := dkwX6_clipped_0 ++ []
theorem dksX6_clipped_0 : cX6_clipped.data.toList.drop 0 = dktX6_clipped_0 := by decide +kernel
theorem dX6_clipped_0 : decode cX6_clipped 0 = .ok (.aload_n 0, 1) := dk_42 (dk_at dksX6_clipped_0 0 rfl rfl)
theorem dX6_clipped_1 : decode cX6_clipped 1 = .ok (.aload_n 0, 1) := dk_42 (dk_at dksX6_clipped_0 1 rfl rfl)
theorem dX6_clipped_2 : decode cX6_clipped 2 = .ok (.getfield 25, 3) := dk_180 0 25 (dk_at dksX6_clipped_0 2 rfl rfl)
theorem dX6_clipped_5 : decode cX6_clipped 5 = .ok (.getfield 157, 3) := dk_180 0 157 (dk_at dksX6_clipped_0 5 rfl rfl)
theorem dX6_clipped_8 : decode cX6_clipped 8 = .ok (.invokevirtual 138, 3) := dk_182 0 138 (dk_at dksX6_clipped_0 8 rfl rfl)
theorem dX6_clipped_11 : decode cX6_clipped 11 = .ok (.ireturn, 1) := dk_172 (dk_at dksX6_clipped_0 11 rfl rfl)
abbrev cX6_crossings : ByteArray := prog_7_method_38_code
def yX6_crossings : MethodName := ⟨RX6, "crossings", "()I"⟩
def dkwX6_crossings_0 : List UInt8 := [42, 42, 180, 0, 25, 180, 0, 160, 182, 0, 138, 172]
abbrev dktX6_crossings_0 : List UInt8 := dkwX6_crossings_0 ++ []
theorem dksX6_crossings_0 : cX6_crossings.data.toList.drop 0 = dktX6_crossings_0 := by decide +kernel
theorem dX6_crossings_0 : decode cX6_crossings 0 = .ok (.aload_n 0, 1) := dk_42 (dk_at dksX6_crossings_0 0 rfl rfl)
theorem dX6_crossings_1 : decode cX6_crossings 1 = .ok (.aload_n 0, 1) := dk_42 (dk_at dksX6_crossings_0 1 rfl rfl)
theorem dX6_crossings_2 : decode cX6_crossings 2 = .ok (.getfield 25, 3) := dk_180 0 25 (dk_at dksX6_crossings_0 2 rfl rfl)
theorem dX6_crossings_5 : decode cX6_crossings 5 = .ok (.getfield 160, 3) := dk_180 0 160 (dk_at dksX6_crossings_0 5 rfl rfl)
theorem dX6_crossings_8 : decode cX6_crossings 8 = .ok (.invokevirtual 138, 3) := dk_182 0 138 (dk_at dksX6_crossings_0 8 rfl rfl)
theorem dX6_crossings_11 : decode cX6_crossings 11 = .ok (.ireturn, 1) := dk_172 (dk_at dksX6_crossings_0 11 rfl rfl)
abbrev cX6_reset : ByteArray := prog_7_method_39_code
def yX6_reset : MethodName := ⟨RX6, "reset", "()I"⟩
def dkwX6_reset_2 : List UInt8 := [180, 0, 25, 9, 181, 0, 153, 27, 172]
abbrev dktX6_reset_2 : List UInt8 := dkwX6_reset_2 ++ []
def dkwX6_reset_1 : List UInt8 := [180, 0, 25, 3, 181, 0, 147, 42, 180, 0, 25, 3, 181, 0, 157, 42, 180, 0, 25, 3, 181, 0, 160, 42]
abbrev dktX6_reset_1 : List UInt8 := dkwX6_reset_1 ++ dktX6_reset_2
def dkwX6_reset_0 : List UInt8 := [42, 3, 181, 0, 31, 42, 180, 0, 25, 180, 0, 150, 60, 42, 180, 0, 25, 3, 181, 0, 150, 42]
abbrev dktX6_reset_0 : List UInt8 := dkwX6_reset_0 ++ dktX6_reset_1
theorem dksX6_reset_0 : cX6_reset.data.toList.drop 0 = dktX6_reset_0 := by decide +kernel
theorem dksX6_reset_1 : cX6_reset.data.toList.drop 22 = dktX6_reset_1 := dk_seg dksX6_reset_0 22 rfl rfl
theorem dksX6_reset_2 : cX6_reset.data.toList.drop 46 = dktX6_reset_2 := dk_seg dksX6_reset_1 24 rfl rfl
theorem dX6_reset_0 : decode cX6_reset 0 = .ok (.aload_n 0, 1) := dk_42 (dk_at dksX6_reset_0 0 rfl rfl)
theorem dX6_reset_1 : decode cX6_reset 1 = .ok (.iconst 0, 1) := dk_3 (dk_at dksX6_reset_0 1 rfl rfl)
theorem dX6_reset_2 : decode cX6_reset 2 = .ok (.putfield 31, 3) := dk_181 0 31 (dk_at dksX6_reset_0 2 rfl rfl)
theorem dX6_reset_5 : decode cX6_reset 5 = .ok (.aload_n 0, 1) := dk_42 (dk_at dksX6_reset_0 5 rfl rfl)
theorem dX6_reset_6 : decode cX6_reset 6 = .ok (.getfield 25, 3) := dk_180 0 25 (dk_at dksX6_reset_0 6 rfl rfl)
theorem dX6_reset_9 : decode cX6_reset 9 = .ok (.getfield 150, 3) := dk_180 0 150 (dk_at dksX6_reset_0 9 rfl rfl)
theorem dX6_reset_12 : decode cX6_reset 12 = .ok (.istore_n 1, 1) := dk_60 (dk_at dksX6_reset_0 12 rfl rfl)
theorem dX6_reset_13 : decode cX6_reset 13 = .ok (.aload_n 0, 1) := dk_42 (dk_at dksX6_reset_0 13 rfl rfl)
theorem dX6_reset_14 : decode cX6_reset 14 = .ok (.getfield 25, 3) := dk_180 0 25 (dk_at dksX6_reset_0 14 rfl rfl)
theorem dX6_reset_17 : decode cX6_reset 17 = .ok (.iconst 0, 1) := dk_3 (dk_at dksX6_reset_0 17 rfl rfl)
theorem dX6_reset_18 : decode cX6_reset 18 = .ok (.putfield 150, 3) := dk_181 0 150 (dk_at dksX6_reset_0 18 rfl rfl)
theorem dX6_reset_21 : decode cX6_reset 21 = .ok (.aload_n 0, 1) := dk_42 (dk_at dksX6_reset_0 21 rfl rfl)
theorem dX6_reset_22 : decode cX6_reset 22 = .ok (.getfield 25, 3) := dk_180 0 25 (dk_at dksX6_reset_1 0 rfl rfl)
theorem dX6_reset_25 : decode cX6_reset 25 = .ok (.iconst 0, 1) := dk_3 (dk_at dksX6_reset_1 3 rfl rfl)
theorem dX6_reset_26 : decode cX6_reset 26 = .ok (.putfield 147, 3) := dk_181 0 147 (dk_at dksX6_reset_1 4 rfl rfl)
theorem dX6_reset_29 : decode cX6_reset 29 = .ok (.aload_n 0, 1) := dk_42 (dk_at dksX6_reset_1 7 rfl rfl)
theorem dX6_reset_30 : decode cX6_reset 30 = .ok (.getfield 25, 3) := dk_180 0 25 (dk_at dksX6_reset_1 8 rfl rfl)
theorem dX6_reset_33 : decode cX6_reset 33 = .ok (.iconst 0, 1) := dk_3 (dk_at dksX6_reset_1 11 rfl rfl)
theorem dX6_reset_34 : decode cX6_reset 34 = .ok (.putfield 157, 3) := dk_181 0 157 (dk_at dksX6_reset_1 12 rfl rfl)
theorem dX6_reset_37 : decode cX6_reset 37 = .ok (.aload_n 0, 1) := dk_42 (dk_at dksX6_reset_1 15 rfl rfl)
theorem dX6_reset_38 : decode cX6_reset 38 = .ok (.getfield 25, 3) := dk_180 0 25 (dk_at dksX6_reset_1 16 rfl rfl)
theorem dX6_reset_41 : decode cX6_reset 41 = .ok (.iconst 0, 1) := dk_3 (dk_at dksX6_reset_1 19 rfl rfl)
theorem dX6_reset_42 : decode cX6_reset 42 = .ok (.putfield 160, 3) := dk_181 0 160 (dk_at dksX6_reset_1 20 rfl rfl)
theorem dX6_reset_45 : decode cX6_reset 45 = .ok (.aload_n 0, 1) := dk_42 (dk_at dksX6_reset_1 23 rfl rfl)
theorem dX6_reset_46 : decode cX6_reset 46 = .ok (.getfield 25, 3) := dk_180 0 25 (dk_at dksX6_reset_2 0 rfl rfl)
theorem dX6_reset_49 : decode cX6_reset 49 = .ok (.lconst 0, 1) := dk_9 (dk_at dksX6_reset_2 3 rfl rfl)
theorem dX6_reset_50 : decode cX6_reset 50 = .ok (.putfield 153, 3) := dk_181 0 153 (dk_at dksX6_reset_2 4 rfl rfl)
theorem dX6_reset_53 : decode cX6_reset 53 = .ok (.iload_n 1, 1) := dk_27 (dk_at dksX6_reset_2 7 rfl rfl)
theorem dX6_reset_54 : decode cX6_reset 54 = .ok (.ireturn, 1) := dk_172 (dk_at dksX6_reset_2 8 rfl rfl)
abbrev cX6_ofVoice : ByteArray := prog_7_method_41_code
def yX6_ofVoice : MethodName := ⟨RX6, "ofVoice", "(II)I"⟩
def dkwX6_ofVoice_1 : List UInt8 := [184, 0, 35, 153, 0, 12, 42, 27, 28, 182, 0, 184, 167, 0, 8, 42, 5, 182, 0, 39, 172]
abbrev dktX6_ofVoice_1 : List UInt8 := dkwX6_ofVoice_1 ++ []
def dkwX6_ofVoice_0 : List UInt8 := [42, 3, 181, 0, 31, 27, 184, 0, 87, 154, 0, 9, 42, 4, 182, 0, 39, 172, 28, 3, 16, 9]
abbrev dktX6_ofVoice_0 : List UInt8 := dkwX6_ofVoice_0 ++ dktX6_ofVoice_1
theorem dksX6_ofVoice_0 : cX6_ofVoice.data.toList.drop 0 = dktX6_ofVoice_0 := by decide +kernel
theorem dksX6_ofVoice_1 : cX6_ofVoice.data.toList.drop 22 = dktX6_ofVoice_1 := dk_seg dksX6_ofVoice_0 22 rfl rfl
theorem dX6_ofVoice_0 : decode cX6_ofVoice 0 = .ok (.aload_n 0, 1) := dk_42 (dk_at dksX6_ofVoice_0 0 rfl rfl)
theorem dX6_ofVoice_1 : decode cX6_ofVoice 1 = .ok (.iconst 0, 1) := dk_3 (dk_at dksX6_ofVoice_0 1 rfl rfl)
theorem dX6_ofVoice_2 : decode cX6_ofVoice 2 = .ok (.putfield 31, 3) := dk_181 0 31 (dk_at dksX6_ofVoice_0 2 rfl rfl)
theorem dX6_ofVoice_5 : decode cX6_ofVoice 5 = .ok (.iload_n 1, 1) := dk_27 (dk_at dksX6_ofVoice_0 5 rfl rfl)
theorem dX6_ofVoice_6 : decode cX6_ofVoice 6 = .ok (.invokestatic 87, 3) := dk_184 0 87 (dk_at dksX6_ofVoice_0 6 rfl rfl)
theorem dX6_ofVoice_9 : decode cX6_ofVoice 9 = .ok (.ifCond .ne 9, 3) := dk_154 0 9 (dk_at dksX6_ofVoice_0 9 rfl rfl)
theorem dX6_ofVoice_12 : decode cX6_ofVoice 12 = .ok (.aload_n 0, 1) := dk_42 (dk_at dksX6_ofVoice_0 12 rfl rfl)
theorem dX6_ofVoice_13 : decode cX6_ofVoice 13 = .ok (.iconst 1, 1) := dk_4 (dk_at dksX6_ofVoice_0 13 rfl rfl)
theorem dX6_ofVoice_14 : decode cX6_ofVoice 14 = .ok (.invokevirtual 39, 3) := dk_182 0 39 (dk_at dksX6_ofVoice_0 14 rfl rfl)
theorem dX6_ofVoice_17 : decode cX6_ofVoice 17 = .ok (.ireturn, 1) := dk_172 (dk_at dksX6_ofVoice_0 17 rfl rfl)
theorem dX6_ofVoice_18 : decode cX6_ofVoice 18 = .ok (.iload_n 2, 1) := dk_28 (dk_at dksX6_ofVoice_0 18 rfl rfl)
theorem dX6_ofVoice_19 : decode cX6_ofVoice 19 = .ok (.iconst 0, 1) := dk_3 (dk_at dksX6_ofVoice_0 19 rfl rfl)
theorem dX6_ofVoice_20 : decode cX6_ofVoice 20 = .ok (.bipush 9, 2) := dk_16 9 (dk_at dksX6_ofVoice_0 20 rfl rfl)
theorem dX6_ofVoice_22 : decode cX6_ofVoice 22 = .ok (.invokestatic 35, 3) := dk_184 0 35 (dk_at dksX6_ofVoice_1 0 rfl rfl)
theorem dX6_ofVoice_25 : decode cX6_ofVoice 25 = .ok (.ifCond .eq 12, 3) := dk_153 0 12 (dk_at dksX6_ofVoice_1 3 rfl rfl)
theorem dX6_ofVoice_28 : decode cX6_ofVoice 28 = .ok (.aload_n 0, 1) := dk_42 (dk_at dksX6_ofVoice_1 6 rfl rfl)
theorem dX6_ofVoice_29 : decode cX6_ofVoice 29 = .ok (.iload_n 1, 1) := dk_27 (dk_at dksX6_ofVoice_1 7 rfl rfl)
theorem dX6_ofVoice_30 : decode cX6_ofVoice 30 = .ok (.iload_n 2, 1) := dk_28 (dk_at dksX6_ofVoice_1 8 rfl rfl)
theorem dX6_ofVoice_31 : decode cX6_ofVoice 31 = .ok (.invokevirtual 184, 3) := dk_182 0 184 (dk_at dksX6_ofVoice_1 9 rfl rfl)
theorem dX6_ofVoice_34 : decode cX6_ofVoice 34 = .ok (.goto 8, 3) := dk_167 0 8 (dk_at dksX6_ofVoice_1 12 rfl rfl)
theorem dX6_ofVoice_37 : decode cX6_ofVoice 37 = .ok (.aload_n 0, 1) := dk_42 (dk_at dksX6_ofVoice_1 15 rfl rfl)
theorem dX6_ofVoice_38 : decode cX6_ofVoice 38 = .ok (.iconst 2, 1) := dk_5 (dk_at dksX6_ofVoice_1 16 rfl rfl)
theorem dX6_ofVoice_39 : decode cX6_ofVoice 39 = .ok (.invokevirtual 39, 3) := dk_182 0 39 (dk_at dksX6_ofVoice_1 17 rfl rfl)
theorem dX6_ofVoice_42 : decode cX6_ofVoice 42 = .ok (.ireturn, 1) := dk_172 (dk_at dksX6_ofVoice_1 20 rfl rfl)
abbrev cX6_voiceNow : ByteArray := prog_7_method_40_code
def yX6_voiceNow : MethodName := ⟨RX6, "voiceNow", "(II)I"⟩
def dkwX6_voiceNow_6 : List UInt8 := [180, 0, 104, 27, 46, 172]
abbrev dktX6_voiceNow_6 : List UInt8 := dkwX6_voiceNow_6 ++ []
def dkwX6_voiceNow_5 : List UInt8 := [180, 0, 25, 180, 0, 178, 27, 46, 172, 42, 180, 0, 25, 180, 0, 181, 27, 46, 172, 42, 180, 0, 25]
abbrev dktX6_voiceNow_5 : List UInt8 := dkwX6_voiceNow_5 ++ dktX6_voiceNow_6
def dkwX6_voiceNow_4 : List UInt8 := [46, 172, 42, 180, 0, 25, 180, 0, 172, 27, 46, 172, 42, 180, 0, 25, 180, 0, 175, 27, 46, 172, 42]
abbrev dktX6_voiceNow_4 : List UInt8 := dkwX6_voiceNow_4 ++ dktX6_voiceNow_5
def dkwX6_voiceNow_3 : List UInt8 := [180, 0, 163, 27, 46, 172, 42, 180, 0, 25, 180, 0, 166, 27, 46, 172, 42, 180, 0, 25, 180, 0, 169, 27]
abbrev dktX6_voiceNow_3 : List UInt8 := dkwX6_voiceNow_3 ++ dktX6_voiceNow_4
def dkwX6_voiceNow_2 : List UInt8 := [42, 180, 0, 25, 180, 0, 90, 27, 46, 172, 42, 180, 0, 25, 180, 0, 101, 27, 46, 172, 42, 180, 0, 25]
abbrev dktX6_voiceNow_2 : List UInt8 := dkwX6_voiceNow_2 ++ dktX6_voiceNow_3
def dkwX6_voiceNow_1 : List UInt8 := [170, 0, 0, 0, 0, 0, 141, 0, 0, 0, 0, 0, 0, 0, 8, 0, 0, 0, 51, 0, 0, 0, 61, 0, 0, 0, 71, 0, 0, 0, 81, 0, 0, 0, 91, 0, 0, 0, 101, 0, 0, 0, 111, 0, 0, 0, 121, 0, 0, 0, 131]
abbrev dktX6_voiceNow_1 : List UInt8 := dkwX6_voiceNow_1 ++ dktX6_voiceNow_2
def dkwX6_voiceNow_0 : List UInt8 := [28]
abbrev dktX6_voiceNow_0 : List UInt8 := dkwX6_voiceNow_0 ++ dktX6_voiceNow_1
theorem dksX6_voiceNow_0 : cX6_voiceNow.data.toList.drop 0 = dktX6_voiceNow_0 := by decide +kernel
theorem dksX6_voiceNow_1 : cX6_voiceNow.data.toList.drop 1 = dktX6_voiceNow_1 := dk_seg dksX6_voiceNow_0 1 rfl rfl
theorem dksX6_voiceNow_2 : cX6_voiceNow.data.toList.drop 52 = dktX6_voiceNow_2 := dk_seg dksX6_voiceNow_1 51 rfl rfl
theorem dksX6_voiceNow_3 : cX6_voiceNow.data.toList.drop 76 = dktX6_voiceNow_3 := dk_seg dksX6_voiceNow_2 24 rfl rfl
theorem dksX6_voiceNow_4 : cX6_voiceNow.data.toList.drop 100 = dktX6_voiceNow_4 := dk_seg dksX6_voiceNow_3 24 rfl rfl
theorem dksX6_voiceNow_5 : cX6_voiceNow.data.toList.drop 123 = dktX6_voiceNow_5 := dk_seg dksX6_voiceNow_4 23 rfl rfl
theorem dksX6_voiceNow_6 : cX6_voiceNow.data.toList.drop 146 = dktX6_voiceNow_6 := dk_seg dksX6_voiceNow_5 23 rfl rfl
theorem dX6_voiceNow_0 : decode cX6_voiceNow 0 = .ok (.iload_n 2, 1) := dk_28 (dk_at dksX6_voiceNow_0 0 rfl rfl)
theorem dX6_voiceNow_1 : decode cX6_voiceNow 1 = .ok (.tableswitch 141 0 8 #[51, 61, 71, 81, 91, 101, 111, 121, 131], 51) := by decide +kernel
theorem dX6_voiceNow_52 : decode cX6_voiceNow 52 = .ok (.aload_n 0, 1) := dk_42 (dk_at dksX6_voiceNow_2 0 rfl rfl)
theorem dX6_voiceNow_53 : decode cX6_voiceNow 53 = .ok (.getfield 25, 3) := dk_180 0 25 (dk_at dksX6_voiceNow_2 1 rfl rfl)
theorem dX6_voiceNow_56 : decode cX6_voiceNow 56 = .ok (.getfield 90, 3) := dk_180 0 90 (dk_at dksX6_voiceNow_2 4 rfl rfl)
theorem dX6_voiceNow_59 : decode cX6_voiceNow 59 = .ok (.iload_n 1, 1) := dk_27 (dk_at dksX6_voiceNow_2 7 rfl rfl)
theorem dX6_voiceNow_60 : decode cX6_voiceNow 60 = .ok (.iaload, 1) := dk_46 (dk_at dksX6_voiceNow_2 8 rfl rfl)
theorem dX6_voiceNow_61 : decode cX6_voiceNow 61 = .ok (.ireturn, 1) := dk_172 (dk_at dksX6_voiceNow_2 9 rfl rfl)
theorem dX6_voiceNow_62 : decode cX6_voiceNow 62 = .ok (.aload_n 0, 1) := dk_42 (dk_at dksX6_voiceNow_2 10 rfl rfl)
theorem dX6_voiceNow_63 : decode cX6_voiceNow 63 = .ok (.getfield 25, 3) := dk_180 0 25 (dk_at dksX6_voiceNow_2 11 rfl rfl)
theorem dX6_voiceNow_66 : decode cX6_voiceNow 66 = .ok (.getfield 101, 3) := dk_180 0 101 (dk_at dksX6_voiceNow_2 14 rfl rfl)
theorem dX6_voiceNow_69 : decode cX6_voiceNow 69 = .ok (.iload_n 1, 1) := dk_27 (dk_at dksX6_voiceNow_2 17 rfl rfl)
theorem dX6_voiceNow_70 : decode cX6_voiceNow 70 = .ok (.iaload, 1) := dk_46 (dk_at dksX6_voiceNow_2 18 rfl rfl)
theorem dX6_voiceNow_71 : decode cX6_voiceNow 71 = .ok (.ireturn, 1) := dk_172 (dk_at dksX6_voiceNow_2 19 rfl rfl)
theorem dX6_voiceNow_72 : decode cX6_voiceNow 72 = .ok (.aload_n 0, 1) := dk_42 (dk_at dksX6_voiceNow_2 20 rfl rfl)
theorem dX6_voiceNow_73 : decode cX6_voiceNow 73 = .ok (.getfield 25, 3) := dk_180 0 25 (dk_at dksX6_voiceNow_2 21 rfl rfl)
theorem dX6_voiceNow_76 : decode cX6_voiceNow 76 = .ok (.getfield 163, 3) := dk_180 0 163 (dk_at dksX6_voiceNow_3 0 rfl rfl)
theorem dX6_voiceNow_79 : decode cX6_voiceNow 79 = .ok (.iload_n 1, 1) := dk_27 (dk_at dksX6_voiceNow_3 3 rfl rfl)
theorem dX6_voiceNow_80 : decode cX6_voiceNow 80 = .ok (.iaload, 1) := dk_46 (dk_at dksX6_voiceNow_3 4 rfl rfl)
theorem dX6_voiceNow_81 : decode cX6_voiceNow 81 = .ok (.ireturn, 1) := dk_172 (dk_at dksX6_voiceNow_3 5 rfl rfl)
theorem dX6_voiceNow_82 : decode cX6_voiceNow 82 = .ok (.aload_n 0, 1) := dk_42 (dk_at dksX6_voiceNow_3 6 rfl rfl)
theorem dX6_voiceNow_83 : decode cX6_voiceNow 83 = .ok (.getfield 25, 3) := dk_180 0 25 (dk_at dksX6_voiceNow_3 7 rfl rfl)
theorem dX6_voiceNow_86 : decode cX6_voiceNow 86 = .ok (.getfield 166, 3) := dk_180 0 166 (dk_at dksX6_voiceNow_3 10 rfl rfl)
theorem dX6_voiceNow_89 : decode cX6_voiceNow 89 = .ok (.iload_n 1, 1) := dk_27 (dk_at dksX6_voiceNow_3 13 rfl rfl)
theorem dX6_voiceNow_90 : decode cX6_voiceNow 90 = .ok (.iaload, 1) := dk_46 (dk_at dksX6_voiceNow_3 14 rfl rfl)
theorem dX6_voiceNow_91 : decode cX6_voiceNow 91 = .ok (.ireturn, 1) := dk_172 (dk_at dksX6_voiceNow_3 15 rfl rfl)
theorem dX6_voiceNow_92 : decode cX6_voiceNow 92 = .ok (.aload_n 0, 1) := dk_42 (dk_at dksX6_voiceNow_3 16 rfl rfl)
theorem dX6_voiceNow_93 : decode cX6_voiceNow 93 = .ok (.getfield 25, 3) := dk_180 0 25 (dk_at dksX6_voiceNow_3 17 rfl rfl)
theorem dX6_voiceNow_96 : decode cX6_voiceNow 96 = .ok (.getfield 169, 3) := dk_180 0 169 (dk_at dksX6_voiceNow_3 20 rfl rfl)
theorem dX6_voiceNow_99 : decode cX6_voiceNow 99 = .ok (.iload_n 1, 1) := dk_27 (dk_at dksX6_voiceNow_3 23 rfl rfl)
theorem dX6_voiceNow_100 : decode cX6_voiceNow 100 = .ok (.iaload, 1) := dk_46 (dk_at dksX6_voiceNow_4 0 rfl rfl)
theorem dX6_voiceNow_101 : decode cX6_voiceNow 101 = .ok (.ireturn, 1) := dk_172 (dk_at dksX6_voiceNow_4 1 rfl rfl)
theorem dX6_voiceNow_102 : decode cX6_voiceNow 102 = .ok (.aload_n 0, 1) := dk_42 (dk_at dksX6_voiceNow_4 2 rfl rfl)
theorem dX6_voiceNow_103 : decode cX6_voiceNow 103 = .ok (.getfield 25, 3) := dk_180 0 25 (dk_at dksX6_voiceNow_4 3 rfl rfl)
theorem dX6_voiceNow_106 : decode cX6_voiceNow 106 = .ok (.getfield 172, 3) := dk_180 0 172 (dk_at dksX6_voiceNow_4 6 rfl rfl)
theorem dX6_voiceNow_109 : decode cX6_voiceNow 109 = .ok (.iload_n 1, 1) := dk_27 (dk_at dksX6_voiceNow_4 9 rfl rfl)
theorem dX6_voiceNow_110 : decode cX6_voiceNow 110 = .ok (.iaload, 1) := dk_46 (dk_at dksX6_voiceNow_4 10 rfl rfl)
theorem dX6_voiceNow_111 : decode cX6_voiceNow 111 = .ok (.ireturn, 1) := dk_172 (dk_at dksX6_voiceNow_4 11 rfl rfl)
theorem dX6_voiceNow_112 : decode cX6_voiceNow 112 = .ok (.aload_n 0, 1) := dk_42 (dk_at dksX6_voiceNow_4 12 rfl rfl)
theorem dX6_voiceNow_113 : decode cX6_voiceNow 113 = .ok (.getfield 25, 3) := dk_180 0 25 (dk_at dksX6_voiceNow_4 13 rfl rfl)
theorem dX6_voiceNow_116 : decode cX6_voiceNow 116 = .ok (.getfield 175, 3) := dk_180 0 175 (dk_at dksX6_voiceNow_4 16 rfl rfl)
theorem dX6_voiceNow_119 : decode cX6_voiceNow 119 = .ok (.iload_n 1, 1) := dk_27 (dk_at dksX6_voiceNow_4 19 rfl rfl)
theorem dX6_voiceNow_120 : decode cX6_voiceNow 120 = .ok (.iaload, 1) := dk_46 (dk_at dksX6_voiceNow_4 20 rfl rfl)
theorem dX6_voiceNow_121 : decode cX6_voiceNow 121 = .ok (.ireturn, 1) := dk_172 (dk_at dksX6_voiceNow_4 21 rfl rfl)
theorem dX6_voiceNow_122 : decode cX6_voiceNow 122 = .ok (.aload_n 0, 1) := dk_42 (dk_at dksX6_voiceNow_4 22 rfl rfl)
theorem dX6_voiceNow_123 : decode cX6_voiceNow 123 = .ok (.getfield 25, 3) := dk_180 0 25 (dk_at dksX6_voiceNow_5 0 rfl rfl)
theorem dX6_voiceNow_126 : decode cX6_voiceNow 126 = .ok (.getfield 178, 3) := dk_180 0 178 (dk_at dksX6_voiceNow_5 3 rfl rfl)
theorem dX6_voiceNow_129 : decode cX6_voiceNow 129 = .ok (.iload_n 1, 1) := dk_27 (dk_at dksX6_voiceNow_5 6 rfl rfl)
theorem dX6_voiceNow_130 : decode cX6_voiceNow 130 = .ok (.iaload, 1) := dk_46 (dk_at dksX6_voiceNow_5 7 rfl rfl)
theorem dX6_voiceNow_131 : decode cX6_voiceNow 131 = .ok (.ireturn, 1) := dk_172 (dk_at dksX6_voiceNow_5 8 rfl rfl)
theorem dX6_voiceNow_132 : decode cX6_voiceNow 132 = .ok (.aload_n 0, 1) := dk_42 (dk_at dksX6_voiceNow_5 9 rfl rfl)
theorem dX6_voiceNow_133 : decode cX6_voiceNow 133 = .ok (.getfield 25, 3) := dk_180 0 25 (dk_at dksX6_voiceNow_5 10 rfl rfl)
theorem dX6_voiceNow_136 : decode cX6_voiceNow 136 = .ok (.getfield 181, 3) := dk_180 0 181 (dk_at dksX6_voiceNow_5 13 rfl rfl)
theorem dX6_voiceNow_139 : decode cX6_voiceNow 139 = .ok (.iload_n 1, 1) := dk_27 (dk_at dksX6_voiceNow_5 16 rfl rfl)
theorem dX6_voiceNow_140 : decode cX6_voiceNow 140 = .ok (.iaload, 1) := dk_46 (dk_at dksX6_voiceNow_5 17 rfl rfl)
theorem dX6_voiceNow_141 : decode cX6_voiceNow 141 = .ok (.ireturn, 1) := dk_172 (dk_at dksX6_voiceNow_5 18 rfl rfl)
theorem dX6_voiceNow_142 : decode cX6_voiceNow 142 = .ok (.aload_n 0, 1) := dk_42 (dk_at dksX6_voiceNow_5 19 rfl rfl)
theorem dX6_voiceNow_143 : decode cX6_voiceNow 143 = .ok (.getfield 25, 3) := dk_180 0 25 (dk_at dksX6_voiceNow_5 20 rfl rfl)
theorem dX6_voiceNow_146 : decode cX6_voiceNow 146 = .ok (.getfield 104, 3) := dk_180 0 104 (dk_at dksX6_voiceNow_6 0 rfl rfl)
theorem dX6_voiceNow_149 : decode cX6_voiceNow 149 = .ok (.iload_n 1, 1) := dk_27 (dk_at dksX6_voiceNow_6 3 rfl rfl)
theorem dX6_voiceNow_150 : decode cX6_voiceNow 150 = .ok (.iaload, 1) := dk_46 (dk_at dksX6_voiceNow_6 4 rfl rfl)
theorem dX6_voiceNow_151 : decode cX6_voiceNow 151 = .ok (.ireturn, 1) := dk_172 (dk_at dksX6_voiceNow_6 5 rfl rfl)
abbrev cX6_sounding : ByteArray := prog_7_method_42_code
def yX6_sounding : MethodName := ⟨RX6, "sounding", "()I"⟩
def dkwX6_sounding_0 : List UInt8 := [42, 42, 180, 0, 25, 182, 0, 97, 182, 0, 138, 172]
abbrev dktX6_sounding_0 : List UInt8 := dkwX6_sounding_0 ++ []
theorem dksX6_sounding_0 : cX6_sounding.data.toList.drop 0 = dktX6_sounding_0 := by decide +kernel
theorem dX6_sounding_0 : decode cX6_sounding 0 = .ok (.aload_n 0, 1) := dk_42 (dk_at dksX6_sounding_0 0 rfl rfl)
theorem dX6_sounding_1 : decode cX6_sounding 1 = .ok (.aload_n 0, 1) := dk_42 (dk_at dksX6_sounding_0 1 rfl rfl)
theorem dX6_sounding_2 : decode cX6_sounding 2 = .ok (.getfield 25, 3) := dk_180 0 25 (dk_at dksX6_sounding_0 2 rfl rfl)
theorem dX6_sounding_5 : decode cX6_sounding 5 = .ok (.invokevirtual 97, 3) := dk_182 0 97 (dk_at dksX6_sounding_0 5 rfl rfl)
theorem dX6_sounding_8 : decode cX6_sounding 8 = .ok (.invokevirtual 138, 3) := dk_182 0 138 (dk_at dksX6_sounding_0 8 rfl rfl)
theorem dX6_sounding_11 : decode cX6_sounding 11 = .ok (.ireturn, 1) := dk_172 (dk_at dksX6_sounding_0 11 rfl rfl)
abbrev cX6_taken : ByteArray := prog_7_method_43_code
def yX6_taken : MethodName := ⟨RX6, "taken", "()I"⟩
def dkwX6_taken_0 : List UInt8 := [42, 42, 180, 0, 25, 180, 0, 187, 182, 0, 138, 172]
abbrev dktX6_taken_0 : List UInt8 := dkwX6_taken_0 ++ []
theorem dksX6_taken_0 : cX6_taken.data.toList.drop 0 = dktX6_taken_0 := by decide +kernel
theorem dX6_taken_0 : decode cX6_taken 0 = .ok (.aload_n 0, 1) := dk_42 (dk_at dksX6_taken_0 0 rfl rfl)
theorem dX6_taken_1 : decode cX6_taken 1 = .ok (.aload_n 0, 1) := dk_42 (dk_at dksX6_taken_0 1 rfl rfl)
theorem dX6_taken_2 : decode cX6_taken 2 = .ok (.getfield 25, 3) := dk_180 0 25 (dk_at dksX6_taken_0 2 rfl rfl)
theorem dX6_taken_5 : decode cX6_taken 5 = .ok (.getfield 187, 3) := dk_180 0 187 (dk_at dksX6_taken_0 5 rfl rfl)
theorem dX6_taken_8 : decode cX6_taken 8 = .ok (.invokevirtual 138, 3) := dk_182 0 138 (dk_at dksX6_taken_0 8 rfl rfl)
theorem dX6_taken_11 : decode cX6_taken 11 = .ok (.ireturn, 1) := dk_172 (dk_at dksX6_taken_0 11 rfl rfl)
abbrev cX6_isPlaying : ByteArray := prog_7_method_44_code
def yX6_isPlaying : MethodName := ⟨RX6, "isPlaying", "()Z"⟩
def dkwX6_isPlaying_0 : List UInt8 := [42, 3, 181, 0, 31, 42, 180, 0, 25, 180, 0, 122, 172]
abbrev dktX6_isPlaying_0 : List UInt8 := dkwX6_isPlaying_0 ++ []
theorem dksX6_isPlaying_0 : cX6_isPlaying.data.toList.drop 0 = dktX6_isPlaying_0 := by decide +kernel
theorem dX6_isPlaying_0 : decode cX6_isPlaying 0 = .ok (.aload_n 0, 1) := dk_42 (dk_at dksX6_isPlaying_0 0 rfl rfl)
theorem dX6_isPlaying_1 : decode cX6_isPlaying 1 = .ok (.iconst 0, 1) := dk_3 (dk_at dksX6_isPlaying_0 1 rfl rfl)
theorem dX6_isPlaying_2 : decode cX6_isPlaying 2 = .ok (.putfield 31, 3) := dk_181 0 31 (dk_at dksX6_isPlaying_0 2 rfl rfl)
theorem dX6_isPlaying_5 : decode cX6_isPlaying 5 = .ok (.aload_n 0, 1) := dk_42 (dk_at dksX6_isPlaying_0 5 rfl rfl)
theorem dX6_isPlaying_6 : decode cX6_isPlaying 6 = .ok (.getfield 25, 3) := dk_180 0 25 (dk_at dksX6_isPlaying_0 6 rfl rfl)
theorem dX6_isPlaying_9 : decode cX6_isPlaying 9 = .ok (.getfield 122, 3) := dk_180 0 122 (dk_at dksX6_isPlaying_0 9 rfl rfl)
theorem dX6_isPlaying_12 : decode cX6_isPlaying 12 = .ok (.ireturn, 1) := dk_172 (dk_at dksX6_isPlaying_0 12 rfl rfl)
abbrev cX6_step : ByteArray := prog_7_method_45_code
def yX6_step : MethodName := ⟨RX6, "step", "()I"⟩
def dkwX6_step_0 : List UInt8 := [42, 42, 182, 0, 132, 182, 0, 138, 172]
abbrev dktX6_step_0 : List UInt8 := dkwX6_step_0 ++ []
theorem dksX6_step_0 : cX6_step.data.toList.drop 0 = dktX6_step_0 := by decide +kernel
theorem dX6_step_0 : decode cX6_step 0 = .ok (.aload_n 0, 1) := dk_42 (dk_at dksX6_step_0 0 rfl rfl)
theorem dX6_step_1 : decode cX6_step 1 = .ok (.aload_n 0, 1) := dk_42 (dk_at dksX6_step_0 1 rfl rfl)
theorem dX6_step_2 : decode cX6_step 2 = .ok (.invokevirtual 132, 3) := dk_182 0 132 (dk_at dksX6_step_0 2 rfl rfl)
theorem dX6_step_5 : decode cX6_step 5 = .ok (.invokevirtual 138, 3) := dk_182 0 138 (dk_at dksX6_step_0 5 rfl rfl)
theorem dX6_step_8 : decode cX6_step 8 = .ok (.ireturn, 1) := dk_172 (dk_at dksX6_step_0 8 rfl rfl)
abbrev cX6_ofStep : ByteArray := prog_7_method_46_code
def yX6_ofStep : MethodName := ⟨RX6, "ofStep", "(III)I"⟩
def dkwX6_ofStep_2 : List UInt8 := [28, 96, 6, 104, 29, 96, 46, 167, 0, 8, 42, 5, 182, 0, 39, 172]
abbrev dktX6_ofStep_2 : List UInt8 := dkwX6_ofStep_2 ++ []
def dkwX6_ofStep_1 : List UInt8 := [182, 0, 39, 172, 29, 3, 5, 184, 0, 35, 153, 0, 24, 42, 180, 0, 25, 180, 0, 110, 27, 16, 8, 104]
abbrev dktX6_ofStep_1 : List UInt8 := dkwX6_ofStep_1 ++ dktX6_ofStep_2
def dkwX6_ofStep_0 : List UInt8 := [42, 3, 181, 0, 31, 27, 3, 5, 184, 0, 35, 153, 0, 10, 28, 184, 0, 107, 154, 0, 9, 42, 4]
abbrev dktX6_ofStep_0 : List UInt8 := dkwX6_ofStep_0 ++ dktX6_ofStep_1
theorem dksX6_ofStep_0 : cX6_ofStep.data.toList.drop 0 = dktX6_ofStep_0 := by decide +kernel
theorem dksX6_ofStep_1 : cX6_ofStep.data.toList.drop 23 = dktX6_ofStep_1 := dk_seg dksX6_ofStep_0 23 rfl rfl
theorem dksX6_ofStep_2 : cX6_ofStep.data.toList.drop 47 = dktX6_ofStep_2 := dk_seg dksX6_ofStep_1 24 rfl rfl
theorem dX6_ofStep_0 : decode cX6_ofStep 0 = .ok (.aload_n 0, 1) := dk_42 (dk_at dksX6_ofStep_0 0 rfl rfl)
theorem dX6_ofStep_1 : decode cX6_ofStep 1 = .ok (.iconst 0, 1) := dk_3 (dk_at dksX6_ofStep_0 1 rfl rfl)
theorem dX6_ofStep_2 : decode cX6_ofStep 2 = .ok (.putfield 31, 3) := dk_181 0 31 (dk_at dksX6_ofStep_0 2 rfl rfl)
theorem dX6_ofStep_5 : decode cX6_ofStep 5 = .ok (.iload_n 1, 1) := dk_27 (dk_at dksX6_ofStep_0 5 rfl rfl)
theorem dX6_ofStep_6 : decode cX6_ofStep 6 = .ok (.iconst 0, 1) := dk_3 (dk_at dksX6_ofStep_0 6 rfl rfl)
theorem dX6_ofStep_7 : decode cX6_ofStep 7 = .ok (.iconst 2, 1) := dk_5 (dk_at dksX6_ofStep_0 7 rfl rfl)
theorem dX6_ofStep_8 : decode cX6_ofStep 8 = .ok (.invokestatic 35, 3) := dk_184 0 35 (dk_at dksX6_ofStep_0 8 rfl rfl)
theorem dX6_ofStep_11 : decode cX6_ofStep 11 = .ok (.ifCond .eq 10, 3) := dk_153 0 10 (dk_at dksX6_ofStep_0 11 rfl rfl)
theorem dX6_ofStep_14 : decode cX6_ofStep 14 = .ok (.iload_n 2, 1) := dk_28 (dk_at dksX6_ofStep_0 14 rfl rfl)
theorem dX6_ofStep_15 : decode cX6_ofStep 15 = .ok (.invokestatic 107, 3) := dk_184 0 107 (dk_at dksX6_ofStep_0 15 rfl rfl)
theorem dX6_ofStep_18 : decode cX6_ofStep 18 = .ok (.ifCond .ne 9, 3) := dk_154 0 9 (dk_at dksX6_ofStep_0 18 rfl rfl)
theorem dX6_ofStep_21 : decode cX6_ofStep 21 = .ok (.aload_n 0, 1) := dk_42 (dk_at dksX6_ofStep_0 21 rfl rfl)
theorem dX6_ofStep_22 : decode cX6_ofStep 22 = .ok (.iconst 1, 1) := dk_4 (dk_at dksX6_ofStep_0 22 rfl rfl)
theorem dX6_ofStep_23 : decode cX6_ofStep 23 = .ok (.invokevirtual 39, 3) := dk_182 0 39 (dk_at dksX6_ofStep_1 0 rfl rfl)
theorem dX6_ofStep_26 : decode cX6_ofStep 26 = .ok (.ireturn, 1) := dk_172 (dk_at dksX6_ofStep_1 3 rfl rfl)
theorem dX6_ofStep_27 : decode cX6_ofStep 27 = .ok (.iload_n 3, 1) := dk_29 (dk_at dksX6_ofStep_1 4 rfl rfl)
theorem dX6_ofStep_28 : decode cX6_ofStep 28 = .ok (.iconst 0, 1) := dk_3 (dk_at dksX6_ofStep_1 5 rfl rfl)
theorem dX6_ofStep_29 : decode cX6_ofStep 29 = .ok (.iconst 2, 1) := dk_5 (dk_at dksX6_ofStep_1 6 rfl rfl)
theorem dX6_ofStep_30 : decode cX6_ofStep 30 = .ok (.invokestatic 35, 3) := dk_184 0 35 (dk_at dksX6_ofStep_1 7 rfl rfl)
theorem dX6_ofStep_33 : decode cX6_ofStep 33 = .ok (.ifCond .eq 24, 3) := dk_153 0 24 (dk_at dksX6_ofStep_1 10 rfl rfl)
theorem dX6_ofStep_36 : decode cX6_ofStep 36 = .ok (.aload_n 0, 1) := dk_42 (dk_at dksX6_ofStep_1 13 rfl rfl)
theorem dX6_ofStep_37 : decode cX6_ofStep 37 = .ok (.getfield 25, 3) := dk_180 0 25 (dk_at dksX6_ofStep_1 14 rfl rfl)
theorem dX6_ofStep_40 : decode cX6_ofStep 40 = .ok (.getfield 110, 3) := dk_180 0 110 (dk_at dksX6_ofStep_1 17 rfl rfl)
theorem dX6_ofStep_43 : decode cX6_ofStep 43 = .ok (.iload_n 1, 1) := dk_27 (dk_at dksX6_ofStep_1 20 rfl rfl)
theorem dX6_ofStep_44 : decode cX6_ofStep 44 = .ok (.bipush 8, 2) := dk_16 8 (dk_at dksX6_ofStep_1 21 rfl rfl)
theorem dX6_ofStep_46 : decode cX6_ofStep 46 = .ok (.imul, 1) := dk_104 (dk_at dksX6_ofStep_1 23 rfl rfl)
theorem dX6_ofStep_47 : decode cX6_ofStep 47 = .ok (.iload_n 2, 1) := dk_28 (dk_at dksX6_ofStep_2 0 rfl rfl)
theorem dX6_ofStep_48 : decode cX6_ofStep 48 = .ok (.iadd, 1) := dk_96 (dk_at dksX6_ofStep_2 1 rfl rfl)
theorem dX6_ofStep_49 : decode cX6_ofStep 49 = .ok (.iconst 3, 1) := dk_6 (dk_at dksX6_ofStep_2 2 rfl rfl)
theorem dX6_ofStep_50 : decode cX6_ofStep 50 = .ok (.imul, 1) := dk_104 (dk_at dksX6_ofStep_2 3 rfl rfl)
theorem dX6_ofStep_51 : decode cX6_ofStep 51 = .ok (.iload_n 3, 1) := dk_29 (dk_at dksX6_ofStep_2 4 rfl rfl)
theorem dX6_ofStep_52 : decode cX6_ofStep 52 = .ok (.iadd, 1) := dk_96 (dk_at dksX6_ofStep_2 5 rfl rfl)
theorem dX6_ofStep_53 : decode cX6_ofStep 53 = .ok (.iaload, 1) := dk_46 (dk_at dksX6_ofStep_2 6 rfl rfl)
theorem dX6_ofStep_54 : decode cX6_ofStep 54 = .ok (.goto 8, 3) := dk_167 0 8 (dk_at dksX6_ofStep_2 7 rfl rfl)
theorem dX6_ofStep_57 : decode cX6_ofStep 57 = .ok (.aload_n 0, 1) := dk_42 (dk_at dksX6_ofStep_2 10 rfl rfl)
theorem dX6_ofStep_58 : decode cX6_ofStep 58 = .ok (.iconst 2, 1) := dk_5 (dk_at dksX6_ofStep_2 11 rfl rfl)
theorem dX6_ofStep_59 : decode cX6_ofStep 59 = .ok (.invokevirtual 39, 3) := dk_182 0 39 (dk_at dksX6_ofStep_2 12 rfl rfl)
theorem dX6_ofStep_62 : decode cX6_ofStep 62 = .ok (.ireturn, 1) := dk_172 (dk_at dksX6_ofStep_2 15 rfl rfl)
abbrev cX6_inDelay : ByteArray := prog_7_method_47_code
def yX6_inDelay : MethodName := ⟨RX6, "inDelay", "(I)I"⟩
def dkwX6_inDelay_1 : List UInt8 := [180, 0, 25, 180, 0, 80, 27, 46, 167, 0, 8, 42, 4, 182, 0, 39, 172]
abbrev dktX6_inDelay_1 : List UInt8 := dkwX6_inDelay_1 ++ []
def dkwX6_inDelay_0 : List UInt8 := [42, 3, 181, 0, 31, 27, 3, 42, 180, 0, 25, 180, 0, 71, 4, 100, 184, 0, 35, 153, 0, 15, 42]
abbrev dktX6_inDelay_0 : List UInt8 := dkwX6_inDelay_0 ++ dktX6_inDelay_1
theorem dksX6_inDelay_0 : cX6_inDelay.data.toList.drop 0 = dktX6_inDelay_0 := by decide +kernel
theorem dksX6_inDelay_1 : cX6_inDelay.data.toList.drop 23 = dktX6_inDelay_1 := dk_seg dksX6_inDelay_0 23 rfl rfl
theorem dX6_inDelay_0 : decode cX6_inDelay 0 = .ok (.aload_n 0, 1) := dk_42 (dk_at dksX6_inDelay_0 0 rfl rfl)
theorem dX6_inDelay_1 : decode cX6_inDelay 1 = .ok (.iconst 0, 1) := dk_3 (dk_at dksX6_inDelay_0 1 rfl rfl)
theorem dX6_inDelay_2 : decode cX6_inDelay 2 = .ok (.putfield 31, 3) := dk_181 0 31 (dk_at dksX6_inDelay_0 2 rfl rfl)
theorem dX6_inDelay_5 : decode cX6_inDelay 5 = .ok (.iload_n 1, 1) := dk_27 (dk_at dksX6_inDelay_0 5 rfl rfl)
theorem dX6_inDelay_6 : decode cX6_inDelay 6 = .ok (.iconst 0, 1) := dk_3 (dk_at dksX6_inDelay_0 6 rfl rfl)
theorem dX6_inDelay_7 : decode cX6_inDelay 7 = .ok (.aload_n 0, 1) := dk_42 (dk_at dksX6_inDelay_0 7 rfl rfl)
theorem dX6_inDelay_8 : decode cX6_inDelay 8 = .ok (.getfield 25, 3) := dk_180 0 25 (dk_at dksX6_inDelay_0 8 rfl rfl)
theorem dX6_inDelay_11 : decode cX6_inDelay 11 = .ok (.getfield 71, 3) := dk_180 0 71 (dk_at dksX6_inDelay_0 11 rfl rfl)
theorem dX6_inDelay_14 : decode cX6_inDelay 14 = .ok (.iconst 1, 1) := dk_4 (dk_at dksX6_inDelay_0 14 rfl rfl)
theorem dX6_inDelay_15 : decode cX6_inDelay 15 = .ok (.isub, 1) := dk_100 (dk_at dksX6_inDelay_0 15 rfl rfl)
theorem dX6_inDelay_16 : decode cX6_inDelay 16 = .ok (.invokestatic 35, 3) := dk_184 0 35 (dk_at dksX6_inDelay_0 16 rfl rfl)
theorem dX6_inDelay_19 : decode cX6_inDelay 19 = .ok (.ifCond .eq 15, 3) := dk_153 0 15 (dk_at dksX6_inDelay_0 19 rfl rfl)
theorem dX6_inDelay_22 : decode cX6_inDelay 22 = .ok (.aload_n 0, 1) := dk_42 (dk_at dksX6_inDelay_0 22 rfl rfl)
theorem dX6_inDelay_23 : decode cX6_inDelay 23 = .ok (.getfield 25, 3) := dk_180 0 25 (dk_at dksX6_inDelay_1 0 rfl rfl)
theorem dX6_inDelay_26 : decode cX6_inDelay 26 = .ok (.getfield 80, 3) := dk_180 0 80 (dk_at dksX6_inDelay_1 3 rfl rfl)
theorem dX6_inDelay_29 : decode cX6_inDelay 29 = .ok (.iload_n 1, 1) := dk_27 (dk_at dksX6_inDelay_1 6 rfl rfl)
theorem dX6_inDelay_30 : decode cX6_inDelay 30 = .ok (.iaload, 1) := dk_46 (dk_at dksX6_inDelay_1 7 rfl rfl)
theorem dX6_inDelay_31 : decode cX6_inDelay 31 = .ok (.goto 8, 3) := dk_167 0 8 (dk_at dksX6_inDelay_1 8 rfl rfl)
theorem dX6_inDelay_34 : decode cX6_inDelay 34 = .ok (.aload_n 0, 1) := dk_42 (dk_at dksX6_inDelay_1 11 rfl rfl)
theorem dX6_inDelay_35 : decode cX6_inDelay 35 = .ok (.iconst 1, 1) := dk_4 (dk_at dksX6_inDelay_1 12 rfl rfl)
theorem dX6_inDelay_36 : decode cX6_inDelay 36 = .ok (.invokevirtual 39, 3) := dk_182 0 39 (dk_at dksX6_inDelay_1 13 rfl rfl)
theorem dX6_inDelay_39 : decode cX6_inDelay 39 = .ok (.ireturn, 1) := dk_172 (dk_at dksX6_inDelay_1 16 rfl rfl)
abbrev cX6_wouldPeak : ByteArray := prog_7_method_48_code
def yX6_wouldPeak : MethodName := ⟨RX6, "wouldPeak", "(I)I"⟩
def dkwX6_wouldPeak_2 : List UInt8 := [184, 0, 194, 184, 0, 7, 62, 132, 4, 1, 167, 255, 235, 29, 172]
abbrev dktX6_wouldPeak_2 : List UInt8 := dkwX6_wouldPeak_2 ++ []
def dkwX6_wouldPeak_1 : List UInt8 := [180, 0, 25, 182, 0, 190, 77, 3, 62, 3, 54, 4, 21, 4, 27, 162, 0, 21, 29, 44, 182, 0, 135]
abbrev dktX6_wouldPeak_1 : List UInt8 := dkwX6_wouldPeak_1 ++ dktX6_wouldPeak_2
def dkwX6_wouldPeak_0 : List UInt8 := [42, 3, 181, 0, 31, 27, 4, 17, 0, 200, 184, 0, 35, 154, 0, 9, 42, 4, 182, 0, 39, 172, 42]
abbrev dktX6_wouldPeak_0 : List UInt8 := dkwX6_wouldPeak_0 ++ dktX6_wouldPeak_1
theorem dksX6_wouldPeak_0 : cX6_wouldPeak.data.toList.drop 0 = dktX6_wouldPeak_0 := by decide +kernel
theorem dksX6_wouldPeak_1 : cX6_wouldPeak.data.toList.drop 23 = dktX6_wouldPeak_1 := dk_seg dksX6_wouldPeak_0 23 rfl rfl
theorem dksX6_wouldPeak_2 : cX6_wouldPeak.data.toList.drop 46 = dktX6_wouldPeak_2 := dk_seg dksX6_wouldPeak_1 23 rfl rfl
theorem dX6_wouldPeak_0 : decode cX6_wouldPeak 0 = .ok (.aload_n 0, 1) := dk_42 (dk_at dksX6_wouldPeak_0 0 rfl rfl)
theorem dX6_wouldPeak_1 : decode cX6_wouldPeak 1 = .ok (.iconst 0, 1) := dk_3 (dk_at dksX6_wouldPeak_0 1 rfl rfl)
theorem dX6_wouldPeak_2 : decode cX6_wouldPeak 2 = .ok (.putfield 31, 3) := dk_181 0 31 (dk_at dksX6_wouldPeak_0 2 rfl rfl)
theorem dX6_wouldPeak_5 : decode cX6_wouldPeak 5 = .ok (.iload_n 1, 1) := dk_27 (dk_at dksX6_wouldPeak_0 5 rfl rfl)
theorem dX6_wouldPeak_6 : decode cX6_wouldPeak 6 = .ok (.iconst 1, 1) := dk_4 (dk_at dksX6_wouldPeak_0 6 rfl rfl)
theorem dX6_wouldPeak_7 : decode cX6_wouldPeak 7 = .ok (.sipush 200, 3) := dk_17 0 200 (dk_at dksX6_wouldPeak_0 7 rfl rfl)
theorem dX6_wouldPeak_10 : decode cX6_wouldPeak 10 = .ok (.invokestatic 35, 3) := dk_184 0 35 (dk_at dksX6_wouldPeak_0 10 rfl rfl)
theorem dX6_wouldPeak_13 : decode cX6_wouldPeak 13 = .ok (.ifCond .ne 9, 3) := dk_154 0 9 (dk_at dksX6_wouldPeak_0 13 rfl rfl)
theorem dX6_wouldPeak_16 : decode cX6_wouldPeak 16 = .ok (.aload_n 0, 1) := dk_42 (dk_at dksX6_wouldPeak_0 16 rfl rfl)
theorem dX6_wouldPeak_17 : decode cX6_wouldPeak 17 = .ok (.iconst 1, 1) := dk_4 (dk_at dksX6_wouldPeak_0 17 rfl rfl)
theorem dX6_wouldPeak_18 : decode cX6_wouldPeak 18 = .ok (.invokevirtual 39, 3) := dk_182 0 39 (dk_at dksX6_wouldPeak_0 18 rfl rfl)
theorem dX6_wouldPeak_21 : decode cX6_wouldPeak 21 = .ok (.ireturn, 1) := dk_172 (dk_at dksX6_wouldPeak_0 21 rfl rfl)
theorem dX6_wouldPeak_22 : decode cX6_wouldPeak 22 = .ok (.aload_n 0, 1) := dk_42 (dk_at dksX6_wouldPeak_0 22 rfl rfl)
theorem dX6_wouldPeak_23 : decode cX6_wouldPeak 23 = .ok (.getfield 25, 3) := dk_180 0 25 (dk_at dksX6_wouldPeak_1 0 rfl rfl)
theorem dX6_wouldPeak_26 : decode cX6_wouldPeak 26 = .ok (.invokevirtual 190, 3) := dk_182 0 190 (dk_at dksX6_wouldPeak_1 3 rfl rfl)
theorem dX6_wouldPeak_29 : decode cX6_wouldPeak 29 = .ok (.astore_n 2, 1) := dk_77 (dk_at dksX6_wouldPeak_1 6 rfl rfl)
theorem dX6_wouldPeak_30 : decode cX6_wouldPeak 30 = .ok (.iconst 0, 1) := dk_3 (dk_at dksX6_wouldPeak_1 7 rfl rfl)
theorem dX6_wouldPeak_31 : decode cX6_wouldPeak 31 = .ok (.istore_n 3, 1) := dk_62 (dk_at dksX6_wouldPeak_1 8 rfl rfl)
theorem dX6_wouldPeak_32 : decode cX6_wouldPeak 32 = .ok (.iconst 0, 1) := dk_3 (dk_at dksX6_wouldPeak_1 9 rfl rfl)
theorem dX6_wouldPeak_33 : decode cX6_wouldPeak 33 = .ok (.istore 4, 2) := dk_54 4 (dk_at dksX6_wouldPeak_1 10 rfl rfl)
theorem dX6_wouldPeak_35 : decode cX6_wouldPeak 35 = .ok (.iload 4, 2) := dk_21 4 (dk_at dksX6_wouldPeak_1 12 rfl rfl)
theorem dX6_wouldPeak_37 : decode cX6_wouldPeak 37 = .ok (.iload_n 1, 1) := dk_27 (dk_at dksX6_wouldPeak_1 14 rfl rfl)
theorem dX6_wouldPeak_38 : decode cX6_wouldPeak 38 = .ok (.if_icmp .ge 21, 3) := dk_162 0 21 (dk_at dksX6_wouldPeak_1 15 rfl rfl)
theorem dX6_wouldPeak_41 : decode cX6_wouldPeak 41 = .ok (.iload_n 3, 1) := dk_29 (dk_at dksX6_wouldPeak_1 18 rfl rfl)
theorem dX6_wouldPeak_42 : decode cX6_wouldPeak 42 = .ok (.aload_n 2, 1) := dk_44 (dk_at dksX6_wouldPeak_1 19 rfl rfl)
theorem dX6_wouldPeak_43 : decode cX6_wouldPeak 43 = .ok (.invokevirtual 135, 3) := dk_182 0 135 (dk_at dksX6_wouldPeak_1 20 rfl rfl)
theorem dX6_wouldPeak_46 : decode cX6_wouldPeak 46 = .ok (.invokestatic 194, 3) := dk_184 0 194 (dk_at dksX6_wouldPeak_2 0 rfl rfl)
theorem dX6_wouldPeak_49 : decode cX6_wouldPeak 49 = .ok (.invokestatic 7, 3) := dk_184 0 7 (dk_at dksX6_wouldPeak_2 3 rfl rfl)
theorem dX6_wouldPeak_52 : decode cX6_wouldPeak 52 = .ok (.istore_n 3, 1) := dk_62 (dk_at dksX6_wouldPeak_2 6 rfl rfl)
theorem dX6_wouldPeak_53 : decode cX6_wouldPeak 53 = .ok (.iinc 4 1, 3) := dk_132 4 1 (dk_at dksX6_wouldPeak_2 7 rfl rfl)
theorem dX6_wouldPeak_56 : decode cX6_wouldPeak 56 = .ok (.goto (-21), 3) := dk_167 255 235 (dk_at dksX6_wouldPeak_2 10 rfl rfl)
theorem dX6_wouldPeak_59 : decode cX6_wouldPeak 59 = .ok (.iload_n 3, 1) := dk_29 (dk_at dksX6_wouldPeak_2 13 rfl rfl)
theorem dX6_wouldPeak_60 : decode cX6_wouldPeak 60 = .ok (.ireturn, 1) := dk_172 (dk_at dksX6_wouldPeak_2 14 rfl rfl)
abbrev cX6_put_2 : ByteArray := prog_7_method_3_code
def yX6_put_2 : MethodName := ⟨RX6, "put", "([I[I)V"⟩
def dkwX6_put_2_0 : List UInt8 := [42, 3, 43, 3, 42, 190, 184, 0, 10, 177]
abbrev dktX6_put_2_0 : List UInt8 := dkwX6_put_2_0 ++ []
theorem dksX6_put_2_0 : cX6_put_2.data.toList.drop 0 = dktX6_put_2_0 := by decide +kernel
theorem dX6_put_2_0 : decode cX6_put_2 0 = .ok (.aload_n 0, 1) := dk_42 (dk_at dksX6_put_2_0 0 rfl rfl)
theorem dX6_put_2_1 : decode cX6_put_2 1 = .ok (.iconst 0, 1) := dk_3 (dk_at dksX6_put_2_0 1 rfl rfl)
theorem dX6_put_2_2 : decode cX6_put_2 2 = .ok (.aload_n 1, 1) := dk_43 (dk_at dksX6_put_2_0 2 rfl rfl)
theorem dX6_put_2_3 : decode cX6_put_2 3 = .ok (.iconst 0, 1) := dk_3 (dk_at dksX6_put_2_0 3 rfl rfl)
theorem dX6_put_2_4 : decode cX6_put_2 4 = .ok (.aload_n 0, 1) := dk_42 (dk_at dksX6_put_2_0 4 rfl rfl)
theorem dX6_put_2_5 : decode cX6_put_2 5 = .ok (.arraylength, 1) := dk_190 (dk_at dksX6_put_2_0 5 rfl rfl)
theorem dX6_put_2_6 : decode cX6_put_2 6 = .ok (.invokestatic 10, 3) := dk_184 0 10 (dk_at dksX6_put_2_0 6 rfl rfl)
theorem dX6_put_2_9 : decode cX6_put_2 9 = .ok (.return_, 1) := dk_177 (dk_at dksX6_put_2_0 9 rfl rfl)
abbrev cX6_silentIn : ByteArray := prog_7_method_49_code
def yX6_silentIn : MethodName := ⟨RX6, "silentIn", "(I)I"⟩
def dkwX6_silentIn_2 : List UInt8 := [27, 162, 0, 8, 44, 182, 0, 135, 87, 132, 3, 1, 167, 255, 229, 2, 172]
abbrev dktX6_silentIn_2 : List UInt8 := dkwX6_silentIn_2 ++ []
def dkwX6_silentIn_1 : List UInt8 := [180, 0, 25, 182, 0, 190, 77, 3, 62, 29, 27, 163, 0, 28, 44, 182, 0, 97, 154, 0, 5, 29, 172, 29]
abbrev dktX6_silentIn_1 : List UInt8 := dkwX6_silentIn_1 ++ dktX6_silentIn_2
def dkwX6_silentIn_0 : List UInt8 := [42, 3, 181, 0, 31, 27, 4, 17, 0, 200, 184, 0, 35, 154, 0, 9, 42, 4, 182, 0, 39, 172, 42]
abbrev dktX6_silentIn_0 : List UInt8 := dkwX6_silentIn_0 ++ dktX6_silentIn_1
theorem dksX6_silentIn_0 : cX6_silentIn.data.toList.drop 0 = dktX6_silentIn_0 := by decide +kernel
theorem dksX6_silentIn_1 : cX6_silentIn.data.toList.drop 23 = dktX6_silentIn_1 := dk_seg dksX6_silentIn_0 23 rfl rfl
theorem dksX6_silentIn_2 : cX6_silentIn.data.toList.drop 47 = dktX6_silentIn_2 := dk_seg dksX6_silentIn_1 24 rfl rfl
theorem dX6_silentIn_0 : decode cX6_silentIn 0 = .ok (.aload_n 0, 1) := dk_42 (dk_at dksX6_silentIn_0 0 rfl rfl)
theorem dX6_silentIn_1 : decode cX6_silentIn 1 = .ok (.iconst 0, 1) := dk_3 (dk_at dksX6_silentIn_0 1 rfl rfl)
theorem dX6_silentIn_2 : decode cX6_silentIn 2 = .ok (.putfield 31, 3) := dk_181 0 31 (dk_at dksX6_silentIn_0 2 rfl rfl)
theorem dX6_silentIn_5 : decode cX6_silentIn 5 = .ok (.iload_n 1, 1) := dk_27 (dk_at dksX6_silentIn_0 5 rfl rfl)
theorem dX6_silentIn_6 : decode cX6_silentIn 6 = .ok (.iconst 1, 1) := dk_4 (dk_at dksX6_silentIn_0 6 rfl rfl)
theorem dX6_silentIn_7 : decode cX6_silentIn 7 = .ok (.sipush 200, 3) := dk_17 0 200 (dk_at dksX6_silentIn_0 7 rfl rfl)
theorem dX6_silentIn_10 : decode cX6_silentIn 10 = .ok (.invokestatic 35, 3) := dk_184 0 35 (dk_at dksX6_silentIn_0 10 rfl rfl)
theorem dX6_silentIn_13 : decode cX6_silentIn 13 = .ok (.ifCond .ne 9, 3) := dk_154 0 9 (dk_at dksX6_silentIn_0 13 rfl rfl)
theorem dX6_silentIn_16 : decode cX6_silentIn 16 = .ok (.aload_n 0, 1) := dk_42 (dk_at dksX6_silentIn_0 16 rfl rfl)
theorem dX6_silentIn_17 : decode cX6_silentIn 17 = .ok (.iconst 1, 1) := dk_4 (dk_at dksX6_silentIn_0 17 rfl rfl)
theorem dX6_silentIn_18 : decode cX6_silentIn 18 = .ok (.invokevirtual 39, 3) := dk_182 0 39 (dk_at dksX6_silentIn_0 18 rfl rfl)
theorem dX6_silentIn_21 : decode cX6_silentIn 21 = .ok (.ireturn, 1) := dk_172 (dk_at dksX6_silentIn_0 21 rfl rfl)
theorem dX6_silentIn_22 : decode cX6_silentIn 22 = .ok (.aload_n 0, 1) := dk_42 (dk_at dksX6_silentIn_0 22 rfl rfl)
theorem dX6_silentIn_23 : decode cX6_silentIn 23 = .ok (.getfield 25, 3) := dk_180 0 25 (dk_at dksX6_silentIn_1 0 rfl rfl)
theorem dX6_silentIn_26 : decode cX6_silentIn 26 = .ok (.invokevirtual 190, 3) := dk_182 0 190 (dk_at dksX6_silentIn_1 3 rfl rfl)
theorem dX6_silentIn_29 : decode cX6_silentIn 29 = .ok (.astore_n 2, 1) := dk_77 (dk_at dksX6_silentIn_1 6 rfl rfl)
theorem dX6_silentIn_30 : decode cX6_silentIn 30 = .ok (.iconst 0, 1) := dk_3 (dk_at dksX6_silentIn_1 7 rfl rfl)
theorem dX6_silentIn_31 : decode cX6_silentIn 31 = .ok (.istore_n 3, 1) := dk_62 (dk_at dksX6_silentIn_1 8 rfl rfl)
theorem dX6_silentIn_32 : decode cX6_silentIn 32 = .ok (.iload_n 3, 1) := dk_29 (dk_at dksX6_silentIn_1 9 rfl rfl)
theorem dX6_silentIn_33 : decode cX6_silentIn 33 = .ok (.iload_n 1, 1) := dk_27 (dk_at dksX6_silentIn_1 10 rfl rfl)
theorem dX6_silentIn_34 : decode cX6_silentIn 34 = .ok (.if_icmp .gt 28, 3) := dk_163 0 28 (dk_at dksX6_silentIn_1 11 rfl rfl)
theorem dX6_silentIn_37 : decode cX6_silentIn 37 = .ok (.aload_n 2, 1) := dk_44 (dk_at dksX6_silentIn_1 14 rfl rfl)
theorem dX6_silentIn_38 : decode cX6_silentIn 38 = .ok (.invokevirtual 97, 3) := dk_182 0 97 (dk_at dksX6_silentIn_1 15 rfl rfl)
theorem dX6_silentIn_41 : decode cX6_silentIn 41 = .ok (.ifCond .ne 5, 3) := dk_154 0 5 (dk_at dksX6_silentIn_1 18 rfl rfl)
theorem dX6_silentIn_44 : decode cX6_silentIn 44 = .ok (.iload_n 3, 1) := dk_29 (dk_at dksX6_silentIn_1 21 rfl rfl)
theorem dX6_silentIn_45 : decode cX6_silentIn 45 = .ok (.ireturn, 1) := dk_172 (dk_at dksX6_silentIn_1 22 rfl rfl)
theorem dX6_silentIn_46 : decode cX6_silentIn 46 = .ok (.iload_n 3, 1) := dk_29 (dk_at dksX6_silentIn_1 23 rfl rfl)
theorem dX6_silentIn_47 : decode cX6_silentIn 47 = .ok (.iload_n 1, 1) := dk_27 (dk_at dksX6_silentIn_2 0 rfl rfl)
theorem dX6_silentIn_48 : decode cX6_silentIn 48 = .ok (.if_icmp .ge 8, 3) := dk_162 0 8 (dk_at dksX6_silentIn_2 1 rfl rfl)
theorem dX6_silentIn_51 : decode cX6_silentIn 51 = .ok (.aload_n 2, 1) := dk_44 (dk_at dksX6_silentIn_2 4 rfl rfl)
theorem dX6_silentIn_52 : decode cX6_silentIn 52 = .ok (.invokevirtual 135, 3) := dk_182 0 135 (dk_at dksX6_silentIn_2 5 rfl rfl)
theorem dX6_silentIn_55 : decode cX6_silentIn 55 = .ok (.pop, 1) := dk_87 (dk_at dksX6_silentIn_2 8 rfl rfl)
theorem dX6_silentIn_56 : decode cX6_silentIn 56 = .ok (.iinc 3 1, 3) := dk_132 3 1 (dk_at dksX6_silentIn_2 9 rfl rfl)
theorem dX6_silentIn_59 : decode cX6_silentIn 59 = .ok (.goto (-27), 3) := dk_167 255 229 (dk_at dksX6_silentIn_2 12 rfl rfl)
theorem dX6_silentIn_62 : decode cX6_silentIn 62 = .ok (.iconst (-1), 1) := dk_2 (dk_at dksX6_silentIn_2 15 rfl rfl)
theorem dX6_silentIn_63 : decode cX6_silentIn 63 = .ok (.ireturn, 1) := dk_172 (dk_at dksX6_silentIn_2 16 rfl rfl)
abbrev cX6_nextVoice : ByteArray := prog_7_method_50_code
def yX6_nextVoice : MethodName := ⟨RX6, "nextVoice", "()I"⟩
def dkwX6_nextVoice_0 : List UInt8 := [42, 42, 180, 0, 25, 182, 0, 197, 182, 0, 138, 172]
abbrev dktX6_nextVoice_0 : List UInt8 := dkwX6_nextVoice_0 ++ []
theorem dksX6_nextVoice_0 : cX6_nextVoice.data.toList.drop 0 = dktX6_nextVoice_0 := by decide +kernel
theorem dX6_nextVoice_0 : decode cX6_nextVoice 0 = .ok (.aload_n 0, 1) := dk_42 (dk_at dksX6_nextVoice_0 0 rfl rfl)
theorem dX6_nextVoice_1 : decode cX6_nextVoice 1 = .ok (.aload_n 0, 1) := dk_42 (dk_at dksX6_nextVoice_0 1 rfl rfl)
theorem dX6_nextVoice_2 : decode cX6_nextVoice 2 = .ok (.getfield 25, 3) := dk_180 0 25 (dk_at dksX6_nextVoice_0 2 rfl rfl)
theorem dX6_nextVoice_5 : decode cX6_nextVoice 5 = .ok (.invokevirtual 197, 3) := dk_182 0 197 (dk_at dksX6_nextVoice_0 5 rfl rfl)
theorem dX6_nextVoice_8 : decode cX6_nextVoice 8 = .ok (.invokevirtual 138, 3) := dk_182 0 138 (dk_at dksX6_nextVoice_0 8 rfl rfl)
theorem dX6_nextVoice_11 : decode cX6_nextVoice 11 = .ok (.ireturn, 1) := dk_172 (dk_at dksX6_nextVoice_0 11 rfl rfl)
abbrev cX6_digest : ByteArray := prog_7_method_51_code
def yX6_digest : MethodName := ⟨RX6, "digest", "()J"⟩
def dkwX6_digest_12 : List UInt8 := [132, 3, 1, 167, 255, 225, 31, 173]
abbrev dktX6_digest_12 : List UInt8 := dkwX6_digest_12 ++ []
def dkwX6_digest_11 : List UInt8 := [180, 0, 71, 162, 0, 26, 31, 20, 0, 202, 105, 42, 180, 0, 25, 180, 0, 80, 29, 46, 133, 97, 64]
abbrev dktX6_digest_11 : List UInt8 := dkwX6_digest_11 ++ dktX6_digest_12
def dkwX6_digest_10 : List UInt8 := [31, 20, 0, 202, 105, 21, 6, 133, 97, 64, 132, 5, 1, 167, 255, 230, 3, 62, 29, 42, 180, 0, 25]
abbrev dktX6_digest_10 : List UInt8 := dkwX6_digest_10 ++ dktX6_digest_11
def dkwX6_digest_9 : List UInt8 := [180, 0, 110, 78, 45, 190, 54, 4, 3, 54, 5, 21, 5, 21, 4, 162, 0, 25, 45, 21, 5, 46, 54, 6]
abbrev dktX6_digest_9 : List UInt8 := dkwX6_digest_9 ++ dktX6_digest_10
def dkwX6_digest_8 : List UInt8 := [21, 4, 182, 0, 184, 133, 97, 64, 132, 4, 1, 167, 255, 231, 132, 3, 1, 167, 255, 217, 42, 180, 0, 25]
abbrev dktX6_digest_8 : List UInt8 := dkwX6_digest_8 ++ dktX6_digest_9
def dkwX6_digest_7 : List UInt8 := [3, 62, 29, 7, 162, 0, 40, 3, 54, 4, 21, 4, 16, 10, 162, 0, 24, 31, 20, 0, 202, 105, 42, 29]
abbrev dktX6_digest_7 : List UInt8 := dkwX6_digest_7 ++ dktX6_digest_8
def dkwX6_digest_6 : List UInt8 := [20, 0, 202, 105, 42, 182, 0, 132, 133, 97, 20, 0, 202, 105, 42, 180, 0, 25, 182, 0, 197, 133, 97, 64]
abbrev dktX6_digest_6 : List UInt8 := dkwX6_digest_6 ++ dktX6_digest_7
def dkwX6_digest_5 : List UInt8 := [97, 20, 0, 202, 105, 42, 180, 0, 25, 180, 0, 122, 153, 0, 7, 4, 167, 0, 4, 3, 133, 97]
abbrev dktX6_digest_5 : List UInt8 := dkwX6_digest_5 ++ dktX6_digest_6
def dkwX6_digest_4 : List UInt8 := [105, 42, 180, 0, 25, 182, 0, 97, 133, 97, 64, 31, 20, 0, 202, 105, 42, 180, 0, 25, 180, 0, 187, 133]
abbrev dktX6_digest_4 : List UInt8 := dkwX6_digest_4 ++ dktX6_digest_5
def dkwX6_digest_3 : List UInt8 := [180, 0, 25, 180, 0, 157, 133, 97, 20, 0, 202, 105, 42, 180, 0, 25, 180, 0, 160, 133, 97, 20, 0, 202]
abbrev dktX6_digest_3 : List UInt8 := dkwX6_digest_3 ++ dktX6_digest_4
def dkwX6_digest_2 : List UInt8 := [167, 255, 230, 31, 20, 0, 202, 105, 42, 180, 0, 25, 180, 0, 147, 133, 97, 20, 0, 202, 105, 42]
abbrev dktX6_digest_2 : List UInt8 := dkwX6_digest_2 ++ dktX6_digest_3
def dkwX6_digest_1 : List UInt8 := [162, 0, 26, 31, 20, 0, 202, 105, 42, 180, 0, 25, 180, 0, 141, 29, 46, 133, 97, 64, 132, 3, 1]
abbrev dktX6_digest_1 : List UInt8 := dkwX6_digest_1 ++ dktX6_digest_2
def dkwX6_digest_0 : List UInt8 := [42, 3, 181, 0, 31, 20, 0, 200, 42, 180, 0, 25, 180, 0, 144, 133, 97, 64, 3, 62, 29, 16, 8]
abbrev dktX6_digest_0 : List UInt8 := dkwX6_digest_0 ++ dktX6_digest_1
theorem dksX6_digest_0 : cX6_digest.data.toList.drop 0 = dktX6_digest_0 := by decide +kernel
theorem dksX6_digest_1 : cX6_digest.data.toList.drop 23 = dktX6_digest_1 := dk_seg dksX6_digest_0 23 rfl rfl
theorem dksX6_digest_2 : cX6_digest.data.toList.drop 46 = dktX6_digest_2 := dk_seg dksX6_digest_1 23 rfl rfl
theorem dksX6_digest_3 : cX6_digest.data.toList.drop 68 = dktX6_digest_3 := dk_seg dksX6_digest_2 22 rfl rfl
theorem dksX6_digest_4 : cX6_digest.data.toList.drop 92 = dktX6_digest_4 := dk_seg dksX6_digest_3 24 rfl rfl
theorem dksX6_digest_5 : cX6_digest.data.toList.drop 116 = dktX6_digest_5 := dk_seg dksX6_digest_4 24 rfl rfl
theorem dksX6_digest_6 : cX6_digest.data.toList.drop 138 = dktX6_digest_6 := dk_seg dksX6_digest_5 22 rfl rfl
theorem dksX6_digest_7 : cX6_digest.data.toList.drop 162 = dktX6_digest_7 := dk_seg dksX6_digest_6 24 rfl rfl
theorem dksX6_digest_8 : cX6_digest.data.toList.drop 186 = dktX6_digest_8 := dk_seg dksX6_digest_7 24 rfl rfl
theorem dksX6_digest_9 : cX6_digest.data.toList.drop 210 = dktX6_digest_9 := dk_seg dksX6_digest_8 24 rfl rfl
theorem dksX6_digest_10 : cX6_digest.data.toList.drop 234 = dktX6_digest_10 := dk_seg dksX6_digest_9 24 rfl rfl
theorem dksX6_digest_11 : cX6_digest.data.toList.drop 257 = dktX6_digest_11 := dk_seg dksX6_digest_10 23 rfl rfl
theorem dksX6_digest_12 : cX6_digest.data.toList.drop 280 = dktX6_digest_12 := dk_seg dksX6_digest_11 23 rfl rfl
theorem dX6_digest_0 : decode cX6_digest 0 = .ok (.aload_n 0, 1) := dk_42 (dk_at dksX6_digest_0 0 rfl rfl)
theorem dX6_digest_1 : decode cX6_digest 1 = .ok (.iconst 0, 1) := dk_3 (dk_at dksX6_digest_0 1 rfl rfl)
theorem dX6_digest_2 : decode cX6_digest 2 = .ok (.putfield 31, 3) := dk_181 0 31 (dk_at dksX6_digest_0 2 rfl rfl)
theorem dX6_digest_5 : decode cX6_digest 5 = .ok (.ldc2_w 200, 3) := dk_20 0 200 (dk_at dksX6_digest_0 5 rfl rfl)
theorem dX6_digest_8 : decode cX6_digest 8 = .ok (.aload_n 0, 1) := dk_42 (dk_at dksX6_digest_0 8 rfl rfl)
theorem dX6_digest_9 : decode cX6_digest 9 = .ok (.getfield 25, 3) := dk_180 0 25 (dk_at dksX6_digest_0 9 rfl rfl)
theorem dX6_digest_12 : decode cX6_digest 12 = .ok (.getfield 144, 3) := dk_180 0 144 (dk_at dksX6_digest_0 12 rfl rfl)
theorem dX6_digest_15 : decode cX6_digest 15 = .ok (.i2l, 1) := dk_133 (dk_at dksX6_digest_0 15 rfl rfl)
theorem dX6_digest_16 : decode cX6_digest 16 = .ok (.ladd, 1) := dk_97 (dk_at dksX6_digest_0 16 rfl rfl)
theorem dX6_digest_17 : decode cX6_digest 17 = .ok (.lstore_n 1, 1) := dk_64 (dk_at dksX6_digest_0 17 rfl rfl)
theorem dX6_digest_18 : decode cX6_digest 18 = .ok (.iconst 0, 1) := dk_3 (dk_at dksX6_digest_0 18 rfl rfl)
theorem dX6_digest_19 : decode cX6_digest 19 = .ok (.istore_n 3, 1) := dk_62 (dk_at dksX6_digest_0 19 rfl rfl)
theorem dX6_digest_20 : decode cX6_digest 20 = .ok (.iload_n 3, 1) := dk_29 (dk_at dksX6_digest_0 20 rfl rfl)
theorem dX6_digest_21 : decode cX6_digest 21 = .ok (.bipush 8, 2) := dk_16 8 (dk_at dksX6_digest_0 21 rfl rfl)
theorem dX6_digest_23 : decode cX6_digest 23 = .ok (.if_icmp .ge 26, 3) := dk_162 0 26 (dk_at dksX6_digest_1 0 rfl rfl)
theorem dX6_digest_26 : decode cX6_digest 26 = .ok (.lload_n 1, 1) := dk_31 (dk_at dksX6_digest_1 3 rfl rfl)
theorem dX6_digest_27 : decode cX6_digest 27 = .ok (.ldc2_w 202, 3) := dk_20 0 202 (dk_at dksX6_digest_1 4 rfl rfl)
theorem dX6_digest_30 : decode cX6_digest 30 = .ok (.lmul, 1) := dk_105 (dk_at dksX6_digest_1 7 rfl rfl)
theorem dX6_digest_31 : decode cX6_digest 31 = .ok (.aload_n 0, 1) := dk_42 (dk_at dksX6_digest_1 8 rfl rfl)
theorem dX6_digest_32 : decode cX6_digest 32 = .ok (.getfield 25, 3) := dk_180 0 25 (dk_at dksX6_digest_1 9 rfl rfl)
theorem dX6_digest_35 : decode cX6_digest 35 = .ok (.getfield 141, 3) := dk_180 0 141 (dk_at dksX6_digest_1 12 rfl rfl)
theorem dX6_digest_38 : decode cX6_digest 38 = .ok (.iload_n 3, 1) := dk_29 (dk_at dksX6_digest_1 15 rfl rfl)
theorem dX6_digest_39 : decode cX6_digest 39 = .ok (.iaload, 1) := dk_46 (dk_at dksX6_digest_1 16 rfl rfl)
theorem dX6_digest_40 : decode cX6_digest 40 = .ok (.i2l, 1) := dk_133 (dk_at dksX6_digest_1 17 rfl rfl)
theorem dX6_digest_41 : decode cX6_digest 41 = .ok (.ladd, 1) := dk_97 (dk_at dksX6_digest_1 18 rfl rfl)
theorem dX6_digest_42 : decode cX6_digest 42 = .ok (.lstore_n 1, 1) := dk_64 (dk_at dksX6_digest_1 19 rfl rfl)
theorem dX6_digest_43 : decode cX6_digest 43 = .ok (.iinc 3 1, 3) := dk_132 3 1 (dk_at dksX6_digest_1 20 rfl rfl)
theorem dX6_digest_46 : decode cX6_digest 46 = .ok (.goto (-26), 3) := dk_167 255 230 (dk_at dksX6_digest_2 0 rfl rfl)
theorem dX6_digest_49 : decode cX6_digest 49 = .ok (.lload_n 1, 1) := dk_31 (dk_at dksX6_digest_2 3 rfl rfl)
theorem dX6_digest_50 : decode cX6_digest 50 = .ok (.ldc2_w 202, 3) := dk_20 0 202 (dk_at dksX6_digest_2 4 rfl rfl)
theorem dX6_digest_53 : decode cX6_digest 53 = .ok (.lmul, 1) := dk_105 (dk_at dksX6_digest_2 7 rfl rfl)
theorem dX6_digest_54 : decode cX6_digest 54 = .ok (.aload_n 0, 1) := dk_42 (dk_at dksX6_digest_2 8 rfl rfl)
theorem dX6_digest_55 : decode cX6_digest 55 = .ok (.getfield 25, 3) := dk_180 0 25 (dk_at dksX6_digest_2 9 rfl rfl)
theorem dX6_digest_58 : decode cX6_digest 58 = .ok (.getfield 147, 3) := dk_180 0 147 (dk_at dksX6_digest_2 12 rfl rfl)
theorem dX6_digest_61 : decode cX6_digest 61 = .ok (.i2l, 1) := dk_133 (dk_at dksX6_digest_2 15 rfl rfl)
theorem dX6_digest_62 : decode cX6_digest 62 = .ok (.ladd, 1) := dk_97 (dk_at dksX6_digest_2 16 rfl rfl)
theorem dX6_digest_63 : decode cX6_digest 63 = .ok (.ldc2_w 202, 3) := dk_20 0 202 (dk_at dksX6_digest_2 17 rfl rfl)
theorem dX6_digest_66 : decode cX6_digest 66 = .ok (.lmul, 1) := dk_105 (dk_at dksX6_digest_2 20 rfl rfl)
theorem dX6_digest_67 : decode cX6_digest 67 = .ok (.aload_n 0, 1) := dk_42 (dk_at dksX6_digest_2 21 rfl rfl)
theorem dX6_digest_68 : decode cX6_digest 68 = .ok (.getfield 25, 3) := dk_180 0 25 (dk_at dksX6_digest_3 0 rfl rfl)
theorem dX6_digest_71 : decode cX6_digest 71 = .ok (.getfield 157, 3) := dk_180 0 157 (dk_at dksX6_digest_3 3 rfl rfl)
theorem dX6_digest_74 : decode cX6_digest 74 = .ok (.i2l, 1) := dk_133 (dk_at dksX6_digest_3 6 rfl rfl)
theorem dX6_digest_75 : decode cX6_digest 75 = .ok (.ladd, 1) := dk_97 (dk_at dksX6_digest_3 7 rfl rfl)
theorem dX6_digest_76 : decode cX6_digest 76 = .ok (.ldc2_w 202, 3) := dk_20 0 202 (dk_at dksX6_digest_3 8 rfl rfl)
theorem dX6_digest_79 : decode cX6_digest 79 = .ok (.lmul, 1) := dk_105 (dk_at dksX6_digest_3 11 rfl rfl)
theorem dX6_digest_80 : decode cX6_digest 80 = .ok (.aload_n 0, 1) := dk_42 (dk_at dksX6_digest_3 12 rfl rfl)
theorem dX6_digest_81 : decode cX6_digest 81 = .ok (.getfield 25, 3) := dk_180 0 25 (dk_at dksX6_digest_3 13 rfl rfl)
theorem dX6_digest_84 : decode cX6_digest 84 = .ok (.getfield 160, 3) := dk_180 0 160 (dk_at dksX6_digest_3 16 rfl rfl)
theorem dX6_digest_87 : decode cX6_digest 87 = .ok (.i2l, 1) := dk_133 (dk_at dksX6_digest_3 19 rfl rfl)
theorem dX6_digest_88 : decode cX6_digest 88 = .ok (.ladd, 1) := dk_97 (dk_at dksX6_digest_3 20 rfl rfl)
theorem dX6_digest_89 : decode cX6_digest 89 = .ok (.ldc2_w 202, 3) := dk_20 0 202 (dk_at dksX6_digest_3 21 rfl rfl)
theorem dX6_digest_92 : decode cX6_digest 92 = .ok (.lmul, 1) := dk_105 (dk_at dksX6_digest_4 0 rfl rfl)
theorem dX6_digest_93 : decode cX6_digest 93 = .ok (.aload_n 0, 1) := dk_42 (dk_at dksX6_digest_4 1 rfl rfl)
theorem dX6_digest_94 : decode cX6_digest 94 = .ok (.getfield 25, 3) := dk_180 0 25 (dk_at dksX6_digest_4 2 rfl rfl)
theorem dX6_digest_97 : decode cX6_digest 97 = .ok (.invokevirtual 97, 3) := dk_182 0 97 (dk_at dksX6_digest_4 5 rfl rfl)
theorem dX6_digest_100 : decode cX6_digest 100 = .ok (.i2l, 1) := dk_133 (dk_at dksX6_digest_4 8 rfl rfl)
theorem dX6_digest_101 : decode cX6_digest 101 = .ok (.ladd, 1) := dk_97 (dk_at dksX6_digest_4 9 rfl rfl)
theorem dX6_digest_102 : decode cX6_digest 102 = .ok (.lstore_n 1, 1) := dk_64 (dk_at dksX6_digest_4 10 rfl rfl)
theorem dX6_digest_103 : decode cX6_digest 103 = .ok (.lload_n 1, 1) := dk_31 (dk_at dksX6_digest_4 11 rfl rfl)
theorem dX6_digest_104 : decode cX6_digest 104 = .ok (.ldc2_w 202, 3) := dk_20 0 202 (dk_at dksX6_digest_4 12 rfl rfl)
theorem dX6_digest_107 : decode cX6_digest 107 = .ok (.lmul, 1) := dk_105 (dk_at dksX6_digest_4 15 rfl rfl)
theorem dX6_digest_108 : decode cX6_digest 108 = .ok (.aload_n 0, 1) := dk_42 (dk_at dksX6_digest_4 16 rfl rfl)
theorem dX6_digest_109 : decode cX6_digest 109 = .ok (.getfield 25, 3) := dk_180 0 25 (dk_at dksX6_digest_4 17 rfl rfl)
theorem dX6_digest_112 : decode cX6_digest 112 = .ok (.getfield 187, 3) := dk_180 0 187 (dk_at dksX6_digest_4 20 rfl rfl)
theorem dX6_digest_115 : decode cX6_digest 115 = .ok (.i2l, 1) := dk_133 (dk_at dksX6_digest_4 23 rfl rfl)
theorem dX6_digest_116 : decode cX6_digest 116 = .ok (.ladd, 1) := dk_97 (dk_at dksX6_digest_5 0 rfl rfl)
theorem dX6_digest_117 : decode cX6_digest 117 = .ok (.ldc2_w 202, 3) := dk_20 0 202 (dk_at dksX6_digest_5 1 rfl rfl)
theorem dX6_digest_120 : decode cX6_digest 120 = .ok (.lmul, 1) := dk_105 (dk_at dksX6_digest_5 4 rfl rfl)
theorem dX6_digest_121 : decode cX6_digest 121 = .ok (.aload_n 0, 1) := dk_42 (dk_at dksX6_digest_5 5 rfl rfl)
theorem dX6_digest_122 : decode cX6_digest 122 = .ok (.getfield 25, 3) := dk_180 0 25 (dk_at dksX6_digest_5 6 rfl rfl)
theorem dX6_digest_125 : decode cX6_digest 125 = .ok (.getfield 122, 3) := dk_180 0 122 (dk_at dksX6_digest_5 9 rfl rfl)
theorem dX6_digest_128 : decode cX6_digest 128 = .ok (.ifCond .eq 7, 3) := dk_153 0 7 (dk_at dksX6_digest_5 12 rfl rfl)
theorem dX6_digest_131 : decode cX6_digest 131 = .ok (.iconst 1, 1) := dk_4 (dk_at dksX6_digest_5 15 rfl rfl)
theorem dX6_digest_132 : decode cX6_digest 132 = .ok (.goto 4, 3) := dk_167 0 4 (dk_at dksX6_digest_5 16 rfl rfl)
theorem dX6_digest_135 : decode cX6_digest 135 = .ok (.iconst 0, 1) := dk_3 (dk_at dksX6_digest_5 19 rfl rfl)
theorem dX6_digest_136 : decode cX6_digest 136 = .ok (.i2l, 1) := dk_133 (dk_at dksX6_digest_5 20 rfl rfl)
theorem dX6_digest_137 : decode cX6_digest 137 = .ok (.ladd, 1) := dk_97 (dk_at dksX6_digest_5 21 rfl rfl)
theorem dX6_digest_138 : decode cX6_digest 138 = .ok (.ldc2_w 202, 3) := dk_20 0 202 (dk_at dksX6_digest_6 0 rfl rfl)
theorem dX6_digest_141 : decode cX6_digest 141 = .ok (.lmul, 1) := dk_105 (dk_at dksX6_digest_6 3 rfl rfl)
theorem dX6_digest_142 : decode cX6_digest 142 = .ok (.aload_n 0, 1) := dk_42 (dk_at dksX6_digest_6 4 rfl rfl)
theorem dX6_digest_143 : decode cX6_digest 143 = .ok (.invokevirtual 132, 3) := dk_182 0 132 (dk_at dksX6_digest_6 5 rfl rfl)
theorem dX6_digest_146 : decode cX6_digest 146 = .ok (.i2l, 1) := dk_133 (dk_at dksX6_digest_6 8 rfl rfl)
theorem dX6_digest_147 : decode cX6_digest 147 = .ok (.ladd, 1) := dk_97 (dk_at dksX6_digest_6 9 rfl rfl)
theorem dX6_digest_148 : decode cX6_digest 148 = .ok (.ldc2_w 202, 3) := dk_20 0 202 (dk_at dksX6_digest_6 10 rfl rfl)
theorem dX6_digest_151 : decode cX6_digest 151 = .ok (.lmul, 1) := dk_105 (dk_at dksX6_digest_6 13 rfl rfl)
theorem dX6_digest_152 : decode cX6_digest 152 = .ok (.aload_n 0, 1) := dk_42 (dk_at dksX6_digest_6 14 rfl rfl)
theorem dX6_digest_153 : decode cX6_digest 153 = .ok (.getfield 25, 3) := dk_180 0 25 (dk_at dksX6_digest_6 15 rfl rfl)
theorem dX6_digest_156 : decode cX6_digest 156 = .ok (.invokevirtual 197, 3) := dk_182 0 197 (dk_at dksX6_digest_6 18 rfl rfl)
theorem dX6_digest_159 : decode cX6_digest 159 = .ok (.i2l, 1) := dk_133 (dk_at dksX6_digest_6 21 rfl rfl)
theorem dX6_digest_160 : decode cX6_digest 160 = .ok (.ladd, 1) := dk_97 (dk_at dksX6_digest_6 22 rfl rfl)
theorem dX6_digest_161 : decode cX6_digest 161 = .ok (.lstore_n 1, 1) := dk_64 (dk_at dksX6_digest_6 23 rfl rfl)
theorem dX6_digest_162 : decode cX6_digest 162 = .ok (.iconst 0, 1) := dk_3 (dk_at dksX6_digest_7 0 rfl rfl)
theorem dX6_digest_163 : decode cX6_digest 163 = .ok (.istore_n 3, 1) := dk_62 (dk_at dksX6_digest_7 1 rfl rfl)
theorem dX6_digest_164 : decode cX6_digest 164 = .ok (.iload_n 3, 1) := dk_29 (dk_at dksX6_digest_7 2 rfl rfl)
theorem dX6_digest_165 : decode cX6_digest 165 = .ok (.iconst 4, 1) := dk_7 (dk_at dksX6_digest_7 3 rfl rfl)
theorem dX6_digest_166 : decode cX6_digest 166 = .ok (.if_icmp .ge 40, 3) := dk_162 0 40 (dk_at dksX6_digest_7 4 rfl rfl)
theorem dX6_digest_169 : decode cX6_digest 169 = .ok (.iconst 0, 1) := dk_3 (dk_at dksX6_digest_7 7 rfl rfl)
theorem dX6_digest_170 : decode cX6_digest 170 = .ok (.istore 4, 2) := dk_54 4 (dk_at dksX6_digest_7 8 rfl rfl)
theorem dX6_digest_172 : decode cX6_digest 172 = .ok (.iload 4, 2) := dk_21 4 (dk_at dksX6_digest_7 10 rfl rfl)
theorem dX6_digest_174 : decode cX6_digest 174 = .ok (.bipush 10, 2) := dk_16 10 (dk_at dksX6_digest_7 12 rfl rfl)
theorem dX6_digest_176 : decode cX6_digest 176 = .ok (.if_icmp .ge 24, 3) := dk_162 0 24 (dk_at dksX6_digest_7 14 rfl rfl)
theorem dX6_digest_179 : decode cX6_digest 179 = .ok (.lload_n 1, 1) := dk_31 (dk_at dksX6_digest_7 17 rfl rfl)
theorem dX6_digest_180 : decode cX6_digest 180 = .ok (.ldc2_w 202, 3) := dk_20 0 202 (dk_at dksX6_digest_7 18 rfl rfl)
theorem dX6_digest_183 : decode cX6_digest 183 = .ok (.lmul, 1) := dk_105 (dk_at dksX6_digest_7 21 rfl rfl)
theorem dX6_digest_184 : decode cX6_digest 184 = .ok (.aload_n 0, 1) := dk_42 (dk_at dksX6_digest_7 22 rfl rfl)
theorem dX6_digest_185 : decode cX6_digest 185 = .ok (.iload_n 3, 1) := dk_29 (dk_at dksX6_digest_7 23 rfl rfl)
theorem dX6_digest_186 : decode cX6_digest 186 = .ok (.iload 4, 2) := dk_21 4 (dk_at dksX6_digest_8 0 rfl rfl)
theorem dX6_digest_188 : decode cX6_digest 188 = .ok (.invokevirtual 184, 3) := dk_182 0 184 (dk_at dksX6_digest_8 2 rfl rfl)
theorem dX6_digest_191 : decode cX6_digest 191 = .ok (.i2l, 1) := dk_133 (dk_at dksX6_digest_8 5 rfl rfl)
theorem dX6_digest_192 : decode cX6_digest 192 = .ok (.ladd, 1) := dk_97 (dk_at dksX6_digest_8 6 rfl rfl)
theorem dX6_digest_193 : decode cX6_digest 193 = .ok (.lstore_n 1, 1) := dk_64 (dk_at dksX6_digest_8 7 rfl rfl)
theorem dX6_digest_194 : decode cX6_digest 194 = .ok (.iinc 4 1, 3) := dk_132 4 1 (dk_at dksX6_digest_8 8 rfl rfl)
theorem dX6_digest_197 : decode cX6_digest 197 = .ok (.goto (-25), 3) := dk_167 255 231 (dk_at dksX6_digest_8 11 rfl rfl)
theorem dX6_digest_200 : decode cX6_digest 200 = .ok (.iinc 3 1, 3) := dk_132 3 1 (dk_at dksX6_digest_8 14 rfl rfl)
theorem dX6_digest_203 : decode cX6_digest 203 = .ok (.goto (-39), 3) := dk_167 255 217 (dk_at dksX6_digest_8 17 rfl rfl)
theorem dX6_digest_206 : decode cX6_digest 206 = .ok (.aload_n 0, 1) := dk_42 (dk_at dksX6_digest_8 20 rfl rfl)
theorem dX6_digest_207 : decode cX6_digest 207 = .ok (.getfield 25, 3) := dk_180 0 25 (dk_at dksX6_digest_8 21 rfl rfl)
theorem dX6_digest_210 : decode cX6_digest 210 = .ok (.getfield 110, 3) := dk_180 0 110 (dk_at dksX6_digest_9 0 rfl rfl)
theorem dX6_digest_213 : decode cX6_digest 213 = .ok (.astore_n 3, 1) := dk_78 (dk_at dksX6_digest_9 3 rfl rfl)
theorem dX6_digest_214 : decode cX6_digest 214 = .ok (.aload_n 3, 1) := dk_45 (dk_at dksX6_digest_9 4 rfl rfl)
theorem dX6_digest_215 : decode cX6_digest 215 = .ok (.arraylength, 1) := dk_190 (dk_at dksX6_digest_9 5 rfl rfl)
theorem dX6_digest_216 : decode cX6_digest 216 = .ok (.istore 4, 2) := dk_54 4 (dk_at dksX6_digest_9 6 rfl rfl)
theorem dX6_digest_218 : decode cX6_digest 218 = .ok (.iconst 0, 1) := dk_3 (dk_at dksX6_digest_9 8 rfl rfl)
theorem dX6_digest_219 : decode cX6_digest 219 = .ok (.istore 5, 2) := dk_54 5 (dk_at dksX6_digest_9 9 rfl rfl)
theorem dX6_digest_221 : decode cX6_digest 221 = .ok (.iload 5, 2) := dk_21 5 (dk_at dksX6_digest_9 11 rfl rfl)
theorem dX6_digest_223 : decode cX6_digest 223 = .ok (.iload 4, 2) := dk_21 4 (dk_at dksX6_digest_9 13 rfl rfl)
theorem dX6_digest_225 : decode cX6_digest 225 = .ok (.if_icmp .ge 25, 3) := dk_162 0 25 (dk_at dksX6_digest_9 15 rfl rfl)
theorem dX6_digest_228 : decode cX6_digest 228 = .ok (.aload_n 3, 1) := dk_45 (dk_at dksX6_digest_9 18 rfl rfl)
theorem dX6_digest_229 : decode cX6_digest 229 = .ok (.iload 5, 2) := dk_21 5 (dk_at dksX6_digest_9 19 rfl rfl)
theorem dX6_digest_231 : decode cX6_digest 231 = .ok (.iaload, 1) := dk_46 (dk_at dksX6_digest_9 21 rfl rfl)
theorem dX6_digest_232 : decode cX6_digest 232 = .ok (.istore 6, 2) := dk_54 6 (dk_at dksX6_digest_9 22 rfl rfl)
theorem dX6_digest_234 : decode cX6_digest 234 = .ok (.lload_n 1, 1) := dk_31 (dk_at dksX6_digest_10 0 rfl rfl)
theorem dX6_digest_235 : decode cX6_digest 235 = .ok (.ldc2_w 202, 3) := dk_20 0 202 (dk_at dksX6_digest_10 1 rfl rfl)
theorem dX6_digest_238 : decode cX6_digest 238 = .ok (.lmul, 1) := dk_105 (dk_at dksX6_digest_10 4 rfl rfl)
theorem dX6_digest_239 : decode cX6_digest 239 = .ok (.iload 6, 2) := dk_21 6 (dk_at dksX6_digest_10 5 rfl rfl)
theorem dX6_digest_241 : decode cX6_digest 241 = .ok (.i2l, 1) := dk_133 (dk_at dksX6_digest_10 7 rfl rfl)
theorem dX6_digest_242 : decode cX6_digest 242 = .ok (.ladd, 1) := dk_97 (dk_at dksX6_digest_10 8 rfl rfl)
theorem dX6_digest_243 : decode cX6_digest 243 = .ok (.lstore_n 1, 1) := dk_64 (dk_at dksX6_digest_10 9 rfl rfl)
theorem dX6_digest_244 : decode cX6_digest 244 = .ok (.iinc 5 1, 3) := dk_132 5 1 (dk_at dksX6_digest_10 10 rfl rfl)
theorem dX6_digest_247 : decode cX6_digest 247 = .ok (.goto (-26), 3) := dk_167 255 230 (dk_at dksX6_digest_10 13 rfl rfl)
theorem dX6_digest_250 : decode cX6_digest 250 = .ok (.iconst 0, 1) := dk_3 (dk_at dksX6_digest_10 16 rfl rfl)
theorem dX6_digest_251 : decode cX6_digest 251 = .ok (.istore_n 3, 1) := dk_62 (dk_at dksX6_digest_10 17 rfl rfl)
theorem dX6_digest_252 : decode cX6_digest 252 = .ok (.iload_n 3, 1) := dk_29 (dk_at dksX6_digest_10 18 rfl rfl)
theorem dX6_digest_253 : decode cX6_digest 253 = .ok (.aload_n 0, 1) := dk_42 (dk_at dksX6_digest_10 19 rfl rfl)
theorem dX6_digest_254 : decode cX6_digest 254 = .ok (.getfield 25, 3) := dk_180 0 25 (dk_at dksX6_digest_10 20 rfl rfl)
theorem dX6_digest_257 : decode cX6_digest 257 = .ok (.getfield 71, 3) := dk_180 0 71 (dk_at dksX6_digest_11 0 rfl rfl)
theorem dX6_digest_260 : decode cX6_digest 260 = .ok (.if_icmp .ge 26, 3) := dk_162 0 26 (dk_at dksX6_digest_11 3 rfl rfl)
theorem dX6_digest_263 : decode cX6_digest 263 = .ok (.lload_n 1, 1) := dk_31 (dk_at dksX6_digest_11 6 rfl rfl)
theorem dX6_digest_264 : decode cX6_digest 264 = .ok (.ldc2_w 202, 3) := dk_20 0 202 (dk_at dksX6_digest_11 7 rfl rfl)
theorem dX6_digest_267 : decode cX6_digest 267 = .ok (.lmul, 1) := dk_105 (dk_at dksX6_digest_11 10 rfl rfl)
theorem dX6_digest_268 : decode cX6_digest 268 = .ok (.aload_n 0, 1) := dk_42 (dk_at dksX6_digest_11 11 rfl rfl)
theorem dX6_digest_269 : decode cX6_digest 269 = .ok (.getfield 25, 3) := dk_180 0 25 (dk_at dksX6_digest_11 12 rfl rfl)
theorem dX6_digest_272 : decode cX6_digest 272 = .ok (.getfield 80, 3) := dk_180 0 80 (dk_at dksX6_digest_11 15 rfl rfl)
theorem dX6_digest_275 : decode cX6_digest 275 = .ok (.iload_n 3, 1) := dk_29 (dk_at dksX6_digest_11 18 rfl rfl)
theorem dX6_digest_276 : decode cX6_digest 276 = .ok (.iaload, 1) := dk_46 (dk_at dksX6_digest_11 19 rfl rfl)
theorem dX6_digest_277 : decode cX6_digest 277 = .ok (.i2l, 1) := dk_133 (dk_at dksX6_digest_11 20 rfl rfl)
theorem dX6_digest_278 : decode cX6_digest 278 = .ok (.ladd, 1) := dk_97 (dk_at dksX6_digest_11 21 rfl rfl)
theorem dX6_digest_279 : decode cX6_digest 279 = .ok (.lstore_n 1, 1) := dk_64 (dk_at dksX6_digest_11 22 rfl rfl)
theorem dX6_digest_280 : decode cX6_digest 280 = .ok (.iinc 3 1, 3) := dk_132 3 1 (dk_at dksX6_digest_12 0 rfl rfl)
theorem dX6_digest_283 : decode cX6_digest 283 = .ok (.goto (-31), 3) := dk_167 255 225 (dk_at dksX6_digest_12 3 rfl rfl)
theorem dX6_digest_286 : decode cX6_digest 286 = .ok (.lload_n 1, 1) := dk_31 (dk_at dksX6_digest_12 6 rfl rfl)
theorem dX6_digest_287 : decode cX6_digest 287 = .ok (.lreturn, 1) := dk_173 (dk_at dksX6_digest_12 7 rfl rfl)
theorem q38 : (Jvm.Cond.initialized "MelodeonModel") ∈ lw_all := lw_g (lw_at lw_m1 13 rfl) rfl
theorem q237 : (Jvm.Cond.selects "MelodeonModel" ({ cls := "java/lang/Object", name := "getClass", desc := "()Ljava/lang/Class;" } : Jvm.MethodName) ({ cls := "java/lang/Object", name := "getClass", desc := "()Ljava/lang/Class;" } : Jvm.MethodName)) ∈ lw_all := lw_g (lw_at lw_m1 212 rfl) rfl
theorem q899 : (Jvm.Cond.instantiable "MelodeonModel" (2 : Nat)) ∈ lw_all := lw_g (lw_at lw_m4 154 rfl) rfl
theorem q901 : (Jvm.Cond.instanceMethod ({ cls := "MelodeonModel", name := "<init>", desc := "()V" } : Jvm.MethodName)) ∈ lw_all := lw_g (lw_at lw_m4 156 rfl) rfl
theorem q902 : (Jvm.Cond.code ({ cls := "MelodeonModel", name := "<init>", desc := "()V" } : Jvm.MethodName) prog_7_method_4_code (1 : Nat) (Option.none : Option Jvm.ClassFile.FieldType)) ∈ lw_all := lw_g (lw_at lw_m4 157 rfl) rfl
theorem q903 : (Jvm.Cond.methodLink "MelodeonModel" (16 : Nat) ({ cls := "java/lang/Object", name := "<init>", desc := "()V" } : Jvm.MethodName)) ∈ lw_all := lw_g (lw_at lw_m4 158 rfl) rfl
theorem q904 : (Jvm.Cond.classLink "MelodeonModel" (22 : Nat) "MelodeonModel$Desk") ∈ lw_all := lw_g (lw_at lw_m4 159 rfl) rfl
theorem q906 : (Jvm.Cond.methodLink "MelodeonModel" (24 : Nat) ({ cls := "MelodeonModel$Desk", name := "<init>", desc := "()V" } : Jvm.MethodName)) ∈ lw_all := lw_g (lw_at lw_m4 161 rfl) rfl
theorem q911 : (Jvm.Cond.fieldLink "MelodeonModel" (43 : Nat) "MelodeonModel$Desk" "drawn" "[I") ∈ lw_all := lw_g (lw_at lw_m4 166 rfl) rfl
theorem q913 : (Jvm.Cond.fieldLink "MelodeonModel" (58 : Nat) "MelodeonModel$Desk" "instrument" "[I") ∈ lw_all := lw_g (lw_at lw_m4 168 rfl) rfl
theorem q915 : (Jvm.Cond.fieldLink "MelodeonModel" (90 : Nat) "MelodeonModel$Desk" "state" "[I") ∈ lw_all := lw_g (lw_at lw_m4 170 rfl) rfl
theorem q917 : (Jvm.Cond.fieldLink "MelodeonModel" (101 : Nat) "MelodeonModel$Desk" "level" "[I") ∈ lw_all := lw_g (lw_at lw_m4 172 rfl) rfl
theorem q919 : (Jvm.Cond.fieldLink "MelodeonModel" (163 : Nat) "MelodeonModel$Desk" "of" "[I") ∈ lw_all := lw_g (lw_at lw_m4 174 rfl) rfl
theorem q921 : (Jvm.Cond.fieldLink "MelodeonModel" (166 : Nat) "MelodeonModel$Desk" "pitch" "[I") ∈ lw_all := lw_g (lw_at lw_m4 176 rfl) rfl
theorem q923 : (Jvm.Cond.fieldLink "MelodeonModel" (169 : Nat) "MelodeonModel$Desk" "force" "[I") ∈ lw_all := lw_g (lw_at lw_m4 178 rfl) rfl
theorem q925 : (Jvm.Cond.fieldLink "MelodeonModel" (172 : Nat) "MelodeonModel$Desk" "one" "[I") ∈ lw_all := lw_g (lw_at lw_m4 180 rfl) rfl
theorem q927 : (Jvm.Cond.fieldLink "MelodeonModel" (175 : Nat) "MelodeonModel$Desk" "other" "[I") ∈ lw_all := lw_g (lw_at lw_m4 182 rfl) rfl
theorem q929 : (Jvm.Cond.fieldLink "MelodeonModel" (178 : Nat) "MelodeonModel$Desk" "low" "[I") ∈ lw_all := lw_g (lw_at lw_m4 184 rfl) rfl
theorem q931 : (Jvm.Cond.fieldLink "MelodeonModel" (181 : Nat) "MelodeonModel$Desk" "band" "[I") ∈ lw_all := lw_g (lw_at lw_m4 186 rfl) rfl
theorem q933 : (Jvm.Cond.fieldLink "MelodeonModel" (104 : Nat) "MelodeonModel$Desk" "gate" "[I") ∈ lw_all := lw_g (lw_at lw_m4 188 rfl) rfl
theorem q937 : (Jvm.Cond.fieldLink "MelodeonModel" (187 : Nat) "MelodeonModel$Desk" "taken" "I") ∈ lw_all := lw_g (lw_at lw_m4 192 rfl) rfl
theorem q939 : (Jvm.Cond.fieldLink "MelodeonModel" (68 : Nat) "MelodeonModel$Desk" "gain" "I") ∈ lw_all := lw_g (lw_at lw_m4 194 rfl) rfl
theorem q941 : (Jvm.Cond.fieldLink "MelodeonModel" (71 : Nat) "MelodeonModel$Desk" "length" "I") ∈ lw_all := lw_g (lw_at lw_m4 196 rfl) rfl
theorem q943 : (Jvm.Cond.fieldLink "MelodeonModel" (74 : Nat) "MelodeonModel$Desk" "wet" "I") ∈ lw_all := lw_g (lw_at lw_m4 198 rfl) rfl
theorem q945 : (Jvm.Cond.fieldLink "MelodeonModel" (77 : Nat) "MelodeonModel$Desk" "back" "I") ∈ lw_all := lw_g (lw_at lw_m4 200 rfl) rfl
theorem q947 : (Jvm.Cond.fieldLink "MelodeonModel" (80 : Nat) "MelodeonModel$Desk" "delay" "[I") ∈ lw_all := lw_g (lw_at lw_m4 202 rfl) rfl
theorem q949 : (Jvm.Cond.fieldLink "MelodeonModel" (113 : Nat) "MelodeonModel$Desk" "track" "[I") ∈ lw_all := lw_g (lw_at lw_m4 204 rfl) rfl
theorem q951 : (Jvm.Cond.fieldLink "MelodeonModel" (110 : Nat) "MelodeonModel$Desk" "written" "[I") ∈ lw_all := lw_g (lw_at lw_m4 206 rfl) rfl
theorem q953 : (Jvm.Cond.fieldLink "MelodeonModel" (116 : Nat) "MelodeonModel$Desk" "tempo" "I") ∈ lw_all := lw_g (lw_at lw_m4 208 rfl) rfl
theorem q955 : (Jvm.Cond.fieldLink "MelodeonModel" (119 : Nat) "MelodeonModel$Desk" "swing" "I") ∈ lw_all := lw_g (lw_at lw_m4 210 rfl) rfl
theorem q957 : (Jvm.Cond.fieldLink "MelodeonModel" (122 : Nat) "MelodeonModel$Desk" "isPlaying" "Z") ∈ lw_all := lw_g (lw_at lw_m4 212 rfl) rfl
theorem q959 : (Jvm.Cond.fieldLink "MelodeonModel" (126 : Nat) "MelodeonModel$Desk" "step" "I") ∈ lw_all := lw_g (lw_at lw_m4 214 rfl) rfl
theorem q961 : (Jvm.Cond.fieldLink "MelodeonModel" (129 : Nat) "MelodeonModel$Desk" "passed" "I") ∈ lw_all := lw_g (lw_at lw_m4 216 rfl) rfl
theorem q964 : (Jvm.Cond.fieldLink "MelodeonModel" (144 : Nat) "MelodeonModel$Desk" "clock" "I") ∈ lw_all := lw_g (lw_at lw_m4 219 rfl) rfl
theorem q966 : (Jvm.Cond.fieldLink "MelodeonModel" (141 : Nat) "MelodeonModel$Desk" "heard" "[I") ∈ lw_all := lw_g (lw_at lw_m4 221 rfl) rfl
theorem q968 : (Jvm.Cond.fieldLink "MelodeonModel" (150 : Nat) "MelodeonModel$Desk" "counted" "I") ∈ lw_all := lw_g (lw_at lw_m4 223 rfl) rfl
theorem q970 : (Jvm.Cond.fieldLink "MelodeonModel" (147 : Nat) "MelodeonModel$Desk" "peak" "I") ∈ lw_all := lw_g (lw_at lw_m4 225 rfl) rfl
theorem q972 : (Jvm.Cond.fieldLink "MelodeonModel" (157 : Nat) "MelodeonModel$Desk" "clipped" "I") ∈ lw_all := lw_g (lw_at lw_m4 227 rfl) rfl
theorem q974 : (Jvm.Cond.fieldLink "MelodeonModel" (160 : Nat) "MelodeonModel$Desk" "crossings" "I") ∈ lw_all := lw_g (lw_at lw_m4 229 rfl) rfl
theorem q976 : (Jvm.Cond.fieldLink "MelodeonModel" (153 : Nat) "MelodeonModel$Desk" "sum" "J") ∈ lw_all := lw_g (lw_at lw_m4 231 rfl) rfl
theorem q1048 : (Jvm.Cond.fieldLink "MelodeonModel" (31 : Nat) "MelodeonModel" "thrown" "I") ∈ lw_all := lw_g (lw_at lw_m5 63 rfl) rfl
theorem q1049 : (Jvm.Cond.fieldLink "MelodeonModel" (25 : Nat) "MelodeonModel" "w" "LMelodeonModel$Desk;") ∈ lw_all := lw_g (lw_at lw_m5 64 rfl) rfl
theorem q1050 : (Jvm.Cond.lays "MelodeonModel" "MelodeonModel" "thrown" "I") ∈ lw_all := lw_g (lw_at lw_m5 65 rfl) rfl
theorem q1051 : (Jvm.Cond.soleField "MelodeonModel" "thrown") ∈ lw_all := lw_g (lw_at lw_m5 66 rfl) rfl
theorem q1052 : (Jvm.Cond.laysFinal "MelodeonModel" "MelodeonModel" "w" "LMelodeonModel$Desk;") ∈ lw_all := lw_g (lw_at lw_m5 67 rfl) rfl
theorem q1053 : (Jvm.Cond.soleField "MelodeonModel" "w") ∈ lw_all := lw_g (lw_at lw_m5 68 rfl) rfl
theorem q1054 : (Jvm.Cond.superclass "MelodeonModel" "java/lang/Object") ∈ lw_all := lw_g (lw_at lw_m5 69 rfl) rfl
theorem q1056 : (Jvm.Cond.instanceMethod ({ cls := "MelodeonModel", name := "thrown", desc := "()I" } : Jvm.MethodName)) ∈ lw_all := lw_g (lw_at lw_m5 71 rfl) rfl
theorem q1057 : (Jvm.Cond.selects "MelodeonModel" ({ cls := "MelodeonModel", name := "thrown", desc := "()I" } : Jvm.MethodName) ({ cls := "MelodeonModel", name := "thrown", desc := "()I" } : Jvm.MethodName)) ∈ lw_all := lw_g (lw_at lw_m5 72 rfl) rfl
theorem q1058 : (Jvm.Cond.code ({ cls := "MelodeonModel", name := "thrown", desc := "()I" } : Jvm.MethodName) prog_7_method_5_code (1 : Nat) (Option.some Jvm.ClassFile.FieldType.int)) ∈ lw_all := lw_g (lw_at lw_m5 73 rfl) rfl
theorem q1060 : (Jvm.Cond.instanceMethod ({ cls := "MelodeonModel", name := "draw", desc := "(II)I" } : Jvm.MethodName)) ∈ lw_all := lw_g (lw_at lw_m5 75 rfl) rfl
theorem q1061 : (Jvm.Cond.selects "MelodeonModel" ({ cls := "MelodeonModel", name := "draw", desc := "(II)I" } : Jvm.MethodName) ({ cls := "MelodeonModel", name := "draw", desc := "(II)I" } : Jvm.MethodName)) ∈ lw_all := lw_g (lw_at lw_m5 76 rfl) rfl
theorem q1062 : (Jvm.Cond.code ({ cls := "MelodeonModel", name := "draw", desc := "(II)I" } : Jvm.MethodName) prog_7_method_8_code (4 : Nat) (Option.some Jvm.ClassFile.FieldType.int)) ∈ lw_all := lw_g (lw_at lw_m5 77 rfl) rfl
theorem q1063 : (Jvm.Cond.methodLink "MelodeonModel" (35 : Nat) ({ cls := "MelodeonModel", name := "isIn", desc := "(III)Z" } : Jvm.MethodName)) ∈ lw_all := lw_g (lw_at lw_m5 78 rfl) rfl
theorem q1064 : (Jvm.Cond.static ({ cls := "MelodeonModel", name := "isIn", desc := "(III)Z" } : Jvm.MethodName)) ∈ lw_all := lw_g (lw_at lw_m5 79 rfl) rfl
theorem q1065 : (Jvm.Cond.code ({ cls := "MelodeonModel", name := "isIn", desc := "(III)Z" } : Jvm.MethodName) prog_7_method_1_code (3 : Nat) (Option.some Jvm.ClassFile.FieldType.boolean)) ∈ lw_all := lw_g (lw_at lw_m5 80 rfl) rfl
theorem q1066 : (Jvm.Cond.methodLink "MelodeonModel" (39 : Nat) ({ cls := "MelodeonModel", name := "no", desc := "(I)I" } : Jvm.MethodName)) ∈ lw_all := lw_g (lw_at lw_m5 81 rfl) rfl
theorem q1067 : (Jvm.Cond.privateMethod ({ cls := "MelodeonModel", name := "no", desc := "(I)I" } : Jvm.MethodName)) ∈ lw_tbl := lw_at lw_m5 82 rfl
theorem q1068 : (Jvm.Cond.instanceMethod ({ cls := "MelodeonModel", name := "no", desc := "(I)I" } : Jvm.MethodName)) ∈ lw_all := lw_g (lw_at lw_m5 83 rfl) rfl
theorem q1069 : (Jvm.Cond.code ({ cls := "MelodeonModel", name := "no", desc := "(I)I" } : Jvm.MethodName) prog_7_method_6_code (2 : Nat) (Option.some Jvm.ClassFile.FieldType.int)) ∈ lw_all := lw_g (lw_at lw_m5 84 rfl) rfl
theorem q1071 : (Jvm.Cond.instanceMethod ({ cls := "MelodeonModel", name := "wave", desc := "(II)I" } : Jvm.MethodName)) ∈ lw_all := lw_g (lw_at lw_m5 86 rfl) rfl
theorem q1072 : (Jvm.Cond.selects "MelodeonModel" ({ cls := "MelodeonModel", name := "wave", desc := "(II)I" } : Jvm.MethodName) ({ cls := "MelodeonModel", name := "wave", desc := "(II)I" } : Jvm.MethodName)) ∈ lw_all := lw_g (lw_at lw_m5 87 rfl) rfl
theorem q1073 : (Jvm.Cond.code ({ cls := "MelodeonModel", name := "wave", desc := "(II)I" } : Jvm.MethodName) prog_7_method_11_code (3 : Nat) (Option.some Jvm.ClassFile.FieldType.int)) ∈ lw_all := lw_g (lw_at lw_m5 88 rfl) rfl
theorem q1074 : (Jvm.Cond.methodLink "MelodeonModel" (47 : Nat) ({ cls := "MelodeonModel", name := "isWave", desc := "(I)Z" } : Jvm.MethodName)) ∈ lw_all := lw_g (lw_at lw_m5 89 rfl) rfl
theorem q1075 : (Jvm.Cond.static ({ cls := "MelodeonModel", name := "isWave", desc := "(I)Z" } : Jvm.MethodName)) ∈ lw_all := lw_g (lw_at lw_m5 90 rfl) rfl
theorem q1076 : (Jvm.Cond.code ({ cls := "MelodeonModel", name := "isWave", desc := "(I)Z" } : Jvm.MethodName) prog_7_method_9_code (1 : Nat) (Option.some Jvm.ClassFile.FieldType.boolean)) ∈ lw_all := lw_g (lw_at lw_m5 91 rfl) rfl
theorem q1077 : (Jvm.Cond.constant "MelodeonModel" (51 : Nat) (65535 : Int32)) ∈ lw_all := lw_g (lw_at lw_m5 92 rfl) rfl
theorem q1078 : (Jvm.Cond.methodLink "MelodeonModel" (52 : Nat) ({ cls := "MelodeonModel$Desk", name := "wave", desc := "(II)I" } : Jvm.MethodName)) ∈ lw_all := lw_g (lw_at lw_m5 93 rfl) rfl
theorem q1087 : (Jvm.Cond.instanceMethod ({ cls := "MelodeonModel", name := "stride", desc := "(I)I" } : Jvm.MethodName)) ∈ lw_all := lw_g (lw_at lw_m5 102 rfl) rfl
theorem q1088 : (Jvm.Cond.selects "MelodeonModel" ({ cls := "MelodeonModel", name := "stride", desc := "(I)I" } : Jvm.MethodName) ({ cls := "MelodeonModel", name := "stride", desc := "(I)I" } : Jvm.MethodName)) ∈ lw_all := lw_g (lw_at lw_m5 103 rfl) rfl
theorem q1089 : (Jvm.Cond.code ({ cls := "MelodeonModel", name := "stride", desc := "(I)I" } : Jvm.MethodName) prog_7_method_12_code (2 : Nat) (Option.some Jvm.ClassFile.FieldType.int)) ∈ lw_all := lw_g (lw_at lw_m5 104 rfl) rfl
theorem q1090 : (Jvm.Cond.methodLink "MelodeonModel" (55 : Nat) ({ cls := "MelodeonModel$Desk", name := "stride", desc := "(I)I" } : Jvm.MethodName)) ∈ lw_all := lw_g (lw_at lw_m5 105 rfl) rfl
theorem q1094 : (Jvm.Cond.instanceMethod ({ cls := "MelodeonModel", name := "setWaves", desc := "(IIIII)I" } : Jvm.MethodName)) ∈ lw_all := lw_g (lw_at lw_m5 109 rfl) rfl
theorem q1095 : (Jvm.Cond.selects "MelodeonModel" ({ cls := "MelodeonModel", name := "setWaves", desc := "(IIIII)I" } : Jvm.MethodName) ({ cls := "MelodeonModel", name := "setWaves", desc := "(IIIII)I" } : Jvm.MethodName)) ∈ lw_all := lw_g (lw_at lw_m5 110 rfl) rfl
theorem q1096 : (Jvm.Cond.code ({ cls := "MelodeonModel", name := "setWaves", desc := "(IIIII)I" } : Jvm.MethodName) prog_7_method_14_code (6 : Nat) (Option.some Jvm.ClassFile.FieldType.int)) ∈ lw_all := lw_g (lw_at lw_m5 111 rfl) rfl
theorem q1097 : (Jvm.Cond.methodLink "MelodeonModel" (61 : Nat) ({ cls := "MelodeonModel", name := "isInstrument", desc := "(I)Z" } : Jvm.MethodName)) ∈ lw_all := lw_g (lw_at lw_m5 112 rfl) rfl
theorem q1098 : (Jvm.Cond.static ({ cls := "MelodeonModel", name := "isInstrument", desc := "(I)Z" } : Jvm.MethodName)) ∈ lw_all := lw_g (lw_at lw_m5 113 rfl) rfl
theorem q1099 : (Jvm.Cond.code ({ cls := "MelodeonModel", name := "isInstrument", desc := "(I)Z" } : Jvm.MethodName) prog_7_method_10_code (1 : Nat) (Option.some Jvm.ClassFile.FieldType.boolean)) ∈ lw_all := lw_g (lw_at lw_m5 114 rfl) rfl
theorem q1100 : (Jvm.Cond.methodLink "MelodeonModel" (64 : Nat) ({ cls := "MelodeonModel", name := "put", desc := "(III[I)I" } : Jvm.MethodName)) ∈ lw_all := lw_g (lw_at lw_m5 115 rfl) rfl
theorem q1101 : (Jvm.Cond.privateMethod ({ cls := "MelodeonModel", name := "put", desc := "(III[I)I" } : Jvm.MethodName)) ∈ lw_tbl := lw_at lw_m5 116 rfl
theorem q1102 : (Jvm.Cond.instanceMethod ({ cls := "MelodeonModel", name := "put", desc := "(III[I)I" } : Jvm.MethodName)) ∈ lw_all := lw_g (lw_at lw_m5 117 rfl) rfl
theorem q1103 : (Jvm.Cond.code ({ cls := "MelodeonModel", name := "put", desc := "(III[I)I" } : Jvm.MethodName) prog_7_method_13_code (6 : Nat) (Option.some Jvm.ClassFile.FieldType.int)) ∈ lw_all := lw_g (lw_at lw_m5 118 rfl) rfl
theorem q1104 : (Jvm.Cond.methodLink "MelodeonModel" (10 : Nat) ({ cls := "java/lang/System", name := "arraycopy", desc := "(Ljava/lang/Object;ILjava/lang/Object;II)V" } : Jvm.MethodName)) ∈ lw_all := lw_g (lw_at lw_m5 119 rfl) rfl
theorem q1106 : (Jvm.Cond.instanceMethod ({ cls := "MelodeonModel", name := "setEnvelope", desc := "(IIIII)I" } : Jvm.MethodName)) ∈ lw_all := lw_g (lw_at lw_m5 121 rfl) rfl
theorem q1107 : (Jvm.Cond.selects "MelodeonModel" ({ cls := "MelodeonModel", name := "setEnvelope", desc := "(IIIII)I" } : Jvm.MethodName) ({ cls := "MelodeonModel", name := "setEnvelope", desc := "(IIIII)I" } : Jvm.MethodName)) ∈ lw_all := lw_g (lw_at lw_m5 122 rfl) rfl
theorem q1108 : (Jvm.Cond.code ({ cls := "MelodeonModel", name := "setEnvelope", desc := "(IIIII)I" } : Jvm.MethodName) prog_7_method_15_code (6 : Nat) (Option.some Jvm.ClassFile.FieldType.int)) ∈ lw_all := lw_g (lw_at lw_m5 123 rfl) rfl
theorem q1110 : (Jvm.Cond.instanceMethod ({ cls := "MelodeonModel", name := "setFilter", desc := "(III)I" } : Jvm.MethodName)) ∈ lw_all := lw_g (lw_at lw_m5 125 rfl) rfl
theorem q1111 : (Jvm.Cond.selects "MelodeonModel" ({ cls := "MelodeonModel", name := "setFilter", desc := "(III)I" } : Jvm.MethodName) ({ cls := "MelodeonModel", name := "setFilter", desc := "(III)I" } : Jvm.MethodName)) ∈ lw_all := lw_g (lw_at lw_m5 126 rfl) rfl
theorem q1112 : (Jvm.Cond.code ({ cls := "MelodeonModel", name := "setFilter", desc := "(III)I" } : Jvm.MethodName) prog_7_method_16_code (4 : Nat) (Option.some Jvm.ClassFile.FieldType.int)) ∈ lw_all := lw_g (lw_at lw_m5 127 rfl) rfl
theorem q1114 : (Jvm.Cond.instanceMethod ({ cls := "MelodeonModel", name := "setVibrato", desc := "(III)I" } : Jvm.MethodName)) ∈ lw_all := lw_g (lw_at lw_m5 129 rfl) rfl
theorem q1115 : (Jvm.Cond.selects "MelodeonModel" ({ cls := "MelodeonModel", name := "setVibrato", desc := "(III)I" } : Jvm.MethodName) ({ cls := "MelodeonModel", name := "setVibrato", desc := "(III)I" } : Jvm.MethodName)) ∈ lw_all := lw_g (lw_at lw_m5 130 rfl) rfl
theorem q1116 : (Jvm.Cond.code ({ cls := "MelodeonModel", name := "setVibrato", desc := "(III)I" } : Jvm.MethodName) prog_7_method_17_code (4 : Nat) (Option.some Jvm.ClassFile.FieldType.int)) ∈ lw_all := lw_g (lw_at lw_m5 131 rfl) rfl
theorem q1118 : (Jvm.Cond.instanceMethod ({ cls := "MelodeonModel", name := "setGain", desc := "(I)I" } : Jvm.MethodName)) ∈ lw_all := lw_g (lw_at lw_m5 133 rfl) rfl
theorem q1119 : (Jvm.Cond.selects "MelodeonModel" ({ cls := "MelodeonModel", name := "setGain", desc := "(I)I" } : Jvm.MethodName) ({ cls := "MelodeonModel", name := "setGain", desc := "(I)I" } : Jvm.MethodName)) ∈ lw_all := lw_g (lw_at lw_m5 134 rfl) rfl
theorem q1120 : (Jvm.Cond.code ({ cls := "MelodeonModel", name := "setGain", desc := "(I)I" } : Jvm.MethodName) prog_7_method_18_code (3 : Nat) (Option.some Jvm.ClassFile.FieldType.int)) ∈ lw_all := lw_g (lw_at lw_m5 135 rfl) rfl
theorem q1122 : (Jvm.Cond.instanceMethod ({ cls := "MelodeonModel", name := "setDelay", desc := "(III)I" } : Jvm.MethodName)) ∈ lw_all := lw_g (lw_at lw_m5 137 rfl) rfl
theorem q1123 : (Jvm.Cond.selects "MelodeonModel" ({ cls := "MelodeonModel", name := "setDelay", desc := "(III)I" } : Jvm.MethodName) ({ cls := "MelodeonModel", name := "setDelay", desc := "(III)I" } : Jvm.MethodName)) ∈ lw_all := lw_g (lw_at lw_m5 138 rfl) rfl
theorem q1124 : (Jvm.Cond.code ({ cls := "MelodeonModel", name := "setDelay", desc := "(III)I" } : Jvm.MethodName) prog_7_method_19_code (6 : Nat) (Option.some Jvm.ClassFile.FieldType.int)) ∈ lw_all := lw_g (lw_at lw_m5 139 rfl) rfl
theorem q1126 : (Jvm.Cond.instanceMethod ({ cls := "MelodeonModel", name := "begin", desc := "(III)I" } : Jvm.MethodName)) ∈ lw_all := lw_g (lw_at lw_m5 141 rfl) rfl
theorem q1127 : (Jvm.Cond.selects "MelodeonModel" ({ cls := "MelodeonModel", name := "begin", desc := "(III)I" } : Jvm.MethodName) ({ cls := "MelodeonModel", name := "begin", desc := "(III)I" } : Jvm.MethodName)) ∈ lw_all := lw_g (lw_at lw_m5 142 rfl) rfl
theorem q1128 : (Jvm.Cond.code ({ cls := "MelodeonModel", name := "begin", desc := "(III)I" } : Jvm.MethodName) prog_7_method_20_code (4 : Nat) (Option.some Jvm.ClassFile.FieldType.int)) ∈ lw_all := lw_g (lw_at lw_m5 143 rfl) rfl
theorem q1129 : (Jvm.Cond.methodLink "MelodeonModel" (83 : Nat) ({ cls := "MelodeonModel$Desk", name := "begin", desc := "(IIII)I" } : Jvm.MethodName)) ∈ lw_all := lw_g (lw_at lw_m5 144 rfl) rfl
theorem q1138 : (Jvm.Cond.instanceMethod ({ cls := "MelodeonModel", name := "end", desc := "(I)I" } : Jvm.MethodName)) ∈ lw_all := lw_g (lw_at lw_m5 153 rfl) rfl
theorem q1139 : (Jvm.Cond.selects "MelodeonModel" ({ cls := "MelodeonModel", name := "end", desc := "(I)I" } : Jvm.MethodName) ({ cls := "MelodeonModel", name := "end", desc := "(I)I" } : Jvm.MethodName)) ∈ lw_all := lw_g (lw_at lw_m5 154 rfl) rfl
theorem q1140 : (Jvm.Cond.code ({ cls := "MelodeonModel", name := "end", desc := "(I)I" } : Jvm.MethodName) prog_7_method_22_code (3 : Nat) (Option.some Jvm.ClassFile.FieldType.int)) ∈ lw_all := lw_g (lw_at lw_m5 155 rfl) rfl
theorem q1141 : (Jvm.Cond.methodLink "MelodeonModel" (87 : Nat) ({ cls := "MelodeonModel", name := "isVoice", desc := "(I)Z" } : Jvm.MethodName)) ∈ lw_all := lw_g (lw_at lw_m5 156 rfl) rfl
theorem q1142 : (Jvm.Cond.static ({ cls := "MelodeonModel", name := "isVoice", desc := "(I)Z" } : Jvm.MethodName)) ∈ lw_all := lw_g (lw_at lw_m5 157 rfl) rfl
theorem q1143 : (Jvm.Cond.code ({ cls := "MelodeonModel", name := "isVoice", desc := "(I)Z" } : Jvm.MethodName) prog_7_method_21_code (1 : Nat) (Option.some Jvm.ClassFile.FieldType.boolean)) ∈ lw_all := lw_g (lw_at lw_m5 158 rfl) rfl
theorem q1144 : (Jvm.Cond.methodLink "MelodeonModel" (93 : Nat) ({ cls := "MelodeonModel$Desk", name := "end", desc := "(I)V" } : Jvm.MethodName)) ∈ lw_all := lw_g (lw_at lw_m5 159 rfl) rfl
theorem q1150 : (Jvm.Cond.instanceMethod ({ cls := "MelodeonModel", name := "hush", desc := "()I" } : Jvm.MethodName)) ∈ lw_all := lw_g (lw_at lw_m5 165 rfl) rfl
theorem q1151 : (Jvm.Cond.selects "MelodeonModel" ({ cls := "MelodeonModel", name := "hush", desc := "()I" } : Jvm.MethodName) ({ cls := "MelodeonModel", name := "hush", desc := "()I" } : Jvm.MethodName)) ∈ lw_all := lw_g (lw_at lw_m5 166 rfl) rfl
theorem q1152 : (Jvm.Cond.code ({ cls := "MelodeonModel", name := "hush", desc := "()I" } : Jvm.MethodName) prog_7_method_23_code (3 : Nat) (Option.some Jvm.ClassFile.FieldType.int)) ∈ lw_all := lw_g (lw_at lw_m5 167 rfl) rfl
theorem q1153 : (Jvm.Cond.methodLink "MelodeonModel" (97 : Nat) ({ cls := "MelodeonModel$Desk", name := "sounding", desc := "()I" } : Jvm.MethodName)) ∈ lw_all := lw_g (lw_at lw_m5 168 rfl) rfl
theorem q1158 : (Jvm.Cond.instanceMethod ({ cls := "MelodeonModel", name := "write", desc := "(IIIII)I" } : Jvm.MethodName)) ∈ lw_all := lw_g (lw_at lw_m5 173 rfl) rfl
theorem q1159 : (Jvm.Cond.selects "MelodeonModel" ({ cls := "MelodeonModel", name := "write", desc := "(IIIII)I" } : Jvm.MethodName) ({ cls := "MelodeonModel", name := "write", desc := "(IIIII)I" } : Jvm.MethodName)) ∈ lw_all := lw_g (lw_at lw_m5 174 rfl) rfl
theorem q1160 : (Jvm.Cond.code ({ cls := "MelodeonModel", name := "write", desc := "(IIIII)I" } : Jvm.MethodName) prog_7_method_25_code (8 : Nat) (Option.some Jvm.ClassFile.FieldType.int)) ∈ lw_all := lw_g (lw_at lw_m5 175 rfl) rfl
theorem q1161 : (Jvm.Cond.methodLink "MelodeonModel" (107 : Nat) ({ cls := "MelodeonModel", name := "isStep", desc := "(I)Z" } : Jvm.MethodName)) ∈ lw_all := lw_g (lw_at lw_m5 176 rfl) rfl
theorem q1162 : (Jvm.Cond.static ({ cls := "MelodeonModel", name := "isStep", desc := "(I)Z" } : Jvm.MethodName)) ∈ lw_all := lw_g (lw_at lw_m5 177 rfl) rfl
theorem q1163 : (Jvm.Cond.code ({ cls := "MelodeonModel", name := "isStep", desc := "(I)Z" } : Jvm.MethodName) prog_7_method_24_code (1 : Nat) (Option.some Jvm.ClassFile.FieldType.boolean)) ∈ lw_all := lw_g (lw_at lw_m5 178 rfl) rfl
theorem q1165 : (Jvm.Cond.instanceMethod ({ cls := "MelodeonModel", name := "setTrack", desc := "(II)I" } : Jvm.MethodName)) ∈ lw_all := lw_g (lw_at lw_m5 180 rfl) rfl
theorem q1166 : (Jvm.Cond.selects "MelodeonModel" ({ cls := "MelodeonModel", name := "setTrack", desc := "(II)I" } : Jvm.MethodName) ({ cls := "MelodeonModel", name := "setTrack", desc := "(II)I" } : Jvm.MethodName)) ∈ lw_all := lw_g (lw_at lw_m5 181 rfl) rfl
theorem q1167 : (Jvm.Cond.code ({ cls := "MelodeonModel", name := "setTrack", desc := "(II)I" } : Jvm.MethodName) prog_7_method_26_code (4 : Nat) (Option.some Jvm.ClassFile.FieldType.int)) ∈ lw_all := lw_g (lw_at lw_m5 182 rfl) rfl
theorem q1169 : (Jvm.Cond.instanceMethod ({ cls := "MelodeonModel", name := "setTempo", desc := "(II)I" } : Jvm.MethodName)) ∈ lw_all := lw_g (lw_at lw_m5 184 rfl) rfl
theorem q1170 : (Jvm.Cond.selects "MelodeonModel" ({ cls := "MelodeonModel", name := "setTempo", desc := "(II)I" } : Jvm.MethodName) ({ cls := "MelodeonModel", name := "setTempo", desc := "(II)I" } : Jvm.MethodName)) ∈ lw_all := lw_g (lw_at lw_m5 185 rfl) rfl
theorem q1171 : (Jvm.Cond.code ({ cls := "MelodeonModel", name := "setTempo", desc := "(II)I" } : Jvm.MethodName) prog_7_method_27_code (4 : Nat) (Option.some Jvm.ClassFile.FieldType.int)) ∈ lw_all := lw_g (lw_at lw_m5 186 rfl) rfl
theorem q1173 : (Jvm.Cond.instanceMethod ({ cls := "MelodeonModel", name := "play", desc := "(I)Z" } : Jvm.MethodName)) ∈ lw_all := lw_g (lw_at lw_m5 188 rfl) rfl
theorem q1174 : (Jvm.Cond.selects "MelodeonModel" ({ cls := "MelodeonModel", name := "play", desc := "(I)Z" } : Jvm.MethodName) ({ cls := "MelodeonModel", name := "play", desc := "(I)Z" } : Jvm.MethodName)) ∈ lw_all := lw_g (lw_at lw_m5 189 rfl) rfl
theorem q1175 : (Jvm.Cond.code ({ cls := "MelodeonModel", name := "play", desc := "(I)Z" } : Jvm.MethodName) prog_7_method_28_code (3 : Nat) (Option.some Jvm.ClassFile.FieldType.boolean)) ∈ lw_all := lw_g (lw_at lw_m5 190 rfl) rfl
theorem q1177 : (Jvm.Cond.instanceMethod ({ cls := "MelodeonModel", name := "stop", desc := "()I" } : Jvm.MethodName)) ∈ lw_all := lw_g (lw_at lw_m5 192 rfl) rfl
theorem q1178 : (Jvm.Cond.selects "MelodeonModel" ({ cls := "MelodeonModel", name := "stop", desc := "()I" } : Jvm.MethodName) ({ cls := "MelodeonModel", name := "stop", desc := "()I" } : Jvm.MethodName)) ∈ lw_all := lw_g (lw_at lw_m5 193 rfl) rfl
theorem q1179 : (Jvm.Cond.code ({ cls := "MelodeonModel", name := "stop", desc := "()I" } : Jvm.MethodName) prog_7_method_30_code (2 : Nat) (Option.some Jvm.ClassFile.FieldType.int)) ∈ lw_all := lw_g (lw_at lw_m5 194 rfl) rfl
theorem q1180 : (Jvm.Cond.methodLink "MelodeonModel" (132 : Nat) ({ cls := "MelodeonModel", name := "stepNow", desc := "()I" } : Jvm.MethodName)) ∈ lw_all := lw_g (lw_at lw_m5 195 rfl) rfl
theorem q1181 : (Jvm.Cond.privateMethod ({ cls := "MelodeonModel", name := "stepNow", desc := "()I" } : Jvm.MethodName)) ∈ lw_tbl := lw_at lw_m5 196 rfl
theorem q1182 : (Jvm.Cond.instanceMethod ({ cls := "MelodeonModel", name := "stepNow", desc := "()I" } : Jvm.MethodName)) ∈ lw_all := lw_g (lw_at lw_m5 197 rfl) rfl
theorem q1183 : (Jvm.Cond.code ({ cls := "MelodeonModel", name := "stepNow", desc := "()I" } : Jvm.MethodName) prog_7_method_29_code (1 : Nat) (Option.some Jvm.ClassFile.FieldType.int)) ∈ lw_all := lw_g (lw_at lw_m5 198 rfl) rfl
theorem q1185 : (Jvm.Cond.instanceMethod ({ cls := "MelodeonModel", name := "sample", desc := "()I" } : Jvm.MethodName)) ∈ lw_all := lw_g (lw_at lw_m5 200 rfl) rfl
theorem q1186 : (Jvm.Cond.selects "MelodeonModel" ({ cls := "MelodeonModel", name := "sample", desc := "()I" } : Jvm.MethodName) ({ cls := "MelodeonModel", name := "sample", desc := "()I" } : Jvm.MethodName)) ∈ lw_all := lw_g (lw_at lw_m5 201 rfl) rfl
theorem q1187 : (Jvm.Cond.code ({ cls := "MelodeonModel", name := "sample", desc := "()I" } : Jvm.MethodName) prog_7_method_31_code (1 : Nat) (Option.some Jvm.ClassFile.FieldType.int)) ∈ lw_all := lw_g (lw_at lw_m5 202 rfl) rfl
theorem q1188 : (Jvm.Cond.methodLink "MelodeonModel" (135 : Nat) ({ cls := "MelodeonModel$Desk", name := "sample", desc := "()I" } : Jvm.MethodName)) ∈ lw_all := lw_g (lw_at lw_m5 203 rfl) rfl
theorem q1217 : (Jvm.Cond.static ({ cls := "MelodeonModel", name := "keep", desc := "(II)I" } : Jvm.MethodName)) ∈ lw_all := lw_g (lw_at lw_m5 232 rfl) rfl
theorem q1218 : (Jvm.Cond.code ({ cls := "MelodeonModel", name := "keep", desc := "(II)I" } : Jvm.MethodName) prog_7_method_2_code (2 : Nat) (Option.some Jvm.ClassFile.FieldType.int)) ∈ lw_all := lw_g (lw_at lw_m5 233 rfl) rfl
theorem q1219 : (Jvm.Cond.methodLink "MelodeonModel" (1 : Nat) ({ cls := "java/lang/Math", name := "min", desc := "(II)I" } : Jvm.MethodName)) ∈ lw_all := lw_g (lw_at lw_m5 234 rfl) rfl
theorem q1220 : (Jvm.Cond.methodLink "MelodeonModel" (7 : Nat) ({ cls := "java/lang/Math", name := "max", desc := "(II)I" } : Jvm.MethodName)) ∈ lw_all := lw_g (lw_at lw_m5 235 rfl) rfl
theorem q1224 : (Jvm.Cond.methodLink "MelodeonModel" (138 : Nat) ({ cls := "MelodeonModel", name := "ok", desc := "(I)I" } : Jvm.MethodName)) ∈ lw_all := lw_g (lw_at lw_m5 239 rfl) rfl
theorem q1225 : (Jvm.Cond.privateMethod ({ cls := "MelodeonModel", name := "ok", desc := "(I)I" } : Jvm.MethodName)) ∈ lw_tbl := lw_at lw_m6 0 rfl
theorem q1226 : (Jvm.Cond.instanceMethod ({ cls := "MelodeonModel", name := "ok", desc := "(I)I" } : Jvm.MethodName)) ∈ lw_all := lw_g (lw_at lw_m6 1 rfl) rfl
theorem q1227 : (Jvm.Cond.code ({ cls := "MelodeonModel", name := "ok", desc := "(I)I" } : Jvm.MethodName) prog_7_method_7_code (2 : Nat) (Option.some Jvm.ClassFile.FieldType.int)) ∈ lw_all := lw_g (lw_at lw_m6 2 rfl) rfl
theorem q1229 : (Jvm.Cond.instanceMethod ({ cls := "MelodeonModel", name := "run", desc := "(I)I" } : Jvm.MethodName)) ∈ lw_all := lw_g (lw_at lw_m6 4 rfl) rfl
theorem q1230 : (Jvm.Cond.selects "MelodeonModel" ({ cls := "MelodeonModel", name := "run", desc := "(I)I" } : Jvm.MethodName) ({ cls := "MelodeonModel", name := "run", desc := "(I)I" } : Jvm.MethodName)) ∈ lw_all := lw_g (lw_at lw_m6 5 rfl) rfl
theorem q1231 : (Jvm.Cond.code ({ cls := "MelodeonModel", name := "run", desc := "(I)I" } : Jvm.MethodName) prog_7_method_32_code (4 : Nat) (Option.some Jvm.ClassFile.FieldType.int)) ∈ lw_all := lw_g (lw_at lw_m6 6 rfl) rfl
theorem q1233 : (Jvm.Cond.instanceMethod ({ cls := "MelodeonModel", name := "heard", desc := "(I)I" } : Jvm.MethodName)) ∈ lw_all := lw_g (lw_at lw_m6 8 rfl) rfl
theorem q1234 : (Jvm.Cond.selects "MelodeonModel" ({ cls := "MelodeonModel", name := "heard", desc := "(I)I" } : Jvm.MethodName) ({ cls := "MelodeonModel", name := "heard", desc := "(I)I" } : Jvm.MethodName)) ∈ lw_all := lw_g (lw_at lw_m6 9 rfl) rfl
theorem q1235 : (Jvm.Cond.code ({ cls := "MelodeonModel", name := "heard", desc := "(I)I" } : Jvm.MethodName) prog_7_method_33_code (2 : Nat) (Option.some Jvm.ClassFile.FieldType.int)) ∈ lw_all := lw_g (lw_at lw_m6 10 rfl) rfl
theorem q1237 : (Jvm.Cond.instanceMethod ({ cls := "MelodeonModel", name := "clock", desc := "()I" } : Jvm.MethodName)) ∈ lw_all := lw_g (lw_at lw_m6 12 rfl) rfl
theorem q1238 : (Jvm.Cond.selects "MelodeonModel" ({ cls := "MelodeonModel", name := "clock", desc := "()I" } : Jvm.MethodName) ({ cls := "MelodeonModel", name := "clock", desc := "()I" } : Jvm.MethodName)) ∈ lw_all := lw_g (lw_at lw_m6 13 rfl) rfl
theorem q1239 : (Jvm.Cond.code ({ cls := "MelodeonModel", name := "clock", desc := "()I" } : Jvm.MethodName) prog_7_method_34_code (1 : Nat) (Option.some Jvm.ClassFile.FieldType.int)) ∈ lw_all := lw_g (lw_at lw_m6 14 rfl) rfl
theorem q1241 : (Jvm.Cond.instanceMethod ({ cls := "MelodeonModel", name := "peak", desc := "()I" } : Jvm.MethodName)) ∈ lw_all := lw_g (lw_at lw_m6 16 rfl) rfl
theorem q1242 : (Jvm.Cond.selects "MelodeonModel" ({ cls := "MelodeonModel", name := "peak", desc := "()I" } : Jvm.MethodName) ({ cls := "MelodeonModel", name := "peak", desc := "()I" } : Jvm.MethodName)) ∈ lw_all := lw_g (lw_at lw_m6 17 rfl) rfl
theorem q1243 : (Jvm.Cond.code ({ cls := "MelodeonModel", name := "peak", desc := "()I" } : Jvm.MethodName) prog_7_method_35_code (1 : Nat) (Option.some Jvm.ClassFile.FieldType.int)) ∈ lw_all := lw_g (lw_at lw_m6 18 rfl) rfl
theorem q1245 : (Jvm.Cond.instanceMethod ({ cls := "MelodeonModel", name := "loudness", desc := "()D" } : Jvm.MethodName)) ∈ lw_all := lw_g (lw_at lw_m6 20 rfl) rfl
theorem q1246 : (Jvm.Cond.selects "MelodeonModel" ({ cls := "MelodeonModel", name := "loudness", desc := "()D" } : Jvm.MethodName) ({ cls := "MelodeonModel", name := "loudness", desc := "()D" } : Jvm.MethodName)) ∈ lw_all := lw_g (lw_at lw_m6 21 rfl) rfl
theorem q1247 : (Jvm.Cond.code ({ cls := "MelodeonModel", name := "loudness", desc := "()D" } : Jvm.MethodName) prog_7_method_36_code (1 : Nat) (Option.some Jvm.ClassFile.FieldType.double)) ∈ lw_all := lw_g (lw_at lw_m6 22 rfl) rfl
theorem q1249 : (Jvm.Cond.instanceMethod ({ cls := "MelodeonModel", name := "clipped", desc := "()I" } : Jvm.MethodName)) ∈ lw_all := lw_g (lw_at lw_m6 24 rfl) rfl
theorem q1250 : (Jvm.Cond.selects "MelodeonModel" ({ cls := "MelodeonModel", name := "clipped", desc := "()I" } : Jvm.MethodName) ({ cls := "MelodeonModel", name := "clipped", desc := "()I" } : Jvm.MethodName)) ∈ lw_all := lw_g (lw_at lw_m6 25 rfl) rfl
theorem q1251 : (Jvm.Cond.code ({ cls := "MelodeonModel", name := "clipped", desc := "()I" } : Jvm.MethodName) prog_7_method_37_code (1 : Nat) (Option.some Jvm.ClassFile.FieldType.int)) ∈ lw_all := lw_g (lw_at lw_m6 26 rfl) rfl
theorem q1253 : (Jvm.Cond.instanceMethod ({ cls := "MelodeonModel", name := "crossings", desc := "()I" } : Jvm.MethodName)) ∈ lw_all := lw_g (lw_at lw_m6 28 rfl) rfl
theorem q1254 : (Jvm.Cond.selects "MelodeonModel" ({ cls := "MelodeonModel", name := "crossings", desc := "()I" } : Jvm.MethodName) ({ cls := "MelodeonModel", name := "crossings", desc := "()I" } : Jvm.MethodName)) ∈ lw_all := lw_g (lw_at lw_m6 29 rfl) rfl
theorem q1255 : (Jvm.Cond.code ({ cls := "MelodeonModel", name := "crossings", desc := "()I" } : Jvm.MethodName) prog_7_method_38_code (1 : Nat) (Option.some Jvm.ClassFile.FieldType.int)) ∈ lw_all := lw_g (lw_at lw_m6 30 rfl) rfl
theorem q1257 : (Jvm.Cond.instanceMethod ({ cls := "MelodeonModel", name := "reset", desc := "()I" } : Jvm.MethodName)) ∈ lw_all := lw_g (lw_at lw_m6 32 rfl) rfl
theorem q1258 : (Jvm.Cond.selects "MelodeonModel" ({ cls := "MelodeonModel", name := "reset", desc := "()I" } : Jvm.MethodName) ({ cls := "MelodeonModel", name := "reset", desc := "()I" } : Jvm.MethodName)) ∈ lw_all := lw_g (lw_at lw_m6 33 rfl) rfl
theorem q1259 : (Jvm.Cond.code ({ cls := "MelodeonModel", name := "reset", desc := "()I" } : Jvm.MethodName) prog_7_method_39_code (2 : Nat) (Option.some Jvm.ClassFile.FieldType.int)) ∈ lw_all := lw_g (lw_at lw_m6 34 rfl) rfl
theorem q1261 : (Jvm.Cond.instanceMethod ({ cls := "MelodeonModel", name := "ofVoice", desc := "(II)I" } : Jvm.MethodName)) ∈ lw_all := lw_g (lw_at lw_m6 36 rfl) rfl
theorem q1262 : (Jvm.Cond.selects "MelodeonModel" ({ cls := "MelodeonModel", name := "ofVoice", desc := "(II)I" } : Jvm.MethodName) ({ cls := "MelodeonModel", name := "ofVoice", desc := "(II)I" } : Jvm.MethodName)) ∈ lw_all := lw_g (lw_at lw_m6 37 rfl) rfl
theorem q1263 : (Jvm.Cond.code ({ cls := "MelodeonModel", name := "ofVoice", desc := "(II)I" } : Jvm.MethodName) prog_7_method_41_code (3 : Nat) (Option.some Jvm.ClassFile.FieldType.int)) ∈ lw_all := lw_g (lw_at lw_m6 38 rfl) rfl
theorem q1264 : (Jvm.Cond.methodLink "MelodeonModel" (184 : Nat) ({ cls := "MelodeonModel", name := "voiceNow", desc := "(II)I" } : Jvm.MethodName)) ∈ lw_all := lw_g (lw_at lw_m6 39 rfl) rfl
theorem q1265 : (Jvm.Cond.privateMethod ({ cls := "MelodeonModel", name := "voiceNow", desc := "(II)I" } : Jvm.MethodName)) ∈ lw_tbl := lw_at lw_m6 40 rfl
theorem q1266 : (Jvm.Cond.instanceMethod ({ cls := "MelodeonModel", name := "voiceNow", desc := "(II)I" } : Jvm.MethodName)) ∈ lw_all := lw_g (lw_at lw_m6 41 rfl) rfl
theorem q1267 : (Jvm.Cond.code ({ cls := "MelodeonModel", name := "voiceNow", desc := "(II)I" } : Jvm.MethodName) prog_7_method_40_code (3 : Nat) (Option.some Jvm.ClassFile.FieldType.int)) ∈ lw_all := lw_g (lw_at lw_m6 42 rfl) rfl
theorem q1269 : (Jvm.Cond.instanceMethod ({ cls := "MelodeonModel", name := "sounding", desc := "()I" } : Jvm.MethodName)) ∈ lw_all := lw_g (lw_at lw_m6 44 rfl) rfl
theorem q1270 : (Jvm.Cond.selects "MelodeonModel" ({ cls := "MelodeonModel", name := "sounding", desc := "()I" } : Jvm.MethodName) ({ cls := "MelodeonModel", name := "sounding", desc := "()I" } : Jvm.MethodName)) ∈ lw_all := lw_g (lw_at lw_m6 45 rfl) rfl
theorem q1271 : (Jvm.Cond.code ({ cls := "MelodeonModel", name := "sounding", desc := "()I" } : Jvm.MethodName) prog_7_method_42_code (1 : Nat) (Option.some Jvm.ClassFile.FieldType.int)) ∈ lw_all := lw_g (lw_at lw_m6 46 rfl) rfl
theorem q1273 : (Jvm.Cond.instanceMethod ({ cls := "MelodeonModel", name := "taken", desc := "()I" } : Jvm.MethodName)) ∈ lw_all := lw_g (lw_at lw_m6 48 rfl) rfl
theorem q1274 : (Jvm.Cond.selects "MelodeonModel" ({ cls := "MelodeonModel", name := "taken", desc := "()I" } : Jvm.MethodName) ({ cls := "MelodeonModel", name := "taken", desc := "()I" } : Jvm.MethodName)) ∈ lw_all := lw_g (lw_at lw_m6 49 rfl) rfl
theorem q1275 : (Jvm.Cond.code ({ cls := "MelodeonModel", name := "taken", desc := "()I" } : Jvm.MethodName) prog_7_method_43_code (1 : Nat) (Option.some Jvm.ClassFile.FieldType.int)) ∈ lw_all := lw_g (lw_at lw_m6 50 rfl) rfl
theorem q1277 : (Jvm.Cond.instanceMethod ({ cls := "MelodeonModel", name := "isPlaying", desc := "()Z" } : Jvm.MethodName)) ∈ lw_all := lw_g (lw_at lw_m6 52 rfl) rfl
theorem q1278 : (Jvm.Cond.selects "MelodeonModel" ({ cls := "MelodeonModel", name := "isPlaying", desc := "()Z" } : Jvm.MethodName) ({ cls := "MelodeonModel", name := "isPlaying", desc := "()Z" } : Jvm.MethodName)) ∈ lw_all := lw_g (lw_at lw_m6 53 rfl) rfl
theorem q1279 : (Jvm.Cond.code ({ cls := "MelodeonModel", name := "isPlaying", desc := "()Z" } : Jvm.MethodName) prog_7_method_44_code (1 : Nat) (Option.some Jvm.ClassFile.FieldType.boolean)) ∈ lw_all := lw_g (lw_at lw_m6 54 rfl) rfl
theorem q1281 : (Jvm.Cond.instanceMethod ({ cls := "MelodeonModel", name := "step", desc := "()I" } : Jvm.MethodName)) ∈ lw_all := lw_g (lw_at lw_m6 56 rfl) rfl
theorem q1282 : (Jvm.Cond.selects "MelodeonModel" ({ cls := "MelodeonModel", name := "step", desc := "()I" } : Jvm.MethodName) ({ cls := "MelodeonModel", name := "step", desc := "()I" } : Jvm.MethodName)) ∈ lw_all := lw_g (lw_at lw_m6 57 rfl) rfl
theorem q1283 : (Jvm.Cond.code ({ cls := "MelodeonModel", name := "step", desc := "()I" } : Jvm.MethodName) prog_7_method_45_code (1 : Nat) (Option.some Jvm.ClassFile.FieldType.int)) ∈ lw_all := lw_g (lw_at lw_m6 58 rfl) rfl
theorem q1285 : (Jvm.Cond.instanceMethod ({ cls := "MelodeonModel", name := "ofStep", desc := "(III)I" } : Jvm.MethodName)) ∈ lw_all := lw_g (lw_at lw_m6 60 rfl) rfl
theorem q1286 : (Jvm.Cond.selects "MelodeonModel" ({ cls := "MelodeonModel", name := "ofStep", desc := "(III)I" } : Jvm.MethodName) ({ cls := "MelodeonModel", name := "ofStep", desc := "(III)I" } : Jvm.MethodName)) ∈ lw_all := lw_g (lw_at lw_m6 61 rfl) rfl
theorem q1287 : (Jvm.Cond.code ({ cls := "MelodeonModel", name := "ofStep", desc := "(III)I" } : Jvm.MethodName) prog_7_method_46_code (4 : Nat) (Option.some Jvm.ClassFile.FieldType.int)) ∈ lw_all := lw_g (lw_at lw_m6 62 rfl) rfl
theorem q1289 : (Jvm.Cond.instanceMethod ({ cls := "MelodeonModel", name := "inDelay", desc := "(I)I" } : Jvm.MethodName)) ∈ lw_all := lw_g (lw_at lw_m6 64 rfl) rfl
theorem q1290 : (Jvm.Cond.selects "MelodeonModel" ({ cls := "MelodeonModel", name := "inDelay", desc := "(I)I" } : Jvm.MethodName) ({ cls := "MelodeonModel", name := "inDelay", desc := "(I)I" } : Jvm.MethodName)) ∈ lw_all := lw_g (lw_at lw_m6 65 rfl) rfl
theorem q1291 : (Jvm.Cond.code ({ cls := "MelodeonModel", name := "inDelay", desc := "(I)I" } : Jvm.MethodName) prog_7_method_47_code (2 : Nat) (Option.some Jvm.ClassFile.FieldType.int)) ∈ lw_all := lw_g (lw_at lw_m6 66 rfl) rfl
theorem q1293 : (Jvm.Cond.instanceMethod ({ cls := "MelodeonModel", name := "wouldPeak", desc := "(I)I" } : Jvm.MethodName)) ∈ lw_all := lw_g (lw_at lw_m6 68 rfl) rfl
theorem q1294 : (Jvm.Cond.selects "MelodeonModel" ({ cls := "MelodeonModel", name := "wouldPeak", desc := "(I)I" } : Jvm.MethodName) ({ cls := "MelodeonModel", name := "wouldPeak", desc := "(I)I" } : Jvm.MethodName)) ∈ lw_all := lw_g (lw_at lw_m6 69 rfl) rfl
theorem q1295 : (Jvm.Cond.code ({ cls := "MelodeonModel", name := "wouldPeak", desc := "(I)I" } : Jvm.MethodName) prog_7_method_48_code (5 : Nat) (Option.some Jvm.ClassFile.FieldType.int)) ∈ lw_all := lw_g (lw_at lw_m6 70 rfl) rfl
theorem q1296 : (Jvm.Cond.methodLink "MelodeonModel" (190 : Nat) ({ cls := "MelodeonModel$Desk", name := "copy", desc := "()LMelodeonModel$Desk;" } : Jvm.MethodName)) ∈ lw_all := lw_g (lw_at lw_m6 71 rfl) rfl
theorem q1303 : (Jvm.Cond.static ({ cls := "MelodeonModel", name := "put", desc := "([I[I)V" } : Jvm.MethodName)) ∈ lw_all := lw_g (lw_at lw_m6 78 rfl) rfl
theorem q1304 : (Jvm.Cond.code ({ cls := "MelodeonModel", name := "put", desc := "([I[I)V" } : Jvm.MethodName) prog_7_method_3_code (2 : Nat) (Option.none : Option Jvm.ClassFile.FieldType)) ∈ lw_all := lw_g (lw_at lw_m6 79 rfl) rfl
theorem q1305 : (Jvm.Cond.methodLink "MelodeonModel" (194 : Nat) ({ cls := "java/lang/Math", name := "abs", desc := "(I)I" } : Jvm.MethodName)) ∈ lw_all := lw_g (lw_at lw_m6 80 rfl) rfl
theorem q1307 : (Jvm.Cond.instanceMethod ({ cls := "MelodeonModel", name := "silentIn", desc := "(I)I" } : Jvm.MethodName)) ∈ lw_all := lw_g (lw_at lw_m6 82 rfl) rfl
theorem q1308 : (Jvm.Cond.selects "MelodeonModel" ({ cls := "MelodeonModel", name := "silentIn", desc := "(I)I" } : Jvm.MethodName) ({ cls := "MelodeonModel", name := "silentIn", desc := "(I)I" } : Jvm.MethodName)) ∈ lw_all := lw_g (lw_at lw_m6 83 rfl) rfl
theorem q1309 : (Jvm.Cond.code ({ cls := "MelodeonModel", name := "silentIn", desc := "(I)I" } : Jvm.MethodName) prog_7_method_49_code (4 : Nat) (Option.some Jvm.ClassFile.FieldType.int)) ∈ lw_all := lw_g (lw_at lw_m6 84 rfl) rfl
theorem q1311 : (Jvm.Cond.instanceMethod ({ cls := "MelodeonModel", name := "nextVoice", desc := "()I" } : Jvm.MethodName)) ∈ lw_all := lw_g (lw_at lw_m6 86 rfl) rfl
theorem q1312 : (Jvm.Cond.selects "MelodeonModel" ({ cls := "MelodeonModel", name := "nextVoice", desc := "()I" } : Jvm.MethodName) ({ cls := "MelodeonModel", name := "nextVoice", desc := "()I" } : Jvm.MethodName)) ∈ lw_all := lw_g (lw_at lw_m6 87 rfl) rfl
theorem q1313 : (Jvm.Cond.code ({ cls := "MelodeonModel", name := "nextVoice", desc := "()I" } : Jvm.MethodName) prog_7_method_50_code (1 : Nat) (Option.some Jvm.ClassFile.FieldType.int)) ∈ lw_all := lw_g (lw_at lw_m6 88 rfl) rfl
theorem q1314 : (Jvm.Cond.methodLink "MelodeonModel" (197 : Nat) ({ cls := "MelodeonModel$Desk", name := "nextVoice", desc := "()I" } : Jvm.MethodName)) ∈ lw_all := lw_g (lw_at lw_m6 89 rfl) rfl
theorem q1316 : (Jvm.Cond.instanceMethod ({ cls := "MelodeonModel", name := "digest", desc := "()J" } : Jvm.MethodName)) ∈ lw_all := lw_g (lw_at lw_m6 91 rfl) rfl
theorem q1317 : (Jvm.Cond.selects "MelodeonModel" ({ cls := "MelodeonModel", name := "digest", desc := "()J" } : Jvm.MethodName) ({ cls := "MelodeonModel", name := "digest", desc := "()J" } : Jvm.MethodName)) ∈ lw_all := lw_g (lw_at lw_m6 92 rfl) rfl
theorem q1318 : (Jvm.Cond.code ({ cls := "MelodeonModel", name := "digest", desc := "()J" } : Jvm.MethodName) prog_7_method_51_code (7 : Nat) (Option.some Jvm.ClassFile.FieldType.long)) ∈ lw_all := lw_g (lw_at lw_m6 93 rfl) rfl
theorem q1319 : (Jvm.Cond.constantLong "MelodeonModel" (200 : Nat) (1799581 : Int64)) ∈ lw_all := lw_g (lw_at lw_m6 94 rfl) rfl
theorem q1320 : (Jvm.Cond.constantLong "MelodeonModel" (202 : Nat) (31 : Int64)) ∈ lw_all := lw_g (lw_at lw_m6 95 rfl) rfl
theorem q1331 : (Jvm.Cond.castable "MelodeonModel" "java/lang/Object") ∈ lw_tbl := lw_at lw_m6 106 rfl
theorem in_X6 : ∀ w ∈ wsX60, w ∈ lw_all := lw_in wsX60 [1050, 1052] (by decide +kernel) (by decide +kernel)
