/-! MelodeonLaw -/
set_option maxRecDepth 100000
def RX0 : String := "MelodeonLaw"
abbrev cX0_draw : ByteArray := method_3_code
def yX0_draw : MethodName := ⟨RX0, "draw", "(LMelodeon;II[J)I"⟩
def dkwX0_draw_0 : List UInt8 := [45, 3, 42, 27, 28, 182, 0, 7, 133, 80, 167, 0, 11, 58, 4, 4, 172, 58, 4, 5, 172, 3, 172]
abbrev dktX0_draw_0 : List UInt8 := dkwX0_draw_0 ++ []
theorem dksX0_draw_0 : cX0_draw.data.toList.drop 0 = dktX0_draw_0 := by decide +kernel
theorem dX0_draw_0 : decode cX0_draw 0 = .ok (.aload_n 3, 1) := dk_45 (dk_at dksX0_draw_0 0 rfl rfl)
theorem dX0_draw_1 : decode cX0_draw 1 = .ok (.iconst 0, 1) := dk_3 (dk_at dksX0_draw_0 1 rfl rfl)
theorem dX0_draw_2 : decode cX0_draw 2 = .ok (.aload_n 0, 1) := dk_42 (dk_at dksX0_draw_0 2 rfl rfl)
theorem dX0_draw_3 : decode cX0_draw 3 = .ok (.iload_n 1, 1) := dk_27 (dk_at dksX0_draw_0 3 rfl rfl)
theorem dX0_draw_4 : decode cX0_draw 4 = .ok (.iload_n 2, 1) := dk_28 (dk_at dksX0_draw_0 4 rfl rfl)
theorem dX0_draw_5 : decode cX0_draw 5 = .ok (.invokevirtual 7, 3) := dk_182 0 7 (dk_at dksX0_draw_0 5 rfl rfl)
theorem dX0_draw_8 : decode cX0_draw 8 = .ok (.i2l, 1) := dk_133 (dk_at dksX0_draw_0 8 rfl rfl)
theorem dX0_draw_9 : decode cX0_draw 9 = .ok (.lastore, 1) := dk_80 (dk_at dksX0_draw_0 9 rfl rfl)
theorem dX0_draw_10 : decode cX0_draw 10 = .ok (.goto 11, 3) := dk_167 0 11 (dk_at dksX0_draw_0 10 rfl rfl)
theorem dX0_draw_13 : decode cX0_draw 13 = .ok (.astore 4, 2) := dk_58 4 (dk_at dksX0_draw_0 13 rfl rfl)
theorem dX0_draw_15 : decode cX0_draw 15 = .ok (.iconst 1, 1) := dk_4 (dk_at dksX0_draw_0 15 rfl rfl)
theorem dX0_draw_16 : decode cX0_draw 16 = .ok (.ireturn, 1) := dk_172 (dk_at dksX0_draw_0 16 rfl rfl)
theorem dX0_draw_17 : decode cX0_draw 17 = .ok (.astore 4, 2) := dk_58 4 (dk_at dksX0_draw_0 17 rfl rfl)
theorem dX0_draw_19 : decode cX0_draw 19 = .ok (.iconst 2, 1) := dk_5 (dk_at dksX0_draw_0 19 rfl rfl)
theorem dX0_draw_20 : decode cX0_draw 20 = .ok (.ireturn, 1) := dk_172 (dk_at dksX0_draw_0 20 rfl rfl)
theorem dX0_draw_21 : decode cX0_draw 21 = .ok (.iconst 0, 1) := dk_3 (dk_at dksX0_draw_0 21 rfl rfl)
theorem dX0_draw_22 : decode cX0_draw 22 = .ok (.ireturn, 1) := dk_172 (dk_at dksX0_draw_0 22 rfl rfl)
abbrev cX0_wave : ByteArray := method_4_code
def yX0_wave : MethodName := ⟨RX0, "wave", "(LMelodeon;II[J)I"⟩
def dkwX0_wave_0 : List UInt8 := [45, 3, 42, 27, 28, 182, 0, 17, 133, 80, 167, 0, 11, 58, 4, 4, 172, 58, 4, 5, 172, 3, 172]
abbrev dktX0_wave_0 : List UInt8 := dkwX0_wave_0 ++ []
theorem dksX0_wave_0 : cX0_wave.data.toList.drop 0 = dktX0_wave_0 := by decide +kernel
theorem dX0_wave_0 : decode cX0_wave 0 = .ok (.aload_n 3, 1) := dk_45 (dk_at dksX0_wave_0 0 rfl rfl)
theorem dX0_wave_1 : decode cX0_wave 1 = .ok (.iconst 0, 1) := dk_3 (dk_at dksX0_wave_0 1 rfl rfl)
theorem dX0_wave_2 : decode cX0_wave 2 = .ok (.aload_n 0, 1) := dk_42 (dk_at dksX0_wave_0 2 rfl rfl)
theorem dX0_wave_3 : decode cX0_wave 3 = .ok (.iload_n 1, 1) := dk_27 (dk_at dksX0_wave_0 3 rfl rfl)
theorem dX0_wave_4 : decode cX0_wave 4 = .ok (.iload_n 2, 1) := dk_28 (dk_at dksX0_wave_0 4 rfl rfl)
theorem dX0_wave_5 : decode cX0_wave 5 = .ok (.invokevirtual 17, 3) := dk_182 0 17 (dk_at dksX0_wave_0 5 rfl rfl)
theorem dX0_wave_8 : decode cX0_wave 8 = .ok (.i2l, 1) := dk_133 (dk_at dksX0_wave_0 8 rfl rfl)
theorem dX0_wave_9 : decode cX0_wave 9 = .ok (.lastore, 1) := dk_80 (dk_at dksX0_wave_0 9 rfl rfl)
theorem dX0_wave_10 : decode cX0_wave 10 = .ok (.goto 11, 3) := dk_167 0 11 (dk_at dksX0_wave_0 10 rfl rfl)
theorem dX0_wave_13 : decode cX0_wave 13 = .ok (.astore 4, 2) := dk_58 4 (dk_at dksX0_wave_0 13 rfl rfl)
theorem dX0_wave_15 : decode cX0_wave 15 = .ok (.iconst 1, 1) := dk_4 (dk_at dksX0_wave_0 15 rfl rfl)
theorem dX0_wave_16 : decode cX0_wave 16 = .ok (.ireturn, 1) := dk_172 (dk_at dksX0_wave_0 16 rfl rfl)
theorem dX0_wave_17 : decode cX0_wave 17 = .ok (.astore 4, 2) := dk_58 4 (dk_at dksX0_wave_0 17 rfl rfl)
theorem dX0_wave_19 : decode cX0_wave 19 = .ok (.iconst 2, 1) := dk_5 (dk_at dksX0_wave_0 19 rfl rfl)
theorem dX0_wave_20 : decode cX0_wave 20 = .ok (.ireturn, 1) := dk_172 (dk_at dksX0_wave_0 20 rfl rfl)
theorem dX0_wave_21 : decode cX0_wave 21 = .ok (.iconst 0, 1) := dk_3 (dk_at dksX0_wave_0 21 rfl rfl)
theorem dX0_wave_22 : decode cX0_wave 22 = .ok (.ireturn, 1) := dk_172 (dk_at dksX0_wave_0 22 rfl rfl)
abbrev cX0_stride : ByteArray := method_5_code
def yX0_stride : MethodName := ⟨RX0, "stride", "(LMelodeon;I[J)I"⟩
def dkwX0_stride_0 : List UInt8 := [44, 3, 42, 27, 182, 0, 20, 133, 80, 167, 0, 6, 78, 4, 172, 3, 172]
abbrev dktX0_stride_0 : List UInt8 := dkwX0_stride_0 ++ []
theorem dksX0_stride_0 : cX0_stride.data.toList.drop 0 = dktX0_stride_0 := by decide +kernel
theorem dX0_stride_0 : decode cX0_stride 0 = .ok (.aload_n 2, 1) := dk_44 (dk_at dksX0_stride_0 0 rfl rfl)
theorem dX0_stride_1 : decode cX0_stride 1 = .ok (.iconst 0, 1) := dk_3 (dk_at dksX0_stride_0 1 rfl rfl)
theorem dX0_stride_2 : decode cX0_stride 2 = .ok (.aload_n 0, 1) := dk_42 (dk_at dksX0_stride_0 2 rfl rfl)
theorem dX0_stride_3 : decode cX0_stride 3 = .ok (.iload_n 1, 1) := dk_27 (dk_at dksX0_stride_0 3 rfl rfl)
theorem dX0_stride_4 : decode cX0_stride 4 = .ok (.invokevirtual 20, 3) := dk_182 0 20 (dk_at dksX0_stride_0 4 rfl rfl)
theorem dX0_stride_7 : decode cX0_stride 7 = .ok (.i2l, 1) := dk_133 (dk_at dksX0_stride_0 7 rfl rfl)
theorem dX0_stride_8 : decode cX0_stride 8 = .ok (.lastore, 1) := dk_80 (dk_at dksX0_stride_0 8 rfl rfl)
theorem dX0_stride_9 : decode cX0_stride 9 = .ok (.goto 6, 3) := dk_167 0 6 (dk_at dksX0_stride_0 9 rfl rfl)
theorem dX0_stride_12 : decode cX0_stride 12 = .ok (.astore_n 3, 1) := dk_78 (dk_at dksX0_stride_0 12 rfl rfl)
theorem dX0_stride_13 : decode cX0_stride 13 = .ok (.iconst 1, 1) := dk_4 (dk_at dksX0_stride_0 13 rfl rfl)
theorem dX0_stride_14 : decode cX0_stride 14 = .ok (.ireturn, 1) := dk_172 (dk_at dksX0_stride_0 14 rfl rfl)
theorem dX0_stride_15 : decode cX0_stride 15 = .ok (.iconst 0, 1) := dk_3 (dk_at dksX0_stride_0 15 rfl rfl)
theorem dX0_stride_16 : decode cX0_stride 16 = .ok (.ireturn, 1) := dk_172 (dk_at dksX0_stride_0 16 rfl rfl)
abbrev cX0_setWaves : ByteArray := method_6_code
def yX0_setWaves : MethodName := ⟨RX0, "setWaves", "(LMelodeon;IIIII[J)I"⟩
def dkwX0_setWaves_1 : List UInt8 := [58, 7, 5, 172, 3, 172]
abbrev dktX0_setWaves_1 : List UInt8 := dkwX0_setWaves_1 ++ []
def dkwX0_setWaves_0 : List UInt8 := [25, 6, 3, 42, 27, 28, 29, 21, 4, 21, 5, 182, 0, 24, 133, 80, 167, 0, 11, 58, 7, 4, 172]
abbrev dktX0_setWaves_0 : List UInt8 := dkwX0_setWaves_0 ++ dktX0_setWaves_1
theorem dksX0_setWaves_0 : cX0_setWaves.data.toList.drop 0 = dktX0_setWaves_0 := by decide +kernel
theorem dksX0_setWaves_1 : cX0_setWaves.data.toList.drop 23 = dktX0_setWaves_1 := dk_seg dksX0_setWaves_0 23 rfl rfl
theorem dX0_setWaves_0 : decode cX0_setWaves 0 = .ok (.aload 6, 2) := dk_25 6 (dk_at dksX0_setWaves_0 0 rfl rfl)
theorem dX0_setWaves_2 : decode cX0_setWaves 2 = .ok (.iconst 0, 1) := dk_3 (dk_at dksX0_setWaves_0 2 rfl rfl)
theorem dX0_setWaves_3 : decode cX0_setWaves 3 = .ok (.aload_n 0, 1) := dk_42 (dk_at dksX0_setWaves_0 3 rfl rfl)
theorem dX0_setWaves_4 : decode cX0_setWaves 4 = .ok (.iload_n 1, 1) := dk_27 (dk_at dksX0_setWaves_0 4 rfl rfl)
theorem dX0_setWaves_5 : decode cX0_setWaves 5 = .ok (.iload_n 2, 1) := dk_28 (dk_at dksX0_setWaves_0 5 rfl rfl)
theorem dX0_setWaves_6 : decode cX0_setWaves 6 = .ok (.iload_n 3, 1) := dk_29 (dk_at dksX0_setWaves_0 6 rfl rfl)
theorem dX0_setWaves_7 : decode cX0_setWaves 7 = .ok (.iload 4, 2) := dk_21 4 (dk_at dksX0_setWaves_0 7 rfl rfl)
theorem dX0_setWaves_9 : decode cX0_setWaves 9 = .ok (.iload 5, 2) := dk_21 5 (dk_at dksX0_setWaves_0 9 rfl rfl)
theorem dX0_setWaves_11 : decode cX0_setWaves 11 = .ok (.invokevirtual 24, 3) := dk_182 0 24 (dk_at dksX0_setWaves_0 11 rfl rfl)
theorem dX0_setWaves_14 : decode cX0_setWaves 14 = .ok (.i2l, 1) := dk_133 (dk_at dksX0_setWaves_0 14 rfl rfl)
theorem dX0_setWaves_15 : decode cX0_setWaves 15 = .ok (.lastore, 1) := dk_80 (dk_at dksX0_setWaves_0 15 rfl rfl)
theorem dX0_setWaves_16 : decode cX0_setWaves 16 = .ok (.goto 11, 3) := dk_167 0 11 (dk_at dksX0_setWaves_0 16 rfl rfl)
theorem dX0_setWaves_19 : decode cX0_setWaves 19 = .ok (.astore 7, 2) := dk_58 7 (dk_at dksX0_setWaves_0 19 rfl rfl)
theorem dX0_setWaves_21 : decode cX0_setWaves 21 = .ok (.iconst 1, 1) := dk_4 (dk_at dksX0_setWaves_0 21 rfl rfl)
theorem dX0_setWaves_22 : decode cX0_setWaves 22 = .ok (.ireturn, 1) := dk_172 (dk_at dksX0_setWaves_0 22 rfl rfl)
theorem dX0_setWaves_23 : decode cX0_setWaves 23 = .ok (.astore 7, 2) := dk_58 7 (dk_at dksX0_setWaves_1 0 rfl rfl)
theorem dX0_setWaves_25 : decode cX0_setWaves 25 = .ok (.iconst 2, 1) := dk_5 (dk_at dksX0_setWaves_1 2 rfl rfl)
theorem dX0_setWaves_26 : decode cX0_setWaves 26 = .ok (.ireturn, 1) := dk_172 (dk_at dksX0_setWaves_1 3 rfl rfl)
theorem dX0_setWaves_27 : decode cX0_setWaves 27 = .ok (.iconst 0, 1) := dk_3 (dk_at dksX0_setWaves_1 4 rfl rfl)
theorem dX0_setWaves_28 : decode cX0_setWaves 28 = .ok (.ireturn, 1) := dk_172 (dk_at dksX0_setWaves_1 5 rfl rfl)
abbrev cX0_setEnvelope : ByteArray := method_7_code
def yX0_setEnvelope : MethodName := ⟨RX0, "setEnvelope", "(LMelodeon;IIIII[J)I"⟩
def dkwX0_setEnvelope_1 : List UInt8 := [58, 7, 5, 172, 3, 172]
abbrev dktX0_setEnvelope_1 : List UInt8 := dkwX0_setEnvelope_1 ++ []
def dkwX0_setEnvelope_0 : List UInt8 := [25, 6, 3, 42, 27, 28, 29, 21, 4, 21, 5, 182, 0, 28, 133, 80, 167, 0, 11, 58, 7, 4, 172]
abbrev dktX0_setEnvelope_0 : List UInt8 := dkwX0_setEnvelope_0 ++ dktX0_setEnvelope_1
theorem dksX0_setEnvelope_0 : cX0_setEnvelope.data.toList.drop 0 = dktX0_setEnvelope_0 := by decide +kernel
theorem dksX0_setEnvelope_1 : cX0_setEnvelope.data.toList.drop 23 = dktX0_setEnvelope_1 := dk_seg dksX0_setEnvelope_0 23 rfl rfl
theorem dX0_setEnvelope_0 : decode cX0_setEnvelope 0 = .ok (.aload 6, 2) := dk_25 6 (dk_at dksX0_setEnvelope_0 0 rfl rfl)
theorem dX0_setEnvelope_2 : decode cX0_setEnvelope 2 = .ok (.iconst 0, 1) := dk_3 (dk_at dksX0_setEnvelope_0 2 rfl rfl)
theorem dX0_setEnvelope_3 : decode cX0_setEnvelope 3 = .ok (.aload_n 0, 1) := dk_42 (dk_at dksX0_setEnvelope_0 3 rfl rfl)
theorem dX0_setEnvelope_4 : decode cX0_setEnvelope 4 = .ok (.iload_n 1, 1) := dk_27 (dk_at dksX0_setEnvelope_0 4 rfl rfl)
theorem dX0_setEnvelope_5 : decode cX0_setEnvelope 5 = .ok (.iload_n 2, 1) := dk_28 (dk_at dksX0_setEnvelope_0 5 rfl rfl)
theorem dX0_setEnvelope_6 : decode cX0_setEnvelope 6 = .ok (.iload_n 3, 1) := dk_29 (dk_at dksX0_setEnvelope_0 6 rfl rfl)
theorem dX0_setEnvelope_7 : decode cX0_setEnvelope 7 = .ok (.iload 4, 2) := dk_21 4 (dk_at dksX0_setEnvelope_0 7 rfl rfl)
theorem dX0_setEnvelope_9 : decode cX0_setEnvelope 9 = .ok (.iload 5, 2) := dk_21 5 (dk_at dksX0_setEnvelope_0 9 rfl rfl)
theorem dX0_setEnvelope_11 : decode cX0_setEnvelope 11 = .ok (.invokevirtual 28, 3) := dk_182 0 28 (dk_at dksX0_setEnvelope_0 11 rfl rfl)
theorem dX0_setEnvelope_14 : decode cX0_setEnvelope 14 = .ok (.i2l, 1) := dk_133 (dk_at dksX0_setEnvelope_0 14 rfl rfl)
theorem dX0_setEnvelope_15 : decode cX0_setEnvelope 15 = .ok (.lastore, 1) := dk_80 (dk_at dksX0_setEnvelope_0 15 rfl rfl)
theorem dX0_setEnvelope_16 : decode cX0_setEnvelope 16 = .ok (.goto 11, 3) := dk_167 0 11 (dk_at dksX0_setEnvelope_0 16 rfl rfl)
theorem dX0_setEnvelope_19 : decode cX0_setEnvelope 19 = .ok (.astore 7, 2) := dk_58 7 (dk_at dksX0_setEnvelope_0 19 rfl rfl)
theorem dX0_setEnvelope_21 : decode cX0_setEnvelope 21 = .ok (.iconst 1, 1) := dk_4 (dk_at dksX0_setEnvelope_0 21 rfl rfl)
theorem dX0_setEnvelope_22 : decode cX0_setEnvelope 22 = .ok (.ireturn, 1) := dk_172 (dk_at dksX0_setEnvelope_0 22 rfl rfl)
theorem dX0_setEnvelope_23 : decode cX0_setEnvelope 23 = .ok (.astore 7, 2) := dk_58 7 (dk_at dksX0_setEnvelope_1 0 rfl rfl)
theorem dX0_setEnvelope_25 : decode cX0_setEnvelope 25 = .ok (.iconst 2, 1) := dk_5 (dk_at dksX0_setEnvelope_1 2 rfl rfl)
theorem dX0_setEnvelope_26 : decode cX0_setEnvelope 26 = .ok (.ireturn, 1) := dk_172 (dk_at dksX0_setEnvelope_1 3 rfl rfl)
theorem dX0_setEnvelope_27 : decode cX0_setEnvelope 27 = .ok (.iconst 0, 1) := dk_3 (dk_at dksX0_setEnvelope_1 4 rfl rfl)
theorem dX0_setEnvelope_28 : decode cX0_setEnvelope 28 = .ok (.ireturn, 1) := dk_172 (dk_at dksX0_setEnvelope_1 5 rfl rfl)
abbrev cX0_setFilter : ByteArray := method_8_code
def yX0_setFilter : MethodName := ⟨RX0, "setFilter", "(LMelodeon;III[J)I"⟩
def dkwX0_setFilter_1 : List UInt8 := [172]
abbrev dktX0_setFilter_1 : List UInt8 := dkwX0_setFilter_1 ++ []
def dkwX0_setFilter_0 : List UInt8 := [25, 4, 3, 42, 27, 28, 29, 182, 0, 31, 133, 80, 167, 0, 11, 58, 5, 4, 172, 58, 5, 5, 172, 3]
abbrev dktX0_setFilter_0 : List UInt8 := dkwX0_setFilter_0 ++ dktX0_setFilter_1
theorem dksX0_setFilter_0 : cX0_setFilter.data.toList.drop 0 = dktX0_setFilter_0 := by decide +kernel
theorem dksX0_setFilter_1 : cX0_setFilter.data.toList.drop 24 = dktX0_setFilter_1 := dk_seg dksX0_setFilter_0 24 rfl rfl
theorem dX0_setFilter_0 : decode cX0_setFilter 0 = .ok (.aload 4, 2) := dk_25 4 (dk_at dksX0_setFilter_0 0 rfl rfl)
theorem dX0_setFilter_2 : decode cX0_setFilter 2 = .ok (.iconst 0, 1) := dk_3 (dk_at dksX0_setFilter_0 2 rfl rfl)
theorem dX0_setFilter_3 : decode cX0_setFilter 3 = .ok (.aload_n 0, 1) := dk_42 (dk_at dksX0_setFilter_0 3 rfl rfl)
theorem dX0_setFilter_4 : decode cX0_setFilter 4 = .ok (.iload_n 1, 1) := dk_27 (dk_at dksX0_setFilter_0 4 rfl rfl)
theorem dX0_setFilter_5 : decode cX0_setFilter 5 = .ok (.iload_n 2, 1) := dk_28 (dk_at dksX0_setFilter_0 5 rfl rfl)
theorem dX0_setFilter_6 : decode cX0_setFilter 6 = .ok (.iload_n 3, 1) := dk_29 (dk_at dksX0_setFilter_0 6 rfl rfl)
theorem dX0_setFilter_7 : decode cX0_setFilter 7 = .ok (.invokevirtual 31, 3) := dk_182 0 31 (dk_at dksX0_setFilter_0 7 rfl rfl)
theorem dX0_setFilter_10 : decode cX0_setFilter 10 = .ok (.i2l, 1) := dk_133 (dk_at dksX0_setFilter_0 10 rfl rfl)
theorem dX0_setFilter_11 : decode cX0_setFilter 11 = .ok (.lastore, 1) := dk_80 (dk_at dksX0_setFilter_0 11 rfl rfl)
theorem dX0_setFilter_12 : decode cX0_setFilter 12 = .ok (.goto 11, 3) := dk_167 0 11 (dk_at dksX0_setFilter_0 12 rfl rfl)
theorem dX0_setFilter_15 : decode cX0_setFilter 15 = .ok (.astore 5, 2) := dk_58 5 (dk_at dksX0_setFilter_0 15 rfl rfl)
theorem dX0_setFilter_17 : decode cX0_setFilter 17 = .ok (.iconst 1, 1) := dk_4 (dk_at dksX0_setFilter_0 17 rfl rfl)
theorem dX0_setFilter_18 : decode cX0_setFilter 18 = .ok (.ireturn, 1) := dk_172 (dk_at dksX0_setFilter_0 18 rfl rfl)
theorem dX0_setFilter_19 : decode cX0_setFilter 19 = .ok (.astore 5, 2) := dk_58 5 (dk_at dksX0_setFilter_0 19 rfl rfl)
theorem dX0_setFilter_21 : decode cX0_setFilter 21 = .ok (.iconst 2, 1) := dk_5 (dk_at dksX0_setFilter_0 21 rfl rfl)
theorem dX0_setFilter_22 : decode cX0_setFilter 22 = .ok (.ireturn, 1) := dk_172 (dk_at dksX0_setFilter_0 22 rfl rfl)
theorem dX0_setFilter_23 : decode cX0_setFilter 23 = .ok (.iconst 0, 1) := dk_3 (dk_at dksX0_setFilter_0 23 rfl rfl)
theorem dX0_setFilter_24 : decode cX0_setFilter 24 = .ok (.ireturn, 1) := dk_172 (dk_at dksX0_setFilter_1 0 rfl rfl)
abbrev cX0_setVibrato : ByteArray := method_9_code
def yX0_setVibrato : MethodName := ⟨RX0, "setVibrato", "(LMelodeon;III[J)I"⟩
def dkwX0_setVibrato_1 : List UInt8 := [172]
abbrev dktX0_setVibrato_1 : List UInt8 := dkwX0_setVibrato_1 ++ []
def dkwX0_setVibrato_0 : List UInt8 := [25, 4, 3, 42, 27, 28, 29, 182, 0, 35, 133, 80, 167, 0, 11, 58, 5, 4, 172, 58, 5, 5, 172, 3]
abbrev dktX0_setVibrato_0 : List UInt8 := dkwX0_setVibrato_0 ++ dktX0_setVibrato_1
theorem dksX0_setVibrato_0 : cX0_setVibrato.data.toList.drop 0 = dktX0_setVibrato_0 := by decide +kernel
theorem dksX0_setVibrato_1 : cX0_setVibrato.data.toList.drop 24 = dktX0_setVibrato_1 := dk_seg dksX0_setVibrato_0 24 rfl rfl
theorem dX0_setVibrato_0 : decode cX0_setVibrato 0 = .ok (.aload 4, 2) := dk_25 4 (dk_at dksX0_setVibrato_0 0 rfl rfl)
theorem dX0_setVibrato_2 : decode cX0_setVibrato 2 = .ok (.iconst 0, 1) := dk_3 (dk_at dksX0_setVibrato_0 2 rfl rfl)
theorem dX0_setVibrato_3 : decode cX0_setVibrato 3 = .ok (.aload_n 0, 1) := dk_42 (dk_at dksX0_setVibrato_0 3 rfl rfl)
theorem dX0_setVibrato_4 : decode cX0_setVibrato 4 = .ok (.iload_n 1, 1) := dk_27 (dk_at dksX0_setVibrato_0 4 rfl rfl)
theorem dX0_setVibrato_5 : decode cX0_setVibrato 5 = .ok (.iload_n 2, 1) := dk_28 (dk_at dksX0_setVibrato_0 5 rfl rfl)
theorem dX0_setVibrato_6 : decode cX0_setVibrato 6 = .ok (.iload_n 3, 1) := dk_29 (dk_at dksX0_setVibrato_0 6 rfl rfl)
theorem dX0_setVibrato_7 : decode cX0_setVibrato 7 = .ok (.invokevirtual 35, 3) := dk_182 0 35 (dk_at dksX0_setVibrato_0 7 rfl rfl)
theorem dX0_setVibrato_10 : decode cX0_setVibrato 10 = .ok (.i2l, 1) := dk_133 (dk_at dksX0_setVibrato_0 10 rfl rfl)
theorem dX0_setVibrato_11 : decode cX0_setVibrato 11 = .ok (.lastore, 1) := dk_80 (dk_at dksX0_setVibrato_0 11 rfl rfl)
theorem dX0_setVibrato_12 : decode cX0_setVibrato 12 = .ok (.goto 11, 3) := dk_167 0 11 (dk_at dksX0_setVibrato_0 12 rfl rfl)
theorem dX0_setVibrato_15 : decode cX0_setVibrato 15 = .ok (.astore 5, 2) := dk_58 5 (dk_at dksX0_setVibrato_0 15 rfl rfl)
theorem dX0_setVibrato_17 : decode cX0_setVibrato 17 = .ok (.iconst 1, 1) := dk_4 (dk_at dksX0_setVibrato_0 17 rfl rfl)
theorem dX0_setVibrato_18 : decode cX0_setVibrato 18 = .ok (.ireturn, 1) := dk_172 (dk_at dksX0_setVibrato_0 18 rfl rfl)
theorem dX0_setVibrato_19 : decode cX0_setVibrato 19 = .ok (.astore 5, 2) := dk_58 5 (dk_at dksX0_setVibrato_0 19 rfl rfl)
theorem dX0_setVibrato_21 : decode cX0_setVibrato 21 = .ok (.iconst 2, 1) := dk_5 (dk_at dksX0_setVibrato_0 21 rfl rfl)
theorem dX0_setVibrato_22 : decode cX0_setVibrato 22 = .ok (.ireturn, 1) := dk_172 (dk_at dksX0_setVibrato_0 22 rfl rfl)
theorem dX0_setVibrato_23 : decode cX0_setVibrato 23 = .ok (.iconst 0, 1) := dk_3 (dk_at dksX0_setVibrato_0 23 rfl rfl)
theorem dX0_setVibrato_24 : decode cX0_setVibrato 24 = .ok (.ireturn, 1) := dk_172 (dk_at dksX0_setVibrato_1 0 rfl rfl)
abbrev cX0_setGain : ByteArray := method_10_code
def yX0_setGain : MethodName := ⟨RX0, "setGain", "(LMelodeon;I[J)I"⟩
def dkwX0_setGain_0 : List UInt8 := [44, 3, 42, 27, 182, 0, 38, 133, 80, 167, 0, 6, 78, 4, 172, 3, 172]
abbrev dktX0_setGain_0 : List UInt8 := dkwX0_setGain_0 ++ []
theorem dksX0_setGain_0 : cX0_setGain.data.toList.drop 0 = dktX0_setGain_0 := by decide +kernel
theorem dX0_setGain_0 : decode cX0_setGain 0 = .ok (.aload_n 2, 1) := dk_44 (dk_at dksX0_setGain_0 0 rfl rfl)
theorem dX0_setGain_1 : decode cX0_setGain 1 = .ok (.iconst 0, 1) := dk_3 (dk_at dksX0_setGain_0 1 rfl rfl)
theorem dX0_setGain_2 : decode cX0_setGain 2 = .ok (.aload_n 0, 1) := dk_42 (dk_at dksX0_setGain_0 2 rfl rfl)
theorem dX0_setGain_3 : decode cX0_setGain 3 = .ok (.iload_n 1, 1) := dk_27 (dk_at dksX0_setGain_0 3 rfl rfl)
theorem dX0_setGain_4 : decode cX0_setGain 4 = .ok (.invokevirtual 38, 3) := dk_182 0 38 (dk_at dksX0_setGain_0 4 rfl rfl)
theorem dX0_setGain_7 : decode cX0_setGain 7 = .ok (.i2l, 1) := dk_133 (dk_at dksX0_setGain_0 7 rfl rfl)
theorem dX0_setGain_8 : decode cX0_setGain 8 = .ok (.lastore, 1) := dk_80 (dk_at dksX0_setGain_0 8 rfl rfl)
theorem dX0_setGain_9 : decode cX0_setGain 9 = .ok (.goto 6, 3) := dk_167 0 6 (dk_at dksX0_setGain_0 9 rfl rfl)
theorem dX0_setGain_12 : decode cX0_setGain 12 = .ok (.astore_n 3, 1) := dk_78 (dk_at dksX0_setGain_0 12 rfl rfl)
theorem dX0_setGain_13 : decode cX0_setGain 13 = .ok (.iconst 1, 1) := dk_4 (dk_at dksX0_setGain_0 13 rfl rfl)
theorem dX0_setGain_14 : decode cX0_setGain 14 = .ok (.ireturn, 1) := dk_172 (dk_at dksX0_setGain_0 14 rfl rfl)
theorem dX0_setGain_15 : decode cX0_setGain 15 = .ok (.iconst 0, 1) := dk_3 (dk_at dksX0_setGain_0 15 rfl rfl)
theorem dX0_setGain_16 : decode cX0_setGain 16 = .ok (.ireturn, 1) := dk_172 (dk_at dksX0_setGain_0 16 rfl rfl)
abbrev cX0_setDelay : ByteArray := method_11_code
def yX0_setDelay : MethodName := ⟨RX0, "setDelay", "(LMelodeon;III[J)I"⟩
def dkwX0_setDelay_0 : List UInt8 := [25, 4, 3, 42, 27, 28, 29, 182, 0, 41, 133, 80, 167, 0, 7, 58, 5, 4, 172, 3, 172]
abbrev dktX0_setDelay_0 : List UInt8 := dkwX0_setDelay_0 ++ []
theorem dksX0_setDelay_0 : cX0_setDelay.data.toList.drop 0 = dktX0_setDelay_0 := by decide +kernel
theorem dX0_setDelay_0 : decode cX0_setDelay 0 = .ok (.aload 4, 2) := dk_25 4 (dk_at dksX0_setDelay_0 0 rfl rfl)
theorem dX0_setDelay_2 : decode cX0_setDelay 2 = .ok (.iconst 0, 1) := dk_3 (dk_at dksX0_setDelay_0 2 rfl rfl)
theorem dX0_setDelay_3 : decode cX0_setDelay 3 = .ok (.aload_n 0, 1) := dk_42 (dk_at dksX0_setDelay_0 3 rfl rfl)
theorem dX0_setDelay_4 : decode cX0_setDelay 4 = .ok (.iload_n 1, 1) := dk_27 (dk_at dksX0_setDelay_0 4 rfl rfl)
theorem dX0_setDelay_5 : decode cX0_setDelay 5 = .ok (.iload_n 2, 1) := dk_28 (dk_at dksX0_setDelay_0 5 rfl rfl)
theorem dX0_setDelay_6 : decode cX0_setDelay 6 = .ok (.iload_n 3, 1) := dk_29 (dk_at dksX0_setDelay_0 6 rfl rfl)
theorem dX0_setDelay_7 : decode cX0_setDelay 7 = .ok (.invokevirtual 41, 3) := dk_182 0 41 (dk_at dksX0_setDelay_0 7 rfl rfl)
theorem dX0_setDelay_10 : decode cX0_setDelay 10 = .ok (.i2l, 1) := dk_133 (dk_at dksX0_setDelay_0 10 rfl rfl)
theorem dX0_setDelay_11 : decode cX0_setDelay 11 = .ok (.lastore, 1) := dk_80 (dk_at dksX0_setDelay_0 11 rfl rfl)
theorem dX0_setDelay_12 : decode cX0_setDelay 12 = .ok (.goto 7, 3) := dk_167 0 7 (dk_at dksX0_setDelay_0 12 rfl rfl)
theorem dX0_setDelay_15 : decode cX0_setDelay 15 = .ok (.astore 5, 2) := dk_58 5 (dk_at dksX0_setDelay_0 15 rfl rfl)
theorem dX0_setDelay_17 : decode cX0_setDelay 17 = .ok (.iconst 1, 1) := dk_4 (dk_at dksX0_setDelay_0 17 rfl rfl)
theorem dX0_setDelay_18 : decode cX0_setDelay 18 = .ok (.ireturn, 1) := dk_172 (dk_at dksX0_setDelay_0 18 rfl rfl)
theorem dX0_setDelay_19 : decode cX0_setDelay 19 = .ok (.iconst 0, 1) := dk_3 (dk_at dksX0_setDelay_0 19 rfl rfl)
theorem dX0_setDelay_20 : decode cX0_setDelay 20 = .ok (.ireturn, 1) := dk_172 (dk_at dksX0_setDelay_0 20 rfl rfl)
abbrev cX0_begin : ByteArray := method_12_code
def yX0_begin : MethodName := ⟨RX0, "begin", "(LMelodeon;III[J)I"⟩
def dkwX0_begin_1 : List UInt8 := [172]
abbrev dktX0_begin_1 : List UInt8 := dkwX0_begin_1 ++ []
def dkwX0_begin_0 : List UInt8 := [25, 4, 3, 42, 27, 28, 29, 182, 0, 44, 133, 80, 167, 0, 11, 58, 5, 4, 172, 58, 5, 5, 172, 3]
abbrev dktX0_begin_0 : List UInt8 := dkwX0_begin_0 ++ dktX0_begin_1
theorem dksX0_begin_0 : cX0_begin.data.toList.drop 0 = dktX0_begin_0 := by decide +kernel
theorem dksX0_begin_1 : cX0_begin.data.toList.drop 24 = dktX0_begin_1 := dk_seg dksX0_begin_0 24 rfl rfl
theorem dX0_begin_0 : decode cX0_begin 0 = .ok (.aload 4, 2) := dk_25 4 (dk_at dksX0_begin_0 0 rfl rfl)
theorem dX0_begin_2 : decode cX0_begin 2 = .ok (.iconst 0, 1) := dk_3 (dk_at dksX0_begin_0 2 rfl rfl)
theorem dX0_begin_3 : decode cX0_begin 3 = .ok (.aload_n 0, 1) := dk_42 (dk_at dksX0_begin_0 3 rfl rfl)
theorem dX0_begin_4 : decode cX0_begin 4 = .ok (.iload_n 1, 1) := dk_27 (dk_at dksX0_begin_0 4 rfl rfl)
theorem dX0_begin_5 : decode cX0_begin 5 = .ok (.iload_n 2, 1) := dk_28 (dk_at dksX0_begin_0 5 rfl rfl)
theorem dX0_begin_6 : decode cX0_begin 6 = .ok (.iload_n 3, 1) := dk_29 (dk_at dksX0_begin_0 6 rfl rfl)
theorem dX0_begin_7 : decode cX0_begin 7 = .ok (.invokevirtual 44, 3) := dk_182 0 44 (dk_at dksX0_begin_0 7 rfl rfl)
theorem dX0_begin_10 : decode cX0_begin 10 = .ok (.i2l, 1) := dk_133 (dk_at dksX0_begin_0 10 rfl rfl)
theorem dX0_begin_11 : decode cX0_begin 11 = .ok (.lastore, 1) := dk_80 (dk_at dksX0_begin_0 11 rfl rfl)
theorem dX0_begin_12 : decode cX0_begin 12 = .ok (.goto 11, 3) := dk_167 0 11 (dk_at dksX0_begin_0 12 rfl rfl)
theorem dX0_begin_15 : decode cX0_begin 15 = .ok (.astore 5, 2) := dk_58 5 (dk_at dksX0_begin_0 15 rfl rfl)
theorem dX0_begin_17 : decode cX0_begin 17 = .ok (.iconst 1, 1) := dk_4 (dk_at dksX0_begin_0 17 rfl rfl)
theorem dX0_begin_18 : decode cX0_begin 18 = .ok (.ireturn, 1) := dk_172 (dk_at dksX0_begin_0 18 rfl rfl)
theorem dX0_begin_19 : decode cX0_begin 19 = .ok (.astore 5, 2) := dk_58 5 (dk_at dksX0_begin_0 19 rfl rfl)
theorem dX0_begin_21 : decode cX0_begin 21 = .ok (.iconst 2, 1) := dk_5 (dk_at dksX0_begin_0 21 rfl rfl)
theorem dX0_begin_22 : decode cX0_begin 22 = .ok (.ireturn, 1) := dk_172 (dk_at dksX0_begin_0 22 rfl rfl)
theorem dX0_begin_23 : decode cX0_begin 23 = .ok (.iconst 0, 1) := dk_3 (dk_at dksX0_begin_0 23 rfl rfl)
theorem dX0_begin_24 : decode cX0_begin 24 = .ok (.ireturn, 1) := dk_172 (dk_at dksX0_begin_1 0 rfl rfl)
abbrev cX0_end : ByteArray := method_13_code
def yX0_end : MethodName := ⟨RX0, "end", "(LMelodeon;I[J)I"⟩
def dkwX0_end_0 : List UInt8 := [44, 3, 42, 27, 182, 0, 47, 133, 80, 167, 0, 6, 78, 4, 172, 3, 172]
abbrev dktX0_end_0 : List UInt8 := dkwX0_end_0 ++ []
theorem dksX0_end_0 : cX0_end.data.toList.drop 0 = dktX0_end_0 := by decide +kernel
theorem dX0_end_0 : decode cX0_end 0 = .ok (.aload_n 2, 1) := dk_44 (dk_at dksX0_end_0 0 rfl rfl)
theorem dX0_end_1 : decode cX0_end 1 = .ok (.iconst 0, 1) := dk_3 (dk_at dksX0_end_0 1 rfl rfl)
theorem dX0_end_2 : decode cX0_end 2 = .ok (.aload_n 0, 1) := dk_42 (dk_at dksX0_end_0 2 rfl rfl)
theorem dX0_end_3 : decode cX0_end 3 = .ok (.iload_n 1, 1) := dk_27 (dk_at dksX0_end_0 3 rfl rfl)
theorem dX0_end_4 : decode cX0_end 4 = .ok (.invokevirtual 47, 3) := dk_182 0 47 (dk_at dksX0_end_0 4 rfl rfl)
theorem dX0_end_7 : decode cX0_end 7 = .ok (.i2l, 1) := dk_133 (dk_at dksX0_end_0 7 rfl rfl)
theorem dX0_end_8 : decode cX0_end 8 = .ok (.lastore, 1) := dk_80 (dk_at dksX0_end_0 8 rfl rfl)
theorem dX0_end_9 : decode cX0_end 9 = .ok (.goto 6, 3) := dk_167 0 6 (dk_at dksX0_end_0 9 rfl rfl)
theorem dX0_end_12 : decode cX0_end 12 = .ok (.astore_n 3, 1) := dk_78 (dk_at dksX0_end_0 12 rfl rfl)
theorem dX0_end_13 : decode cX0_end 13 = .ok (.iconst 1, 1) := dk_4 (dk_at dksX0_end_0 13 rfl rfl)
theorem dX0_end_14 : decode cX0_end 14 = .ok (.ireturn, 1) := dk_172 (dk_at dksX0_end_0 14 rfl rfl)
theorem dX0_end_15 : decode cX0_end 15 = .ok (.iconst 0, 1) := dk_3 (dk_at dksX0_end_0 15 rfl rfl)
theorem dX0_end_16 : decode cX0_end 16 = .ok (.ireturn, 1) := dk_172 (dk_at dksX0_end_0 16 rfl rfl)
abbrev cX0_write : ByteArray := method_14_code
def yX0_write : MethodName := ⟨RX0, "write", "(LMelodeon;IIIII[J)I"⟩
def dkwX0_write_1 : List UInt8 := [58, 7, 5, 172, 3, 172]
abbrev dktX0_write_1 : List UInt8 := dkwX0_write_1 ++ []
def dkwX0_write_0 : List UInt8 := [25, 6, 3, 42, 27, 28, 29, 21, 4, 21, 5, 182, 0, 50, 133, 80, 167, 0, 11, 58, 7, 4, 172]
abbrev dktX0_write_0 : List UInt8 := dkwX0_write_0 ++ dktX0_write_1
theorem dksX0_write_0 : cX0_write.data.toList.drop 0 = dktX0_write_0 := by decide +kernel
theorem dksX0_write_1 : cX0_write.data.toList.drop 23 = dktX0_write_1 := dk_seg dksX0_write_0 23 rfl rfl
theorem dX0_write_0 : decode cX0_write 0 = .ok (.aload 6, 2) := dk_25 6 (dk_at dksX0_write_0 0 rfl rfl)
theorem dX0_write_2 : decode cX0_write 2 = .ok (.iconst 0, 1) := dk_3 (dk_at dksX0_write_0 2 rfl rfl)
theorem dX0_write_3 : decode cX0_write 3 = .ok (.aload_n 0, 1) := dk_42 (dk_at dksX0_write_0 3 rfl rfl)
theorem dX0_write_4 : decode cX0_write 4 = .ok (.iload_n 1, 1) := dk_27 (dk_at dksX0_write_0 4 rfl rfl)
theorem dX0_write_5 : decode cX0_write 5 = .ok (.iload_n 2, 1) := dk_28 (dk_at dksX0_write_0 5 rfl rfl)
theorem dX0_write_6 : decode cX0_write 6 = .ok (.iload_n 3, 1) := dk_29 (dk_at dksX0_write_0 6 rfl rfl)
theorem dX0_write_7 : decode cX0_write 7 = .ok (.iload 4, 2) := dk_21 4 (dk_at dksX0_write_0 7 rfl rfl)
theorem dX0_write_9 : decode cX0_write 9 = .ok (.iload 5, 2) := dk_21 5 (dk_at dksX0_write_0 9 rfl rfl)
theorem dX0_write_11 : decode cX0_write 11 = .ok (.invokevirtual 50, 3) := dk_182 0 50 (dk_at dksX0_write_0 11 rfl rfl)
theorem dX0_write_14 : decode cX0_write 14 = .ok (.i2l, 1) := dk_133 (dk_at dksX0_write_0 14 rfl rfl)
theorem dX0_write_15 : decode cX0_write 15 = .ok (.lastore, 1) := dk_80 (dk_at dksX0_write_0 15 rfl rfl)
theorem dX0_write_16 : decode cX0_write 16 = .ok (.goto 11, 3) := dk_167 0 11 (dk_at dksX0_write_0 16 rfl rfl)
theorem dX0_write_19 : decode cX0_write 19 = .ok (.astore 7, 2) := dk_58 7 (dk_at dksX0_write_0 19 rfl rfl)
theorem dX0_write_21 : decode cX0_write 21 = .ok (.iconst 1, 1) := dk_4 (dk_at dksX0_write_0 21 rfl rfl)
theorem dX0_write_22 : decode cX0_write 22 = .ok (.ireturn, 1) := dk_172 (dk_at dksX0_write_0 22 rfl rfl)
theorem dX0_write_23 : decode cX0_write 23 = .ok (.astore 7, 2) := dk_58 7 (dk_at dksX0_write_1 0 rfl rfl)
theorem dX0_write_25 : decode cX0_write 25 = .ok (.iconst 2, 1) := dk_5 (dk_at dksX0_write_1 2 rfl rfl)
theorem dX0_write_26 : decode cX0_write 26 = .ok (.ireturn, 1) := dk_172 (dk_at dksX0_write_1 3 rfl rfl)
theorem dX0_write_27 : decode cX0_write 27 = .ok (.iconst 0, 1) := dk_3 (dk_at dksX0_write_1 4 rfl rfl)
theorem dX0_write_28 : decode cX0_write 28 = .ok (.ireturn, 1) := dk_172 (dk_at dksX0_write_1 5 rfl rfl)
abbrev cX0_setTrack : ByteArray := method_15_code
def yX0_setTrack : MethodName := ⟨RX0, "setTrack", "(LMelodeon;II[J)I"⟩
def dkwX0_setTrack_0 : List UInt8 := [45, 3, 42, 27, 28, 182, 0, 53, 133, 80, 167, 0, 7, 58, 4, 4, 172, 3, 172]
abbrev dktX0_setTrack_0 : List UInt8 := dkwX0_setTrack_0 ++ []
theorem dksX0_setTrack_0 : cX0_setTrack.data.toList.drop 0 = dktX0_setTrack_0 := by decide +kernel
theorem dX0_setTrack_0 : decode cX0_setTrack 0 = .ok (.aload_n 3, 1) := dk_45 (dk_at dksX0_setTrack_0 0 rfl rfl)
theorem dX0_setTrack_1 : decode cX0_setTrack 1 = .ok (.iconst 0, 1) := dk_3 (dk_at dksX0_setTrack_0 1 rfl rfl)
theorem dX0_setTrack_2 : decode cX0_setTrack 2 = .ok (.aload_n 0, 1) := dk_42 (dk_at dksX0_setTrack_0 2 rfl rfl)
theorem dX0_setTrack_3 : decode cX0_setTrack 3 = .ok (.iload_n 1, 1) := dk_27 (dk_at dksX0_setTrack_0 3 rfl rfl)
theorem dX0_setTrack_4 : decode cX0_setTrack 4 = .ok (.iload_n 2, 1) := dk_28 (dk_at dksX0_setTrack_0 4 rfl rfl)
theorem dX0_setTrack_5 : decode cX0_setTrack 5 = .ok (.invokevirtual 53, 3) := dk_182 0 53 (dk_at dksX0_setTrack_0 5 rfl rfl)
theorem dX0_setTrack_8 : decode cX0_setTrack 8 = .ok (.i2l, 1) := dk_133 (dk_at dksX0_setTrack_0 8 rfl rfl)
theorem dX0_setTrack_9 : decode cX0_setTrack 9 = .ok (.lastore, 1) := dk_80 (dk_at dksX0_setTrack_0 9 rfl rfl)
theorem dX0_setTrack_10 : decode cX0_setTrack 10 = .ok (.goto 7, 3) := dk_167 0 7 (dk_at dksX0_setTrack_0 10 rfl rfl)
theorem dX0_setTrack_13 : decode cX0_setTrack 13 = .ok (.astore 4, 2) := dk_58 4 (dk_at dksX0_setTrack_0 13 rfl rfl)
theorem dX0_setTrack_15 : decode cX0_setTrack 15 = .ok (.iconst 1, 1) := dk_4 (dk_at dksX0_setTrack_0 15 rfl rfl)
theorem dX0_setTrack_16 : decode cX0_setTrack 16 = .ok (.ireturn, 1) := dk_172 (dk_at dksX0_setTrack_0 16 rfl rfl)
theorem dX0_setTrack_17 : decode cX0_setTrack 17 = .ok (.iconst 0, 1) := dk_3 (dk_at dksX0_setTrack_0 17 rfl rfl)
theorem dX0_setTrack_18 : decode cX0_setTrack 18 = .ok (.ireturn, 1) := dk_172 (dk_at dksX0_setTrack_0 18 rfl rfl)
abbrev cX0_setTempo : ByteArray := method_16_code
def yX0_setTempo : MethodName := ⟨RX0, "setTempo", "(LMelodeon;II[J)I"⟩
def dkwX0_setTempo_0 : List UInt8 := [45, 3, 42, 27, 28, 182, 0, 56, 133, 80, 167, 0, 7, 58, 4, 4, 172, 3, 172]
abbrev dktX0_setTempo_0 : List UInt8 := dkwX0_setTempo_0 ++ []
theorem dksX0_setTempo_0 : cX0_setTempo.data.toList.drop 0 = dktX0_setTempo_0 := by decide +kernel
theorem dX0_setTempo_0 : decode cX0_setTempo 0 = .ok (.aload_n 3, 1) := dk_45 (dk_at dksX0_setTempo_0 0 rfl rfl)
theorem dX0_setTempo_1 : decode cX0_setTempo 1 = .ok (.iconst 0, 1) := dk_3 (dk_at dksX0_setTempo_0 1 rfl rfl)
theorem dX0_setTempo_2 : decode cX0_setTempo 2 = .ok (.aload_n 0, 1) := dk_42 (dk_at dksX0_setTempo_0 2 rfl rfl)
theorem dX0_setTempo_3 : decode cX0_setTempo 3 = .ok (.iload_n 1, 1) := dk_27 (dk_at dksX0_setTempo_0 3 rfl rfl)
theorem dX0_setTempo_4 : decode cX0_setTempo 4 = .ok (.iload_n 2, 1) := dk_28 (dk_at dksX0_setTempo_0 4 rfl rfl)
theorem dX0_setTempo_5 : decode cX0_setTempo 5 = .ok (.invokevirtual 56, 3) := dk_182 0 56 (dk_at dksX0_setTempo_0 5 rfl rfl)
theorem dX0_setTempo_8 : decode cX0_setTempo 8 = .ok (.i2l, 1) := dk_133 (dk_at dksX0_setTempo_0 8 rfl rfl)
theorem dX0_setTempo_9 : decode cX0_setTempo 9 = .ok (.lastore, 1) := dk_80 (dk_at dksX0_setTempo_0 9 rfl rfl)
theorem dX0_setTempo_10 : decode cX0_setTempo 10 = .ok (.goto 7, 3) := dk_167 0 7 (dk_at dksX0_setTempo_0 10 rfl rfl)
theorem dX0_setTempo_13 : decode cX0_setTempo 13 = .ok (.astore 4, 2) := dk_58 4 (dk_at dksX0_setTempo_0 13 rfl rfl)
theorem dX0_setTempo_15 : decode cX0_setTempo 15 = .ok (.iconst 1, 1) := dk_4 (dk_at dksX0_setTempo_0 15 rfl rfl)
theorem dX0_setTempo_16 : decode cX0_setTempo 16 = .ok (.ireturn, 1) := dk_172 (dk_at dksX0_setTempo_0 16 rfl rfl)
theorem dX0_setTempo_17 : decode cX0_setTempo 17 = .ok (.iconst 0, 1) := dk_3 (dk_at dksX0_setTempo_0 17 rfl rfl)
theorem dX0_setTempo_18 : decode cX0_setTempo 18 = .ok (.ireturn, 1) := dk_172 (dk_at dksX0_setTempo_0 18 rfl rfl)
abbrev cX0_play : ByteArray := method_17_code
def yX0_play : MethodName := ⟨RX0, "play", "(LMelodeon;I[J)I"⟩
def dkwX0_play_0 : List UInt8 := [44, 3, 42, 27, 182, 0, 59, 153, 0, 7, 10, 167, 0, 4, 9, 80, 167, 0, 6, 78, 4, 172, 3, 172]
abbrev dktX0_play_0 : List UInt8 := dkwX0_play_0 ++ []
theorem dksX0_play_0 : cX0_play.data.toList.drop 0 = dktX0_play_0 := by decide +kernel
theorem dX0_play_0 : decode cX0_play 0 = .ok (.aload_n 2, 1) := dk_44 (dk_at dksX0_play_0 0 rfl rfl)
theorem dX0_play_1 : decode cX0_play 1 = .ok (.iconst 0, 1) := dk_3 (dk_at dksX0_play_0 1 rfl rfl)
theorem dX0_play_2 : decode cX0_play 2 = .ok (.aload_n 0, 1) := dk_42 (dk_at dksX0_play_0 2 rfl rfl)
theorem dX0_play_3 : decode cX0_play 3 = .ok (.iload_n 1, 1) := dk_27 (dk_at dksX0_play_0 3 rfl rfl)
theorem dX0_play_4 : decode cX0_play 4 = .ok (.invokevirtual 59, 3) := dk_182 0 59 (dk_at dksX0_play_0 4 rfl rfl)
theorem dX0_play_7 : decode cX0_play 7 = .ok (.ifCond .eq 7, 3) := dk_153 0 7 (dk_at dksX0_play_0 7 rfl rfl)
theorem dX0_play_10 : decode cX0_play 10 = .ok (.lconst 1, 1) := dk_10 (dk_at dksX0_play_0 10 rfl rfl)
theorem dX0_play_11 : decode cX0_play 11 = .ok (.goto 4, 3) := dk_167 0 4 (dk_at dksX0_play_0 11 rfl rfl)
theorem dX0_play_14 : decode cX0_play 14 = .ok (.lconst 0, 1) := dk_9 (dk_at dksX0_play_0 14 rfl rfl)
theorem dX0_play_15 : decode cX0_play 15 = .ok (.lastore, 1) := dk_80 (dk_at dksX0_play_0 15 rfl rfl)
theorem dX0_play_16 : decode cX0_play 16 = .ok (.goto 6, 3) := dk_167 0 6 (dk_at dksX0_play_0 16 rfl rfl)
theorem dX0_play_19 : decode cX0_play 19 = .ok (.astore_n 3, 1) := dk_78 (dk_at dksX0_play_0 19 rfl rfl)
theorem dX0_play_20 : decode cX0_play 20 = .ok (.iconst 1, 1) := dk_4 (dk_at dksX0_play_0 20 rfl rfl)
theorem dX0_play_21 : decode cX0_play 21 = .ok (.ireturn, 1) := dk_172 (dk_at dksX0_play_0 21 rfl rfl)
theorem dX0_play_22 : decode cX0_play 22 = .ok (.iconst 0, 1) := dk_3 (dk_at dksX0_play_0 22 rfl rfl)
theorem dX0_play_23 : decode cX0_play 23 = .ok (.ireturn, 1) := dk_172 (dk_at dksX0_play_0 23 rfl rfl)
abbrev cX0_run : ByteArray := method_18_code
def yX0_run : MethodName := ⟨RX0, "run", "(LMelodeon;I[J)I"⟩
def dkwX0_run_0 : List UInt8 := [44, 3, 42, 27, 182, 0, 63, 133, 80, 167, 0, 6, 78, 4, 172, 3, 172]
abbrev dktX0_run_0 : List UInt8 := dkwX0_run_0 ++ []
theorem dksX0_run_0 : cX0_run.data.toList.drop 0 = dktX0_run_0 := by decide +kernel
theorem dX0_run_0 : decode cX0_run 0 = .ok (.aload_n 2, 1) := dk_44 (dk_at dksX0_run_0 0 rfl rfl)
theorem dX0_run_1 : decode cX0_run 1 = .ok (.iconst 0, 1) := dk_3 (dk_at dksX0_run_0 1 rfl rfl)
theorem dX0_run_2 : decode cX0_run 2 = .ok (.aload_n 0, 1) := dk_42 (dk_at dksX0_run_0 2 rfl rfl)
theorem dX0_run_3 : decode cX0_run 3 = .ok (.iload_n 1, 1) := dk_27 (dk_at dksX0_run_0 3 rfl rfl)
theorem dX0_run_4 : decode cX0_run 4 = .ok (.invokevirtual 63, 3) := dk_182 0 63 (dk_at dksX0_run_0 4 rfl rfl)
theorem dX0_run_7 : decode cX0_run 7 = .ok (.i2l, 1) := dk_133 (dk_at dksX0_run_0 7 rfl rfl)
theorem dX0_run_8 : decode cX0_run 8 = .ok (.lastore, 1) := dk_80 (dk_at dksX0_run_0 8 rfl rfl)
theorem dX0_run_9 : decode cX0_run 9 = .ok (.goto 6, 3) := dk_167 0 6 (dk_at dksX0_run_0 9 rfl rfl)
theorem dX0_run_12 : decode cX0_run 12 = .ok (.astore_n 3, 1) := dk_78 (dk_at dksX0_run_0 12 rfl rfl)
theorem dX0_run_13 : decode cX0_run 13 = .ok (.iconst 1, 1) := dk_4 (dk_at dksX0_run_0 13 rfl rfl)
theorem dX0_run_14 : decode cX0_run 14 = .ok (.ireturn, 1) := dk_172 (dk_at dksX0_run_0 14 rfl rfl)
theorem dX0_run_15 : decode cX0_run 15 = .ok (.iconst 0, 1) := dk_3 (dk_at dksX0_run_0 15 rfl rfl)
theorem dX0_run_16 : decode cX0_run 16 = .ok (.ireturn, 1) := dk_172 (dk_at dksX0_run_0 16 rfl rfl)
abbrev cX0_heard : ByteArray := method_19_code
def yX0_heard : MethodName := ⟨RX0, "heard", "(LMelodeon;I[J)I"⟩
def dkwX0_heard_0 : List UInt8 := [44, 3, 42, 27, 182, 0, 66, 133, 80, 167, 0, 6, 78, 4, 172, 3, 172]
abbrev dktX0_heard_0 : List UInt8 := dkwX0_heard_0 ++ []
theorem dksX0_heard_0 : cX0_heard.data.toList.drop 0 = dktX0_heard_0 := by decide +kernel
theorem dX0_heard_0 : decode cX0_heard 0 = .ok (.aload_n 2, 1) := dk_44 (dk_at dksX0_heard_0 0 rfl rfl)
theorem dX0_heard_1 : decode cX0_heard 1 = .ok (.iconst 0, 1) := dk_3 (dk_at dksX0_heard_0 1 rfl rfl)
theorem dX0_heard_2 : decode cX0_heard 2 = .ok (.aload_n 0, 1) := dk_42 (dk_at dksX0_heard_0 2 rfl rfl)
theorem dX0_heard_3 : decode cX0_heard 3 = .ok (.iload_n 1, 1) := dk_27 (dk_at dksX0_heard_0 3 rfl rfl)
theorem dX0_heard_4 : decode cX0_heard 4 = .ok (.invokevirtual 66, 3) := dk_182 0 66 (dk_at dksX0_heard_0 4 rfl rfl)
theorem dX0_heard_7 : decode cX0_heard 7 = .ok (.i2l, 1) := dk_133 (dk_at dksX0_heard_0 7 rfl rfl)
theorem dX0_heard_8 : decode cX0_heard 8 = .ok (.lastore, 1) := dk_80 (dk_at dksX0_heard_0 8 rfl rfl)
theorem dX0_heard_9 : decode cX0_heard 9 = .ok (.goto 6, 3) := dk_167 0 6 (dk_at dksX0_heard_0 9 rfl rfl)
theorem dX0_heard_12 : decode cX0_heard 12 = .ok (.astore_n 3, 1) := dk_78 (dk_at dksX0_heard_0 12 rfl rfl)
theorem dX0_heard_13 : decode cX0_heard 13 = .ok (.iconst 1, 1) := dk_4 (dk_at dksX0_heard_0 13 rfl rfl)
theorem dX0_heard_14 : decode cX0_heard 14 = .ok (.ireturn, 1) := dk_172 (dk_at dksX0_heard_0 14 rfl rfl)
theorem dX0_heard_15 : decode cX0_heard 15 = .ok (.iconst 0, 1) := dk_3 (dk_at dksX0_heard_0 15 rfl rfl)
theorem dX0_heard_16 : decode cX0_heard 16 = .ok (.ireturn, 1) := dk_172 (dk_at dksX0_heard_0 16 rfl rfl)
abbrev cX0_ofVoice : ByteArray := method_20_code
def yX0_ofVoice : MethodName := ⟨RX0, "ofVoice", "(LMelodeon;II[J)I"⟩
def dkwX0_ofVoice_0 : List UInt8 := [45, 3, 42, 27, 28, 182, 0, 69, 133, 80, 167, 0, 11, 58, 4, 4, 172, 58, 4, 5, 172, 3, 172]
abbrev dktX0_ofVoice_0 : List UInt8 := dkwX0_ofVoice_0 ++ []
theorem dksX0_ofVoice_0 : cX0_ofVoice.data.toList.drop 0 = dktX0_ofVoice_0 := by decide +kernel
theorem dX0_ofVoice_0 : decode cX0_ofVoice 0 = .ok (.aload_n 3, 1) := dk_45 (dk_at dksX0_ofVoice_0 0 rfl rfl)
theorem dX0_ofVoice_1 : decode cX0_ofVoice 1 = .ok (.iconst 0, 1) := dk_3 (dk_at dksX0_ofVoice_0 1 rfl rfl)
theorem dX0_ofVoice_2 : decode cX0_ofVoice 2 = .ok (.aload_n 0, 1) := dk_42 (dk_at dksX0_ofVoice_0 2 rfl rfl)
theorem dX0_ofVoice_3 : decode cX0_ofVoice 3 = .ok (.iload_n 1, 1) := dk_27 (dk_at dksX0_ofVoice_0 3 rfl rfl)
theorem dX0_ofVoice_4 : decode cX0_ofVoice 4 = .ok (.iload_n 2, 1) := dk_28 (dk_at dksX0_ofVoice_0 4 rfl rfl)
theorem dX0_ofVoice_5 : decode cX0_ofVoice 5 = .ok (.invokevirtual 69, 3) := dk_182 0 69 (dk_at dksX0_ofVoice_0 5 rfl rfl)
theorem dX0_ofVoice_8 : decode cX0_ofVoice 8 = .ok (.i2l, 1) := dk_133 (dk_at dksX0_ofVoice_0 8 rfl rfl)
theorem dX0_ofVoice_9 : decode cX0_ofVoice 9 = .ok (.lastore, 1) := dk_80 (dk_at dksX0_ofVoice_0 9 rfl rfl)
theorem dX0_ofVoice_10 : decode cX0_ofVoice 10 = .ok (.goto 11, 3) := dk_167 0 11 (dk_at dksX0_ofVoice_0 10 rfl rfl)
theorem dX0_ofVoice_13 : decode cX0_ofVoice 13 = .ok (.astore 4, 2) := dk_58 4 (dk_at dksX0_ofVoice_0 13 rfl rfl)
theorem dX0_ofVoice_15 : decode cX0_ofVoice 15 = .ok (.iconst 1, 1) := dk_4 (dk_at dksX0_ofVoice_0 15 rfl rfl)
theorem dX0_ofVoice_16 : decode cX0_ofVoice 16 = .ok (.ireturn, 1) := dk_172 (dk_at dksX0_ofVoice_0 16 rfl rfl)
theorem dX0_ofVoice_17 : decode cX0_ofVoice 17 = .ok (.astore 4, 2) := dk_58 4 (dk_at dksX0_ofVoice_0 17 rfl rfl)
theorem dX0_ofVoice_19 : decode cX0_ofVoice 19 = .ok (.iconst 2, 1) := dk_5 (dk_at dksX0_ofVoice_0 19 rfl rfl)
theorem dX0_ofVoice_20 : decode cX0_ofVoice 20 = .ok (.ireturn, 1) := dk_172 (dk_at dksX0_ofVoice_0 20 rfl rfl)
theorem dX0_ofVoice_21 : decode cX0_ofVoice 21 = .ok (.iconst 0, 1) := dk_3 (dk_at dksX0_ofVoice_0 21 rfl rfl)
theorem dX0_ofVoice_22 : decode cX0_ofVoice 22 = .ok (.ireturn, 1) := dk_172 (dk_at dksX0_ofVoice_0 22 rfl rfl)
abbrev cX0_ofStep : ByteArray := method_21_code
def yX0_ofStep : MethodName := ⟨RX0, "ofStep", "(LMelodeon;III[J)I"⟩
def dkwX0_ofStep_1 : List UInt8 := [172]
abbrev dktX0_ofStep_1 : List UInt8 := dkwX0_ofStep_1 ++ []
def dkwX0_ofStep_0 : List UInt8 := [25, 4, 3, 42, 27, 28, 29, 182, 0, 72, 133, 80, 167, 0, 11, 58, 5, 4, 172, 58, 5, 5, 172, 3]
abbrev dktX0_ofStep_0 : List UInt8 := dkwX0_ofStep_0 ++ dktX0_ofStep_1
theorem dksX0_ofStep_0 : cX0_ofStep.data.toList.drop 0 = dktX0_ofStep_0 := by decide +kernel
theorem dksX0_ofStep_1 : cX0_ofStep.data.toList.drop 24 = dktX0_ofStep_1 := dk_seg dksX0_ofStep_0 24 rfl rfl
theorem dX0_ofStep_0 : decode cX0_ofStep 0 = .ok (.aload 4, 2) := dk_25 4 (dk_at dksX0_ofStep_0 0 rfl rfl)
theorem dX0_ofStep_2 : decode cX0_ofStep 2 = .ok (.iconst 0, 1) := dk_3 (dk_at dksX0_ofStep_0 2 rfl rfl)
theorem dX0_ofStep_3 : decode cX0_ofStep 3 = .ok (.aload_n 0, 1) := dk_42 (dk_at dksX0_ofStep_0 3 rfl rfl)
theorem dX0_ofStep_4 : decode cX0_ofStep 4 = .ok (.iload_n 1, 1) := dk_27 (dk_at dksX0_ofStep_0 4 rfl rfl)
theorem dX0_ofStep_5 : decode cX0_ofStep 5 = .ok (.iload_n 2, 1) := dk_28 (dk_at dksX0_ofStep_0 5 rfl rfl)
theorem dX0_ofStep_6 : decode cX0_ofStep 6 = .ok (.iload_n 3, 1) := dk_29 (dk_at dksX0_ofStep_0 6 rfl rfl)
theorem dX0_ofStep_7 : decode cX0_ofStep 7 = .ok (.invokevirtual 72, 3) := dk_182 0 72 (dk_at dksX0_ofStep_0 7 rfl rfl)
theorem dX0_ofStep_10 : decode cX0_ofStep 10 = .ok (.i2l, 1) := dk_133 (dk_at dksX0_ofStep_0 10 rfl rfl)
theorem dX0_ofStep_11 : decode cX0_ofStep 11 = .ok (.lastore, 1) := dk_80 (dk_at dksX0_ofStep_0 11 rfl rfl)
theorem dX0_ofStep_12 : decode cX0_ofStep 12 = .ok (.goto 11, 3) := dk_167 0 11 (dk_at dksX0_ofStep_0 12 rfl rfl)
theorem dX0_ofStep_15 : decode cX0_ofStep 15 = .ok (.astore 5, 2) := dk_58 5 (dk_at dksX0_ofStep_0 15 rfl rfl)
theorem dX0_ofStep_17 : decode cX0_ofStep 17 = .ok (.iconst 1, 1) := dk_4 (dk_at dksX0_ofStep_0 17 rfl rfl)
theorem dX0_ofStep_18 : decode cX0_ofStep 18 = .ok (.ireturn, 1) := dk_172 (dk_at dksX0_ofStep_0 18 rfl rfl)
theorem dX0_ofStep_19 : decode cX0_ofStep 19 = .ok (.astore 5, 2) := dk_58 5 (dk_at dksX0_ofStep_0 19 rfl rfl)
theorem dX0_ofStep_21 : decode cX0_ofStep 21 = .ok (.iconst 2, 1) := dk_5 (dk_at dksX0_ofStep_0 21 rfl rfl)
theorem dX0_ofStep_22 : decode cX0_ofStep 22 = .ok (.ireturn, 1) := dk_172 (dk_at dksX0_ofStep_0 22 rfl rfl)
theorem dX0_ofStep_23 : decode cX0_ofStep 23 = .ok (.iconst 0, 1) := dk_3 (dk_at dksX0_ofStep_0 23 rfl rfl)
theorem dX0_ofStep_24 : decode cX0_ofStep 24 = .ok (.ireturn, 1) := dk_172 (dk_at dksX0_ofStep_1 0 rfl rfl)
abbrev cX0_inDelay : ByteArray := method_22_code
def yX0_inDelay : MethodName := ⟨RX0, "inDelay", "(LMelodeon;I[J)I"⟩
def dkwX0_inDelay_0 : List UInt8 := [44, 3, 42, 27, 182, 0, 75, 133, 80, 167, 0, 6, 78, 4, 172, 3, 172]
abbrev dktX0_inDelay_0 : List UInt8 := dkwX0_inDelay_0 ++ []
theorem dksX0_inDelay_0 : cX0_inDelay.data.toList.drop 0 = dktX0_inDelay_0 := by decide +kernel
theorem dX0_inDelay_0 : decode cX0_inDelay 0 = .ok (.aload_n 2, 1) := dk_44 (dk_at dksX0_inDelay_0 0 rfl rfl)
theorem dX0_inDelay_1 : decode cX0_inDelay 1 = .ok (.iconst 0, 1) := dk_3 (dk_at dksX0_inDelay_0 1 rfl rfl)
theorem dX0_inDelay_2 : decode cX0_inDelay 2 = .ok (.aload_n 0, 1) := dk_42 (dk_at dksX0_inDelay_0 2 rfl rfl)
theorem dX0_inDelay_3 : decode cX0_inDelay 3 = .ok (.iload_n 1, 1) := dk_27 (dk_at dksX0_inDelay_0 3 rfl rfl)
theorem dX0_inDelay_4 : decode cX0_inDelay 4 = .ok (.invokevirtual 75, 3) := dk_182 0 75 (dk_at dksX0_inDelay_0 4 rfl rfl)
theorem dX0_inDelay_7 : decode cX0_inDelay 7 = .ok (.i2l, 1) := dk_133 (dk_at dksX0_inDelay_0 7 rfl rfl)
theorem dX0_inDelay_8 : decode cX0_inDelay 8 = .ok (.lastore, 1) := dk_80 (dk_at dksX0_inDelay_0 8 rfl rfl)
theorem dX0_inDelay_9 : decode cX0_inDelay 9 = .ok (.goto 6, 3) := dk_167 0 6 (dk_at dksX0_inDelay_0 9 rfl rfl)
theorem dX0_inDelay_12 : decode cX0_inDelay 12 = .ok (.astore_n 3, 1) := dk_78 (dk_at dksX0_inDelay_0 12 rfl rfl)
theorem dX0_inDelay_13 : decode cX0_inDelay 13 = .ok (.iconst 1, 1) := dk_4 (dk_at dksX0_inDelay_0 13 rfl rfl)
theorem dX0_inDelay_14 : decode cX0_inDelay 14 = .ok (.ireturn, 1) := dk_172 (dk_at dksX0_inDelay_0 14 rfl rfl)
theorem dX0_inDelay_15 : decode cX0_inDelay 15 = .ok (.iconst 0, 1) := dk_3 (dk_at dksX0_inDelay_0 15 rfl rfl)
theorem dX0_inDelay_16 : decode cX0_inDelay 16 = .ok (.ireturn, 1) := dk_172 (dk_at dksX0_inDelay_0 16 rfl rfl)
abbrev cX0_wouldPeak : ByteArray := method_23_code
def yX0_wouldPeak : MethodName := ⟨RX0, "wouldPeak", "(LMelodeon;I[J)I"⟩
def dkwX0_wouldPeak_0 : List UInt8 := [44, 3, 42, 27, 182, 0, 78, 133, 80, 167, 0, 6, 78, 4, 172, 3, 172]
abbrev dktX0_wouldPeak_0 : List UInt8 := dkwX0_wouldPeak_0 ++ []
theorem dksX0_wouldPeak_0 : cX0_wouldPeak.data.toList.drop 0 = dktX0_wouldPeak_0 := by decide +kernel
theorem dX0_wouldPeak_0 : decode cX0_wouldPeak 0 = .ok (.aload_n 2, 1) := dk_44 (dk_at dksX0_wouldPeak_0 0 rfl rfl)
theorem dX0_wouldPeak_1 : decode cX0_wouldPeak 1 = .ok (.iconst 0, 1) := dk_3 (dk_at dksX0_wouldPeak_0 1 rfl rfl)
theorem dX0_wouldPeak_2 : decode cX0_wouldPeak 2 = .ok (.aload_n 0, 1) := dk_42 (dk_at dksX0_wouldPeak_0 2 rfl rfl)
theorem dX0_wouldPeak_3 : decode cX0_wouldPeak 3 = .ok (.iload_n 1, 1) := dk_27 (dk_at dksX0_wouldPeak_0 3 rfl rfl)
theorem dX0_wouldPeak_4 : decode cX0_wouldPeak 4 = .ok (.invokevirtual 78, 3) := dk_182 0 78 (dk_at dksX0_wouldPeak_0 4 rfl rfl)
theorem dX0_wouldPeak_7 : decode cX0_wouldPeak 7 = .ok (.i2l, 1) := dk_133 (dk_at dksX0_wouldPeak_0 7 rfl rfl)
theorem dX0_wouldPeak_8 : decode cX0_wouldPeak 8 = .ok (.lastore, 1) := dk_80 (dk_at dksX0_wouldPeak_0 8 rfl rfl)
theorem dX0_wouldPeak_9 : decode cX0_wouldPeak 9 = .ok (.goto 6, 3) := dk_167 0 6 (dk_at dksX0_wouldPeak_0 9 rfl rfl)
theorem dX0_wouldPeak_12 : decode cX0_wouldPeak 12 = .ok (.astore_n 3, 1) := dk_78 (dk_at dksX0_wouldPeak_0 12 rfl rfl)
theorem dX0_wouldPeak_13 : decode cX0_wouldPeak 13 = .ok (.iconst 1, 1) := dk_4 (dk_at dksX0_wouldPeak_0 13 rfl rfl)
theorem dX0_wouldPeak_14 : decode cX0_wouldPeak 14 = .ok (.ireturn, 1) := dk_172 (dk_at dksX0_wouldPeak_0 14 rfl rfl)
theorem dX0_wouldPeak_15 : decode cX0_wouldPeak 15 = .ok (.iconst 0, 1) := dk_3 (dk_at dksX0_wouldPeak_0 15 rfl rfl)
theorem dX0_wouldPeak_16 : decode cX0_wouldPeak 16 = .ok (.ireturn, 1) := dk_172 (dk_at dksX0_wouldPeak_0 16 rfl rfl)
abbrev cX0_silentIn : ByteArray := method_24_code
def yX0_silentIn : MethodName := ⟨RX0, "silentIn", "(LMelodeon;I[J)I"⟩
def dkwX0_silentIn_0 : List UInt8 := [44, 3, 42, 27, 182, 0, 81, 133, 80, 167, 0, 6, 78, 4, 172, 3, 172]
abbrev dktX0_silentIn_0 : List UInt8 := dkwX0_silentIn_0 ++ []
theorem dksX0_silentIn_0 : cX0_silentIn.data.toList.drop 0 = dktX0_silentIn_0 := by decide +kernel
theorem dX0_silentIn_0 : decode cX0_silentIn 0 = .ok (.aload_n 2, 1) := dk_44 (dk_at dksX0_silentIn_0 0 rfl rfl)
theorem dX0_silentIn_1 : decode cX0_silentIn 1 = .ok (.iconst 0, 1) := dk_3 (dk_at dksX0_silentIn_0 1 rfl rfl)
theorem dX0_silentIn_2 : decode cX0_silentIn 2 = .ok (.aload_n 0, 1) := dk_42 (dk_at dksX0_silentIn_0 2 rfl rfl)
theorem dX0_silentIn_3 : decode cX0_silentIn 3 = .ok (.iload_n 1, 1) := dk_27 (dk_at dksX0_silentIn_0 3 rfl rfl)
theorem dX0_silentIn_4 : decode cX0_silentIn 4 = .ok (.invokevirtual 81, 3) := dk_182 0 81 (dk_at dksX0_silentIn_0 4 rfl rfl)
theorem dX0_silentIn_7 : decode cX0_silentIn 7 = .ok (.i2l, 1) := dk_133 (dk_at dksX0_silentIn_0 7 rfl rfl)
theorem dX0_silentIn_8 : decode cX0_silentIn 8 = .ok (.lastore, 1) := dk_80 (dk_at dksX0_silentIn_0 8 rfl rfl)
theorem dX0_silentIn_9 : decode cX0_silentIn 9 = .ok (.goto 6, 3) := dk_167 0 6 (dk_at dksX0_silentIn_0 9 rfl rfl)
theorem dX0_silentIn_12 : decode cX0_silentIn 12 = .ok (.astore_n 3, 1) := dk_78 (dk_at dksX0_silentIn_0 12 rfl rfl)
theorem dX0_silentIn_13 : decode cX0_silentIn 13 = .ok (.iconst 1, 1) := dk_4 (dk_at dksX0_silentIn_0 13 rfl rfl)
theorem dX0_silentIn_14 : decode cX0_silentIn 14 = .ok (.ireturn, 1) := dk_172 (dk_at dksX0_silentIn_0 14 rfl rfl)
theorem dX0_silentIn_15 : decode cX0_silentIn 15 = .ok (.iconst 0, 1) := dk_3 (dk_at dksX0_silentIn_0 15 rfl rfl)
theorem dX0_silentIn_16 : decode cX0_silentIn 16 = .ok (.ireturn, 1) := dk_172 (dk_at dksX0_silentIn_0 16 rfl rfl)
theorem q25 : (Jvm.Cond.initialized "MelodeonLaw") ∈ lw_all := lw_g (lw_at lw_m1 0 rfl) rfl
theorem q49 : (Jvm.Cond.classLink "MelodeonLaw" (8 : Nat) "Melodeon") ∈ lw_all := lw_g (lw_at lw_m1 24 rfl) rfl
theorem q51 : (Jvm.Cond.methodLink "MelodeonLaw" (84 : Nat) ({ cls := "Melodeon", name := "<init>", desc := "()V" } : Jvm.MethodName)) ∈ lw_all := lw_g (lw_at lw_m1 26 rfl) rfl
theorem q402 : (Jvm.Cond.methodLink "MelodeonLaw" (131 : Nat) ({ cls := "Melodeon", name := "hush", desc := "()I" } : Jvm.MethodName)) ∈ lw_all := lw_g (lw_at lw_m2 137 rfl) rfl
theorem q430 : (Jvm.Cond.methodLink "MelodeonLaw" (147 : Nat) ({ cls := "Melodeon", name := "stop", desc := "()I" } : Jvm.MethodName)) ∈ lw_all := lw_g (lw_at lw_m2 165 rfl) rfl
theorem q438 : (Jvm.Cond.methodLink "MelodeonLaw" (151 : Nat) ({ cls := "Melodeon", name := "sample", desc := "()I" } : Jvm.MethodName)) ∈ lw_all := lw_g (lw_at lw_m2 173 rfl) rfl
theorem q523 : (Jvm.Cond.methodLink "MelodeonLaw" (161 : Nat) ({ cls := "Melodeon", name := "clock", desc := "()I" } : Jvm.MethodName)) ∈ lw_all := lw_g (lw_at lw_m3 18 rfl) rfl
theorem q527 : (Jvm.Cond.methodLink "MelodeonLaw" (165 : Nat) ({ cls := "Melodeon", name := "peak", desc := "()I" } : Jvm.MethodName)) ∈ lw_all := lw_g (lw_at lw_m3 22 rfl) rfl
theorem q531 : (Jvm.Cond.methodLink "MelodeonLaw" (169 : Nat) ({ cls := "Melodeon", name := "loudness", desc := "()D" } : Jvm.MethodName)) ∈ lw_all := lw_g (lw_at lw_m3 26 rfl) rfl
theorem q535 : (Jvm.Cond.methodLink "MelodeonLaw" (174 : Nat) ({ cls := "Melodeon", name := "clipped", desc := "()I" } : Jvm.MethodName)) ∈ lw_all := lw_g (lw_at lw_m3 30 rfl) rfl
theorem q539 : (Jvm.Cond.methodLink "MelodeonLaw" (178 : Nat) ({ cls := "Melodeon", name := "crossings", desc := "()I" } : Jvm.MethodName)) ∈ lw_all := lw_g (lw_at lw_m3 34 rfl) rfl
theorem q543 : (Jvm.Cond.methodLink "MelodeonLaw" (182 : Nat) ({ cls := "Melodeon", name := "reset", desc := "()I" } : Jvm.MethodName)) ∈ lw_all := lw_g (lw_at lw_m3 38 rfl) rfl
theorem q547 : (Jvm.Cond.methodLink "MelodeonLaw" (189 : Nat) ({ cls := "Melodeon", name := "sounding", desc := "()I" } : Jvm.MethodName)) ∈ lw_all := lw_g (lw_at lw_m3 42 rfl) rfl
theorem q551 : (Jvm.Cond.methodLink "MelodeonLaw" (193 : Nat) ({ cls := "Melodeon", name := "taken", desc := "()I" } : Jvm.MethodName)) ∈ lw_all := lw_g (lw_at lw_m3 46 rfl) rfl
theorem q555 : (Jvm.Cond.methodLink "MelodeonLaw" (197 : Nat) ({ cls := "Melodeon", name := "isPlaying", desc := "()Z" } : Jvm.MethodName)) ∈ lw_all := lw_g (lw_at lw_m3 50 rfl) rfl
theorem q559 : (Jvm.Cond.methodLink "MelodeonLaw" (202 : Nat) ({ cls := "Melodeon", name := "step", desc := "()I" } : Jvm.MethodName)) ∈ lw_all := lw_g (lw_at lw_m3 54 rfl) rfl
theorem q560 : (Jvm.Cond.methodLink "MelodeonLaw" (218 : Nat) ({ cls := "Melodeon", name := "nextVoice", desc := "()I" } : Jvm.MethodName)) ∈ lw_all := lw_g (lw_at lw_m3 55 rfl) rfl
theorem q565 : (Jvm.Cond.methodLink "MelodeonLaw" (222 : Nat) ({ cls := "Melodeon", name := "digest", desc := "()J" } : Jvm.MethodName)) ∈ lw_all := lw_g (lw_at lw_m3 60 rfl) rfl
theorem q699 : (Jvm.Cond.methodLink "MelodeonLaw" (88 : Nat) ({ cls := "MelodeonLaw", name := "draw", desc := "(LMelodeon;II[J)I" } : Jvm.MethodName)) ∈ lw_all := lw_g (lw_at lw_m3 194 rfl) rfl
theorem q700 : (Jvm.Cond.static ({ cls := "MelodeonLaw", name := "draw", desc := "(LMelodeon;II[J)I" } : Jvm.MethodName)) ∈ lw_all := lw_g (lw_at lw_m3 195 rfl) rfl
theorem q701 : (Jvm.Cond.codeWith ({ cls := "MelodeonLaw", name := "draw", desc := "(LMelodeon;II[J)I" } : Jvm.MethodName) method_3_code (5 : Nat) (Option.some Jvm.ClassFile.FieldType.int) [((0 : Nat), (10 : Nat), (13 : Nat), (13 : Nat)), ((0 : Nat), (10 : Nat), (17 : Nat), (15 : Nat))]) ∈ lw_all := lw_g (lw_at lw_m3 196 rfl) rfl
theorem q702 : (Jvm.Cond.classLink "MelodeonLaw" (13 : Nat) "java/lang/IndexOutOfBoundsException") ∈ lw_all := lw_g (lw_at lw_m3 197 rfl) rfl
theorem q735 : (Jvm.Cond.classLink "MelodeonLaw" (15 : Nat) "java/lang/IllegalArgumentException") ∈ lw_all := lw_g (lw_at lw_m3 230 rfl) rfl
theorem q736 : (Jvm.Cond.methodLink "MelodeonLaw" (7 : Nat) ({ cls := "Melodeon", name := "draw", desc := "(II)I" } : Jvm.MethodName)) ∈ lw_all := lw_g (lw_at lw_m3 231 rfl) rfl
theorem q740 : (Jvm.Cond.methodLink "MelodeonLaw" (98 : Nat) ({ cls := "MelodeonLaw", name := "wave", desc := "(LMelodeon;II[J)I" } : Jvm.MethodName)) ∈ lw_all := lw_g (lw_at lw_m3 235 rfl) rfl
theorem q741 : (Jvm.Cond.static ({ cls := "MelodeonLaw", name := "wave", desc := "(LMelodeon;II[J)I" } : Jvm.MethodName)) ∈ lw_all := lw_g (lw_at lw_m3 236 rfl) rfl
theorem q742 : (Jvm.Cond.codeWith ({ cls := "MelodeonLaw", name := "wave", desc := "(LMelodeon;II[J)I" } : Jvm.MethodName) method_4_code (5 : Nat) (Option.some Jvm.ClassFile.FieldType.int) [((0 : Nat), (10 : Nat), (13 : Nat), (13 : Nat)), ((0 : Nat), (10 : Nat), (17 : Nat), (15 : Nat))]) ∈ lw_all := lw_g (lw_at lw_m3 237 rfl) rfl
theorem q743 : (Jvm.Cond.methodLink "MelodeonLaw" (17 : Nat) ({ cls := "Melodeon", name := "wave", desc := "(II)I" } : Jvm.MethodName)) ∈ lw_all := lw_g (lw_at lw_m3 238 rfl) rfl
theorem q749 : (Jvm.Cond.methodLink "MelodeonLaw" (101 : Nat) ({ cls := "MelodeonLaw", name := "stride", desc := "(LMelodeon;I[J)I" } : Jvm.MethodName)) ∈ lw_all := lw_g (lw_at lw_m4 4 rfl) rfl
theorem q750 : (Jvm.Cond.static ({ cls := "MelodeonLaw", name := "stride", desc := "(LMelodeon;I[J)I" } : Jvm.MethodName)) ∈ lw_all := lw_g (lw_at lw_m4 5 rfl) rfl
theorem q751 : (Jvm.Cond.codeWith ({ cls := "MelodeonLaw", name := "stride", desc := "(LMelodeon;I[J)I" } : Jvm.MethodName) method_5_code (4 : Nat) (Option.some Jvm.ClassFile.FieldType.int) [((0 : Nat), (9 : Nat), (12 : Nat), (15 : Nat))]) ∈ lw_all := lw_g (lw_at lw_m4 6 rfl) rfl
theorem q752 : (Jvm.Cond.methodLink "MelodeonLaw" (20 : Nat) ({ cls := "Melodeon", name := "stride", desc := "(I)I" } : Jvm.MethodName)) ∈ lw_all := lw_g (lw_at lw_m4 7 rfl) rfl
theorem q757 : (Jvm.Cond.methodLink "MelodeonLaw" (105 : Nat) ({ cls := "MelodeonLaw", name := "setWaves", desc := "(LMelodeon;IIIII[J)I" } : Jvm.MethodName)) ∈ lw_all := lw_g (lw_at lw_m4 12 rfl) rfl
theorem q758 : (Jvm.Cond.static ({ cls := "MelodeonLaw", name := "setWaves", desc := "(LMelodeon;IIIII[J)I" } : Jvm.MethodName)) ∈ lw_all := lw_g (lw_at lw_m4 13 rfl) rfl
theorem q759 : (Jvm.Cond.codeWith ({ cls := "MelodeonLaw", name := "setWaves", desc := "(LMelodeon;IIIII[J)I" } : Jvm.MethodName) method_6_code (8 : Nat) (Option.some Jvm.ClassFile.FieldType.int) [((0 : Nat), (16 : Nat), (19 : Nat), (13 : Nat)), ((0 : Nat), (16 : Nat), (23 : Nat), (15 : Nat))]) ∈ lw_all := lw_g (lw_at lw_m4 14 rfl) rfl
theorem q760 : (Jvm.Cond.methodLink "MelodeonLaw" (24 : Nat) ({ cls := "Melodeon", name := "setWaves", desc := "(IIIII)I" } : Jvm.MethodName)) ∈ lw_all := lw_g (lw_at lw_m4 15 rfl) rfl
theorem q768 : (Jvm.Cond.methodLink "MelodeonLaw" (109 : Nat) ({ cls := "MelodeonLaw", name := "setEnvelope", desc := "(LMelodeon;IIIII[J)I" } : Jvm.MethodName)) ∈ lw_all := lw_g (lw_at lw_m4 23 rfl) rfl
theorem q769 : (Jvm.Cond.static ({ cls := "MelodeonLaw", name := "setEnvelope", desc := "(LMelodeon;IIIII[J)I" } : Jvm.MethodName)) ∈ lw_all := lw_g (lw_at lw_m4 24 rfl) rfl
theorem q770 : (Jvm.Cond.codeWith ({ cls := "MelodeonLaw", name := "setEnvelope", desc := "(LMelodeon;IIIII[J)I" } : Jvm.MethodName) method_7_code (8 : Nat) (Option.some Jvm.ClassFile.FieldType.int) [((0 : Nat), (16 : Nat), (19 : Nat), (13 : Nat)), ((0 : Nat), (16 : Nat), (23 : Nat), (15 : Nat))]) ∈ lw_all := lw_g (lw_at lw_m4 25 rfl) rfl
theorem q771 : (Jvm.Cond.methodLink "MelodeonLaw" (28 : Nat) ({ cls := "Melodeon", name := "setEnvelope", desc := "(IIIII)I" } : Jvm.MethodName)) ∈ lw_all := lw_g (lw_at lw_m4 26 rfl) rfl
theorem q775 : (Jvm.Cond.methodLink "MelodeonLaw" (112 : Nat) ({ cls := "MelodeonLaw", name := "setFilter", desc := "(LMelodeon;III[J)I" } : Jvm.MethodName)) ∈ lw_all := lw_g (lw_at lw_m4 30 rfl) rfl
theorem q776 : (Jvm.Cond.static ({ cls := "MelodeonLaw", name := "setFilter", desc := "(LMelodeon;III[J)I" } : Jvm.MethodName)) ∈ lw_all := lw_g (lw_at lw_m4 31 rfl) rfl
theorem q777 : (Jvm.Cond.codeWith ({ cls := "MelodeonLaw", name := "setFilter", desc := "(LMelodeon;III[J)I" } : Jvm.MethodName) method_8_code (6 : Nat) (Option.some Jvm.ClassFile.FieldType.int) [((0 : Nat), (12 : Nat), (15 : Nat), (13 : Nat)), ((0 : Nat), (12 : Nat), (19 : Nat), (15 : Nat))]) ∈ lw_all := lw_g (lw_at lw_m4 32 rfl) rfl
theorem q778 : (Jvm.Cond.methodLink "MelodeonLaw" (31 : Nat) ({ cls := "Melodeon", name := "setFilter", desc := "(III)I" } : Jvm.MethodName)) ∈ lw_all := lw_g (lw_at lw_m4 33 rfl) rfl
theorem q782 : (Jvm.Cond.methodLink "MelodeonLaw" (116 : Nat) ({ cls := "MelodeonLaw", name := "setVibrato", desc := "(LMelodeon;III[J)I" } : Jvm.MethodName)) ∈ lw_all := lw_g (lw_at lw_m4 37 rfl) rfl
theorem q783 : (Jvm.Cond.static ({ cls := "MelodeonLaw", name := "setVibrato", desc := "(LMelodeon;III[J)I" } : Jvm.MethodName)) ∈ lw_all := lw_g (lw_at lw_m4 38 rfl) rfl
theorem q784 : (Jvm.Cond.codeWith ({ cls := "MelodeonLaw", name := "setVibrato", desc := "(LMelodeon;III[J)I" } : Jvm.MethodName) method_9_code (6 : Nat) (Option.some Jvm.ClassFile.FieldType.int) [((0 : Nat), (12 : Nat), (15 : Nat), (13 : Nat)), ((0 : Nat), (12 : Nat), (19 : Nat), (15 : Nat))]) ∈ lw_all := lw_g (lw_at lw_m4 39 rfl) rfl
theorem q785 : (Jvm.Cond.methodLink "MelodeonLaw" (35 : Nat) ({ cls := "Melodeon", name := "setVibrato", desc := "(III)I" } : Jvm.MethodName)) ∈ lw_all := lw_g (lw_at lw_m4 40 rfl) rfl
theorem q789 : (Jvm.Cond.methodLink "MelodeonLaw" (119 : Nat) ({ cls := "MelodeonLaw", name := "setGain", desc := "(LMelodeon;I[J)I" } : Jvm.MethodName)) ∈ lw_all := lw_g (lw_at lw_m4 44 rfl) rfl
theorem q790 : (Jvm.Cond.static ({ cls := "MelodeonLaw", name := "setGain", desc := "(LMelodeon;I[J)I" } : Jvm.MethodName)) ∈ lw_all := lw_g (lw_at lw_m4 45 rfl) rfl
theorem q791 : (Jvm.Cond.codeWith ({ cls := "MelodeonLaw", name := "setGain", desc := "(LMelodeon;I[J)I" } : Jvm.MethodName) method_10_code (4 : Nat) (Option.some Jvm.ClassFile.FieldType.int) [((0 : Nat), (9 : Nat), (12 : Nat), (15 : Nat))]) ∈ lw_all := lw_g (lw_at lw_m4 46 rfl) rfl
theorem q792 : (Jvm.Cond.methodLink "MelodeonLaw" (38 : Nat) ({ cls := "Melodeon", name := "setGain", desc := "(I)I" } : Jvm.MethodName)) ∈ lw_all := lw_g (lw_at lw_m4 47 rfl) rfl
theorem q796 : (Jvm.Cond.methodLink "MelodeonLaw" (122 : Nat) ({ cls := "MelodeonLaw", name := "setDelay", desc := "(LMelodeon;III[J)I" } : Jvm.MethodName)) ∈ lw_all := lw_g (lw_at lw_m4 51 rfl) rfl
theorem q797 : (Jvm.Cond.static ({ cls := "MelodeonLaw", name := "setDelay", desc := "(LMelodeon;III[J)I" } : Jvm.MethodName)) ∈ lw_all := lw_g (lw_at lw_m4 52 rfl) rfl
theorem q798 : (Jvm.Cond.codeWith ({ cls := "MelodeonLaw", name := "setDelay", desc := "(LMelodeon;III[J)I" } : Jvm.MethodName) method_11_code (6 : Nat) (Option.some Jvm.ClassFile.FieldType.int) [((0 : Nat), (12 : Nat), (15 : Nat), (15 : Nat))]) ∈ lw_all := lw_g (lw_at lw_m4 53 rfl) rfl
theorem q799 : (Jvm.Cond.methodLink "MelodeonLaw" (41 : Nat) ({ cls := "Melodeon", name := "setDelay", desc := "(III)I" } : Jvm.MethodName)) ∈ lw_all := lw_g (lw_at lw_m4 54 rfl) rfl
theorem q803 : (Jvm.Cond.methodLink "MelodeonLaw" (125 : Nat) ({ cls := "MelodeonLaw", name := "begin", desc := "(LMelodeon;III[J)I" } : Jvm.MethodName)) ∈ lw_all := lw_g (lw_at lw_m4 58 rfl) rfl
theorem q804 : (Jvm.Cond.static ({ cls := "MelodeonLaw", name := "begin", desc := "(LMelodeon;III[J)I" } : Jvm.MethodName)) ∈ lw_all := lw_g (lw_at lw_m4 59 rfl) rfl
theorem q805 : (Jvm.Cond.codeWith ({ cls := "MelodeonLaw", name := "begin", desc := "(LMelodeon;III[J)I" } : Jvm.MethodName) method_12_code (6 : Nat) (Option.some Jvm.ClassFile.FieldType.int) [((0 : Nat), (12 : Nat), (15 : Nat), (13 : Nat)), ((0 : Nat), (12 : Nat), (19 : Nat), (15 : Nat))]) ∈ lw_all := lw_g (lw_at lw_m4 60 rfl) rfl
theorem q806 : (Jvm.Cond.methodLink "MelodeonLaw" (44 : Nat) ({ cls := "Melodeon", name := "begin", desc := "(III)I" } : Jvm.MethodName)) ∈ lw_all := lw_g (lw_at lw_m4 61 rfl) rfl
theorem q811 : (Jvm.Cond.methodLink "MelodeonLaw" (128 : Nat) ({ cls := "MelodeonLaw", name := "end", desc := "(LMelodeon;I[J)I" } : Jvm.MethodName)) ∈ lw_all := lw_g (lw_at lw_m4 66 rfl) rfl
theorem q812 : (Jvm.Cond.static ({ cls := "MelodeonLaw", name := "end", desc := "(LMelodeon;I[J)I" } : Jvm.MethodName)) ∈ lw_all := lw_g (lw_at lw_m4 67 rfl) rfl
theorem q813 : (Jvm.Cond.codeWith ({ cls := "MelodeonLaw", name := "end", desc := "(LMelodeon;I[J)I" } : Jvm.MethodName) method_13_code (4 : Nat) (Option.some Jvm.ClassFile.FieldType.int) [((0 : Nat), (9 : Nat), (12 : Nat), (13 : Nat))]) ∈ lw_all := lw_g (lw_at lw_m4 68 rfl) rfl
theorem q814 : (Jvm.Cond.methodLink "MelodeonLaw" (47 : Nat) ({ cls := "Melodeon", name := "end", desc := "(I)I" } : Jvm.MethodName)) ∈ lw_all := lw_g (lw_at lw_m4 69 rfl) rfl
theorem q819 : (Jvm.Cond.methodLink "MelodeonLaw" (135 : Nat) ({ cls := "MelodeonLaw", name := "write", desc := "(LMelodeon;IIIII[J)I" } : Jvm.MethodName)) ∈ lw_all := lw_g (lw_at lw_m4 74 rfl) rfl
theorem q820 : (Jvm.Cond.static ({ cls := "MelodeonLaw", name := "write", desc := "(LMelodeon;IIIII[J)I" } : Jvm.MethodName)) ∈ lw_all := lw_g (lw_at lw_m4 75 rfl) rfl
theorem q821 : (Jvm.Cond.codeWith ({ cls := "MelodeonLaw", name := "write", desc := "(LMelodeon;IIIII[J)I" } : Jvm.MethodName) method_14_code (8 : Nat) (Option.some Jvm.ClassFile.FieldType.int) [((0 : Nat), (16 : Nat), (19 : Nat), (13 : Nat)), ((0 : Nat), (16 : Nat), (23 : Nat), (15 : Nat))]) ∈ lw_all := lw_g (lw_at lw_m4 76 rfl) rfl
theorem q822 : (Jvm.Cond.methodLink "MelodeonLaw" (50 : Nat) ({ cls := "Melodeon", name := "write", desc := "(IIIII)I" } : Jvm.MethodName)) ∈ lw_all := lw_g (lw_at lw_m4 77 rfl) rfl
theorem q826 : (Jvm.Cond.methodLink "MelodeonLaw" (138 : Nat) ({ cls := "MelodeonLaw", name := "setTrack", desc := "(LMelodeon;II[J)I" } : Jvm.MethodName)) ∈ lw_all := lw_g (lw_at lw_m4 81 rfl) rfl
theorem q827 : (Jvm.Cond.static ({ cls := "MelodeonLaw", name := "setTrack", desc := "(LMelodeon;II[J)I" } : Jvm.MethodName)) ∈ lw_all := lw_g (lw_at lw_m4 82 rfl) rfl
theorem q828 : (Jvm.Cond.codeWith ({ cls := "MelodeonLaw", name := "setTrack", desc := "(LMelodeon;II[J)I" } : Jvm.MethodName) method_15_code (5 : Nat) (Option.some Jvm.ClassFile.FieldType.int) [((0 : Nat), (10 : Nat), (13 : Nat), (13 : Nat))]) ∈ lw_all := lw_g (lw_at lw_m4 83 rfl) rfl
theorem q829 : (Jvm.Cond.methodLink "MelodeonLaw" (53 : Nat) ({ cls := "Melodeon", name := "setTrack", desc := "(II)I" } : Jvm.MethodName)) ∈ lw_all := lw_g (lw_at lw_m4 84 rfl) rfl
theorem q833 : (Jvm.Cond.methodLink "MelodeonLaw" (141 : Nat) ({ cls := "MelodeonLaw", name := "setTempo", desc := "(LMelodeon;II[J)I" } : Jvm.MethodName)) ∈ lw_all := lw_g (lw_at lw_m4 88 rfl) rfl
theorem q834 : (Jvm.Cond.static ({ cls := "MelodeonLaw", name := "setTempo", desc := "(LMelodeon;II[J)I" } : Jvm.MethodName)) ∈ lw_all := lw_g (lw_at lw_m4 89 rfl) rfl
theorem q835 : (Jvm.Cond.codeWith ({ cls := "MelodeonLaw", name := "setTempo", desc := "(LMelodeon;II[J)I" } : Jvm.MethodName) method_16_code (5 : Nat) (Option.some Jvm.ClassFile.FieldType.int) [((0 : Nat), (10 : Nat), (13 : Nat), (15 : Nat))]) ∈ lw_all := lw_g (lw_at lw_m4 90 rfl) rfl
theorem q836 : (Jvm.Cond.methodLink "MelodeonLaw" (56 : Nat) ({ cls := "Melodeon", name := "setTempo", desc := "(II)I" } : Jvm.MethodName)) ∈ lw_all := lw_g (lw_at lw_m4 91 rfl) rfl
theorem q840 : (Jvm.Cond.methodLink "MelodeonLaw" (144 : Nat) ({ cls := "MelodeonLaw", name := "play", desc := "(LMelodeon;I[J)I" } : Jvm.MethodName)) ∈ lw_all := lw_g (lw_at lw_m4 95 rfl) rfl
theorem q841 : (Jvm.Cond.static ({ cls := "MelodeonLaw", name := "play", desc := "(LMelodeon;I[J)I" } : Jvm.MethodName)) ∈ lw_all := lw_g (lw_at lw_m4 96 rfl) rfl
theorem q842 : (Jvm.Cond.codeWith ({ cls := "MelodeonLaw", name := "play", desc := "(LMelodeon;I[J)I" } : Jvm.MethodName) method_17_code (4 : Nat) (Option.some Jvm.ClassFile.FieldType.int) [((0 : Nat), (16 : Nat), (19 : Nat), (13 : Nat))]) ∈ lw_all := lw_g (lw_at lw_m4 97 rfl) rfl
theorem q843 : (Jvm.Cond.methodLink "MelodeonLaw" (59 : Nat) ({ cls := "Melodeon", name := "play", desc := "(I)Z" } : Jvm.MethodName)) ∈ lw_all := lw_g (lw_at lw_m4 98 rfl) rfl
theorem q847 : (Jvm.Cond.methodLink "MelodeonLaw" (155 : Nat) ({ cls := "MelodeonLaw", name := "run", desc := "(LMelodeon;I[J)I" } : Jvm.MethodName)) ∈ lw_all := lw_g (lw_at lw_m4 102 rfl) rfl
theorem q848 : (Jvm.Cond.static ({ cls := "MelodeonLaw", name := "run", desc := "(LMelodeon;I[J)I" } : Jvm.MethodName)) ∈ lw_all := lw_g (lw_at lw_m4 103 rfl) rfl
theorem q849 : (Jvm.Cond.codeWith ({ cls := "MelodeonLaw", name := "run", desc := "(LMelodeon;I[J)I" } : Jvm.MethodName) method_18_code (4 : Nat) (Option.some Jvm.ClassFile.FieldType.int) [((0 : Nat), (9 : Nat), (12 : Nat), (15 : Nat))]) ∈ lw_all := lw_g (lw_at lw_m4 104 rfl) rfl
theorem q850 : (Jvm.Cond.methodLink "MelodeonLaw" (63 : Nat) ({ cls := "Melodeon", name := "run", desc := "(I)I" } : Jvm.MethodName)) ∈ lw_all := lw_g (lw_at lw_m4 105 rfl) rfl
theorem q854 : (Jvm.Cond.methodLink "MelodeonLaw" (158 : Nat) ({ cls := "MelodeonLaw", name := "heard", desc := "(LMelodeon;I[J)I" } : Jvm.MethodName)) ∈ lw_all := lw_g (lw_at lw_m4 109 rfl) rfl
theorem q855 : (Jvm.Cond.static ({ cls := "MelodeonLaw", name := "heard", desc := "(LMelodeon;I[J)I" } : Jvm.MethodName)) ∈ lw_all := lw_g (lw_at lw_m4 110 rfl) rfl
theorem q856 : (Jvm.Cond.codeWith ({ cls := "MelodeonLaw", name := "heard", desc := "(LMelodeon;I[J)I" } : Jvm.MethodName) method_19_code (4 : Nat) (Option.some Jvm.ClassFile.FieldType.int) [((0 : Nat), (9 : Nat), (12 : Nat), (15 : Nat))]) ∈ lw_all := lw_g (lw_at lw_m4 111 rfl) rfl
theorem q857 : (Jvm.Cond.methodLink "MelodeonLaw" (66 : Nat) ({ cls := "Melodeon", name := "heard", desc := "(I)I" } : Jvm.MethodName)) ∈ lw_all := lw_g (lw_at lw_m4 112 rfl) rfl
theorem q858 : (Jvm.Cond.methodLink "MelodeonLaw" (186 : Nat) ({ cls := "MelodeonLaw", name := "ofVoice", desc := "(LMelodeon;II[J)I" } : Jvm.MethodName)) ∈ lw_all := lw_g (lw_at lw_m4 113 rfl) rfl
theorem q859 : (Jvm.Cond.static ({ cls := "MelodeonLaw", name := "ofVoice", desc := "(LMelodeon;II[J)I" } : Jvm.MethodName)) ∈ lw_all := lw_g (lw_at lw_m4 114 rfl) rfl
theorem q860 : (Jvm.Cond.codeWith ({ cls := "MelodeonLaw", name := "ofVoice", desc := "(LMelodeon;II[J)I" } : Jvm.MethodName) method_20_code (5 : Nat) (Option.some Jvm.ClassFile.FieldType.int) [((0 : Nat), (10 : Nat), (13 : Nat), (13 : Nat)), ((0 : Nat), (10 : Nat), (17 : Nat), (15 : Nat))]) ∈ lw_all := lw_g (lw_at lw_m4 115 rfl) rfl
theorem q861 : (Jvm.Cond.methodLink "MelodeonLaw" (69 : Nat) ({ cls := "Melodeon", name := "ofVoice", desc := "(II)I" } : Jvm.MethodName)) ∈ lw_all := lw_g (lw_at lw_m4 116 rfl) rfl
theorem q862 : (Jvm.Cond.methodLink "MelodeonLaw" (206 : Nat) ({ cls := "MelodeonLaw", name := "ofStep", desc := "(LMelodeon;III[J)I" } : Jvm.MethodName)) ∈ lw_all := lw_g (lw_at lw_m4 117 rfl) rfl
theorem q863 : (Jvm.Cond.static ({ cls := "MelodeonLaw", name := "ofStep", desc := "(LMelodeon;III[J)I" } : Jvm.MethodName)) ∈ lw_all := lw_g (lw_at lw_m4 118 rfl) rfl
theorem q864 : (Jvm.Cond.codeWith ({ cls := "MelodeonLaw", name := "ofStep", desc := "(LMelodeon;III[J)I" } : Jvm.MethodName) method_21_code (6 : Nat) (Option.some Jvm.ClassFile.FieldType.int) [((0 : Nat), (12 : Nat), (15 : Nat), (13 : Nat)), ((0 : Nat), (12 : Nat), (19 : Nat), (15 : Nat))]) ∈ lw_all := lw_g (lw_at lw_m4 119 rfl) rfl
theorem q865 : (Jvm.Cond.methodLink "MelodeonLaw" (72 : Nat) ({ cls := "Melodeon", name := "ofStep", desc := "(III)I" } : Jvm.MethodName)) ∈ lw_all := lw_g (lw_at lw_m4 120 rfl) rfl
theorem q866 : (Jvm.Cond.methodLink "MelodeonLaw" (209 : Nat) ({ cls := "MelodeonLaw", name := "inDelay", desc := "(LMelodeon;I[J)I" } : Jvm.MethodName)) ∈ lw_all := lw_g (lw_at lw_m4 121 rfl) rfl
theorem q867 : (Jvm.Cond.static ({ cls := "MelodeonLaw", name := "inDelay", desc := "(LMelodeon;I[J)I" } : Jvm.MethodName)) ∈ lw_all := lw_g (lw_at lw_m4 122 rfl) rfl
theorem q868 : (Jvm.Cond.codeWith ({ cls := "MelodeonLaw", name := "inDelay", desc := "(LMelodeon;I[J)I" } : Jvm.MethodName) method_22_code (4 : Nat) (Option.some Jvm.ClassFile.FieldType.int) [((0 : Nat), (9 : Nat), (12 : Nat), (13 : Nat))]) ∈ lw_all := lw_g (lw_at lw_m4 123 rfl) rfl
theorem q869 : (Jvm.Cond.methodLink "MelodeonLaw" (75 : Nat) ({ cls := "Melodeon", name := "inDelay", desc := "(I)I" } : Jvm.MethodName)) ∈ lw_all := lw_g (lw_at lw_m4 124 rfl) rfl
theorem q870 : (Jvm.Cond.methodLink "MelodeonLaw" (212 : Nat) ({ cls := "MelodeonLaw", name := "wouldPeak", desc := "(LMelodeon;I[J)I" } : Jvm.MethodName)) ∈ lw_all := lw_g (lw_at lw_m4 125 rfl) rfl
theorem q871 : (Jvm.Cond.static ({ cls := "MelodeonLaw", name := "wouldPeak", desc := "(LMelodeon;I[J)I" } : Jvm.MethodName)) ∈ lw_all := lw_g (lw_at lw_m4 126 rfl) rfl
theorem q872 : (Jvm.Cond.codeWith ({ cls := "MelodeonLaw", name := "wouldPeak", desc := "(LMelodeon;I[J)I" } : Jvm.MethodName) method_23_code (4 : Nat) (Option.some Jvm.ClassFile.FieldType.int) [((0 : Nat), (9 : Nat), (12 : Nat), (15 : Nat))]) ∈ lw_all := lw_g (lw_at lw_m4 127 rfl) rfl
theorem q873 : (Jvm.Cond.methodLink "MelodeonLaw" (78 : Nat) ({ cls := "Melodeon", name := "wouldPeak", desc := "(I)I" } : Jvm.MethodName)) ∈ lw_all := lw_g (lw_at lw_m4 128 rfl) rfl
theorem q891 : (Jvm.Cond.methodLink "MelodeonLaw" (215 : Nat) ({ cls := "MelodeonLaw", name := "silentIn", desc := "(LMelodeon;I[J)I" } : Jvm.MethodName)) ∈ lw_all := lw_g (lw_at lw_m4 146 rfl) rfl
theorem q892 : (Jvm.Cond.static ({ cls := "MelodeonLaw", name := "silentIn", desc := "(LMelodeon;I[J)I" } : Jvm.MethodName)) ∈ lw_all := lw_g (lw_at lw_m4 147 rfl) rfl
theorem q893 : (Jvm.Cond.codeWith ({ cls := "MelodeonLaw", name := "silentIn", desc := "(LMelodeon;I[J)I" } : Jvm.MethodName) method_24_code (4 : Nat) (Option.some Jvm.ClassFile.FieldType.int) [((0 : Nat), (9 : Nat), (12 : Nat), (15 : Nat))]) ∈ lw_all := lw_g (lw_at lw_m4 148 rfl) rfl
theorem q894 : (Jvm.Cond.methodLink "MelodeonLaw" (81 : Nat) ({ cls := "Melodeon", name := "silentIn", desc := "(I)I" } : Jvm.MethodName)) ∈ lw_all := lw_g (lw_at lw_m4 149 rfl) rfl
theorem q898 : (Jvm.Cond.classLink "MelodeonLaw" (85 : Nat) "MelodeonModel") ∈ lw_all := lw_g (lw_at lw_m4 153 rfl) rfl
theorem q900 : (Jvm.Cond.methodLink "MelodeonLaw" (87 : Nat) ({ cls := "MelodeonModel", name := "<init>", desc := "()V" } : Jvm.MethodName)) ∈ lw_all := lw_g (lw_at lw_m4 155 rfl) rfl
theorem q1055 : (Jvm.Cond.methodLink "MelodeonLaw" (94 : Nat) ({ cls := "MelodeonModel", name := "thrown", desc := "()I" } : Jvm.MethodName)) ∈ lw_all := lw_g (lw_at lw_m5 70 rfl) rfl
theorem q1059 : (Jvm.Cond.methodLink "MelodeonLaw" (93 : Nat) ({ cls := "MelodeonModel", name := "draw", desc := "(II)I" } : Jvm.MethodName)) ∈ lw_all := lw_g (lw_at lw_m5 74 rfl) rfl
theorem q1070 : (Jvm.Cond.methodLink "MelodeonLaw" (100 : Nat) ({ cls := "MelodeonModel", name := "wave", desc := "(II)I" } : Jvm.MethodName)) ∈ lw_all := lw_g (lw_at lw_m5 85 rfl) rfl
theorem q1086 : (Jvm.Cond.methodLink "MelodeonLaw" (104 : Nat) ({ cls := "MelodeonModel", name := "stride", desc := "(I)I" } : Jvm.MethodName)) ∈ lw_all := lw_g (lw_at lw_m5 101 rfl) rfl
theorem q1093 : (Jvm.Cond.methodLink "MelodeonLaw" (108 : Nat) ({ cls := "MelodeonModel", name := "setWaves", desc := "(IIIII)I" } : Jvm.MethodName)) ∈ lw_all := lw_g (lw_at lw_m5 108 rfl) rfl
theorem q1105 : (Jvm.Cond.methodLink "MelodeonLaw" (111 : Nat) ({ cls := "MelodeonModel", name := "setEnvelope", desc := "(IIIII)I" } : Jvm.MethodName)) ∈ lw_all := lw_g (lw_at lw_m5 120 rfl) rfl
theorem q1109 : (Jvm.Cond.methodLink "MelodeonLaw" (115 : Nat) ({ cls := "MelodeonModel", name := "setFilter", desc := "(III)I" } : Jvm.MethodName)) ∈ lw_all := lw_g (lw_at lw_m5 124 rfl) rfl
theorem q1113 : (Jvm.Cond.methodLink "MelodeonLaw" (118 : Nat) ({ cls := "MelodeonModel", name := "setVibrato", desc := "(III)I" } : Jvm.MethodName)) ∈ lw_all := lw_g (lw_at lw_m5 128 rfl) rfl
theorem q1117 : (Jvm.Cond.methodLink "MelodeonLaw" (121 : Nat) ({ cls := "MelodeonModel", name := "setGain", desc := "(I)I" } : Jvm.MethodName)) ∈ lw_all := lw_g (lw_at lw_m5 132 rfl) rfl
theorem q1121 : (Jvm.Cond.methodLink "MelodeonLaw" (124 : Nat) ({ cls := "MelodeonModel", name := "setDelay", desc := "(III)I" } : Jvm.MethodName)) ∈ lw_all := lw_g (lw_at lw_m5 136 rfl) rfl
theorem q1125 : (Jvm.Cond.methodLink "MelodeonLaw" (127 : Nat) ({ cls := "MelodeonModel", name := "begin", desc := "(III)I" } : Jvm.MethodName)) ∈ lw_all := lw_g (lw_at lw_m5 140 rfl) rfl
theorem q1137 : (Jvm.Cond.methodLink "MelodeonLaw" (130 : Nat) ({ cls := "MelodeonModel", name := "end", desc := "(I)I" } : Jvm.MethodName)) ∈ lw_all := lw_g (lw_at lw_m5 152 rfl) rfl
theorem q1149 : (Jvm.Cond.methodLink "MelodeonLaw" (134 : Nat) ({ cls := "MelodeonModel", name := "hush", desc := "()I" } : Jvm.MethodName)) ∈ lw_all := lw_g (lw_at lw_m5 164 rfl) rfl
theorem q1157 : (Jvm.Cond.methodLink "MelodeonLaw" (137 : Nat) ({ cls := "MelodeonModel", name := "write", desc := "(IIIII)I" } : Jvm.MethodName)) ∈ lw_all := lw_g (lw_at lw_m5 172 rfl) rfl
theorem q1164 : (Jvm.Cond.methodLink "MelodeonLaw" (140 : Nat) ({ cls := "MelodeonModel", name := "setTrack", desc := "(II)I" } : Jvm.MethodName)) ∈ lw_all := lw_g (lw_at lw_m5 179 rfl) rfl
theorem q1168 : (Jvm.Cond.methodLink "MelodeonLaw" (143 : Nat) ({ cls := "MelodeonModel", name := "setTempo", desc := "(II)I" } : Jvm.MethodName)) ∈ lw_all := lw_g (lw_at lw_m5 183 rfl) rfl
theorem q1172 : (Jvm.Cond.methodLink "MelodeonLaw" (146 : Nat) ({ cls := "MelodeonModel", name := "play", desc := "(I)Z" } : Jvm.MethodName)) ∈ lw_all := lw_g (lw_at lw_m5 187 rfl) rfl
theorem q1176 : (Jvm.Cond.methodLink "MelodeonLaw" (150 : Nat) ({ cls := "MelodeonModel", name := "stop", desc := "()I" } : Jvm.MethodName)) ∈ lw_all := lw_g (lw_at lw_m5 191 rfl) rfl
theorem q1184 : (Jvm.Cond.methodLink "MelodeonLaw" (154 : Nat) ({ cls := "MelodeonModel", name := "sample", desc := "()I" } : Jvm.MethodName)) ∈ lw_all := lw_g (lw_at lw_m5 199 rfl) rfl
theorem q1228 : (Jvm.Cond.methodLink "MelodeonLaw" (157 : Nat) ({ cls := "MelodeonModel", name := "run", desc := "(I)I" } : Jvm.MethodName)) ∈ lw_all := lw_g (lw_at lw_m6 3 rfl) rfl
theorem q1232 : (Jvm.Cond.methodLink "MelodeonLaw" (160 : Nat) ({ cls := "MelodeonModel", name := "heard", desc := "(I)I" } : Jvm.MethodName)) ∈ lw_all := lw_g (lw_at lw_m6 7 rfl) rfl
theorem q1236 : (Jvm.Cond.methodLink "MelodeonLaw" (164 : Nat) ({ cls := "MelodeonModel", name := "clock", desc := "()I" } : Jvm.MethodName)) ∈ lw_all := lw_g (lw_at lw_m6 11 rfl) rfl
theorem q1240 : (Jvm.Cond.methodLink "MelodeonLaw" (168 : Nat) ({ cls := "MelodeonModel", name := "peak", desc := "()I" } : Jvm.MethodName)) ∈ lw_all := lw_g (lw_at lw_m6 15 rfl) rfl
theorem q1244 : (Jvm.Cond.methodLink "MelodeonLaw" (173 : Nat) ({ cls := "MelodeonModel", name := "loudness", desc := "()D" } : Jvm.MethodName)) ∈ lw_all := lw_g (lw_at lw_m6 19 rfl) rfl
theorem q1248 : (Jvm.Cond.methodLink "MelodeonLaw" (177 : Nat) ({ cls := "MelodeonModel", name := "clipped", desc := "()I" } : Jvm.MethodName)) ∈ lw_all := lw_g (lw_at lw_m6 23 rfl) rfl
theorem q1252 : (Jvm.Cond.methodLink "MelodeonLaw" (181 : Nat) ({ cls := "MelodeonModel", name := "crossings", desc := "()I" } : Jvm.MethodName)) ∈ lw_all := lw_g (lw_at lw_m6 27 rfl) rfl
theorem q1256 : (Jvm.Cond.methodLink "MelodeonLaw" (185 : Nat) ({ cls := "MelodeonModel", name := "reset", desc := "()I" } : Jvm.MethodName)) ∈ lw_all := lw_g (lw_at lw_m6 31 rfl) rfl
theorem q1260 : (Jvm.Cond.methodLink "MelodeonLaw" (188 : Nat) ({ cls := "MelodeonModel", name := "ofVoice", desc := "(II)I" } : Jvm.MethodName)) ∈ lw_all := lw_g (lw_at lw_m6 35 rfl) rfl
theorem q1268 : (Jvm.Cond.methodLink "MelodeonLaw" (192 : Nat) ({ cls := "MelodeonModel", name := "sounding", desc := "()I" } : Jvm.MethodName)) ∈ lw_all := lw_g (lw_at lw_m6 43 rfl) rfl
theorem q1272 : (Jvm.Cond.methodLink "MelodeonLaw" (196 : Nat) ({ cls := "MelodeonModel", name := "taken", desc := "()I" } : Jvm.MethodName)) ∈ lw_all := lw_g (lw_at lw_m6 47 rfl) rfl
theorem q1276 : (Jvm.Cond.methodLink "MelodeonLaw" (201 : Nat) ({ cls := "MelodeonModel", name := "isPlaying", desc := "()Z" } : Jvm.MethodName)) ∈ lw_all := lw_g (lw_at lw_m6 51 rfl) rfl
theorem q1280 : (Jvm.Cond.methodLink "MelodeonLaw" (205 : Nat) ({ cls := "MelodeonModel", name := "step", desc := "()I" } : Jvm.MethodName)) ∈ lw_all := lw_g (lw_at lw_m6 55 rfl) rfl
theorem q1284 : (Jvm.Cond.methodLink "MelodeonLaw" (208 : Nat) ({ cls := "MelodeonModel", name := "ofStep", desc := "(III)I" } : Jvm.MethodName)) ∈ lw_all := lw_g (lw_at lw_m6 59 rfl) rfl
theorem q1288 : (Jvm.Cond.methodLink "MelodeonLaw" (211 : Nat) ({ cls := "MelodeonModel", name := "inDelay", desc := "(I)I" } : Jvm.MethodName)) ∈ lw_all := lw_g (lw_at lw_m6 63 rfl) rfl
theorem q1292 : (Jvm.Cond.methodLink "MelodeonLaw" (214 : Nat) ({ cls := "MelodeonModel", name := "wouldPeak", desc := "(I)I" } : Jvm.MethodName)) ∈ lw_all := lw_g (lw_at lw_m6 67 rfl) rfl
theorem q1306 : (Jvm.Cond.methodLink "MelodeonLaw" (217 : Nat) ({ cls := "MelodeonModel", name := "silentIn", desc := "(I)I" } : Jvm.MethodName)) ∈ lw_all := lw_g (lw_at lw_m6 81 rfl) rfl
theorem q1310 : (Jvm.Cond.methodLink "MelodeonLaw" (221 : Nat) ({ cls := "MelodeonModel", name := "nextVoice", desc := "()I" } : Jvm.MethodName)) ∈ lw_all := lw_g (lw_at lw_m6 85 rfl) rfl
theorem q1315 : (Jvm.Cond.methodLink "MelodeonLaw" (226 : Nat) ({ cls := "MelodeonModel", name := "digest", desc := "()J" } : Jvm.MethodName)) ∈ lw_all := lw_g (lw_at lw_m6 90 rfl) rfl
/-! the law's own entry -/
set_option maxRecDepth 100000
abbrev cL_law : ByteArray := code
def dkwL_law_79 : List UInt8 := [182, 0, 222, 44, 182, 0, 226, 148, 153, 0, 5, 3, 172, 132, 4, 6, 167, 248, 77, 4, 172]
abbrev dktL_law_79 : List UInt8 := dkwL_law_79 ++ []
def dkwL_law_78 : List UInt8 := [153, 0, 5, 3, 172, 167, 0, 30, 43, 182, 0, 218, 44, 182, 0, 221, 159, 0, 19, 3, 172, 43]
abbrev dktL_law_78 : List UInt8 := dkwL_law_78 ++ dktL_law_79
def dkwL_law_77 : List UInt8 := [182, 0, 94, 21, 5, 159, 0, 5, 3, 172, 21, 5, 154, 0, 15, 45, 3, 47, 21, 6, 133, 148]
abbrev dktL_law_77 : List UInt8 := dkwL_law_77 ++ dktL_law_78
def dkwL_law_76 : List UInt8 := [21, 4, 4, 96, 46, 45, 184, 0, 215, 54, 5, 44, 42, 21, 4, 4, 96, 46, 182, 0, 217, 54, 6, 44]
abbrev dktL_law_76 : List UInt8 := dkwL_law_76 ++ dktL_law_77
def dkwL_law_75 : List UInt8 := [172, 21, 5, 154, 0, 15, 45, 3, 47, 21, 6, 133, 148, 153, 0, 5, 3, 172, 167, 0, 86, 43, 42]
abbrev dktL_law_75 : List UInt8 := dkwL_law_75 ++ dktL_law_76
def dkwL_law_74 : List UInt8 := [54, 5, 44, 42, 21, 4, 4, 96, 46, 182, 0, 214, 54, 6, 44, 182, 0, 94, 21, 5, 159, 0, 5, 3]
abbrev dktL_law_74 : List UInt8 := dkwL_law_74 ++ dktL_law_75
def dkwL_law_73 : List UInt8 := [21, 6, 133, 148, 153, 0, 5, 3, 172, 167, 0, 142, 43, 42, 21, 4, 4, 96, 46, 45, 184, 0, 212]
abbrev dktL_law_73 : List UInt8 := dkwL_law_73 ++ dktL_law_74
def dkwL_law_72 : List UInt8 := [182, 0, 211, 54, 6, 44, 182, 0, 94, 21, 5, 159, 0, 5, 3, 172, 21, 5, 154, 0, 15, 45, 3, 47]
abbrev dktL_law_72 : List UInt8 := dkwL_law_72 ++ dktL_law_73
def dkwL_law_71 : List UInt8 := [167, 0, 198, 43, 42, 21, 4, 4, 96, 46, 45, 184, 0, 209, 54, 5, 44, 42, 21, 4, 4, 96, 46]
abbrev dktL_law_71 : List UInt8 := dkwL_law_71 ++ dktL_law_72
def dkwL_law_70 : List UInt8 := [159, 0, 5, 3, 172, 21, 5, 154, 0, 15, 45, 3, 47, 21, 6, 133, 148, 153, 0, 5, 3, 172]
abbrev dktL_law_70 : List UInt8 := dkwL_law_70 ++ dktL_law_71
def dkwL_law_69 : List UInt8 := [21, 4, 5, 96, 46, 42, 21, 4, 6, 96, 46, 182, 0, 208, 54, 6, 44, 182, 0, 94, 21, 5]
abbrev dktL_law_69 : List UInt8 := dkwL_law_69 ++ dktL_law_70
def dkwL_law_68 : List UInt8 := [5, 96, 46, 42, 21, 4, 6, 96, 46, 45, 184, 0, 206, 54, 5, 44, 42, 21, 4, 4, 96, 46, 42]
abbrev dktL_law_68 : List UInt8 := dkwL_law_68 ++ dktL_law_69
def dkwL_law_67 : List UInt8 := [172, 43, 182, 0, 202, 44, 182, 0, 205, 159, 1, 24, 3, 172, 43, 42, 21, 4, 4, 96, 46, 42, 21, 4]
abbrev dktL_law_67 : List UInt8 := dkwL_law_67 ++ dktL_law_68
def dkwL_law_66 : List UInt8 := [182, 0, 193, 44, 182, 0, 196, 159, 1, 50, 3, 172, 43, 182, 0, 197, 44, 182, 0, 201, 159, 1, 37, 3]
abbrev dktL_law_66 : List UInt8 := dkwL_law_66 ++ dktL_law_67
def dkwL_law_65 : List UInt8 := [148, 153, 0, 5, 3, 172, 167, 1, 74, 43, 182, 0, 189, 44, 182, 0, 192, 159, 1, 63, 3, 172, 43]
abbrev dktL_law_65 : List UInt8 := dkwL_law_65 ++ dktL_law_66
def dkwL_law_64 : List UInt8 := [54, 6, 44, 182, 0, 94, 21, 5, 159, 0, 5, 3, 172, 21, 5, 154, 0, 15, 45, 3, 47, 21, 6, 133]
abbrev dktL_law_64 : List UInt8 := dkwL_law_64 ++ dktL_law_65
def dkwL_law_63 : List UInt8 := [46, 45, 184, 0, 186, 54, 5, 44, 42, 21, 4, 4, 96, 46, 42, 21, 4, 5, 96, 46, 182, 0, 188]
abbrev dktL_law_63 : List UInt8 := dkwL_law_63 ++ dktL_law_64
def dkwL_law_62 : List UInt8 := [182, 0, 182, 44, 182, 0, 185, 159, 1, 144, 3, 172, 43, 42, 21, 4, 4, 96, 46, 42, 21, 4, 5, 96]
abbrev dktL_law_62 : List UInt8 := dkwL_law_62 ++ dktL_law_63
def dkwL_law_61 : List UInt8 := [182, 0, 177, 159, 1, 170, 3, 172, 43, 182, 0, 178, 44, 182, 0, 181, 159, 1, 157, 3, 172, 43]
abbrev dktL_law_61 : List UInt8 := dkwL_law_61 ++ dktL_law_62
def dkwL_law_60 : List UInt8 := [24, 5, 151, 153, 0, 11, 24, 7, 24, 7, 151, 154, 0, 5, 3, 172, 167, 1, 181, 43, 182, 0, 174, 44]
abbrev dktL_law_60 : List UInt8 := dkwL_law_60 ++ dktL_law_61
def dkwL_law_59 : List UInt8 := [172, 43, 182, 0, 169, 57, 5, 44, 182, 0, 173, 57, 7, 24, 5, 24, 7, 151, 153, 0, 21, 24, 5]
abbrev dktL_law_59 : List UInt8 := dkwL_law_59 ++ dktL_law_60
def dkwL_law_58 : List UInt8 := [182, 0, 161, 44, 182, 0, 164, 159, 1, 237, 3, 172, 43, 182, 0, 165, 44, 182, 0, 168, 159, 1, 224, 3]
abbrev dktL_law_58 : List UInt8 := dkwL_law_58 ++ dktL_law_59
def dkwL_law_57 : List UInt8 := [172, 21, 5, 154, 0, 15, 45, 3, 47, 21, 6, 133, 148, 153, 0, 5, 3, 172, 167, 1, 248, 43]
abbrev dktL_law_57 : List UInt8 := dkwL_law_57 ++ dktL_law_58
def dkwL_law_56 : List UInt8 := [54, 5, 44, 42, 21, 4, 4, 96, 46, 182, 0, 160, 54, 6, 44, 182, 0, 94, 21, 5, 159, 0, 5, 3]
abbrev dktL_law_56 : List UInt8 := dkwL_law_56 ++ dktL_law_57
def dkwL_law_55 : List UInt8 := [47, 21, 6, 133, 148, 153, 0, 5, 3, 172, 167, 2, 48, 43, 42, 21, 4, 4, 96, 46, 45, 184, 0, 158]
abbrev dktL_law_55 : List UInt8 := dkwL_law_55 ++ dktL_law_56
def dkwL_law_54 : List UInt8 := [46, 182, 0, 157, 54, 6, 44, 182, 0, 94, 21, 5, 159, 0, 5, 3, 172, 21, 5, 154, 0, 15, 45, 3]
abbrev dktL_law_54 : List UInt8 := dkwL_law_54 ++ dktL_law_55
def dkwL_law_53 : List UInt8 := [159, 2, 106, 3, 172, 43, 42, 21, 4, 4, 96, 46, 45, 184, 0, 155, 54, 5, 44, 42, 21, 4, 4, 96]
abbrev dktL_law_53 : List UInt8 := dkwL_law_53 ++ dktL_law_54
def dkwL_law_52 : List UInt8 := [167, 2, 130, 43, 182, 0, 147, 44, 182, 0, 150, 159, 2, 119, 3, 172, 43, 182, 0, 151, 44, 182, 0, 154]
abbrev dktL_law_52 : List UInt8 := dkwL_law_52 ++ dktL_law_53
def dkwL_law_51 : List UInt8 := [154, 0, 22, 45, 3, 47, 21, 6, 153, 0, 7, 10, 167, 0, 4, 9, 148, 153, 0, 5, 3, 172]
abbrev dktL_law_51 : List UInt8 := dkwL_law_51 ++ dktL_law_52
def dkwL_law_50 : List UInt8 := [21, 4, 4, 96, 46, 182, 0, 146, 54, 6, 44, 182, 0, 94, 21, 5, 159, 0, 5, 3, 172, 21, 5]
abbrev dktL_law_50 : List UInt8 := dkwL_law_50 ++ dktL_law_51
def dkwL_law_49 : List UInt8 := [153, 0, 5, 3, 172, 167, 2, 193, 43, 42, 21, 4, 4, 96, 46, 45, 184, 0, 144, 54, 5, 44, 42]
abbrev dktL_law_49 : List UInt8 := dkwL_law_49 ++ dktL_law_50
def dkwL_law_48 : List UInt8 := [182, 0, 94, 21, 5, 159, 0, 5, 3, 172, 21, 5, 154, 0, 15, 45, 3, 47, 21, 6, 133, 148]
abbrev dktL_law_48 : List UInt8 := dkwL_law_48 ++ dktL_law_49
def dkwL_law_47 : List UInt8 := [184, 0, 141, 54, 5, 44, 42, 21, 4, 4, 96, 46, 42, 21, 4, 5, 96, 46, 182, 0, 143, 54, 6, 44]
abbrev dktL_law_47 : List UInt8 := dkwL_law_47 ++ dktL_law_48
def dkwL_law_46 : List UInt8 := [153, 0, 5, 3, 172, 167, 3, 5, 43, 42, 21, 4, 4, 96, 46, 42, 21, 4, 5, 96, 46, 45]
abbrev dktL_law_46 : List UInt8 := dkwL_law_46 ++ dktL_law_47
def dkwL_law_45 : List UInt8 := [182, 0, 94, 21, 5, 159, 0, 5, 3, 172, 21, 5, 154, 0, 15, 45, 3, 47, 21, 6, 133, 148]
abbrev dktL_law_45 : List UInt8 := dkwL_law_45 ++ dktL_law_46
def dkwL_law_44 : List UInt8 := [184, 0, 138, 54, 5, 44, 42, 21, 4, 4, 96, 46, 42, 21, 4, 5, 96, 46, 182, 0, 140, 54, 6, 44]
abbrev dktL_law_44 : List UInt8 := dkwL_law_44 ++ dktL_law_45
def dkwL_law_43 : List UInt8 := [153, 0, 5, 3, 172, 167, 3, 73, 43, 42, 21, 4, 4, 96, 46, 42, 21, 4, 5, 96, 46, 45]
abbrev dktL_law_43 : List UInt8 := dkwL_law_43 ++ dktL_law_44
def dkwL_law_42 : List UInt8 := [182, 0, 94, 21, 5, 159, 0, 5, 3, 172, 21, 5, 154, 0, 15, 45, 3, 47, 21, 6, 133, 148]
abbrev dktL_law_42 : List UInt8 := dkwL_law_42 ++ dktL_law_43
def dkwL_law_41 : List UInt8 := [42, 21, 4, 6, 96, 46, 42, 21, 4, 7, 96, 46, 42, 21, 4, 8, 96, 46, 182, 0, 137, 54, 6, 44]
abbrev dktL_law_41 : List UInt8 := dkwL_law_41 ++ dktL_law_42
def dkwL_law_40 : List UInt8 := [21, 4, 8, 96, 46, 45, 184, 0, 135, 54, 5, 44, 42, 21, 4, 4, 96, 46, 42, 21, 4, 5, 96, 46]
abbrev dktL_law_40 : List UInt8 := dkwL_law_40 ++ dktL_law_41
def dkwL_law_39 : List UInt8 := [21, 4, 4, 96, 46, 42, 21, 4, 5, 96, 46, 42, 21, 4, 6, 96, 46, 42, 21, 4, 7, 96, 46, 42]
abbrev dktL_law_39 : List UInt8 := dkwL_law_39 ++ dktL_law_40
def dkwL_law_38 : List UInt8 := [153, 0, 5, 3, 172, 167, 3, 190, 43, 182, 0, 131, 44, 182, 0, 134, 159, 3, 179, 3, 172, 43, 42]
abbrev dktL_law_38 : List UInt8 := dkwL_law_38 ++ dktL_law_39
def dkwL_law_37 : List UInt8 := [182, 0, 94, 21, 5, 159, 0, 5, 3, 172, 21, 5, 154, 0, 15, 45, 3, 47, 21, 6, 133, 148]
abbrev dktL_law_37 : List UInt8 := dkwL_law_37 ++ dktL_law_38
def dkwL_law_36 : List UInt8 := [4, 96, 46, 45, 184, 0, 128, 54, 5, 44, 42, 21, 4, 4, 96, 46, 182, 0, 130, 54, 6, 44]
abbrev dktL_law_36 : List UInt8 := dkwL_law_36 ++ dktL_law_37
def dkwL_law_35 : List UInt8 := [21, 5, 154, 0, 15, 45, 3, 47, 21, 6, 133, 148, 153, 0, 5, 3, 172, 167, 3, 246, 43, 42, 21, 4]
abbrev dktL_law_35 : List UInt8 := dkwL_law_35 ++ dktL_law_36
def dkwL_law_34 : List UInt8 := [96, 46, 42, 21, 4, 6, 96, 46, 182, 0, 127, 54, 6, 44, 182, 0, 94, 21, 5, 159, 0, 5, 3, 172]
abbrev dktL_law_34 : List UInt8 := dkwL_law_34 ++ dktL_law_35
def dkwL_law_33 : List UInt8 := [46, 42, 21, 4, 6, 96, 46, 45, 184, 0, 125, 54, 5, 44, 42, 21, 4, 4, 96, 46, 42, 21, 4, 5]
abbrev dktL_law_33 : List UInt8 := dkwL_law_33 ++ dktL_law_34
def dkwL_law_32 : List UInt8 := [21, 6, 133, 148, 153, 0, 5, 3, 172, 167, 4, 70, 43, 42, 21, 4, 4, 96, 46, 42, 21, 4, 5, 96]
abbrev dktL_law_32 : List UInt8 := dkwL_law_32 ++ dktL_law_33
def dkwL_law_31 : List UInt8 := [182, 0, 124, 54, 6, 44, 182, 0, 94, 21, 5, 159, 0, 5, 3, 172, 21, 5, 154, 0, 15, 45, 3, 47]
abbrev dktL_law_31 : List UInt8 := dkwL_law_31 ++ dktL_law_32
def dkwL_law_30 : List UInt8 := [184, 0, 122, 54, 5, 44, 42, 21, 4, 4, 96, 46, 42, 21, 4, 5, 96, 46, 42, 21, 4, 6, 96, 46]
abbrev dktL_law_30 : List UInt8 := dkwL_law_30 ++ dktL_law_31
def dkwL_law_29 : List UInt8 := [167, 4, 150, 43, 42, 21, 4, 4, 96, 46, 42, 21, 4, 5, 96, 46, 42, 21, 4, 6, 96, 46, 45]
abbrev dktL_law_29 : List UInt8 := dkwL_law_29 ++ dktL_law_30
def dkwL_law_28 : List UInt8 := [21, 5, 159, 0, 5, 3, 172, 21, 5, 154, 0, 15, 45, 3, 47, 21, 6, 133, 148, 153, 0, 5, 3, 172]
abbrev dktL_law_28 : List UInt8 := dkwL_law_28 ++ dktL_law_29
def dkwL_law_27 : List UInt8 := [46, 45, 184, 0, 119, 54, 5, 44, 42, 21, 4, 4, 96, 46, 182, 0, 121, 54, 6, 44, 182, 0, 94]
abbrev dktL_law_27 : List UInt8 := dkwL_law_27 ++ dktL_law_28
def dkwL_law_26 : List UInt8 := [154, 0, 15, 45, 3, 47, 21, 6, 133, 148, 153, 0, 5, 3, 172, 167, 4, 206, 43, 42, 21, 4, 4, 96]
abbrev dktL_law_26 : List UInt8 := dkwL_law_26 ++ dktL_law_27
def dkwL_law_25 : List UInt8 := [21, 4, 6, 96, 46, 182, 0, 118, 54, 6, 44, 182, 0, 94, 21, 5, 159, 0, 5, 3, 172, 21, 5]
abbrev dktL_law_25 : List UInt8 := dkwL_law_25 ++ dktL_law_26
def dkwL_law_24 : List UInt8 := [6, 96, 46, 45, 184, 0, 116, 54, 5, 44, 42, 21, 4, 4, 96, 46, 42, 21, 4, 5, 96, 46, 42]
abbrev dktL_law_24 : List UInt8 := dkwL_law_24 ++ dktL_law_25
def dkwL_law_23 : List UInt8 := [153, 0, 5, 3, 172, 167, 5, 30, 43, 42, 21, 4, 4, 96, 46, 42, 21, 4, 5, 96, 46, 42, 21, 4]
abbrev dktL_law_23 : List UInt8 := dkwL_law_23 ++ dktL_law_24
def dkwL_law_22 : List UInt8 := [182, 0, 94, 21, 5, 159, 0, 5, 3, 172, 21, 5, 154, 0, 15, 45, 3, 47, 21, 6, 133, 148]
abbrev dktL_law_22 : List UInt8 := dkwL_law_22 ++ dktL_law_23
def dkwL_law_21 : List UInt8 := [42, 21, 4, 4, 96, 46, 42, 21, 4, 5, 96, 46, 42, 21, 4, 6, 96, 46, 182, 0, 115, 54, 6, 44]
abbrev dktL_law_21 : List UInt8 := dkwL_law_21 ++ dktL_law_22
def dkwL_law_20 : List UInt8 := [21, 4, 4, 96, 46, 42, 21, 4, 5, 96, 46, 42, 21, 4, 6, 96, 46, 45, 184, 0, 112, 54, 5, 44]
abbrev dktL_law_20 : List UInt8 := dkwL_law_20 ++ dktL_law_21
def dkwL_law_19 : List UInt8 := [172, 21, 5, 154, 0, 15, 45, 3, 47, 21, 6, 133, 148, 153, 0, 5, 3, 172, 167, 5, 110, 43, 42]
abbrev dktL_law_19 : List UInt8 := dkwL_law_19 ++ dktL_law_20
def dkwL_law_18 : List UInt8 := [7, 96, 46, 42, 21, 4, 8, 96, 46, 182, 0, 111, 54, 6, 44, 182, 0, 94, 21, 5, 159, 0, 5, 3]
abbrev dktL_law_18 : List UInt8 := dkwL_law_18 ++ dktL_law_19
def dkwL_law_17 : List UInt8 := [54, 5, 44, 42, 21, 4, 4, 96, 46, 42, 21, 4, 5, 96, 46, 42, 21, 4, 6, 96, 46, 42, 21, 4]
abbrev dktL_law_17 : List UInt8 := dkwL_law_17 ++ dktL_law_18
def dkwL_law_16 : List UInt8 := [46, 42, 21, 4, 6, 96, 46, 42, 21, 4, 7, 96, 46, 42, 21, 4, 8, 96, 46, 45, 184, 0, 109]
abbrev dktL_law_16 : List UInt8 := dkwL_law_16 ++ dktL_law_17
def dkwL_law_15 : List UInt8 := [21, 6, 133, 148, 153, 0, 5, 3, 172, 167, 5, 214, 43, 42, 21, 4, 4, 96, 46, 42, 21, 4, 5, 96]
abbrev dktL_law_15 : List UInt8 := dkwL_law_15 ++ dktL_law_16
def dkwL_law_14 : List UInt8 := [182, 0, 108, 54, 6, 44, 182, 0, 94, 21, 5, 159, 0, 5, 3, 172, 21, 5, 154, 0, 15, 45, 3, 47]
abbrev dktL_law_14 : List UInt8 := dkwL_law_14 ++ dktL_law_15
def dkwL_law_13 : List UInt8 := [42, 21, 4, 5, 96, 46, 42, 21, 4, 6, 96, 46, 42, 21, 4, 7, 96, 46, 42, 21, 4, 8, 96, 46]
abbrev dktL_law_13 : List UInt8 := dkwL_law_13 ++ dktL_law_14
def dkwL_law_12 : List UInt8 := [21, 4, 7, 96, 46, 42, 21, 4, 8, 96, 46, 45, 184, 0, 105, 54, 5, 44, 42, 21, 4, 4, 96, 46]
abbrev dktL_law_12 : List UInt8 := dkwL_law_12 ++ dktL_law_13
def dkwL_law_11 : List UInt8 := [167, 6, 62, 43, 42, 21, 4, 4, 96, 46, 42, 21, 4, 5, 96, 46, 42, 21, 4, 6, 96, 46, 42]
abbrev dktL_law_11 : List UInt8 := dkwL_law_11 ++ dktL_law_12
def dkwL_law_10 : List UInt8 := [21, 5, 159, 0, 5, 3, 172, 21, 5, 154, 0, 15, 45, 3, 47, 21, 6, 133, 148, 153, 0, 5, 3, 172]
abbrev dktL_law_10 : List UInt8 := dkwL_law_10 ++ dktL_law_11
def dkwL_law_9 : List UInt8 := [46, 45, 184, 0, 101, 54, 5, 44, 42, 21, 4, 4, 96, 46, 182, 0, 104, 54, 6, 44, 182, 0, 94]
abbrev dktL_law_9 : List UInt8 := dkwL_law_9 ++ dktL_law_10
def dkwL_law_8 : List UInt8 := [154, 0, 15, 45, 3, 47, 21, 6, 133, 148, 153, 0, 5, 3, 172, 167, 6, 118, 43, 42, 21, 4, 4, 96]
abbrev dktL_law_8 : List UInt8 := dkwL_law_8 ++ dktL_law_9
def dkwL_law_7 : List UInt8 := [21, 4, 5, 96, 46, 182, 0, 100, 54, 6, 44, 182, 0, 94, 21, 5, 159, 0, 5, 3, 172, 21, 5]
abbrev dktL_law_7 : List UInt8 := dkwL_law_7 ++ dktL_law_8
def dkwL_law_6 : List UInt8 := [4, 96, 46, 42, 21, 4, 5, 96, 46, 45, 184, 0, 98, 54, 5, 44, 42, 21, 4, 4, 96, 46, 42]
abbrev dktL_law_6 : List UInt8 := dkwL_law_6 ++ dktL_law_7
def dkwL_law_5 : List UInt8 := [21, 5, 154, 0, 15, 45, 3, 47, 21, 6, 133, 148, 153, 0, 5, 3, 172, 167, 6, 186, 43, 42, 21, 4]
abbrev dktL_law_5 : List UInt8 := dkwL_law_5 ++ dktL_law_6
def dkwL_law_4 : List UInt8 := [96, 46, 42, 21, 4, 5, 96, 46, 182, 0, 93, 54, 6, 44, 182, 0, 94, 21, 5, 159, 0, 5, 3, 172]
abbrev dktL_law_4 : List UInt8 := dkwL_law_4 ++ dktL_law_5
def dkwL_law_3 : List UInt8 := [43, 42, 21, 4, 4, 96, 46, 42, 21, 4, 5, 96, 46, 45, 184, 0, 88, 54, 5, 44, 42, 21, 4, 4]
abbrev dktL_law_3 : List UInt8 := dkwL_law_3 ++ dktL_law_4
def dkwL_law_2 : List UInt8 := [170, 0, 0, 0, 0, 0, 7, 159, 0, 0, 0, 0, 0, 0, 0, 36, 0, 0, 0, 164, 0, 0, 0, 232, 0, 0, 1, 44, 0, 0, 1, 100, 0, 0, 1, 204, 0, 0, 2, 52, 0, 0, 2, 132, 0, 0, 2, 212, 0, 0, 3, 12, 0, 0, 3, 92, 0, 0, 3, 172, 0, 0, 3, 228, 0, 0, 3, 241, 0, 0, 4, 89, 0, 0, 4, 157, 0, 0, 4, 225, 0, 0, 5, 32, 0, 0, 5, 45, 0, 0, 5, 58, 0, 0, 5, 114, 0, 0, 5, 170, 0, 0, 5, 183, 0, 0, 5, 196, 0, 0, 5, 237, 0, 0, 5, 250, 0, 0, 6, 7, 0, 0, 6, 20, 0, 0, 6, 88, 0, 0, 6, 101, 0, 0, 6, 114, 0, 0, 6, 127, 0, 0, 6, 140, 0, 0, 6, 220, 0, 0, 7, 20, 0, 0, 7, 76, 0, 0, 7, 132, 0, 0, 7, 145]
abbrev dktL_law_2 : List UInt8 := dkwL_law_2 ++ dktL_law_3
def dkwL_law_1 : List UInt8 := [21, 4, 42, 190, 16, 6, 100, 163, 7, 175, 42, 21, 4, 46, 16, 63, 126]
abbrev dktL_law_1 : List UInt8 := dkwL_law_1 ++ dktL_law_2
def dkwL_law_0 : List UInt8 := [187, 0, 8, 89, 183, 0, 84, 76, 187, 0, 85, 89, 183, 0, 87, 77, 4, 188, 11, 78, 3, 54, 4]
abbrev dktL_law_0 : List UInt8 := dkwL_law_0 ++ dktL_law_1
theorem dksL_law_0 : cL_law.data.toList.drop 0 = dktL_law_0 := by decide +kernel
theorem dksL_law_1 : cL_law.data.toList.drop 23 = dktL_law_1 := dk_seg dksL_law_0 23 rfl rfl
theorem dksL_law_2 : cL_law.data.toList.drop 40 = dktL_law_2 := dk_seg dksL_law_1 17 rfl rfl
theorem dksL_law_3 : cL_law.data.toList.drop 204 = dktL_law_3 := dk_seg dksL_law_2 164 rfl rfl
theorem dksL_law_4 : cL_law.data.toList.drop 228 = dktL_law_4 := dk_seg dksL_law_3 24 rfl rfl
theorem dksL_law_5 : cL_law.data.toList.drop 252 = dktL_law_5 := dk_seg dksL_law_4 24 rfl rfl
theorem dksL_law_6 : cL_law.data.toList.drop 276 = dktL_law_6 := dk_seg dksL_law_5 24 rfl rfl
theorem dksL_law_7 : cL_law.data.toList.drop 299 = dktL_law_7 := dk_seg dksL_law_6 23 rfl rfl
theorem dksL_law_8 : cL_law.data.toList.drop 322 = dktL_law_8 := dk_seg dksL_law_7 23 rfl rfl
theorem dksL_law_9 : cL_law.data.toList.drop 346 = dktL_law_9 := dk_seg dksL_law_8 24 rfl rfl
theorem dksL_law_10 : cL_law.data.toList.drop 369 = dktL_law_10 := dk_seg dksL_law_9 23 rfl rfl
theorem dksL_law_11 : cL_law.data.toList.drop 393 = dktL_law_11 := dk_seg dksL_law_10 24 rfl rfl
theorem dksL_law_12 : cL_law.data.toList.drop 416 = dktL_law_12 := dk_seg dksL_law_11 23 rfl rfl
theorem dksL_law_13 : cL_law.data.toList.drop 440 = dktL_law_13 := dk_seg dksL_law_12 24 rfl rfl
theorem dksL_law_14 : cL_law.data.toList.drop 464 = dktL_law_14 := dk_seg dksL_law_13 24 rfl rfl
theorem dksL_law_15 : cL_law.data.toList.drop 488 = dktL_law_15 := dk_seg dksL_law_14 24 rfl rfl
theorem dksL_law_16 : cL_law.data.toList.drop 512 = dktL_law_16 := dk_seg dksL_law_15 24 rfl rfl
theorem dksL_law_17 : cL_law.data.toList.drop 535 = dktL_law_17 := dk_seg dksL_law_16 23 rfl rfl
theorem dksL_law_18 : cL_law.data.toList.drop 559 = dktL_law_18 := dk_seg dksL_law_17 24 rfl rfl
theorem dksL_law_19 : cL_law.data.toList.drop 583 = dktL_law_19 := dk_seg dksL_law_18 24 rfl rfl
theorem dksL_law_20 : cL_law.data.toList.drop 606 = dktL_law_20 := dk_seg dksL_law_19 23 rfl rfl
theorem dksL_law_21 : cL_law.data.toList.drop 630 = dktL_law_21 := dk_seg dksL_law_20 24 rfl rfl
theorem dksL_law_22 : cL_law.data.toList.drop 654 = dktL_law_22 := dk_seg dksL_law_21 24 rfl rfl
theorem dksL_law_23 : cL_law.data.toList.drop 676 = dktL_law_23 := dk_seg dksL_law_22 22 rfl rfl
theorem dksL_law_24 : cL_law.data.toList.drop 700 = dktL_law_24 := dk_seg dksL_law_23 24 rfl rfl
theorem dksL_law_25 : cL_law.data.toList.drop 723 = dktL_law_25 := dk_seg dksL_law_24 23 rfl rfl
theorem dksL_law_26 : cL_law.data.toList.drop 746 = dktL_law_26 := dk_seg dksL_law_25 23 rfl rfl
theorem dksL_law_27 : cL_law.data.toList.drop 770 = dktL_law_27 := dk_seg dksL_law_26 24 rfl rfl
theorem dksL_law_28 : cL_law.data.toList.drop 793 = dktL_law_28 := dk_seg dksL_law_27 23 rfl rfl
theorem dksL_law_29 : cL_law.data.toList.drop 817 = dktL_law_29 := dk_seg dksL_law_28 24 rfl rfl
theorem dksL_law_30 : cL_law.data.toList.drop 840 = dktL_law_30 := dk_seg dksL_law_29 23 rfl rfl
theorem dksL_law_31 : cL_law.data.toList.drop 864 = dktL_law_31 := dk_seg dksL_law_30 24 rfl rfl
theorem dksL_law_32 : cL_law.data.toList.drop 888 = dktL_law_32 := dk_seg dksL_law_31 24 rfl rfl
theorem dksL_law_33 : cL_law.data.toList.drop 912 = dktL_law_33 := dk_seg dksL_law_32 24 rfl rfl
theorem dksL_law_34 : cL_law.data.toList.drop 936 = dktL_law_34 := dk_seg dksL_law_33 24 rfl rfl
theorem dksL_law_35 : cL_law.data.toList.drop 960 = dktL_law_35 := dk_seg dksL_law_34 24 rfl rfl
theorem dksL_law_36 : cL_law.data.toList.drop 984 = dktL_law_36 := dk_seg dksL_law_35 24 rfl rfl
theorem dksL_law_37 : cL_law.data.toList.drop 1006 = dktL_law_37 := dk_seg dksL_law_36 22 rfl rfl
theorem dksL_law_38 : cL_law.data.toList.drop 1028 = dktL_law_38 := dk_seg dksL_law_37 22 rfl rfl
theorem dksL_law_39 : cL_law.data.toList.drop 1051 = dktL_law_39 := dk_seg dksL_law_38 23 rfl rfl
theorem dksL_law_40 : cL_law.data.toList.drop 1075 = dktL_law_40 := dk_seg dksL_law_39 24 rfl rfl
theorem dksL_law_41 : cL_law.data.toList.drop 1099 = dktL_law_41 := dk_seg dksL_law_40 24 rfl rfl
theorem dksL_law_42 : cL_law.data.toList.drop 1123 = dktL_law_42 := dk_seg dksL_law_41 24 rfl rfl
theorem dksL_law_43 : cL_law.data.toList.drop 1145 = dktL_law_43 := dk_seg dksL_law_42 22 rfl rfl
theorem dksL_law_44 : cL_law.data.toList.drop 1167 = dktL_law_44 := dk_seg dksL_law_43 22 rfl rfl
theorem dksL_law_45 : cL_law.data.toList.drop 1191 = dktL_law_45 := dk_seg dksL_law_44 24 rfl rfl
theorem dksL_law_46 : cL_law.data.toList.drop 1213 = dktL_law_46 := dk_seg dksL_law_45 22 rfl rfl
theorem dksL_law_47 : cL_law.data.toList.drop 1235 = dktL_law_47 := dk_seg dksL_law_46 22 rfl rfl
theorem dksL_law_48 : cL_law.data.toList.drop 1259 = dktL_law_48 := dk_seg dksL_law_47 24 rfl rfl
theorem dksL_law_49 : cL_law.data.toList.drop 1281 = dktL_law_49 := dk_seg dksL_law_48 22 rfl rfl
theorem dksL_law_50 : cL_law.data.toList.drop 1304 = dktL_law_50 := dk_seg dksL_law_49 23 rfl rfl
theorem dksL_law_51 : cL_law.data.toList.drop 1327 = dktL_law_51 := dk_seg dksL_law_50 23 rfl rfl
theorem dksL_law_52 : cL_law.data.toList.drop 1349 = dktL_law_52 := dk_seg dksL_law_51 22 rfl rfl
theorem dksL_law_53 : cL_law.data.toList.drop 1373 = dktL_law_53 := dk_seg dksL_law_52 24 rfl rfl
theorem dksL_law_54 : cL_law.data.toList.drop 1397 = dktL_law_54 := dk_seg dksL_law_53 24 rfl rfl
theorem dksL_law_55 : cL_law.data.toList.drop 1421 = dktL_law_55 := dk_seg dksL_law_54 24 rfl rfl
theorem dksL_law_56 : cL_law.data.toList.drop 1445 = dktL_law_56 := dk_seg dksL_law_55 24 rfl rfl
theorem dksL_law_57 : cL_law.data.toList.drop 1469 = dktL_law_57 := dk_seg dksL_law_56 24 rfl rfl
theorem dksL_law_58 : cL_law.data.toList.drop 1491 = dktL_law_58 := dk_seg dksL_law_57 22 rfl rfl
theorem dksL_law_59 : cL_law.data.toList.drop 1515 = dktL_law_59 := dk_seg dksL_law_58 24 rfl rfl
theorem dksL_law_60 : cL_law.data.toList.drop 1538 = dktL_law_60 := dk_seg dksL_law_59 23 rfl rfl
theorem dksL_law_61 : cL_law.data.toList.drop 1562 = dktL_law_61 := dk_seg dksL_law_60 24 rfl rfl
theorem dksL_law_62 : cL_law.data.toList.drop 1584 = dktL_law_62 := dk_seg dksL_law_61 22 rfl rfl
theorem dksL_law_63 : cL_law.data.toList.drop 1608 = dktL_law_63 := dk_seg dksL_law_62 24 rfl rfl
theorem dksL_law_64 : cL_law.data.toList.drop 1631 = dktL_law_64 := dk_seg dksL_law_63 23 rfl rfl
theorem dksL_law_65 : cL_law.data.toList.drop 1655 = dktL_law_65 := dk_seg dksL_law_64 24 rfl rfl
theorem dksL_law_66 : cL_law.data.toList.drop 1678 = dktL_law_66 := dk_seg dksL_law_65 23 rfl rfl
theorem dksL_law_67 : cL_law.data.toList.drop 1702 = dktL_law_67 := dk_seg dksL_law_66 24 rfl rfl
theorem dksL_law_68 : cL_law.data.toList.drop 1726 = dktL_law_68 := dk_seg dksL_law_67 24 rfl rfl
theorem dksL_law_69 : cL_law.data.toList.drop 1749 = dktL_law_69 := dk_seg dksL_law_68 23 rfl rfl
theorem dksL_law_70 : cL_law.data.toList.drop 1771 = dktL_law_70 := dk_seg dksL_law_69 22 rfl rfl
theorem dksL_law_71 : cL_law.data.toList.drop 1793 = dktL_law_71 := dk_seg dksL_law_70 22 rfl rfl
theorem dksL_law_72 : cL_law.data.toList.drop 1816 = dktL_law_72 := dk_seg dksL_law_71 23 rfl rfl
theorem dksL_law_73 : cL_law.data.toList.drop 1840 = dktL_law_73 := dk_seg dksL_law_72 24 rfl rfl
theorem dksL_law_74 : cL_law.data.toList.drop 1863 = dktL_law_74 := dk_seg dksL_law_73 23 rfl rfl
theorem dksL_law_75 : cL_law.data.toList.drop 1887 = dktL_law_75 := dk_seg dksL_law_74 24 rfl rfl
theorem dksL_law_76 : cL_law.data.toList.drop 1910 = dktL_law_76 := dk_seg dksL_law_75 23 rfl rfl
theorem dksL_law_77 : cL_law.data.toList.drop 1934 = dktL_law_77 := dk_seg dksL_law_76 24 rfl rfl
theorem dksL_law_78 : cL_law.data.toList.drop 1956 = dktL_law_78 := dk_seg dksL_law_77 22 rfl rfl
theorem dksL_law_79 : cL_law.data.toList.drop 1978 = dktL_law_79 := dk_seg dksL_law_78 22 rfl rfl
theorem dL_law_0 : decode cL_law 0 = .ok (.new 8, 3) := dk_187 0 8 (dk_at dksL_law_0 0 rfl rfl)
theorem dL_law_3 : decode cL_law 3 = .ok (.dup, 1) := dk_89 (dk_at dksL_law_0 3 rfl rfl)
theorem dL_law_4 : decode cL_law 4 = .ok (.invokespecial 84, 3) := dk_183 0 84 (dk_at dksL_law_0 4 rfl rfl)
theorem dL_law_7 : decode cL_law 7 = .ok (.astore_n 1, 1) := dk_76 (dk_at dksL_law_0 7 rfl rfl)
theorem dL_law_8 : decode cL_law 8 = .ok (.new 85, 3) := dk_187 0 85 (dk_at dksL_law_0 8 rfl rfl)
theorem dL_law_11 : decode cL_law 11 = .ok (.dup, 1) := dk_89 (dk_at dksL_law_0 11 rfl rfl)
theorem dL_law_12 : decode cL_law 12 = .ok (.invokespecial 87, 3) := dk_183 0 87 (dk_at dksL_law_0 12 rfl rfl)
theorem dL_law_15 : decode cL_law 15 = .ok (.astore_n 2, 1) := dk_77 (dk_at dksL_law_0 15 rfl rfl)
theorem dL_law_16 : decode cL_law 16 = .ok (.iconst 1, 1) := dk_4 (dk_at dksL_law_0 16 rfl rfl)
theorem dL_law_17 : decode cL_law 17 = .ok (.newarray .long, 2) := dk_188_11 (dk_at dksL_law_0 17 rfl rfl)
theorem dL_law_19 : decode cL_law 19 = .ok (.astore_n 3, 1) := dk_78 (dk_at dksL_law_0 19 rfl rfl)
theorem dL_law_20 : decode cL_law 20 = .ok (.iconst 0, 1) := dk_3 (dk_at dksL_law_0 20 rfl rfl)
theorem dL_law_21 : decode cL_law 21 = .ok (.istore 4, 2) := dk_54 4 (dk_at dksL_law_0 21 rfl rfl)
theorem dL_law_23 : decode cL_law 23 = .ok (.iload 4, 2) := dk_21 4 (dk_at dksL_law_1 0 rfl rfl)
theorem dL_law_25 : decode cL_law 25 = .ok (.aload_n 0, 1) := dk_42 (dk_at dksL_law_1 2 rfl rfl)
theorem dL_law_26 : decode cL_law 26 = .ok (.arraylength, 1) := dk_190 (dk_at dksL_law_1 3 rfl rfl)
theorem dL_law_27 : decode cL_law 27 = .ok (.bipush 6, 2) := dk_16 6 (dk_at dksL_law_1 4 rfl rfl)
theorem dL_law_29 : decode cL_law 29 = .ok (.isub, 1) := dk_100 (dk_at dksL_law_1 6 rfl rfl)
theorem dL_law_30 : decode cL_law 30 = .ok (.if_icmp .gt 1967, 3) := dk_163 7 175 (dk_at dksL_law_1 7 rfl rfl)
theorem dL_law_33 : decode cL_law 33 = .ok (.aload_n 0, 1) := dk_42 (dk_at dksL_law_1 10 rfl rfl)
theorem dL_law_34 : decode cL_law 34 = .ok (.iload 4, 2) := dk_21 4 (dk_at dksL_law_1 11 rfl rfl)
theorem dL_law_36 : decode cL_law 36 = .ok (.iaload, 1) := dk_46 (dk_at dksL_law_1 13 rfl rfl)
theorem dL_law_37 : decode cL_law 37 = .ok (.bipush 63, 2) := dk_16 63 (dk_at dksL_law_1 14 rfl rfl)
theorem dL_law_39 : decode cL_law 39 = .ok (.iand, 1) := dk_126 (dk_at dksL_law_1 16 rfl rfl)
theorem dL_law_40 : decode cL_law 40 = .ok (.tableswitch 1951 0 36 #[164, 232, 300, 356, 460, 564, 644, 724, 780, 860, 940, 996, 1009, 1113, 1181, 1249, 1312, 1325, 1338, 1394, 1450, 1463, 1476, 1517, 1530, 1543, 1556, 1624, 1637, 1650, 1663, 1676, 1756, 1812, 1868, 1924, 1937], 164) := by decide +kernel
theorem dL_law_204 : decode cL_law 204 = .ok (.aload_n 1, 1) := dk_43 (dk_at dksL_law_3 0 rfl rfl)
theorem dL_law_205 : decode cL_law 205 = .ok (.aload_n 0, 1) := dk_42 (dk_at dksL_law_3 1 rfl rfl)
theorem dL_law_206 : decode cL_law 206 = .ok (.iload 4, 2) := dk_21 4 (dk_at dksL_law_3 2 rfl rfl)
theorem dL_law_208 : decode cL_law 208 = .ok (.iconst 1, 1) := dk_4 (dk_at dksL_law_3 4 rfl rfl)
theorem dL_law_209 : decode cL_law 209 = .ok (.iadd, 1) := dk_96 (dk_at dksL_law_3 5 rfl rfl)
theorem dL_law_210 : decode cL_law 210 = .ok (.iaload, 1) := dk_46 (dk_at dksL_law_3 6 rfl rfl)
theorem dL_law_211 : decode cL_law 211 = .ok (.aload_n 0, 1) := dk_42 (dk_at dksL_law_3 7 rfl rfl)
theorem dL_law_212 : decode cL_law 212 = .ok (.iload 4, 2) := dk_21 4 (dk_at dksL_law_3 8 rfl rfl)
theorem dL_law_214 : decode cL_law 214 = .ok (.iconst 2, 1) := dk_5 (dk_at dksL_law_3 10 rfl rfl)
theorem dL_law_215 : decode cL_law 215 = .ok (.iadd, 1) := dk_96 (dk_at dksL_law_3 11 rfl rfl)
theorem dL_law_216 : decode cL_law 216 = .ok (.iaload, 1) := dk_46 (dk_at dksL_law_3 12 rfl rfl)
theorem dL_law_217 : decode cL_law 217 = .ok (.aload_n 3, 1) := dk_45 (dk_at dksL_law_3 13 rfl rfl)
theorem dL_law_218 : decode cL_law 218 = .ok (.invokestatic 88, 3) := dk_184 0 88 (dk_at dksL_law_3 14 rfl rfl)
theorem dL_law_221 : decode cL_law 221 = .ok (.istore 5, 2) := dk_54 5 (dk_at dksL_law_3 17 rfl rfl)
theorem dL_law_223 : decode cL_law 223 = .ok (.aload_n 2, 1) := dk_44 (dk_at dksL_law_3 19 rfl rfl)
theorem dL_law_224 : decode cL_law 224 = .ok (.aload_n 0, 1) := dk_42 (dk_at dksL_law_3 20 rfl rfl)
theorem dL_law_225 : decode cL_law 225 = .ok (.iload 4, 2) := dk_21 4 (dk_at dksL_law_3 21 rfl rfl)
theorem dL_law_227 : decode cL_law 227 = .ok (.iconst 1, 1) := dk_4 (dk_at dksL_law_3 23 rfl rfl)
theorem dL_law_228 : decode cL_law 228 = .ok (.iadd, 1) := dk_96 (dk_at dksL_law_4 0 rfl rfl)
theorem dL_law_229 : decode cL_law 229 = .ok (.iaload, 1) := dk_46 (dk_at dksL_law_4 1 rfl rfl)
theorem dL_law_230 : decode cL_law 230 = .ok (.aload_n 0, 1) := dk_42 (dk_at dksL_law_4 2 rfl rfl)
theorem dL_law_231 : decode cL_law 231 = .ok (.iload 4, 2) := dk_21 4 (dk_at dksL_law_4 3 rfl rfl)
theorem dL_law_233 : decode cL_law 233 = .ok (.iconst 2, 1) := dk_5 (dk_at dksL_law_4 5 rfl rfl)
theorem dL_law_234 : decode cL_law 234 = .ok (.iadd, 1) := dk_96 (dk_at dksL_law_4 6 rfl rfl)
theorem dL_law_235 : decode cL_law 235 = .ok (.iaload, 1) := dk_46 (dk_at dksL_law_4 7 rfl rfl)
theorem dL_law_236 : decode cL_law 236 = .ok (.invokevirtual 93, 3) := dk_182 0 93 (dk_at dksL_law_4 8 rfl rfl)
theorem dL_law_239 : decode cL_law 239 = .ok (.istore 6, 2) := dk_54 6 (dk_at dksL_law_4 11 rfl rfl)
theorem dL_law_241 : decode cL_law 241 = .ok (.aload_n 2, 1) := dk_44 (dk_at dksL_law_4 13 rfl rfl)
theorem dL_law_242 : decode cL_law 242 = .ok (.invokevirtual 94, 3) := dk_182 0 94 (dk_at dksL_law_4 14 rfl rfl)
theorem dL_law_245 : decode cL_law 245 = .ok (.iload 5, 2) := dk_21 5 (dk_at dksL_law_4 17 rfl rfl)
theorem dL_law_247 : decode cL_law 247 = .ok (.if_icmp .eq 5, 3) := dk_159 0 5 (dk_at dksL_law_4 19 rfl rfl)
theorem dL_law_250 : decode cL_law 250 = .ok (.iconst 0, 1) := dk_3 (dk_at dksL_law_4 22 rfl rfl)
theorem dL_law_251 : decode cL_law 251 = .ok (.ireturn, 1) := dk_172 (dk_at dksL_law_4 23 rfl rfl)
theorem dL_law_252 : decode cL_law 252 = .ok (.iload 5, 2) := dk_21 5 (dk_at dksL_law_5 0 rfl rfl)
theorem dL_law_254 : decode cL_law 254 = .ok (.ifCond .ne 15, 3) := dk_154 0 15 (dk_at dksL_law_5 2 rfl rfl)
theorem dL_law_257 : decode cL_law 257 = .ok (.aload_n 3, 1) := dk_45 (dk_at dksL_law_5 5 rfl rfl)
theorem dL_law_258 : decode cL_law 258 = .ok (.iconst 0, 1) := dk_3 (dk_at dksL_law_5 6 rfl rfl)
theorem dL_law_259 : decode cL_law 259 = .ok (.laload, 1) := dk_47 (dk_at dksL_law_5 7 rfl rfl)
theorem dL_law_260 : decode cL_law 260 = .ok (.iload 6, 2) := dk_21 6 (dk_at dksL_law_5 8 rfl rfl)
theorem dL_law_262 : decode cL_law 262 = .ok (.i2l, 1) := dk_133 (dk_at dksL_law_5 10 rfl rfl)
theorem dL_law_263 : decode cL_law 263 = .ok (.lcmp, 1) := dk_148 (dk_at dksL_law_5 11 rfl rfl)
theorem dL_law_264 : decode cL_law 264 = .ok (.ifCond .eq 5, 3) := dk_153 0 5 (dk_at dksL_law_5 12 rfl rfl)
theorem dL_law_267 : decode cL_law 267 = .ok (.iconst 0, 1) := dk_3 (dk_at dksL_law_5 15 rfl rfl)
theorem dL_law_268 : decode cL_law 268 = .ok (.ireturn, 1) := dk_172 (dk_at dksL_law_5 16 rfl rfl)
theorem dL_law_269 : decode cL_law 269 = .ok (.goto 1722, 3) := dk_167 6 186 (dk_at dksL_law_5 17 rfl rfl)
theorem dL_law_272 : decode cL_law 272 = .ok (.aload_n 1, 1) := dk_43 (dk_at dksL_law_5 20 rfl rfl)
theorem dL_law_273 : decode cL_law 273 = .ok (.aload_n 0, 1) := dk_42 (dk_at dksL_law_5 21 rfl rfl)
theorem dL_law_274 : decode cL_law 274 = .ok (.iload 4, 2) := dk_21 4 (dk_at dksL_law_5 22 rfl rfl)
theorem dL_law_276 : decode cL_law 276 = .ok (.iconst 1, 1) := dk_4 (dk_at dksL_law_6 0 rfl rfl)
theorem dL_law_277 : decode cL_law 277 = .ok (.iadd, 1) := dk_96 (dk_at dksL_law_6 1 rfl rfl)
theorem dL_law_278 : decode cL_law 278 = .ok (.iaload, 1) := dk_46 (dk_at dksL_law_6 2 rfl rfl)
theorem dL_law_279 : decode cL_law 279 = .ok (.aload_n 0, 1) := dk_42 (dk_at dksL_law_6 3 rfl rfl)
theorem dL_law_280 : decode cL_law 280 = .ok (.iload 4, 2) := dk_21 4 (dk_at dksL_law_6 4 rfl rfl)
theorem dL_law_282 : decode cL_law 282 = .ok (.iconst 2, 1) := dk_5 (dk_at dksL_law_6 6 rfl rfl)
theorem dL_law_283 : decode cL_law 283 = .ok (.iadd, 1) := dk_96 (dk_at dksL_law_6 7 rfl rfl)
theorem dL_law_284 : decode cL_law 284 = .ok (.iaload, 1) := dk_46 (dk_at dksL_law_6 8 rfl rfl)
theorem dL_law_285 : decode cL_law 285 = .ok (.aload_n 3, 1) := dk_45 (dk_at dksL_law_6 9 rfl rfl)
theorem dL_law_286 : decode cL_law 286 = .ok (.invokestatic 98, 3) := dk_184 0 98 (dk_at dksL_law_6 10 rfl rfl)
theorem dL_law_289 : decode cL_law 289 = .ok (.istore 5, 2) := dk_54 5 (dk_at dksL_law_6 13 rfl rfl)
theorem dL_law_291 : decode cL_law 291 = .ok (.aload_n 2, 1) := dk_44 (dk_at dksL_law_6 15 rfl rfl)
theorem dL_law_292 : decode cL_law 292 = .ok (.aload_n 0, 1) := dk_42 (dk_at dksL_law_6 16 rfl rfl)
theorem dL_law_293 : decode cL_law 293 = .ok (.iload 4, 2) := dk_21 4 (dk_at dksL_law_6 17 rfl rfl)
theorem dL_law_295 : decode cL_law 295 = .ok (.iconst 1, 1) := dk_4 (dk_at dksL_law_6 19 rfl rfl)
theorem dL_law_296 : decode cL_law 296 = .ok (.iadd, 1) := dk_96 (dk_at dksL_law_6 20 rfl rfl)
theorem dL_law_297 : decode cL_law 297 = .ok (.iaload, 1) := dk_46 (dk_at dksL_law_6 21 rfl rfl)
theorem dL_law_298 : decode cL_law 298 = .ok (.aload_n 0, 1) := dk_42 (dk_at dksL_law_6 22 rfl rfl)
theorem dL_law_299 : decode cL_law 299 = .ok (.iload 4, 2) := dk_21 4 (dk_at dksL_law_7 0 rfl rfl)
theorem dL_law_301 : decode cL_law 301 = .ok (.iconst 2, 1) := dk_5 (dk_at dksL_law_7 2 rfl rfl)
theorem dL_law_302 : decode cL_law 302 = .ok (.iadd, 1) := dk_96 (dk_at dksL_law_7 3 rfl rfl)
theorem dL_law_303 : decode cL_law 303 = .ok (.iaload, 1) := dk_46 (dk_at dksL_law_7 4 rfl rfl)
theorem dL_law_304 : decode cL_law 304 = .ok (.invokevirtual 100, 3) := dk_182 0 100 (dk_at dksL_law_7 5 rfl rfl)
theorem dL_law_307 : decode cL_law 307 = .ok (.istore 6, 2) := dk_54 6 (dk_at dksL_law_7 8 rfl rfl)
theorem dL_law_309 : decode cL_law 309 = .ok (.aload_n 2, 1) := dk_44 (dk_at dksL_law_7 10 rfl rfl)
theorem dL_law_310 : decode cL_law 310 = .ok (.invokevirtual 94, 3) := dk_182 0 94 (dk_at dksL_law_7 11 rfl rfl)
theorem dL_law_313 : decode cL_law 313 = .ok (.iload 5, 2) := dk_21 5 (dk_at dksL_law_7 14 rfl rfl)
theorem dL_law_315 : decode cL_law 315 = .ok (.if_icmp .eq 5, 3) := dk_159 0 5 (dk_at dksL_law_7 16 rfl rfl)
theorem dL_law_318 : decode cL_law 318 = .ok (.iconst 0, 1) := dk_3 (dk_at dksL_law_7 19 rfl rfl)
theorem dL_law_319 : decode cL_law 319 = .ok (.ireturn, 1) := dk_172 (dk_at dksL_law_7 20 rfl rfl)
theorem dL_law_320 : decode cL_law 320 = .ok (.iload 5, 2) := dk_21 5 (dk_at dksL_law_7 21 rfl rfl)
theorem dL_law_322 : decode cL_law 322 = .ok (.ifCond .ne 15, 3) := dk_154 0 15 (dk_at dksL_law_8 0 rfl rfl)
theorem dL_law_325 : decode cL_law 325 = .ok (.aload_n 3, 1) := dk_45 (dk_at dksL_law_8 3 rfl rfl)
theorem dL_law_326 : decode cL_law 326 = .ok (.iconst 0, 1) := dk_3 (dk_at dksL_law_8 4 rfl rfl)
theorem dL_law_327 : decode cL_law 327 = .ok (.laload, 1) := dk_47 (dk_at dksL_law_8 5 rfl rfl)
theorem dL_law_328 : decode cL_law 328 = .ok (.iload 6, 2) := dk_21 6 (dk_at dksL_law_8 6 rfl rfl)
theorem dL_law_330 : decode cL_law 330 = .ok (.i2l, 1) := dk_133 (dk_at dksL_law_8 8 rfl rfl)
theorem dL_law_331 : decode cL_law 331 = .ok (.lcmp, 1) := dk_148 (dk_at dksL_law_8 9 rfl rfl)
theorem dL_law_332 : decode cL_law 332 = .ok (.ifCond .eq 5, 3) := dk_153 0 5 (dk_at dksL_law_8 10 rfl rfl)
theorem dL_law_335 : decode cL_law 335 = .ok (.iconst 0, 1) := dk_3 (dk_at dksL_law_8 13 rfl rfl)
theorem dL_law_336 : decode cL_law 336 = .ok (.ireturn, 1) := dk_172 (dk_at dksL_law_8 14 rfl rfl)
theorem dL_law_337 : decode cL_law 337 = .ok (.goto 1654, 3) := dk_167 6 118 (dk_at dksL_law_8 15 rfl rfl)
theorem dL_law_340 : decode cL_law 340 = .ok (.aload_n 1, 1) := dk_43 (dk_at dksL_law_8 18 rfl rfl)
theorem dL_law_341 : decode cL_law 341 = .ok (.aload_n 0, 1) := dk_42 (dk_at dksL_law_8 19 rfl rfl)
theorem dL_law_342 : decode cL_law 342 = .ok (.iload 4, 2) := dk_21 4 (dk_at dksL_law_8 20 rfl rfl)
theorem dL_law_344 : decode cL_law 344 = .ok (.iconst 1, 1) := dk_4 (dk_at dksL_law_8 22 rfl rfl)
theorem dL_law_345 : decode cL_law 345 = .ok (.iadd, 1) := dk_96 (dk_at dksL_law_8 23 rfl rfl)
theorem dL_law_346 : decode cL_law 346 = .ok (.iaload, 1) := dk_46 (dk_at dksL_law_9 0 rfl rfl)
theorem dL_law_347 : decode cL_law 347 = .ok (.aload_n 3, 1) := dk_45 (dk_at dksL_law_9 1 rfl rfl)
theorem dL_law_348 : decode cL_law 348 = .ok (.invokestatic 101, 3) := dk_184 0 101 (dk_at dksL_law_9 2 rfl rfl)
theorem dL_law_351 : decode cL_law 351 = .ok (.istore 5, 2) := dk_54 5 (dk_at dksL_law_9 5 rfl rfl)
theorem dL_law_353 : decode cL_law 353 = .ok (.aload_n 2, 1) := dk_44 (dk_at dksL_law_9 7 rfl rfl)
theorem dL_law_354 : decode cL_law 354 = .ok (.aload_n 0, 1) := dk_42 (dk_at dksL_law_9 8 rfl rfl)
theorem dL_law_355 : decode cL_law 355 = .ok (.iload 4, 2) := dk_21 4 (dk_at dksL_law_9 9 rfl rfl)
theorem dL_law_357 : decode cL_law 357 = .ok (.iconst 1, 1) := dk_4 (dk_at dksL_law_9 11 rfl rfl)
theorem dL_law_358 : decode cL_law 358 = .ok (.iadd, 1) := dk_96 (dk_at dksL_law_9 12 rfl rfl)
theorem dL_law_359 : decode cL_law 359 = .ok (.iaload, 1) := dk_46 (dk_at dksL_law_9 13 rfl rfl)
theorem dL_law_360 : decode cL_law 360 = .ok (.invokevirtual 104, 3) := dk_182 0 104 (dk_at dksL_law_9 14 rfl rfl)
theorem dL_law_363 : decode cL_law 363 = .ok (.istore 6, 2) := dk_54 6 (dk_at dksL_law_9 17 rfl rfl)
theorem dL_law_365 : decode cL_law 365 = .ok (.aload_n 2, 1) := dk_44 (dk_at dksL_law_9 19 rfl rfl)
theorem dL_law_366 : decode cL_law 366 = .ok (.invokevirtual 94, 3) := dk_182 0 94 (dk_at dksL_law_9 20 rfl rfl)
theorem dL_law_369 : decode cL_law 369 = .ok (.iload 5, 2) := dk_21 5 (dk_at dksL_law_10 0 rfl rfl)
theorem dL_law_371 : decode cL_law 371 = .ok (.if_icmp .eq 5, 3) := dk_159 0 5 (dk_at dksL_law_10 2 rfl rfl)
theorem dL_law_374 : decode cL_law 374 = .ok (.iconst 0, 1) := dk_3 (dk_at dksL_law_10 5 rfl rfl)
theorem dL_law_375 : decode cL_law 375 = .ok (.ireturn, 1) := dk_172 (dk_at dksL_law_10 6 rfl rfl)
theorem dL_law_376 : decode cL_law 376 = .ok (.iload 5, 2) := dk_21 5 (dk_at dksL_law_10 7 rfl rfl)
theorem dL_law_378 : decode cL_law 378 = .ok (.ifCond .ne 15, 3) := dk_154 0 15 (dk_at dksL_law_10 9 rfl rfl)
theorem dL_law_381 : decode cL_law 381 = .ok (.aload_n 3, 1) := dk_45 (dk_at dksL_law_10 12 rfl rfl)
theorem dL_law_382 : decode cL_law 382 = .ok (.iconst 0, 1) := dk_3 (dk_at dksL_law_10 13 rfl rfl)
theorem dL_law_383 : decode cL_law 383 = .ok (.laload, 1) := dk_47 (dk_at dksL_law_10 14 rfl rfl)
theorem dL_law_384 : decode cL_law 384 = .ok (.iload 6, 2) := dk_21 6 (dk_at dksL_law_10 15 rfl rfl)
theorem dL_law_386 : decode cL_law 386 = .ok (.i2l, 1) := dk_133 (dk_at dksL_law_10 17 rfl rfl)
theorem dL_law_387 : decode cL_law 387 = .ok (.lcmp, 1) := dk_148 (dk_at dksL_law_10 18 rfl rfl)
theorem dL_law_388 : decode cL_law 388 = .ok (.ifCond .eq 5, 3) := dk_153 0 5 (dk_at dksL_law_10 19 rfl rfl)
theorem dL_law_391 : decode cL_law 391 = .ok (.iconst 0, 1) := dk_3 (dk_at dksL_law_10 22 rfl rfl)
theorem dL_law_392 : decode cL_law 392 = .ok (.ireturn, 1) := dk_172 (dk_at dksL_law_10 23 rfl rfl)
theorem dL_law_393 : decode cL_law 393 = .ok (.goto 1598, 3) := dk_167 6 62 (dk_at dksL_law_11 0 rfl rfl)
theorem dL_law_396 : decode cL_law 396 = .ok (.aload_n 1, 1) := dk_43 (dk_at dksL_law_11 3 rfl rfl)
theorem dL_law_397 : decode cL_law 397 = .ok (.aload_n 0, 1) := dk_42 (dk_at dksL_law_11 4 rfl rfl)
theorem dL_law_398 : decode cL_law 398 = .ok (.iload 4, 2) := dk_21 4 (dk_at dksL_law_11 5 rfl rfl)
theorem dL_law_400 : decode cL_law 400 = .ok (.iconst 1, 1) := dk_4 (dk_at dksL_law_11 7 rfl rfl)
theorem dL_law_401 : decode cL_law 401 = .ok (.iadd, 1) := dk_96 (dk_at dksL_law_11 8 rfl rfl)
theorem dL_law_402 : decode cL_law 402 = .ok (.iaload, 1) := dk_46 (dk_at dksL_law_11 9 rfl rfl)
theorem dL_law_403 : decode cL_law 403 = .ok (.aload_n 0, 1) := dk_42 (dk_at dksL_law_11 10 rfl rfl)
theorem dL_law_404 : decode cL_law 404 = .ok (.iload 4, 2) := dk_21 4 (dk_at dksL_law_11 11 rfl rfl)
theorem dL_law_406 : decode cL_law 406 = .ok (.iconst 2, 1) := dk_5 (dk_at dksL_law_11 13 rfl rfl)
theorem dL_law_407 : decode cL_law 407 = .ok (.iadd, 1) := dk_96 (dk_at dksL_law_11 14 rfl rfl)
theorem dL_law_408 : decode cL_law 408 = .ok (.iaload, 1) := dk_46 (dk_at dksL_law_11 15 rfl rfl)
theorem dL_law_409 : decode cL_law 409 = .ok (.aload_n 0, 1) := dk_42 (dk_at dksL_law_11 16 rfl rfl)
theorem dL_law_410 : decode cL_law 410 = .ok (.iload 4, 2) := dk_21 4 (dk_at dksL_law_11 17 rfl rfl)
theorem dL_law_412 : decode cL_law 412 = .ok (.iconst 3, 1) := dk_6 (dk_at dksL_law_11 19 rfl rfl)
theorem dL_law_413 : decode cL_law 413 = .ok (.iadd, 1) := dk_96 (dk_at dksL_law_11 20 rfl rfl)
theorem dL_law_414 : decode cL_law 414 = .ok (.iaload, 1) := dk_46 (dk_at dksL_law_11 21 rfl rfl)
theorem dL_law_415 : decode cL_law 415 = .ok (.aload_n 0, 1) := dk_42 (dk_at dksL_law_11 22 rfl rfl)
theorem dL_law_416 : decode cL_law 416 = .ok (.iload 4, 2) := dk_21 4 (dk_at dksL_law_12 0 rfl rfl)
theorem dL_law_418 : decode cL_law 418 = .ok (.iconst 4, 1) := dk_7 (dk_at dksL_law_12 2 rfl rfl)
theorem dL_law_419 : decode cL_law 419 = .ok (.iadd, 1) := dk_96 (dk_at dksL_law_12 3 rfl rfl)
theorem dL_law_420 : decode cL_law 420 = .ok (.iaload, 1) := dk_46 (dk_at dksL_law_12 4 rfl rfl)
theorem dL_law_421 : decode cL_law 421 = .ok (.aload_n 0, 1) := dk_42 (dk_at dksL_law_12 5 rfl rfl)
theorem dL_law_422 : decode cL_law 422 = .ok (.iload 4, 2) := dk_21 4 (dk_at dksL_law_12 6 rfl rfl)
theorem dL_law_424 : decode cL_law 424 = .ok (.iconst 5, 1) := dk_8 (dk_at dksL_law_12 8 rfl rfl)
theorem dL_law_425 : decode cL_law 425 = .ok (.iadd, 1) := dk_96 (dk_at dksL_law_12 9 rfl rfl)
theorem dL_law_426 : decode cL_law 426 = .ok (.iaload, 1) := dk_46 (dk_at dksL_law_12 10 rfl rfl)
theorem dL_law_427 : decode cL_law 427 = .ok (.aload_n 3, 1) := dk_45 (dk_at dksL_law_12 11 rfl rfl)
theorem dL_law_428 : decode cL_law 428 = .ok (.invokestatic 105, 3) := dk_184 0 105 (dk_at dksL_law_12 12 rfl rfl)
theorem dL_law_431 : decode cL_law 431 = .ok (.istore 5, 2) := dk_54 5 (dk_at dksL_law_12 15 rfl rfl)
theorem dL_law_433 : decode cL_law 433 = .ok (.aload_n 2, 1) := dk_44 (dk_at dksL_law_12 17 rfl rfl)
theorem dL_law_434 : decode cL_law 434 = .ok (.aload_n 0, 1) := dk_42 (dk_at dksL_law_12 18 rfl rfl)
theorem dL_law_435 : decode cL_law 435 = .ok (.iload 4, 2) := dk_21 4 (dk_at dksL_law_12 19 rfl rfl)
theorem dL_law_437 : decode cL_law 437 = .ok (.iconst 1, 1) := dk_4 (dk_at dksL_law_12 21 rfl rfl)
theorem dL_law_438 : decode cL_law 438 = .ok (.iadd, 1) := dk_96 (dk_at dksL_law_12 22 rfl rfl)
theorem dL_law_439 : decode cL_law 439 = .ok (.iaload, 1) := dk_46 (dk_at dksL_law_12 23 rfl rfl)
theorem dL_law_440 : decode cL_law 440 = .ok (.aload_n 0, 1) := dk_42 (dk_at dksL_law_13 0 rfl rfl)
theorem dL_law_441 : decode cL_law 441 = .ok (.iload 4, 2) := dk_21 4 (dk_at dksL_law_13 1 rfl rfl)
theorem dL_law_443 : decode cL_law 443 = .ok (.iconst 2, 1) := dk_5 (dk_at dksL_law_13 3 rfl rfl)
theorem dL_law_444 : decode cL_law 444 = .ok (.iadd, 1) := dk_96 (dk_at dksL_law_13 4 rfl rfl)
theorem dL_law_445 : decode cL_law 445 = .ok (.iaload, 1) := dk_46 (dk_at dksL_law_13 5 rfl rfl)
theorem dL_law_446 : decode cL_law 446 = .ok (.aload_n 0, 1) := dk_42 (dk_at dksL_law_13 6 rfl rfl)
theorem dL_law_447 : decode cL_law 447 = .ok (.iload 4, 2) := dk_21 4 (dk_at dksL_law_13 7 rfl rfl)
theorem dL_law_449 : decode cL_law 449 = .ok (.iconst 3, 1) := dk_6 (dk_at dksL_law_13 9 rfl rfl)
theorem dL_law_450 : decode cL_law 450 = .ok (.iadd, 1) := dk_96 (dk_at dksL_law_13 10 rfl rfl)
theorem dL_law_451 : decode cL_law 451 = .ok (.iaload, 1) := dk_46 (dk_at dksL_law_13 11 rfl rfl)
theorem dL_law_452 : decode cL_law 452 = .ok (.aload_n 0, 1) := dk_42 (dk_at dksL_law_13 12 rfl rfl)
theorem dL_law_453 : decode cL_law 453 = .ok (.iload 4, 2) := dk_21 4 (dk_at dksL_law_13 13 rfl rfl)
theorem dL_law_455 : decode cL_law 455 = .ok (.iconst 4, 1) := dk_7 (dk_at dksL_law_13 15 rfl rfl)
theorem dL_law_456 : decode cL_law 456 = .ok (.iadd, 1) := dk_96 (dk_at dksL_law_13 16 rfl rfl)
theorem dL_law_457 : decode cL_law 457 = .ok (.iaload, 1) := dk_46 (dk_at dksL_law_13 17 rfl rfl)
theorem dL_law_458 : decode cL_law 458 = .ok (.aload_n 0, 1) := dk_42 (dk_at dksL_law_13 18 rfl rfl)
theorem dL_law_459 : decode cL_law 459 = .ok (.iload 4, 2) := dk_21 4 (dk_at dksL_law_13 19 rfl rfl)
theorem dL_law_461 : decode cL_law 461 = .ok (.iconst 5, 1) := dk_8 (dk_at dksL_law_13 21 rfl rfl)
theorem dL_law_462 : decode cL_law 462 = .ok (.iadd, 1) := dk_96 (dk_at dksL_law_13 22 rfl rfl)
theorem dL_law_463 : decode cL_law 463 = .ok (.iaload, 1) := dk_46 (dk_at dksL_law_13 23 rfl rfl)
theorem dL_law_464 : decode cL_law 464 = .ok (.invokevirtual 108, 3) := dk_182 0 108 (dk_at dksL_law_14 0 rfl rfl)
theorem dL_law_467 : decode cL_law 467 = .ok (.istore 6, 2) := dk_54 6 (dk_at dksL_law_14 3 rfl rfl)
theorem dL_law_469 : decode cL_law 469 = .ok (.aload_n 2, 1) := dk_44 (dk_at dksL_law_14 5 rfl rfl)
theorem dL_law_470 : decode cL_law 470 = .ok (.invokevirtual 94, 3) := dk_182 0 94 (dk_at dksL_law_14 6 rfl rfl)
theorem dL_law_473 : decode cL_law 473 = .ok (.iload 5, 2) := dk_21 5 (dk_at dksL_law_14 9 rfl rfl)
theorem dL_law_475 : decode cL_law 475 = .ok (.if_icmp .eq 5, 3) := dk_159 0 5 (dk_at dksL_law_14 11 rfl rfl)
theorem dL_law_478 : decode cL_law 478 = .ok (.iconst 0, 1) := dk_3 (dk_at dksL_law_14 14 rfl rfl)
theorem dL_law_479 : decode cL_law 479 = .ok (.ireturn, 1) := dk_172 (dk_at dksL_law_14 15 rfl rfl)
theorem dL_law_480 : decode cL_law 480 = .ok (.iload 5, 2) := dk_21 5 (dk_at dksL_law_14 16 rfl rfl)
theorem dL_law_482 : decode cL_law 482 = .ok (.ifCond .ne 15, 3) := dk_154 0 15 (dk_at dksL_law_14 18 rfl rfl)
theorem dL_law_485 : decode cL_law 485 = .ok (.aload_n 3, 1) := dk_45 (dk_at dksL_law_14 21 rfl rfl)
theorem dL_law_486 : decode cL_law 486 = .ok (.iconst 0, 1) := dk_3 (dk_at dksL_law_14 22 rfl rfl)
theorem dL_law_487 : decode cL_law 487 = .ok (.laload, 1) := dk_47 (dk_at dksL_law_14 23 rfl rfl)
theorem dL_law_488 : decode cL_law 488 = .ok (.iload 6, 2) := dk_21 6 (dk_at dksL_law_15 0 rfl rfl)
theorem dL_law_490 : decode cL_law 490 = .ok (.i2l, 1) := dk_133 (dk_at dksL_law_15 2 rfl rfl)
theorem dL_law_491 : decode cL_law 491 = .ok (.lcmp, 1) := dk_148 (dk_at dksL_law_15 3 rfl rfl)
theorem dL_law_492 : decode cL_law 492 = .ok (.ifCond .eq 5, 3) := dk_153 0 5 (dk_at dksL_law_15 4 rfl rfl)
theorem dL_law_495 : decode cL_law 495 = .ok (.iconst 0, 1) := dk_3 (dk_at dksL_law_15 7 rfl rfl)
theorem dL_law_496 : decode cL_law 496 = .ok (.ireturn, 1) := dk_172 (dk_at dksL_law_15 8 rfl rfl)
theorem dL_law_497 : decode cL_law 497 = .ok (.goto 1494, 3) := dk_167 5 214 (dk_at dksL_law_15 9 rfl rfl)
theorem dL_law_500 : decode cL_law 500 = .ok (.aload_n 1, 1) := dk_43 (dk_at dksL_law_15 12 rfl rfl)
theorem dL_law_501 : decode cL_law 501 = .ok (.aload_n 0, 1) := dk_42 (dk_at dksL_law_15 13 rfl rfl)
theorem dL_law_502 : decode cL_law 502 = .ok (.iload 4, 2) := dk_21 4 (dk_at dksL_law_15 14 rfl rfl)
theorem dL_law_504 : decode cL_law 504 = .ok (.iconst 1, 1) := dk_4 (dk_at dksL_law_15 16 rfl rfl)
theorem dL_law_505 : decode cL_law 505 = .ok (.iadd, 1) := dk_96 (dk_at dksL_law_15 17 rfl rfl)
theorem dL_law_506 : decode cL_law 506 = .ok (.iaload, 1) := dk_46 (dk_at dksL_law_15 18 rfl rfl)
theorem dL_law_507 : decode cL_law 507 = .ok (.aload_n 0, 1) := dk_42 (dk_at dksL_law_15 19 rfl rfl)
theorem dL_law_508 : decode cL_law 508 = .ok (.iload 4, 2) := dk_21 4 (dk_at dksL_law_15 20 rfl rfl)
theorem dL_law_510 : decode cL_law 510 = .ok (.iconst 2, 1) := dk_5 (dk_at dksL_law_15 22 rfl rfl)
theorem dL_law_511 : decode cL_law 511 = .ok (.iadd, 1) := dk_96 (dk_at dksL_law_15 23 rfl rfl)
theorem dL_law_512 : decode cL_law 512 = .ok (.iaload, 1) := dk_46 (dk_at dksL_law_16 0 rfl rfl)
theorem dL_law_513 : decode cL_law 513 = .ok (.aload_n 0, 1) := dk_42 (dk_at dksL_law_16 1 rfl rfl)
theorem dL_law_514 : decode cL_law 514 = .ok (.iload 4, 2) := dk_21 4 (dk_at dksL_law_16 2 rfl rfl)
theorem dL_law_516 : decode cL_law 516 = .ok (.iconst 3, 1) := dk_6 (dk_at dksL_law_16 4 rfl rfl)
theorem dL_law_517 : decode cL_law 517 = .ok (.iadd, 1) := dk_96 (dk_at dksL_law_16 5 rfl rfl)
theorem dL_law_518 : decode cL_law 518 = .ok (.iaload, 1) := dk_46 (dk_at dksL_law_16 6 rfl rfl)
theorem dL_law_519 : decode cL_law 519 = .ok (.aload_n 0, 1) := dk_42 (dk_at dksL_law_16 7 rfl rfl)
theorem dL_law_520 : decode cL_law 520 = .ok (.iload 4, 2) := dk_21 4 (dk_at dksL_law_16 8 rfl rfl)
theorem dL_law_522 : decode cL_law 522 = .ok (.iconst 4, 1) := dk_7 (dk_at dksL_law_16 10 rfl rfl)
theorem dL_law_523 : decode cL_law 523 = .ok (.iadd, 1) := dk_96 (dk_at dksL_law_16 11 rfl rfl)
theorem dL_law_524 : decode cL_law 524 = .ok (.iaload, 1) := dk_46 (dk_at dksL_law_16 12 rfl rfl)
theorem dL_law_525 : decode cL_law 525 = .ok (.aload_n 0, 1) := dk_42 (dk_at dksL_law_16 13 rfl rfl)
theorem dL_law_526 : decode cL_law 526 = .ok (.iload 4, 2) := dk_21 4 (dk_at dksL_law_16 14 rfl rfl)
theorem dL_law_528 : decode cL_law 528 = .ok (.iconst 5, 1) := dk_8 (dk_at dksL_law_16 16 rfl rfl)
theorem dL_law_529 : decode cL_law 529 = .ok (.iadd, 1) := dk_96 (dk_at dksL_law_16 17 rfl rfl)
theorem dL_law_530 : decode cL_law 530 = .ok (.iaload, 1) := dk_46 (dk_at dksL_law_16 18 rfl rfl)
theorem dL_law_531 : decode cL_law 531 = .ok (.aload_n 3, 1) := dk_45 (dk_at dksL_law_16 19 rfl rfl)
theorem dL_law_532 : decode cL_law 532 = .ok (.invokestatic 109, 3) := dk_184 0 109 (dk_at dksL_law_16 20 rfl rfl)
theorem dL_law_535 : decode cL_law 535 = .ok (.istore 5, 2) := dk_54 5 (dk_at dksL_law_17 0 rfl rfl)
theorem dL_law_537 : decode cL_law 537 = .ok (.aload_n 2, 1) := dk_44 (dk_at dksL_law_17 2 rfl rfl)
theorem dL_law_538 : decode cL_law 538 = .ok (.aload_n 0, 1) := dk_42 (dk_at dksL_law_17 3 rfl rfl)
theorem dL_law_539 : decode cL_law 539 = .ok (.iload 4, 2) := dk_21 4 (dk_at dksL_law_17 4 rfl rfl)
theorem dL_law_541 : decode cL_law 541 = .ok (.iconst 1, 1) := dk_4 (dk_at dksL_law_17 6 rfl rfl)
theorem dL_law_542 : decode cL_law 542 = .ok (.iadd, 1) := dk_96 (dk_at dksL_law_17 7 rfl rfl)
theorem dL_law_543 : decode cL_law 543 = .ok (.iaload, 1) := dk_46 (dk_at dksL_law_17 8 rfl rfl)
theorem dL_law_544 : decode cL_law 544 = .ok (.aload_n 0, 1) := dk_42 (dk_at dksL_law_17 9 rfl rfl)
theorem dL_law_545 : decode cL_law 545 = .ok (.iload 4, 2) := dk_21 4 (dk_at dksL_law_17 10 rfl rfl)
theorem dL_law_547 : decode cL_law 547 = .ok (.iconst 2, 1) := dk_5 (dk_at dksL_law_17 12 rfl rfl)
theorem dL_law_548 : decode cL_law 548 = .ok (.iadd, 1) := dk_96 (dk_at dksL_law_17 13 rfl rfl)
theorem dL_law_549 : decode cL_law 549 = .ok (.iaload, 1) := dk_46 (dk_at dksL_law_17 14 rfl rfl)
theorem dL_law_550 : decode cL_law 550 = .ok (.aload_n 0, 1) := dk_42 (dk_at dksL_law_17 15 rfl rfl)
theorem dL_law_551 : decode cL_law 551 = .ok (.iload 4, 2) := dk_21 4 (dk_at dksL_law_17 16 rfl rfl)
theorem dL_law_553 : decode cL_law 553 = .ok (.iconst 3, 1) := dk_6 (dk_at dksL_law_17 18 rfl rfl)
theorem dL_law_554 : decode cL_law 554 = .ok (.iadd, 1) := dk_96 (dk_at dksL_law_17 19 rfl rfl)
theorem dL_law_555 : decode cL_law 555 = .ok (.iaload, 1) := dk_46 (dk_at dksL_law_17 20 rfl rfl)
theorem dL_law_556 : decode cL_law 556 = .ok (.aload_n 0, 1) := dk_42 (dk_at dksL_law_17 21 rfl rfl)
theorem dL_law_557 : decode cL_law 557 = .ok (.iload 4, 2) := dk_21 4 (dk_at dksL_law_17 22 rfl rfl)
theorem dL_law_559 : decode cL_law 559 = .ok (.iconst 4, 1) := dk_7 (dk_at dksL_law_18 0 rfl rfl)
theorem dL_law_560 : decode cL_law 560 = .ok (.iadd, 1) := dk_96 (dk_at dksL_law_18 1 rfl rfl)
theorem dL_law_561 : decode cL_law 561 = .ok (.iaload, 1) := dk_46 (dk_at dksL_law_18 2 rfl rfl)
theorem dL_law_562 : decode cL_law 562 = .ok (.aload_n 0, 1) := dk_42 (dk_at dksL_law_18 3 rfl rfl)
theorem dL_law_563 : decode cL_law 563 = .ok (.iload 4, 2) := dk_21 4 (dk_at dksL_law_18 4 rfl rfl)
theorem dL_law_565 : decode cL_law 565 = .ok (.iconst 5, 1) := dk_8 (dk_at dksL_law_18 6 rfl rfl)
theorem dL_law_566 : decode cL_law 566 = .ok (.iadd, 1) := dk_96 (dk_at dksL_law_18 7 rfl rfl)
theorem dL_law_567 : decode cL_law 567 = .ok (.iaload, 1) := dk_46 (dk_at dksL_law_18 8 rfl rfl)
theorem dL_law_568 : decode cL_law 568 = .ok (.invokevirtual 111, 3) := dk_182 0 111 (dk_at dksL_law_18 9 rfl rfl)
theorem dL_law_571 : decode cL_law 571 = .ok (.istore 6, 2) := dk_54 6 (dk_at dksL_law_18 12 rfl rfl)
theorem dL_law_573 : decode cL_law 573 = .ok (.aload_n 2, 1) := dk_44 (dk_at dksL_law_18 14 rfl rfl)
theorem dL_law_574 : decode cL_law 574 = .ok (.invokevirtual 94, 3) := dk_182 0 94 (dk_at dksL_law_18 15 rfl rfl)
theorem dL_law_577 : decode cL_law 577 = .ok (.iload 5, 2) := dk_21 5 (dk_at dksL_law_18 18 rfl rfl)
theorem dL_law_579 : decode cL_law 579 = .ok (.if_icmp .eq 5, 3) := dk_159 0 5 (dk_at dksL_law_18 20 rfl rfl)
theorem dL_law_582 : decode cL_law 582 = .ok (.iconst 0, 1) := dk_3 (dk_at dksL_law_18 23 rfl rfl)
theorem dL_law_583 : decode cL_law 583 = .ok (.ireturn, 1) := dk_172 (dk_at dksL_law_19 0 rfl rfl)
theorem dL_law_584 : decode cL_law 584 = .ok (.iload 5, 2) := dk_21 5 (dk_at dksL_law_19 1 rfl rfl)
theorem dL_law_586 : decode cL_law 586 = .ok (.ifCond .ne 15, 3) := dk_154 0 15 (dk_at dksL_law_19 3 rfl rfl)
theorem dL_law_589 : decode cL_law 589 = .ok (.aload_n 3, 1) := dk_45 (dk_at dksL_law_19 6 rfl rfl)
theorem dL_law_590 : decode cL_law 590 = .ok (.iconst 0, 1) := dk_3 (dk_at dksL_law_19 7 rfl rfl)
theorem dL_law_591 : decode cL_law 591 = .ok (.laload, 1) := dk_47 (dk_at dksL_law_19 8 rfl rfl)
theorem dL_law_592 : decode cL_law 592 = .ok (.iload 6, 2) := dk_21 6 (dk_at dksL_law_19 9 rfl rfl)
theorem dL_law_594 : decode cL_law 594 = .ok (.i2l, 1) := dk_133 (dk_at dksL_law_19 11 rfl rfl)
theorem dL_law_595 : decode cL_law 595 = .ok (.lcmp, 1) := dk_148 (dk_at dksL_law_19 12 rfl rfl)
theorem dL_law_596 : decode cL_law 596 = .ok (.ifCond .eq 5, 3) := dk_153 0 5 (dk_at dksL_law_19 13 rfl rfl)
theorem dL_law_599 : decode cL_law 599 = .ok (.iconst 0, 1) := dk_3 (dk_at dksL_law_19 16 rfl rfl)
theorem dL_law_600 : decode cL_law 600 = .ok (.ireturn, 1) := dk_172 (dk_at dksL_law_19 17 rfl rfl)
theorem dL_law_601 : decode cL_law 601 = .ok (.goto 1390, 3) := dk_167 5 110 (dk_at dksL_law_19 18 rfl rfl)
theorem dL_law_604 : decode cL_law 604 = .ok (.aload_n 1, 1) := dk_43 (dk_at dksL_law_19 21 rfl rfl)
theorem dL_law_605 : decode cL_law 605 = .ok (.aload_n 0, 1) := dk_42 (dk_at dksL_law_19 22 rfl rfl)
theorem dL_law_606 : decode cL_law 606 = .ok (.iload 4, 2) := dk_21 4 (dk_at dksL_law_20 0 rfl rfl)
theorem dL_law_608 : decode cL_law 608 = .ok (.iconst 1, 1) := dk_4 (dk_at dksL_law_20 2 rfl rfl)
theorem dL_law_609 : decode cL_law 609 = .ok (.iadd, 1) := dk_96 (dk_at dksL_law_20 3 rfl rfl)
theorem dL_law_610 : decode cL_law 610 = .ok (.iaload, 1) := dk_46 (dk_at dksL_law_20 4 rfl rfl)
theorem dL_law_611 : decode cL_law 611 = .ok (.aload_n 0, 1) := dk_42 (dk_at dksL_law_20 5 rfl rfl)
theorem dL_law_612 : decode cL_law 612 = .ok (.iload 4, 2) := dk_21 4 (dk_at dksL_law_20 6 rfl rfl)
theorem dL_law_614 : decode cL_law 614 = .ok (.iconst 2, 1) := dk_5 (dk_at dksL_law_20 8 rfl rfl)
theorem dL_law_615 : decode cL_law 615 = .ok (.iadd, 1) := dk_96 (dk_at dksL_law_20 9 rfl rfl)
theorem dL_law_616 : decode cL_law 616 = .ok (.iaload, 1) := dk_46 (dk_at dksL_law_20 10 rfl rfl)
theorem dL_law_617 : decode cL_law 617 = .ok (.aload_n 0, 1) := dk_42 (dk_at dksL_law_20 11 rfl rfl)
theorem dL_law_618 : decode cL_law 618 = .ok (.iload 4, 2) := dk_21 4 (dk_at dksL_law_20 12 rfl rfl)
theorem dL_law_620 : decode cL_law 620 = .ok (.iconst 3, 1) := dk_6 (dk_at dksL_law_20 14 rfl rfl)
theorem dL_law_621 : decode cL_law 621 = .ok (.iadd, 1) := dk_96 (dk_at dksL_law_20 15 rfl rfl)
theorem dL_law_622 : decode cL_law 622 = .ok (.iaload, 1) := dk_46 (dk_at dksL_law_20 16 rfl rfl)
theorem dL_law_623 : decode cL_law 623 = .ok (.aload_n 3, 1) := dk_45 (dk_at dksL_law_20 17 rfl rfl)
theorem dL_law_624 : decode cL_law 624 = .ok (.invokestatic 112, 3) := dk_184 0 112 (dk_at dksL_law_20 18 rfl rfl)
theorem dL_law_627 : decode cL_law 627 = .ok (.istore 5, 2) := dk_54 5 (dk_at dksL_law_20 21 rfl rfl)
theorem dL_law_629 : decode cL_law 629 = .ok (.aload_n 2, 1) := dk_44 (dk_at dksL_law_20 23 rfl rfl)
theorem dL_law_630 : decode cL_law 630 = .ok (.aload_n 0, 1) := dk_42 (dk_at dksL_law_21 0 rfl rfl)
theorem dL_law_631 : decode cL_law 631 = .ok (.iload 4, 2) := dk_21 4 (dk_at dksL_law_21 1 rfl rfl)
theorem dL_law_633 : decode cL_law 633 = .ok (.iconst 1, 1) := dk_4 (dk_at dksL_law_21 3 rfl rfl)
theorem dL_law_634 : decode cL_law 634 = .ok (.iadd, 1) := dk_96 (dk_at dksL_law_21 4 rfl rfl)
theorem dL_law_635 : decode cL_law 635 = .ok (.iaload, 1) := dk_46 (dk_at dksL_law_21 5 rfl rfl)
theorem dL_law_636 : decode cL_law 636 = .ok (.aload_n 0, 1) := dk_42 (dk_at dksL_law_21 6 rfl rfl)
theorem dL_law_637 : decode cL_law 637 = .ok (.iload 4, 2) := dk_21 4 (dk_at dksL_law_21 7 rfl rfl)
theorem dL_law_639 : decode cL_law 639 = .ok (.iconst 2, 1) := dk_5 (dk_at dksL_law_21 9 rfl rfl)
theorem dL_law_640 : decode cL_law 640 = .ok (.iadd, 1) := dk_96 (dk_at dksL_law_21 10 rfl rfl)
theorem dL_law_641 : decode cL_law 641 = .ok (.iaload, 1) := dk_46 (dk_at dksL_law_21 11 rfl rfl)
theorem dL_law_642 : decode cL_law 642 = .ok (.aload_n 0, 1) := dk_42 (dk_at dksL_law_21 12 rfl rfl)
theorem dL_law_643 : decode cL_law 643 = .ok (.iload 4, 2) := dk_21 4 (dk_at dksL_law_21 13 rfl rfl)
theorem dL_law_645 : decode cL_law 645 = .ok (.iconst 3, 1) := dk_6 (dk_at dksL_law_21 15 rfl rfl)
theorem dL_law_646 : decode cL_law 646 = .ok (.iadd, 1) := dk_96 (dk_at dksL_law_21 16 rfl rfl)
theorem dL_law_647 : decode cL_law 647 = .ok (.iaload, 1) := dk_46 (dk_at dksL_law_21 17 rfl rfl)
theorem dL_law_648 : decode cL_law 648 = .ok (.invokevirtual 115, 3) := dk_182 0 115 (dk_at dksL_law_21 18 rfl rfl)
theorem dL_law_651 : decode cL_law 651 = .ok (.istore 6, 2) := dk_54 6 (dk_at dksL_law_21 21 rfl rfl)
theorem dL_law_653 : decode cL_law 653 = .ok (.aload_n 2, 1) := dk_44 (dk_at dksL_law_21 23 rfl rfl)
theorem dL_law_654 : decode cL_law 654 = .ok (.invokevirtual 94, 3) := dk_182 0 94 (dk_at dksL_law_22 0 rfl rfl)
theorem dL_law_657 : decode cL_law 657 = .ok (.iload 5, 2) := dk_21 5 (dk_at dksL_law_22 3 rfl rfl)
theorem dL_law_659 : decode cL_law 659 = .ok (.if_icmp .eq 5, 3) := dk_159 0 5 (dk_at dksL_law_22 5 rfl rfl)
theorem dL_law_662 : decode cL_law 662 = .ok (.iconst 0, 1) := dk_3 (dk_at dksL_law_22 8 rfl rfl)
theorem dL_law_663 : decode cL_law 663 = .ok (.ireturn, 1) := dk_172 (dk_at dksL_law_22 9 rfl rfl)
theorem dL_law_664 : decode cL_law 664 = .ok (.iload 5, 2) := dk_21 5 (dk_at dksL_law_22 10 rfl rfl)
theorem dL_law_666 : decode cL_law 666 = .ok (.ifCond .ne 15, 3) := dk_154 0 15 (dk_at dksL_law_22 12 rfl rfl)
theorem dL_law_669 : decode cL_law 669 = .ok (.aload_n 3, 1) := dk_45 (dk_at dksL_law_22 15 rfl rfl)
theorem dL_law_670 : decode cL_law 670 = .ok (.iconst 0, 1) := dk_3 (dk_at dksL_law_22 16 rfl rfl)
theorem dL_law_671 : decode cL_law 671 = .ok (.laload, 1) := dk_47 (dk_at dksL_law_22 17 rfl rfl)
theorem dL_law_672 : decode cL_law 672 = .ok (.iload 6, 2) := dk_21 6 (dk_at dksL_law_22 18 rfl rfl)
theorem dL_law_674 : decode cL_law 674 = .ok (.i2l, 1) := dk_133 (dk_at dksL_law_22 20 rfl rfl)
theorem dL_law_675 : decode cL_law 675 = .ok (.lcmp, 1) := dk_148 (dk_at dksL_law_22 21 rfl rfl)
theorem dL_law_676 : decode cL_law 676 = .ok (.ifCond .eq 5, 3) := dk_153 0 5 (dk_at dksL_law_23 0 rfl rfl)
theorem dL_law_679 : decode cL_law 679 = .ok (.iconst 0, 1) := dk_3 (dk_at dksL_law_23 3 rfl rfl)
theorem dL_law_680 : decode cL_law 680 = .ok (.ireturn, 1) := dk_172 (dk_at dksL_law_23 4 rfl rfl)
theorem dL_law_681 : decode cL_law 681 = .ok (.goto 1310, 3) := dk_167 5 30 (dk_at dksL_law_23 5 rfl rfl)
theorem dL_law_684 : decode cL_law 684 = .ok (.aload_n 1, 1) := dk_43 (dk_at dksL_law_23 8 rfl rfl)
theorem dL_law_685 : decode cL_law 685 = .ok (.aload_n 0, 1) := dk_42 (dk_at dksL_law_23 9 rfl rfl)
theorem dL_law_686 : decode cL_law 686 = .ok (.iload 4, 2) := dk_21 4 (dk_at dksL_law_23 10 rfl rfl)
theorem dL_law_688 : decode cL_law 688 = .ok (.iconst 1, 1) := dk_4 (dk_at dksL_law_23 12 rfl rfl)
theorem dL_law_689 : decode cL_law 689 = .ok (.iadd, 1) := dk_96 (dk_at dksL_law_23 13 rfl rfl)
theorem dL_law_690 : decode cL_law 690 = .ok (.iaload, 1) := dk_46 (dk_at dksL_law_23 14 rfl rfl)
theorem dL_law_691 : decode cL_law 691 = .ok (.aload_n 0, 1) := dk_42 (dk_at dksL_law_23 15 rfl rfl)
theorem dL_law_692 : decode cL_law 692 = .ok (.iload 4, 2) := dk_21 4 (dk_at dksL_law_23 16 rfl rfl)
theorem dL_law_694 : decode cL_law 694 = .ok (.iconst 2, 1) := dk_5 (dk_at dksL_law_23 18 rfl rfl)
theorem dL_law_695 : decode cL_law 695 = .ok (.iadd, 1) := dk_96 (dk_at dksL_law_23 19 rfl rfl)
theorem dL_law_696 : decode cL_law 696 = .ok (.iaload, 1) := dk_46 (dk_at dksL_law_23 20 rfl rfl)
theorem dL_law_697 : decode cL_law 697 = .ok (.aload_n 0, 1) := dk_42 (dk_at dksL_law_23 21 rfl rfl)
theorem dL_law_698 : decode cL_law 698 = .ok (.iload 4, 2) := dk_21 4 (dk_at dksL_law_23 22 rfl rfl)
theorem dL_law_700 : decode cL_law 700 = .ok (.iconst 3, 1) := dk_6 (dk_at dksL_law_24 0 rfl rfl)
theorem dL_law_701 : decode cL_law 701 = .ok (.iadd, 1) := dk_96 (dk_at dksL_law_24 1 rfl rfl)
theorem dL_law_702 : decode cL_law 702 = .ok (.iaload, 1) := dk_46 (dk_at dksL_law_24 2 rfl rfl)
theorem dL_law_703 : decode cL_law 703 = .ok (.aload_n 3, 1) := dk_45 (dk_at dksL_law_24 3 rfl rfl)
theorem dL_law_704 : decode cL_law 704 = .ok (.invokestatic 116, 3) := dk_184 0 116 (dk_at dksL_law_24 4 rfl rfl)
theorem dL_law_707 : decode cL_law 707 = .ok (.istore 5, 2) := dk_54 5 (dk_at dksL_law_24 7 rfl rfl)
theorem dL_law_709 : decode cL_law 709 = .ok (.aload_n 2, 1) := dk_44 (dk_at dksL_law_24 9 rfl rfl)
theorem dL_law_710 : decode cL_law 710 = .ok (.aload_n 0, 1) := dk_42 (dk_at dksL_law_24 10 rfl rfl)
theorem dL_law_711 : decode cL_law 711 = .ok (.iload 4, 2) := dk_21 4 (dk_at dksL_law_24 11 rfl rfl)
theorem dL_law_713 : decode cL_law 713 = .ok (.iconst 1, 1) := dk_4 (dk_at dksL_law_24 13 rfl rfl)
theorem dL_law_714 : decode cL_law 714 = .ok (.iadd, 1) := dk_96 (dk_at dksL_law_24 14 rfl rfl)
theorem dL_law_715 : decode cL_law 715 = .ok (.iaload, 1) := dk_46 (dk_at dksL_law_24 15 rfl rfl)
theorem dL_law_716 : decode cL_law 716 = .ok (.aload_n 0, 1) := dk_42 (dk_at dksL_law_24 16 rfl rfl)
theorem dL_law_717 : decode cL_law 717 = .ok (.iload 4, 2) := dk_21 4 (dk_at dksL_law_24 17 rfl rfl)
theorem dL_law_719 : decode cL_law 719 = .ok (.iconst 2, 1) := dk_5 (dk_at dksL_law_24 19 rfl rfl)
theorem dL_law_720 : decode cL_law 720 = .ok (.iadd, 1) := dk_96 (dk_at dksL_law_24 20 rfl rfl)
theorem dL_law_721 : decode cL_law 721 = .ok (.iaload, 1) := dk_46 (dk_at dksL_law_24 21 rfl rfl)
theorem dL_law_722 : decode cL_law 722 = .ok (.aload_n 0, 1) := dk_42 (dk_at dksL_law_24 22 rfl rfl)
theorem dL_law_723 : decode cL_law 723 = .ok (.iload 4, 2) := dk_21 4 (dk_at dksL_law_25 0 rfl rfl)
theorem dL_law_725 : decode cL_law 725 = .ok (.iconst 3, 1) := dk_6 (dk_at dksL_law_25 2 rfl rfl)
theorem dL_law_726 : decode cL_law 726 = .ok (.iadd, 1) := dk_96 (dk_at dksL_law_25 3 rfl rfl)
theorem dL_law_727 : decode cL_law 727 = .ok (.iaload, 1) := dk_46 (dk_at dksL_law_25 4 rfl rfl)
theorem dL_law_728 : decode cL_law 728 = .ok (.invokevirtual 118, 3) := dk_182 0 118 (dk_at dksL_law_25 5 rfl rfl)
theorem dL_law_731 : decode cL_law 731 = .ok (.istore 6, 2) := dk_54 6 (dk_at dksL_law_25 8 rfl rfl)
theorem dL_law_733 : decode cL_law 733 = .ok (.aload_n 2, 1) := dk_44 (dk_at dksL_law_25 10 rfl rfl)
theorem dL_law_734 : decode cL_law 734 = .ok (.invokevirtual 94, 3) := dk_182 0 94 (dk_at dksL_law_25 11 rfl rfl)
theorem dL_law_737 : decode cL_law 737 = .ok (.iload 5, 2) := dk_21 5 (dk_at dksL_law_25 14 rfl rfl)
theorem dL_law_739 : decode cL_law 739 = .ok (.if_icmp .eq 5, 3) := dk_159 0 5 (dk_at dksL_law_25 16 rfl rfl)
theorem dL_law_742 : decode cL_law 742 = .ok (.iconst 0, 1) := dk_3 (dk_at dksL_law_25 19 rfl rfl)
theorem dL_law_743 : decode cL_law 743 = .ok (.ireturn, 1) := dk_172 (dk_at dksL_law_25 20 rfl rfl)
theorem dL_law_744 : decode cL_law 744 = .ok (.iload 5, 2) := dk_21 5 (dk_at dksL_law_25 21 rfl rfl)
theorem dL_law_746 : decode cL_law 746 = .ok (.ifCond .ne 15, 3) := dk_154 0 15 (dk_at dksL_law_26 0 rfl rfl)
theorem dL_law_749 : decode cL_law 749 = .ok (.aload_n 3, 1) := dk_45 (dk_at dksL_law_26 3 rfl rfl)
theorem dL_law_750 : decode cL_law 750 = .ok (.iconst 0, 1) := dk_3 (dk_at dksL_law_26 4 rfl rfl)
theorem dL_law_751 : decode cL_law 751 = .ok (.laload, 1) := dk_47 (dk_at dksL_law_26 5 rfl rfl)
theorem dL_law_752 : decode cL_law 752 = .ok (.iload 6, 2) := dk_21 6 (dk_at dksL_law_26 6 rfl rfl)
theorem dL_law_754 : decode cL_law 754 = .ok (.i2l, 1) := dk_133 (dk_at dksL_law_26 8 rfl rfl)
theorem dL_law_755 : decode cL_law 755 = .ok (.lcmp, 1) := dk_148 (dk_at dksL_law_26 9 rfl rfl)
theorem dL_law_756 : decode cL_law 756 = .ok (.ifCond .eq 5, 3) := dk_153 0 5 (dk_at dksL_law_26 10 rfl rfl)
theorem dL_law_759 : decode cL_law 759 = .ok (.iconst 0, 1) := dk_3 (dk_at dksL_law_26 13 rfl rfl)
theorem dL_law_760 : decode cL_law 760 = .ok (.ireturn, 1) := dk_172 (dk_at dksL_law_26 14 rfl rfl)
theorem dL_law_761 : decode cL_law 761 = .ok (.goto 1230, 3) := dk_167 4 206 (dk_at dksL_law_26 15 rfl rfl)
theorem dL_law_764 : decode cL_law 764 = .ok (.aload_n 1, 1) := dk_43 (dk_at dksL_law_26 18 rfl rfl)
theorem dL_law_765 : decode cL_law 765 = .ok (.aload_n 0, 1) := dk_42 (dk_at dksL_law_26 19 rfl rfl)
theorem dL_law_766 : decode cL_law 766 = .ok (.iload 4, 2) := dk_21 4 (dk_at dksL_law_26 20 rfl rfl)
theorem dL_law_768 : decode cL_law 768 = .ok (.iconst 1, 1) := dk_4 (dk_at dksL_law_26 22 rfl rfl)
theorem dL_law_769 : decode cL_law 769 = .ok (.iadd, 1) := dk_96 (dk_at dksL_law_26 23 rfl rfl)
theorem dL_law_770 : decode cL_law 770 = .ok (.iaload, 1) := dk_46 (dk_at dksL_law_27 0 rfl rfl)
theorem dL_law_771 : decode cL_law 771 = .ok (.aload_n 3, 1) := dk_45 (dk_at dksL_law_27 1 rfl rfl)
theorem dL_law_772 : decode cL_law 772 = .ok (.invokestatic 119, 3) := dk_184 0 119 (dk_at dksL_law_27 2 rfl rfl)
theorem dL_law_775 : decode cL_law 775 = .ok (.istore 5, 2) := dk_54 5 (dk_at dksL_law_27 5 rfl rfl)
theorem dL_law_777 : decode cL_law 777 = .ok (.aload_n 2, 1) := dk_44 (dk_at dksL_law_27 7 rfl rfl)
theorem dL_law_778 : decode cL_law 778 = .ok (.aload_n 0, 1) := dk_42 (dk_at dksL_law_27 8 rfl rfl)
theorem dL_law_779 : decode cL_law 779 = .ok (.iload 4, 2) := dk_21 4 (dk_at dksL_law_27 9 rfl rfl)
theorem dL_law_781 : decode cL_law 781 = .ok (.iconst 1, 1) := dk_4 (dk_at dksL_law_27 11 rfl rfl)
theorem dL_law_782 : decode cL_law 782 = .ok (.iadd, 1) := dk_96 (dk_at dksL_law_27 12 rfl rfl)
theorem dL_law_783 : decode cL_law 783 = .ok (.iaload, 1) := dk_46 (dk_at dksL_law_27 13 rfl rfl)
theorem dL_law_784 : decode cL_law 784 = .ok (.invokevirtual 121, 3) := dk_182 0 121 (dk_at dksL_law_27 14 rfl rfl)
theorem dL_law_787 : decode cL_law 787 = .ok (.istore 6, 2) := dk_54 6 (dk_at dksL_law_27 17 rfl rfl)
theorem dL_law_789 : decode cL_law 789 = .ok (.aload_n 2, 1) := dk_44 (dk_at dksL_law_27 19 rfl rfl)
theorem dL_law_790 : decode cL_law 790 = .ok (.invokevirtual 94, 3) := dk_182 0 94 (dk_at dksL_law_27 20 rfl rfl)
theorem dL_law_793 : decode cL_law 793 = .ok (.iload 5, 2) := dk_21 5 (dk_at dksL_law_28 0 rfl rfl)
theorem dL_law_795 : decode cL_law 795 = .ok (.if_icmp .eq 5, 3) := dk_159 0 5 (dk_at dksL_law_28 2 rfl rfl)
theorem dL_law_798 : decode cL_law 798 = .ok (.iconst 0, 1) := dk_3 (dk_at dksL_law_28 5 rfl rfl)
theorem dL_law_799 : decode cL_law 799 = .ok (.ireturn, 1) := dk_172 (dk_at dksL_law_28 6 rfl rfl)
theorem dL_law_800 : decode cL_law 800 = .ok (.iload 5, 2) := dk_21 5 (dk_at dksL_law_28 7 rfl rfl)
theorem dL_law_802 : decode cL_law 802 = .ok (.ifCond .ne 15, 3) := dk_154 0 15 (dk_at dksL_law_28 9 rfl rfl)
theorem dL_law_805 : decode cL_law 805 = .ok (.aload_n 3, 1) := dk_45 (dk_at dksL_law_28 12 rfl rfl)
theorem dL_law_806 : decode cL_law 806 = .ok (.iconst 0, 1) := dk_3 (dk_at dksL_law_28 13 rfl rfl)
theorem dL_law_807 : decode cL_law 807 = .ok (.laload, 1) := dk_47 (dk_at dksL_law_28 14 rfl rfl)
theorem dL_law_808 : decode cL_law 808 = .ok (.iload 6, 2) := dk_21 6 (dk_at dksL_law_28 15 rfl rfl)
theorem dL_law_810 : decode cL_law 810 = .ok (.i2l, 1) := dk_133 (dk_at dksL_law_28 17 rfl rfl)
theorem dL_law_811 : decode cL_law 811 = .ok (.lcmp, 1) := dk_148 (dk_at dksL_law_28 18 rfl rfl)
theorem dL_law_812 : decode cL_law 812 = .ok (.ifCond .eq 5, 3) := dk_153 0 5 (dk_at dksL_law_28 19 rfl rfl)
theorem dL_law_815 : decode cL_law 815 = .ok (.iconst 0, 1) := dk_3 (dk_at dksL_law_28 22 rfl rfl)
theorem dL_law_816 : decode cL_law 816 = .ok (.ireturn, 1) := dk_172 (dk_at dksL_law_28 23 rfl rfl)
theorem dL_law_817 : decode cL_law 817 = .ok (.goto 1174, 3) := dk_167 4 150 (dk_at dksL_law_29 0 rfl rfl)
theorem dL_law_820 : decode cL_law 820 = .ok (.aload_n 1, 1) := dk_43 (dk_at dksL_law_29 3 rfl rfl)
theorem dL_law_821 : decode cL_law 821 = .ok (.aload_n 0, 1) := dk_42 (dk_at dksL_law_29 4 rfl rfl)
theorem dL_law_822 : decode cL_law 822 = .ok (.iload 4, 2) := dk_21 4 (dk_at dksL_law_29 5 rfl rfl)
theorem dL_law_824 : decode cL_law 824 = .ok (.iconst 1, 1) := dk_4 (dk_at dksL_law_29 7 rfl rfl)
theorem dL_law_825 : decode cL_law 825 = .ok (.iadd, 1) := dk_96 (dk_at dksL_law_29 8 rfl rfl)
theorem dL_law_826 : decode cL_law 826 = .ok (.iaload, 1) := dk_46 (dk_at dksL_law_29 9 rfl rfl)
theorem dL_law_827 : decode cL_law 827 = .ok (.aload_n 0, 1) := dk_42 (dk_at dksL_law_29 10 rfl rfl)
theorem dL_law_828 : decode cL_law 828 = .ok (.iload 4, 2) := dk_21 4 (dk_at dksL_law_29 11 rfl rfl)
theorem dL_law_830 : decode cL_law 830 = .ok (.iconst 2, 1) := dk_5 (dk_at dksL_law_29 13 rfl rfl)
theorem dL_law_831 : decode cL_law 831 = .ok (.iadd, 1) := dk_96 (dk_at dksL_law_29 14 rfl rfl)
theorem dL_law_832 : decode cL_law 832 = .ok (.iaload, 1) := dk_46 (dk_at dksL_law_29 15 rfl rfl)
theorem dL_law_833 : decode cL_law 833 = .ok (.aload_n 0, 1) := dk_42 (dk_at dksL_law_29 16 rfl rfl)
theorem dL_law_834 : decode cL_law 834 = .ok (.iload 4, 2) := dk_21 4 (dk_at dksL_law_29 17 rfl rfl)
theorem dL_law_836 : decode cL_law 836 = .ok (.iconst 3, 1) := dk_6 (dk_at dksL_law_29 19 rfl rfl)
theorem dL_law_837 : decode cL_law 837 = .ok (.iadd, 1) := dk_96 (dk_at dksL_law_29 20 rfl rfl)
theorem dL_law_838 : decode cL_law 838 = .ok (.iaload, 1) := dk_46 (dk_at dksL_law_29 21 rfl rfl)
theorem dL_law_839 : decode cL_law 839 = .ok (.aload_n 3, 1) := dk_45 (dk_at dksL_law_29 22 rfl rfl)
theorem dL_law_840 : decode cL_law 840 = .ok (.invokestatic 122, 3) := dk_184 0 122 (dk_at dksL_law_30 0 rfl rfl)
theorem dL_law_843 : decode cL_law 843 = .ok (.istore 5, 2) := dk_54 5 (dk_at dksL_law_30 3 rfl rfl)
theorem dL_law_845 : decode cL_law 845 = .ok (.aload_n 2, 1) := dk_44 (dk_at dksL_law_30 5 rfl rfl)
theorem dL_law_846 : decode cL_law 846 = .ok (.aload_n 0, 1) := dk_42 (dk_at dksL_law_30 6 rfl rfl)
theorem dL_law_847 : decode cL_law 847 = .ok (.iload 4, 2) := dk_21 4 (dk_at dksL_law_30 7 rfl rfl)
theorem dL_law_849 : decode cL_law 849 = .ok (.iconst 1, 1) := dk_4 (dk_at dksL_law_30 9 rfl rfl)
theorem dL_law_850 : decode cL_law 850 = .ok (.iadd, 1) := dk_96 (dk_at dksL_law_30 10 rfl rfl)
theorem dL_law_851 : decode cL_law 851 = .ok (.iaload, 1) := dk_46 (dk_at dksL_law_30 11 rfl rfl)
theorem dL_law_852 : decode cL_law 852 = .ok (.aload_n 0, 1) := dk_42 (dk_at dksL_law_30 12 rfl rfl)
theorem dL_law_853 : decode cL_law 853 = .ok (.iload 4, 2) := dk_21 4 (dk_at dksL_law_30 13 rfl rfl)
theorem dL_law_855 : decode cL_law 855 = .ok (.iconst 2, 1) := dk_5 (dk_at dksL_law_30 15 rfl rfl)
theorem dL_law_856 : decode cL_law 856 = .ok (.iadd, 1) := dk_96 (dk_at dksL_law_30 16 rfl rfl)
theorem dL_law_857 : decode cL_law 857 = .ok (.iaload, 1) := dk_46 (dk_at dksL_law_30 17 rfl rfl)
theorem dL_law_858 : decode cL_law 858 = .ok (.aload_n 0, 1) := dk_42 (dk_at dksL_law_30 18 rfl rfl)
theorem dL_law_859 : decode cL_law 859 = .ok (.iload 4, 2) := dk_21 4 (dk_at dksL_law_30 19 rfl rfl)
theorem dL_law_861 : decode cL_law 861 = .ok (.iconst 3, 1) := dk_6 (dk_at dksL_law_30 21 rfl rfl)
theorem dL_law_862 : decode cL_law 862 = .ok (.iadd, 1) := dk_96 (dk_at dksL_law_30 22 rfl rfl)
theorem dL_law_863 : decode cL_law 863 = .ok (.iaload, 1) := dk_46 (dk_at dksL_law_30 23 rfl rfl)
theorem dL_law_864 : decode cL_law 864 = .ok (.invokevirtual 124, 3) := dk_182 0 124 (dk_at dksL_law_31 0 rfl rfl)
theorem dL_law_867 : decode cL_law 867 = .ok (.istore 6, 2) := dk_54 6 (dk_at dksL_law_31 3 rfl rfl)
theorem dL_law_869 : decode cL_law 869 = .ok (.aload_n 2, 1) := dk_44 (dk_at dksL_law_31 5 rfl rfl)
theorem dL_law_870 : decode cL_law 870 = .ok (.invokevirtual 94, 3) := dk_182 0 94 (dk_at dksL_law_31 6 rfl rfl)
theorem dL_law_873 : decode cL_law 873 = .ok (.iload 5, 2) := dk_21 5 (dk_at dksL_law_31 9 rfl rfl)
theorem dL_law_875 : decode cL_law 875 = .ok (.if_icmp .eq 5, 3) := dk_159 0 5 (dk_at dksL_law_31 11 rfl rfl)
theorem dL_law_878 : decode cL_law 878 = .ok (.iconst 0, 1) := dk_3 (dk_at dksL_law_31 14 rfl rfl)
theorem dL_law_879 : decode cL_law 879 = .ok (.ireturn, 1) := dk_172 (dk_at dksL_law_31 15 rfl rfl)
theorem dL_law_880 : decode cL_law 880 = .ok (.iload 5, 2) := dk_21 5 (dk_at dksL_law_31 16 rfl rfl)
theorem dL_law_882 : decode cL_law 882 = .ok (.ifCond .ne 15, 3) := dk_154 0 15 (dk_at dksL_law_31 18 rfl rfl)
theorem dL_law_885 : decode cL_law 885 = .ok (.aload_n 3, 1) := dk_45 (dk_at dksL_law_31 21 rfl rfl)
theorem dL_law_886 : decode cL_law 886 = .ok (.iconst 0, 1) := dk_3 (dk_at dksL_law_31 22 rfl rfl)
theorem dL_law_887 : decode cL_law 887 = .ok (.laload, 1) := dk_47 (dk_at dksL_law_31 23 rfl rfl)
theorem dL_law_888 : decode cL_law 888 = .ok (.iload 6, 2) := dk_21 6 (dk_at dksL_law_32 0 rfl rfl)
theorem dL_law_890 : decode cL_law 890 = .ok (.i2l, 1) := dk_133 (dk_at dksL_law_32 2 rfl rfl)
theorem dL_law_891 : decode cL_law 891 = .ok (.lcmp, 1) := dk_148 (dk_at dksL_law_32 3 rfl rfl)
theorem dL_law_892 : decode cL_law 892 = .ok (.ifCond .eq 5, 3) := dk_153 0 5 (dk_at dksL_law_32 4 rfl rfl)
theorem dL_law_895 : decode cL_law 895 = .ok (.iconst 0, 1) := dk_3 (dk_at dksL_law_32 7 rfl rfl)
theorem dL_law_896 : decode cL_law 896 = .ok (.ireturn, 1) := dk_172 (dk_at dksL_law_32 8 rfl rfl)
theorem dL_law_897 : decode cL_law 897 = .ok (.goto 1094, 3) := dk_167 4 70 (dk_at dksL_law_32 9 rfl rfl)
theorem dL_law_900 : decode cL_law 900 = .ok (.aload_n 1, 1) := dk_43 (dk_at dksL_law_32 12 rfl rfl)
theorem dL_law_901 : decode cL_law 901 = .ok (.aload_n 0, 1) := dk_42 (dk_at dksL_law_32 13 rfl rfl)
theorem dL_law_902 : decode cL_law 902 = .ok (.iload 4, 2) := dk_21 4 (dk_at dksL_law_32 14 rfl rfl)
theorem dL_law_904 : decode cL_law 904 = .ok (.iconst 1, 1) := dk_4 (dk_at dksL_law_32 16 rfl rfl)
theorem dL_law_905 : decode cL_law 905 = .ok (.iadd, 1) := dk_96 (dk_at dksL_law_32 17 rfl rfl)
theorem dL_law_906 : decode cL_law 906 = .ok (.iaload, 1) := dk_46 (dk_at dksL_law_32 18 rfl rfl)
theorem dL_law_907 : decode cL_law 907 = .ok (.aload_n 0, 1) := dk_42 (dk_at dksL_law_32 19 rfl rfl)
theorem dL_law_908 : decode cL_law 908 = .ok (.iload 4, 2) := dk_21 4 (dk_at dksL_law_32 20 rfl rfl)
theorem dL_law_910 : decode cL_law 910 = .ok (.iconst 2, 1) := dk_5 (dk_at dksL_law_32 22 rfl rfl)
theorem dL_law_911 : decode cL_law 911 = .ok (.iadd, 1) := dk_96 (dk_at dksL_law_32 23 rfl rfl)
theorem dL_law_912 : decode cL_law 912 = .ok (.iaload, 1) := dk_46 (dk_at dksL_law_33 0 rfl rfl)
theorem dL_law_913 : decode cL_law 913 = .ok (.aload_n 0, 1) := dk_42 (dk_at dksL_law_33 1 rfl rfl)
theorem dL_law_914 : decode cL_law 914 = .ok (.iload 4, 2) := dk_21 4 (dk_at dksL_law_33 2 rfl rfl)
theorem dL_law_916 : decode cL_law 916 = .ok (.iconst 3, 1) := dk_6 (dk_at dksL_law_33 4 rfl rfl)
theorem dL_law_917 : decode cL_law 917 = .ok (.iadd, 1) := dk_96 (dk_at dksL_law_33 5 rfl rfl)
theorem dL_law_918 : decode cL_law 918 = .ok (.iaload, 1) := dk_46 (dk_at dksL_law_33 6 rfl rfl)
theorem dL_law_919 : decode cL_law 919 = .ok (.aload_n 3, 1) := dk_45 (dk_at dksL_law_33 7 rfl rfl)
theorem dL_law_920 : decode cL_law 920 = .ok (.invokestatic 125, 3) := dk_184 0 125 (dk_at dksL_law_33 8 rfl rfl)
theorem dL_law_923 : decode cL_law 923 = .ok (.istore 5, 2) := dk_54 5 (dk_at dksL_law_33 11 rfl rfl)
theorem dL_law_925 : decode cL_law 925 = .ok (.aload_n 2, 1) := dk_44 (dk_at dksL_law_33 13 rfl rfl)
theorem dL_law_926 : decode cL_law 926 = .ok (.aload_n 0, 1) := dk_42 (dk_at dksL_law_33 14 rfl rfl)
theorem dL_law_927 : decode cL_law 927 = .ok (.iload 4, 2) := dk_21 4 (dk_at dksL_law_33 15 rfl rfl)
theorem dL_law_929 : decode cL_law 929 = .ok (.iconst 1, 1) := dk_4 (dk_at dksL_law_33 17 rfl rfl)
theorem dL_law_930 : decode cL_law 930 = .ok (.iadd, 1) := dk_96 (dk_at dksL_law_33 18 rfl rfl)
theorem dL_law_931 : decode cL_law 931 = .ok (.iaload, 1) := dk_46 (dk_at dksL_law_33 19 rfl rfl)
theorem dL_law_932 : decode cL_law 932 = .ok (.aload_n 0, 1) := dk_42 (dk_at dksL_law_33 20 rfl rfl)
theorem dL_law_933 : decode cL_law 933 = .ok (.iload 4, 2) := dk_21 4 (dk_at dksL_law_33 21 rfl rfl)
theorem dL_law_935 : decode cL_law 935 = .ok (.iconst 2, 1) := dk_5 (dk_at dksL_law_33 23 rfl rfl)
theorem dL_law_936 : decode cL_law 936 = .ok (.iadd, 1) := dk_96 (dk_at dksL_law_34 0 rfl rfl)
theorem dL_law_937 : decode cL_law 937 = .ok (.iaload, 1) := dk_46 (dk_at dksL_law_34 1 rfl rfl)
theorem dL_law_938 : decode cL_law 938 = .ok (.aload_n 0, 1) := dk_42 (dk_at dksL_law_34 2 rfl rfl)
theorem dL_law_939 : decode cL_law 939 = .ok (.iload 4, 2) := dk_21 4 (dk_at dksL_law_34 3 rfl rfl)
theorem dL_law_941 : decode cL_law 941 = .ok (.iconst 3, 1) := dk_6 (dk_at dksL_law_34 5 rfl rfl)
theorem dL_law_942 : decode cL_law 942 = .ok (.iadd, 1) := dk_96 (dk_at dksL_law_34 6 rfl rfl)
theorem dL_law_943 : decode cL_law 943 = .ok (.iaload, 1) := dk_46 (dk_at dksL_law_34 7 rfl rfl)
theorem dL_law_944 : decode cL_law 944 = .ok (.invokevirtual 127, 3) := dk_182 0 127 (dk_at dksL_law_34 8 rfl rfl)
theorem dL_law_947 : decode cL_law 947 = .ok (.istore 6, 2) := dk_54 6 (dk_at dksL_law_34 11 rfl rfl)
theorem dL_law_949 : decode cL_law 949 = .ok (.aload_n 2, 1) := dk_44 (dk_at dksL_law_34 13 rfl rfl)
theorem dL_law_950 : decode cL_law 950 = .ok (.invokevirtual 94, 3) := dk_182 0 94 (dk_at dksL_law_34 14 rfl rfl)
theorem dL_law_953 : decode cL_law 953 = .ok (.iload 5, 2) := dk_21 5 (dk_at dksL_law_34 17 rfl rfl)
theorem dL_law_955 : decode cL_law 955 = .ok (.if_icmp .eq 5, 3) := dk_159 0 5 (dk_at dksL_law_34 19 rfl rfl)
theorem dL_law_958 : decode cL_law 958 = .ok (.iconst 0, 1) := dk_3 (dk_at dksL_law_34 22 rfl rfl)
theorem dL_law_959 : decode cL_law 959 = .ok (.ireturn, 1) := dk_172 (dk_at dksL_law_34 23 rfl rfl)
theorem dL_law_960 : decode cL_law 960 = .ok (.iload 5, 2) := dk_21 5 (dk_at dksL_law_35 0 rfl rfl)
theorem dL_law_962 : decode cL_law 962 = .ok (.ifCond .ne 15, 3) := dk_154 0 15 (dk_at dksL_law_35 2 rfl rfl)
theorem dL_law_965 : decode cL_law 965 = .ok (.aload_n 3, 1) := dk_45 (dk_at dksL_law_35 5 rfl rfl)
theorem dL_law_966 : decode cL_law 966 = .ok (.iconst 0, 1) := dk_3 (dk_at dksL_law_35 6 rfl rfl)
theorem dL_law_967 : decode cL_law 967 = .ok (.laload, 1) := dk_47 (dk_at dksL_law_35 7 rfl rfl)
theorem dL_law_968 : decode cL_law 968 = .ok (.iload 6, 2) := dk_21 6 (dk_at dksL_law_35 8 rfl rfl)
theorem dL_law_970 : decode cL_law 970 = .ok (.i2l, 1) := dk_133 (dk_at dksL_law_35 10 rfl rfl)
theorem dL_law_971 : decode cL_law 971 = .ok (.lcmp, 1) := dk_148 (dk_at dksL_law_35 11 rfl rfl)
theorem dL_law_972 : decode cL_law 972 = .ok (.ifCond .eq 5, 3) := dk_153 0 5 (dk_at dksL_law_35 12 rfl rfl)
theorem dL_law_975 : decode cL_law 975 = .ok (.iconst 0, 1) := dk_3 (dk_at dksL_law_35 15 rfl rfl)
theorem dL_law_976 : decode cL_law 976 = .ok (.ireturn, 1) := dk_172 (dk_at dksL_law_35 16 rfl rfl)
theorem dL_law_977 : decode cL_law 977 = .ok (.goto 1014, 3) := dk_167 3 246 (dk_at dksL_law_35 17 rfl rfl)
theorem dL_law_980 : decode cL_law 980 = .ok (.aload_n 1, 1) := dk_43 (dk_at dksL_law_35 20 rfl rfl)
theorem dL_law_981 : decode cL_law 981 = .ok (.aload_n 0, 1) := dk_42 (dk_at dksL_law_35 21 rfl rfl)
theorem dL_law_982 : decode cL_law 982 = .ok (.iload 4, 2) := dk_21 4 (dk_at dksL_law_35 22 rfl rfl)
theorem dL_law_984 : decode cL_law 984 = .ok (.iconst 1, 1) := dk_4 (dk_at dksL_law_36 0 rfl rfl)
theorem dL_law_985 : decode cL_law 985 = .ok (.iadd, 1) := dk_96 (dk_at dksL_law_36 1 rfl rfl)
theorem dL_law_986 : decode cL_law 986 = .ok (.iaload, 1) := dk_46 (dk_at dksL_law_36 2 rfl rfl)
theorem dL_law_987 : decode cL_law 987 = .ok (.aload_n 3, 1) := dk_45 (dk_at dksL_law_36 3 rfl rfl)
theorem dL_law_988 : decode cL_law 988 = .ok (.invokestatic 128, 3) := dk_184 0 128 (dk_at dksL_law_36 4 rfl rfl)
theorem dL_law_991 : decode cL_law 991 = .ok (.istore 5, 2) := dk_54 5 (dk_at dksL_law_36 7 rfl rfl)
theorem dL_law_993 : decode cL_law 993 = .ok (.aload_n 2, 1) := dk_44 (dk_at dksL_law_36 9 rfl rfl)
theorem dL_law_994 : decode cL_law 994 = .ok (.aload_n 0, 1) := dk_42 (dk_at dksL_law_36 10 rfl rfl)
theorem dL_law_995 : decode cL_law 995 = .ok (.iload 4, 2) := dk_21 4 (dk_at dksL_law_36 11 rfl rfl)
theorem dL_law_997 : decode cL_law 997 = .ok (.iconst 1, 1) := dk_4 (dk_at dksL_law_36 13 rfl rfl)
theorem dL_law_998 : decode cL_law 998 = .ok (.iadd, 1) := dk_96 (dk_at dksL_law_36 14 rfl rfl)
theorem dL_law_999 : decode cL_law 999 = .ok (.iaload, 1) := dk_46 (dk_at dksL_law_36 15 rfl rfl)
theorem dL_law_1000 : decode cL_law 1000 = .ok (.invokevirtual 130, 3) := dk_182 0 130 (dk_at dksL_law_36 16 rfl rfl)
theorem dL_law_1003 : decode cL_law 1003 = .ok (.istore 6, 2) := dk_54 6 (dk_at dksL_law_36 19 rfl rfl)
theorem dL_law_1005 : decode cL_law 1005 = .ok (.aload_n 2, 1) := dk_44 (dk_at dksL_law_36 21 rfl rfl)
theorem dL_law_1006 : decode cL_law 1006 = .ok (.invokevirtual 94, 3) := dk_182 0 94 (dk_at dksL_law_37 0 rfl rfl)
theorem dL_law_1009 : decode cL_law 1009 = .ok (.iload 5, 2) := dk_21 5 (dk_at dksL_law_37 3 rfl rfl)
theorem dL_law_1011 : decode cL_law 1011 = .ok (.if_icmp .eq 5, 3) := dk_159 0 5 (dk_at dksL_law_37 5 rfl rfl)
theorem dL_law_1014 : decode cL_law 1014 = .ok (.iconst 0, 1) := dk_3 (dk_at dksL_law_37 8 rfl rfl)
theorem dL_law_1015 : decode cL_law 1015 = .ok (.ireturn, 1) := dk_172 (dk_at dksL_law_37 9 rfl rfl)
theorem dL_law_1016 : decode cL_law 1016 = .ok (.iload 5, 2) := dk_21 5 (dk_at dksL_law_37 10 rfl rfl)
theorem dL_law_1018 : decode cL_law 1018 = .ok (.ifCond .ne 15, 3) := dk_154 0 15 (dk_at dksL_law_37 12 rfl rfl)
theorem dL_law_1021 : decode cL_law 1021 = .ok (.aload_n 3, 1) := dk_45 (dk_at dksL_law_37 15 rfl rfl)
theorem dL_law_1022 : decode cL_law 1022 = .ok (.iconst 0, 1) := dk_3 (dk_at dksL_law_37 16 rfl rfl)
theorem dL_law_1023 : decode cL_law 1023 = .ok (.laload, 1) := dk_47 (dk_at dksL_law_37 17 rfl rfl)
theorem dL_law_1024 : decode cL_law 1024 = .ok (.iload 6, 2) := dk_21 6 (dk_at dksL_law_37 18 rfl rfl)
theorem dL_law_1026 : decode cL_law 1026 = .ok (.i2l, 1) := dk_133 (dk_at dksL_law_37 20 rfl rfl)
theorem dL_law_1027 : decode cL_law 1027 = .ok (.lcmp, 1) := dk_148 (dk_at dksL_law_37 21 rfl rfl)
theorem dL_law_1028 : decode cL_law 1028 = .ok (.ifCond .eq 5, 3) := dk_153 0 5 (dk_at dksL_law_38 0 rfl rfl)
theorem dL_law_1031 : decode cL_law 1031 = .ok (.iconst 0, 1) := dk_3 (dk_at dksL_law_38 3 rfl rfl)
theorem dL_law_1032 : decode cL_law 1032 = .ok (.ireturn, 1) := dk_172 (dk_at dksL_law_38 4 rfl rfl)
theorem dL_law_1033 : decode cL_law 1033 = .ok (.goto 958, 3) := dk_167 3 190 (dk_at dksL_law_38 5 rfl rfl)
theorem dL_law_1036 : decode cL_law 1036 = .ok (.aload_n 1, 1) := dk_43 (dk_at dksL_law_38 8 rfl rfl)
theorem dL_law_1037 : decode cL_law 1037 = .ok (.invokevirtual 131, 3) := dk_182 0 131 (dk_at dksL_law_38 9 rfl rfl)
theorem dL_law_1040 : decode cL_law 1040 = .ok (.aload_n 2, 1) := dk_44 (dk_at dksL_law_38 12 rfl rfl)
theorem dL_law_1041 : decode cL_law 1041 = .ok (.invokevirtual 134, 3) := dk_182 0 134 (dk_at dksL_law_38 13 rfl rfl)
theorem dL_law_1044 : decode cL_law 1044 = .ok (.if_icmp .eq 947, 3) := dk_159 3 179 (dk_at dksL_law_38 16 rfl rfl)
theorem dL_law_1047 : decode cL_law 1047 = .ok (.iconst 0, 1) := dk_3 (dk_at dksL_law_38 19 rfl rfl)
theorem dL_law_1048 : decode cL_law 1048 = .ok (.ireturn, 1) := dk_172 (dk_at dksL_law_38 20 rfl rfl)
theorem dL_law_1049 : decode cL_law 1049 = .ok (.aload_n 1, 1) := dk_43 (dk_at dksL_law_38 21 rfl rfl)
theorem dL_law_1050 : decode cL_law 1050 = .ok (.aload_n 0, 1) := dk_42 (dk_at dksL_law_38 22 rfl rfl)
theorem dL_law_1051 : decode cL_law 1051 = .ok (.iload 4, 2) := dk_21 4 (dk_at dksL_law_39 0 rfl rfl)
theorem dL_law_1053 : decode cL_law 1053 = .ok (.iconst 1, 1) := dk_4 (dk_at dksL_law_39 2 rfl rfl)
theorem dL_law_1054 : decode cL_law 1054 = .ok (.iadd, 1) := dk_96 (dk_at dksL_law_39 3 rfl rfl)
theorem dL_law_1055 : decode cL_law 1055 = .ok (.iaload, 1) := dk_46 (dk_at dksL_law_39 4 rfl rfl)
theorem dL_law_1056 : decode cL_law 1056 = .ok (.aload_n 0, 1) := dk_42 (dk_at dksL_law_39 5 rfl rfl)
theorem dL_law_1057 : decode cL_law 1057 = .ok (.iload 4, 2) := dk_21 4 (dk_at dksL_law_39 6 rfl rfl)
theorem dL_law_1059 : decode cL_law 1059 = .ok (.iconst 2, 1) := dk_5 (dk_at dksL_law_39 8 rfl rfl)
theorem dL_law_1060 : decode cL_law 1060 = .ok (.iadd, 1) := dk_96 (dk_at dksL_law_39 9 rfl rfl)
theorem dL_law_1061 : decode cL_law 1061 = .ok (.iaload, 1) := dk_46 (dk_at dksL_law_39 10 rfl rfl)
theorem dL_law_1062 : decode cL_law 1062 = .ok (.aload_n 0, 1) := dk_42 (dk_at dksL_law_39 11 rfl rfl)
theorem dL_law_1063 : decode cL_law 1063 = .ok (.iload 4, 2) := dk_21 4 (dk_at dksL_law_39 12 rfl rfl)
theorem dL_law_1065 : decode cL_law 1065 = .ok (.iconst 3, 1) := dk_6 (dk_at dksL_law_39 14 rfl rfl)
theorem dL_law_1066 : decode cL_law 1066 = .ok (.iadd, 1) := dk_96 (dk_at dksL_law_39 15 rfl rfl)
theorem dL_law_1067 : decode cL_law 1067 = .ok (.iaload, 1) := dk_46 (dk_at dksL_law_39 16 rfl rfl)
theorem dL_law_1068 : decode cL_law 1068 = .ok (.aload_n 0, 1) := dk_42 (dk_at dksL_law_39 17 rfl rfl)
theorem dL_law_1069 : decode cL_law 1069 = .ok (.iload 4, 2) := dk_21 4 (dk_at dksL_law_39 18 rfl rfl)
theorem dL_law_1071 : decode cL_law 1071 = .ok (.iconst 4, 1) := dk_7 (dk_at dksL_law_39 20 rfl rfl)
theorem dL_law_1072 : decode cL_law 1072 = .ok (.iadd, 1) := dk_96 (dk_at dksL_law_39 21 rfl rfl)
theorem dL_law_1073 : decode cL_law 1073 = .ok (.iaload, 1) := dk_46 (dk_at dksL_law_39 22 rfl rfl)
theorem dL_law_1074 : decode cL_law 1074 = .ok (.aload_n 0, 1) := dk_42 (dk_at dksL_law_39 23 rfl rfl)
theorem dL_law_1075 : decode cL_law 1075 = .ok (.iload 4, 2) := dk_21 4 (dk_at dksL_law_40 0 rfl rfl)
theorem dL_law_1077 : decode cL_law 1077 = .ok (.iconst 5, 1) := dk_8 (dk_at dksL_law_40 2 rfl rfl)
theorem dL_law_1078 : decode cL_law 1078 = .ok (.iadd, 1) := dk_96 (dk_at dksL_law_40 3 rfl rfl)
theorem dL_law_1079 : decode cL_law 1079 = .ok (.iaload, 1) := dk_46 (dk_at dksL_law_40 4 rfl rfl)
theorem dL_law_1080 : decode cL_law 1080 = .ok (.aload_n 3, 1) := dk_45 (dk_at dksL_law_40 5 rfl rfl)
theorem dL_law_1081 : decode cL_law 1081 = .ok (.invokestatic 135, 3) := dk_184 0 135 (dk_at dksL_law_40 6 rfl rfl)
theorem dL_law_1084 : decode cL_law 1084 = .ok (.istore 5, 2) := dk_54 5 (dk_at dksL_law_40 9 rfl rfl)
theorem dL_law_1086 : decode cL_law 1086 = .ok (.aload_n 2, 1) := dk_44 (dk_at dksL_law_40 11 rfl rfl)
theorem dL_law_1087 : decode cL_law 1087 = .ok (.aload_n 0, 1) := dk_42 (dk_at dksL_law_40 12 rfl rfl)
theorem dL_law_1088 : decode cL_law 1088 = .ok (.iload 4, 2) := dk_21 4 (dk_at dksL_law_40 13 rfl rfl)
theorem dL_law_1090 : decode cL_law 1090 = .ok (.iconst 1, 1) := dk_4 (dk_at dksL_law_40 15 rfl rfl)
theorem dL_law_1091 : decode cL_law 1091 = .ok (.iadd, 1) := dk_96 (dk_at dksL_law_40 16 rfl rfl)
theorem dL_law_1092 : decode cL_law 1092 = .ok (.iaload, 1) := dk_46 (dk_at dksL_law_40 17 rfl rfl)
theorem dL_law_1093 : decode cL_law 1093 = .ok (.aload_n 0, 1) := dk_42 (dk_at dksL_law_40 18 rfl rfl)
theorem dL_law_1094 : decode cL_law 1094 = .ok (.iload 4, 2) := dk_21 4 (dk_at dksL_law_40 19 rfl rfl)
theorem dL_law_1096 : decode cL_law 1096 = .ok (.iconst 2, 1) := dk_5 (dk_at dksL_law_40 21 rfl rfl)
theorem dL_law_1097 : decode cL_law 1097 = .ok (.iadd, 1) := dk_96 (dk_at dksL_law_40 22 rfl rfl)
theorem dL_law_1098 : decode cL_law 1098 = .ok (.iaload, 1) := dk_46 (dk_at dksL_law_40 23 rfl rfl)
theorem dL_law_1099 : decode cL_law 1099 = .ok (.aload_n 0, 1) := dk_42 (dk_at dksL_law_41 0 rfl rfl)
theorem dL_law_1100 : decode cL_law 1100 = .ok (.iload 4, 2) := dk_21 4 (dk_at dksL_law_41 1 rfl rfl)
theorem dL_law_1102 : decode cL_law 1102 = .ok (.iconst 3, 1) := dk_6 (dk_at dksL_law_41 3 rfl rfl)
theorem dL_law_1103 : decode cL_law 1103 = .ok (.iadd, 1) := dk_96 (dk_at dksL_law_41 4 rfl rfl)
theorem dL_law_1104 : decode cL_law 1104 = .ok (.iaload, 1) := dk_46 (dk_at dksL_law_41 5 rfl rfl)
theorem dL_law_1105 : decode cL_law 1105 = .ok (.aload_n 0, 1) := dk_42 (dk_at dksL_law_41 6 rfl rfl)
theorem dL_law_1106 : decode cL_law 1106 = .ok (.iload 4, 2) := dk_21 4 (dk_at dksL_law_41 7 rfl rfl)
theorem dL_law_1108 : decode cL_law 1108 = .ok (.iconst 4, 1) := dk_7 (dk_at dksL_law_41 9 rfl rfl)
theorem dL_law_1109 : decode cL_law 1109 = .ok (.iadd, 1) := dk_96 (dk_at dksL_law_41 10 rfl rfl)
theorem dL_law_1110 : decode cL_law 1110 = .ok (.iaload, 1) := dk_46 (dk_at dksL_law_41 11 rfl rfl)
theorem dL_law_1111 : decode cL_law 1111 = .ok (.aload_n 0, 1) := dk_42 (dk_at dksL_law_41 12 rfl rfl)
theorem dL_law_1112 : decode cL_law 1112 = .ok (.iload 4, 2) := dk_21 4 (dk_at dksL_law_41 13 rfl rfl)
theorem dL_law_1114 : decode cL_law 1114 = .ok (.iconst 5, 1) := dk_8 (dk_at dksL_law_41 15 rfl rfl)
theorem dL_law_1115 : decode cL_law 1115 = .ok (.iadd, 1) := dk_96 (dk_at dksL_law_41 16 rfl rfl)
theorem dL_law_1116 : decode cL_law 1116 = .ok (.iaload, 1) := dk_46 (dk_at dksL_law_41 17 rfl rfl)
theorem dL_law_1117 : decode cL_law 1117 = .ok (.invokevirtual 137, 3) := dk_182 0 137 (dk_at dksL_law_41 18 rfl rfl)
theorem dL_law_1120 : decode cL_law 1120 = .ok (.istore 6, 2) := dk_54 6 (dk_at dksL_law_41 21 rfl rfl)
theorem dL_law_1122 : decode cL_law 1122 = .ok (.aload_n 2, 1) := dk_44 (dk_at dksL_law_41 23 rfl rfl)
theorem dL_law_1123 : decode cL_law 1123 = .ok (.invokevirtual 94, 3) := dk_182 0 94 (dk_at dksL_law_42 0 rfl rfl)
theorem dL_law_1126 : decode cL_law 1126 = .ok (.iload 5, 2) := dk_21 5 (dk_at dksL_law_42 3 rfl rfl)
theorem dL_law_1128 : decode cL_law 1128 = .ok (.if_icmp .eq 5, 3) := dk_159 0 5 (dk_at dksL_law_42 5 rfl rfl)
theorem dL_law_1131 : decode cL_law 1131 = .ok (.iconst 0, 1) := dk_3 (dk_at dksL_law_42 8 rfl rfl)
theorem dL_law_1132 : decode cL_law 1132 = .ok (.ireturn, 1) := dk_172 (dk_at dksL_law_42 9 rfl rfl)
theorem dL_law_1133 : decode cL_law 1133 = .ok (.iload 5, 2) := dk_21 5 (dk_at dksL_law_42 10 rfl rfl)
theorem dL_law_1135 : decode cL_law 1135 = .ok (.ifCond .ne 15, 3) := dk_154 0 15 (dk_at dksL_law_42 12 rfl rfl)
theorem dL_law_1138 : decode cL_law 1138 = .ok (.aload_n 3, 1) := dk_45 (dk_at dksL_law_42 15 rfl rfl)
theorem dL_law_1139 : decode cL_law 1139 = .ok (.iconst 0, 1) := dk_3 (dk_at dksL_law_42 16 rfl rfl)
theorem dL_law_1140 : decode cL_law 1140 = .ok (.laload, 1) := dk_47 (dk_at dksL_law_42 17 rfl rfl)
theorem dL_law_1141 : decode cL_law 1141 = .ok (.iload 6, 2) := dk_21 6 (dk_at dksL_law_42 18 rfl rfl)
theorem dL_law_1143 : decode cL_law 1143 = .ok (.i2l, 1) := dk_133 (dk_at dksL_law_42 20 rfl rfl)
theorem dL_law_1144 : decode cL_law 1144 = .ok (.lcmp, 1) := dk_148 (dk_at dksL_law_42 21 rfl rfl)
theorem dL_law_1145 : decode cL_law 1145 = .ok (.ifCond .eq 5, 3) := dk_153 0 5 (dk_at dksL_law_43 0 rfl rfl)
theorem dL_law_1148 : decode cL_law 1148 = .ok (.iconst 0, 1) := dk_3 (dk_at dksL_law_43 3 rfl rfl)
theorem dL_law_1149 : decode cL_law 1149 = .ok (.ireturn, 1) := dk_172 (dk_at dksL_law_43 4 rfl rfl)
theorem dL_law_1150 : decode cL_law 1150 = .ok (.goto 841, 3) := dk_167 3 73 (dk_at dksL_law_43 5 rfl rfl)
theorem dL_law_1153 : decode cL_law 1153 = .ok (.aload_n 1, 1) := dk_43 (dk_at dksL_law_43 8 rfl rfl)
theorem dL_law_1154 : decode cL_law 1154 = .ok (.aload_n 0, 1) := dk_42 (dk_at dksL_law_43 9 rfl rfl)
theorem dL_law_1155 : decode cL_law 1155 = .ok (.iload 4, 2) := dk_21 4 (dk_at dksL_law_43 10 rfl rfl)
theorem dL_law_1157 : decode cL_law 1157 = .ok (.iconst 1, 1) := dk_4 (dk_at dksL_law_43 12 rfl rfl)
theorem dL_law_1158 : decode cL_law 1158 = .ok (.iadd, 1) := dk_96 (dk_at dksL_law_43 13 rfl rfl)
theorem dL_law_1159 : decode cL_law 1159 = .ok (.iaload, 1) := dk_46 (dk_at dksL_law_43 14 rfl rfl)
theorem dL_law_1160 : decode cL_law 1160 = .ok (.aload_n 0, 1) := dk_42 (dk_at dksL_law_43 15 rfl rfl)
theorem dL_law_1161 : decode cL_law 1161 = .ok (.iload 4, 2) := dk_21 4 (dk_at dksL_law_43 16 rfl rfl)
theorem dL_law_1163 : decode cL_law 1163 = .ok (.iconst 2, 1) := dk_5 (dk_at dksL_law_43 18 rfl rfl)
theorem dL_law_1164 : decode cL_law 1164 = .ok (.iadd, 1) := dk_96 (dk_at dksL_law_43 19 rfl rfl)
theorem dL_law_1165 : decode cL_law 1165 = .ok (.iaload, 1) := dk_46 (dk_at dksL_law_43 20 rfl rfl)
theorem dL_law_1166 : decode cL_law 1166 = .ok (.aload_n 3, 1) := dk_45 (dk_at dksL_law_43 21 rfl rfl)
theorem dL_law_1167 : decode cL_law 1167 = .ok (.invokestatic 138, 3) := dk_184 0 138 (dk_at dksL_law_44 0 rfl rfl)
theorem dL_law_1170 : decode cL_law 1170 = .ok (.istore 5, 2) := dk_54 5 (dk_at dksL_law_44 3 rfl rfl)
theorem dL_law_1172 : decode cL_law 1172 = .ok (.aload_n 2, 1) := dk_44 (dk_at dksL_law_44 5 rfl rfl)
theorem dL_law_1173 : decode cL_law 1173 = .ok (.aload_n 0, 1) := dk_42 (dk_at dksL_law_44 6 rfl rfl)
theorem dL_law_1174 : decode cL_law 1174 = .ok (.iload 4, 2) := dk_21 4 (dk_at dksL_law_44 7 rfl rfl)
theorem dL_law_1176 : decode cL_law 1176 = .ok (.iconst 1, 1) := dk_4 (dk_at dksL_law_44 9 rfl rfl)
theorem dL_law_1177 : decode cL_law 1177 = .ok (.iadd, 1) := dk_96 (dk_at dksL_law_44 10 rfl rfl)
theorem dL_law_1178 : decode cL_law 1178 = .ok (.iaload, 1) := dk_46 (dk_at dksL_law_44 11 rfl rfl)
theorem dL_law_1179 : decode cL_law 1179 = .ok (.aload_n 0, 1) := dk_42 (dk_at dksL_law_44 12 rfl rfl)
theorem dL_law_1180 : decode cL_law 1180 = .ok (.iload 4, 2) := dk_21 4 (dk_at dksL_law_44 13 rfl rfl)
theorem dL_law_1182 : decode cL_law 1182 = .ok (.iconst 2, 1) := dk_5 (dk_at dksL_law_44 15 rfl rfl)
theorem dL_law_1183 : decode cL_law 1183 = .ok (.iadd, 1) := dk_96 (dk_at dksL_law_44 16 rfl rfl)
theorem dL_law_1184 : decode cL_law 1184 = .ok (.iaload, 1) := dk_46 (dk_at dksL_law_44 17 rfl rfl)
theorem dL_law_1185 : decode cL_law 1185 = .ok (.invokevirtual 140, 3) := dk_182 0 140 (dk_at dksL_law_44 18 rfl rfl)
theorem dL_law_1188 : decode cL_law 1188 = .ok (.istore 6, 2) := dk_54 6 (dk_at dksL_law_44 21 rfl rfl)
theorem dL_law_1190 : decode cL_law 1190 = .ok (.aload_n 2, 1) := dk_44 (dk_at dksL_law_44 23 rfl rfl)
theorem dL_law_1191 : decode cL_law 1191 = .ok (.invokevirtual 94, 3) := dk_182 0 94 (dk_at dksL_law_45 0 rfl rfl)
theorem dL_law_1194 : decode cL_law 1194 = .ok (.iload 5, 2) := dk_21 5 (dk_at dksL_law_45 3 rfl rfl)
theorem dL_law_1196 : decode cL_law 1196 = .ok (.if_icmp .eq 5, 3) := dk_159 0 5 (dk_at dksL_law_45 5 rfl rfl)
theorem dL_law_1199 : decode cL_law 1199 = .ok (.iconst 0, 1) := dk_3 (dk_at dksL_law_45 8 rfl rfl)
theorem dL_law_1200 : decode cL_law 1200 = .ok (.ireturn, 1) := dk_172 (dk_at dksL_law_45 9 rfl rfl)
theorem dL_law_1201 : decode cL_law 1201 = .ok (.iload 5, 2) := dk_21 5 (dk_at dksL_law_45 10 rfl rfl)
theorem dL_law_1203 : decode cL_law 1203 = .ok (.ifCond .ne 15, 3) := dk_154 0 15 (dk_at dksL_law_45 12 rfl rfl)
theorem dL_law_1206 : decode cL_law 1206 = .ok (.aload_n 3, 1) := dk_45 (dk_at dksL_law_45 15 rfl rfl)
theorem dL_law_1207 : decode cL_law 1207 = .ok (.iconst 0, 1) := dk_3 (dk_at dksL_law_45 16 rfl rfl)
theorem dL_law_1208 : decode cL_law 1208 = .ok (.laload, 1) := dk_47 (dk_at dksL_law_45 17 rfl rfl)
theorem dL_law_1209 : decode cL_law 1209 = .ok (.iload 6, 2) := dk_21 6 (dk_at dksL_law_45 18 rfl rfl)
theorem dL_law_1211 : decode cL_law 1211 = .ok (.i2l, 1) := dk_133 (dk_at dksL_law_45 20 rfl rfl)
theorem dL_law_1212 : decode cL_law 1212 = .ok (.lcmp, 1) := dk_148 (dk_at dksL_law_45 21 rfl rfl)
theorem dL_law_1213 : decode cL_law 1213 = .ok (.ifCond .eq 5, 3) := dk_153 0 5 (dk_at dksL_law_46 0 rfl rfl)
theorem dL_law_1216 : decode cL_law 1216 = .ok (.iconst 0, 1) := dk_3 (dk_at dksL_law_46 3 rfl rfl)
theorem dL_law_1217 : decode cL_law 1217 = .ok (.ireturn, 1) := dk_172 (dk_at dksL_law_46 4 rfl rfl)
theorem dL_law_1218 : decode cL_law 1218 = .ok (.goto 773, 3) := dk_167 3 5 (dk_at dksL_law_46 5 rfl rfl)
theorem dL_law_1221 : decode cL_law 1221 = .ok (.aload_n 1, 1) := dk_43 (dk_at dksL_law_46 8 rfl rfl)
theorem dL_law_1222 : decode cL_law 1222 = .ok (.aload_n 0, 1) := dk_42 (dk_at dksL_law_46 9 rfl rfl)
theorem dL_law_1223 : decode cL_law 1223 = .ok (.iload 4, 2) := dk_21 4 (dk_at dksL_law_46 10 rfl rfl)
theorem dL_law_1225 : decode cL_law 1225 = .ok (.iconst 1, 1) := dk_4 (dk_at dksL_law_46 12 rfl rfl)
theorem dL_law_1226 : decode cL_law 1226 = .ok (.iadd, 1) := dk_96 (dk_at dksL_law_46 13 rfl rfl)
theorem dL_law_1227 : decode cL_law 1227 = .ok (.iaload, 1) := dk_46 (dk_at dksL_law_46 14 rfl rfl)
theorem dL_law_1228 : decode cL_law 1228 = .ok (.aload_n 0, 1) := dk_42 (dk_at dksL_law_46 15 rfl rfl)
theorem dL_law_1229 : decode cL_law 1229 = .ok (.iload 4, 2) := dk_21 4 (dk_at dksL_law_46 16 rfl rfl)
theorem dL_law_1231 : decode cL_law 1231 = .ok (.iconst 2, 1) := dk_5 (dk_at dksL_law_46 18 rfl rfl)
theorem dL_law_1232 : decode cL_law 1232 = .ok (.iadd, 1) := dk_96 (dk_at dksL_law_46 19 rfl rfl)
theorem dL_law_1233 : decode cL_law 1233 = .ok (.iaload, 1) := dk_46 (dk_at dksL_law_46 20 rfl rfl)
theorem dL_law_1234 : decode cL_law 1234 = .ok (.aload_n 3, 1) := dk_45 (dk_at dksL_law_46 21 rfl rfl)
theorem dL_law_1235 : decode cL_law 1235 = .ok (.invokestatic 141, 3) := dk_184 0 141 (dk_at dksL_law_47 0 rfl rfl)
theorem dL_law_1238 : decode cL_law 1238 = .ok (.istore 5, 2) := dk_54 5 (dk_at dksL_law_47 3 rfl rfl)
theorem dL_law_1240 : decode cL_law 1240 = .ok (.aload_n 2, 1) := dk_44 (dk_at dksL_law_47 5 rfl rfl)
theorem dL_law_1241 : decode cL_law 1241 = .ok (.aload_n 0, 1) := dk_42 (dk_at dksL_law_47 6 rfl rfl)
theorem dL_law_1242 : decode cL_law 1242 = .ok (.iload 4, 2) := dk_21 4 (dk_at dksL_law_47 7 rfl rfl)
theorem dL_law_1244 : decode cL_law 1244 = .ok (.iconst 1, 1) := dk_4 (dk_at dksL_law_47 9 rfl rfl)
theorem dL_law_1245 : decode cL_law 1245 = .ok (.iadd, 1) := dk_96 (dk_at dksL_law_47 10 rfl rfl)
theorem dL_law_1246 : decode cL_law 1246 = .ok (.iaload, 1) := dk_46 (dk_at dksL_law_47 11 rfl rfl)
theorem dL_law_1247 : decode cL_law 1247 = .ok (.aload_n 0, 1) := dk_42 (dk_at dksL_law_47 12 rfl rfl)
theorem dL_law_1248 : decode cL_law 1248 = .ok (.iload 4, 2) := dk_21 4 (dk_at dksL_law_47 13 rfl rfl)
theorem dL_law_1250 : decode cL_law 1250 = .ok (.iconst 2, 1) := dk_5 (dk_at dksL_law_47 15 rfl rfl)
theorem dL_law_1251 : decode cL_law 1251 = .ok (.iadd, 1) := dk_96 (dk_at dksL_law_47 16 rfl rfl)
theorem dL_law_1252 : decode cL_law 1252 = .ok (.iaload, 1) := dk_46 (dk_at dksL_law_47 17 rfl rfl)
theorem dL_law_1253 : decode cL_law 1253 = .ok (.invokevirtual 143, 3) := dk_182 0 143 (dk_at dksL_law_47 18 rfl rfl)
theorem dL_law_1256 : decode cL_law 1256 = .ok (.istore 6, 2) := dk_54 6 (dk_at dksL_law_47 21 rfl rfl)
theorem dL_law_1258 : decode cL_law 1258 = .ok (.aload_n 2, 1) := dk_44 (dk_at dksL_law_47 23 rfl rfl)
theorem dL_law_1259 : decode cL_law 1259 = .ok (.invokevirtual 94, 3) := dk_182 0 94 (dk_at dksL_law_48 0 rfl rfl)
theorem dL_law_1262 : decode cL_law 1262 = .ok (.iload 5, 2) := dk_21 5 (dk_at dksL_law_48 3 rfl rfl)
theorem dL_law_1264 : decode cL_law 1264 = .ok (.if_icmp .eq 5, 3) := dk_159 0 5 (dk_at dksL_law_48 5 rfl rfl)
theorem dL_law_1267 : decode cL_law 1267 = .ok (.iconst 0, 1) := dk_3 (dk_at dksL_law_48 8 rfl rfl)
theorem dL_law_1268 : decode cL_law 1268 = .ok (.ireturn, 1) := dk_172 (dk_at dksL_law_48 9 rfl rfl)
theorem dL_law_1269 : decode cL_law 1269 = .ok (.iload 5, 2) := dk_21 5 (dk_at dksL_law_48 10 rfl rfl)
theorem dL_law_1271 : decode cL_law 1271 = .ok (.ifCond .ne 15, 3) := dk_154 0 15 (dk_at dksL_law_48 12 rfl rfl)
theorem dL_law_1274 : decode cL_law 1274 = .ok (.aload_n 3, 1) := dk_45 (dk_at dksL_law_48 15 rfl rfl)
theorem dL_law_1275 : decode cL_law 1275 = .ok (.iconst 0, 1) := dk_3 (dk_at dksL_law_48 16 rfl rfl)
theorem dL_law_1276 : decode cL_law 1276 = .ok (.laload, 1) := dk_47 (dk_at dksL_law_48 17 rfl rfl)
theorem dL_law_1277 : decode cL_law 1277 = .ok (.iload 6, 2) := dk_21 6 (dk_at dksL_law_48 18 rfl rfl)
theorem dL_law_1279 : decode cL_law 1279 = .ok (.i2l, 1) := dk_133 (dk_at dksL_law_48 20 rfl rfl)
theorem dL_law_1280 : decode cL_law 1280 = .ok (.lcmp, 1) := dk_148 (dk_at dksL_law_48 21 rfl rfl)
theorem dL_law_1281 : decode cL_law 1281 = .ok (.ifCond .eq 5, 3) := dk_153 0 5 (dk_at dksL_law_49 0 rfl rfl)
theorem dL_law_1284 : decode cL_law 1284 = .ok (.iconst 0, 1) := dk_3 (dk_at dksL_law_49 3 rfl rfl)
theorem dL_law_1285 : decode cL_law 1285 = .ok (.ireturn, 1) := dk_172 (dk_at dksL_law_49 4 rfl rfl)
theorem dL_law_1286 : decode cL_law 1286 = .ok (.goto 705, 3) := dk_167 2 193 (dk_at dksL_law_49 5 rfl rfl)
theorem dL_law_1289 : decode cL_law 1289 = .ok (.aload_n 1, 1) := dk_43 (dk_at dksL_law_49 8 rfl rfl)
theorem dL_law_1290 : decode cL_law 1290 = .ok (.aload_n 0, 1) := dk_42 (dk_at dksL_law_49 9 rfl rfl)
theorem dL_law_1291 : decode cL_law 1291 = .ok (.iload 4, 2) := dk_21 4 (dk_at dksL_law_49 10 rfl rfl)
theorem dL_law_1293 : decode cL_law 1293 = .ok (.iconst 1, 1) := dk_4 (dk_at dksL_law_49 12 rfl rfl)
theorem dL_law_1294 : decode cL_law 1294 = .ok (.iadd, 1) := dk_96 (dk_at dksL_law_49 13 rfl rfl)
theorem dL_law_1295 : decode cL_law 1295 = .ok (.iaload, 1) := dk_46 (dk_at dksL_law_49 14 rfl rfl)
theorem dL_law_1296 : decode cL_law 1296 = .ok (.aload_n 3, 1) := dk_45 (dk_at dksL_law_49 15 rfl rfl)
theorem dL_law_1297 : decode cL_law 1297 = .ok (.invokestatic 144, 3) := dk_184 0 144 (dk_at dksL_law_49 16 rfl rfl)
theorem dL_law_1300 : decode cL_law 1300 = .ok (.istore 5, 2) := dk_54 5 (dk_at dksL_law_49 19 rfl rfl)
theorem dL_law_1302 : decode cL_law 1302 = .ok (.aload_n 2, 1) := dk_44 (dk_at dksL_law_49 21 rfl rfl)
theorem dL_law_1303 : decode cL_law 1303 = .ok (.aload_n 0, 1) := dk_42 (dk_at dksL_law_49 22 rfl rfl)
theorem dL_law_1304 : decode cL_law 1304 = .ok (.iload 4, 2) := dk_21 4 (dk_at dksL_law_50 0 rfl rfl)
theorem dL_law_1306 : decode cL_law 1306 = .ok (.iconst 1, 1) := dk_4 (dk_at dksL_law_50 2 rfl rfl)
theorem dL_law_1307 : decode cL_law 1307 = .ok (.iadd, 1) := dk_96 (dk_at dksL_law_50 3 rfl rfl)
theorem dL_law_1308 : decode cL_law 1308 = .ok (.iaload, 1) := dk_46 (dk_at dksL_law_50 4 rfl rfl)
theorem dL_law_1309 : decode cL_law 1309 = .ok (.invokevirtual 146, 3) := dk_182 0 146 (dk_at dksL_law_50 5 rfl rfl)
theorem dL_law_1312 : decode cL_law 1312 = .ok (.istore 6, 2) := dk_54 6 (dk_at dksL_law_50 8 rfl rfl)
theorem dL_law_1314 : decode cL_law 1314 = .ok (.aload_n 2, 1) := dk_44 (dk_at dksL_law_50 10 rfl rfl)
theorem dL_law_1315 : decode cL_law 1315 = .ok (.invokevirtual 94, 3) := dk_182 0 94 (dk_at dksL_law_50 11 rfl rfl)
theorem dL_law_1318 : decode cL_law 1318 = .ok (.iload 5, 2) := dk_21 5 (dk_at dksL_law_50 14 rfl rfl)
theorem dL_law_1320 : decode cL_law 1320 = .ok (.if_icmp .eq 5, 3) := dk_159 0 5 (dk_at dksL_law_50 16 rfl rfl)
theorem dL_law_1323 : decode cL_law 1323 = .ok (.iconst 0, 1) := dk_3 (dk_at dksL_law_50 19 rfl rfl)
theorem dL_law_1324 : decode cL_law 1324 = .ok (.ireturn, 1) := dk_172 (dk_at dksL_law_50 20 rfl rfl)
theorem dL_law_1325 : decode cL_law 1325 = .ok (.iload 5, 2) := dk_21 5 (dk_at dksL_law_50 21 rfl rfl)
theorem dL_law_1327 : decode cL_law 1327 = .ok (.ifCond .ne 22, 3) := dk_154 0 22 (dk_at dksL_law_51 0 rfl rfl)
theorem dL_law_1330 : decode cL_law 1330 = .ok (.aload_n 3, 1) := dk_45 (dk_at dksL_law_51 3 rfl rfl)
theorem dL_law_1331 : decode cL_law 1331 = .ok (.iconst 0, 1) := dk_3 (dk_at dksL_law_51 4 rfl rfl)
theorem dL_law_1332 : decode cL_law 1332 = .ok (.laload, 1) := dk_47 (dk_at dksL_law_51 5 rfl rfl)
theorem dL_law_1333 : decode cL_law 1333 = .ok (.iload 6, 2) := dk_21 6 (dk_at dksL_law_51 6 rfl rfl)
theorem dL_law_1335 : decode cL_law 1335 = .ok (.ifCond .eq 7, 3) := dk_153 0 7 (dk_at dksL_law_51 8 rfl rfl)
theorem dL_law_1338 : decode cL_law 1338 = .ok (.lconst 1, 1) := dk_10 (dk_at dksL_law_51 11 rfl rfl)
theorem dL_law_1339 : decode cL_law 1339 = .ok (.goto 4, 3) := dk_167 0 4 (dk_at dksL_law_51 12 rfl rfl)
theorem dL_law_1342 : decode cL_law 1342 = .ok (.lconst 0, 1) := dk_9 (dk_at dksL_law_51 15 rfl rfl)
theorem dL_law_1343 : decode cL_law 1343 = .ok (.lcmp, 1) := dk_148 (dk_at dksL_law_51 16 rfl rfl)
theorem dL_law_1344 : decode cL_law 1344 = .ok (.ifCond .eq 5, 3) := dk_153 0 5 (dk_at dksL_law_51 17 rfl rfl)
theorem dL_law_1347 : decode cL_law 1347 = .ok (.iconst 0, 1) := dk_3 (dk_at dksL_law_51 20 rfl rfl)
theorem dL_law_1348 : decode cL_law 1348 = .ok (.ireturn, 1) := dk_172 (dk_at dksL_law_51 21 rfl rfl)
theorem dL_law_1349 : decode cL_law 1349 = .ok (.goto 642, 3) := dk_167 2 130 (dk_at dksL_law_52 0 rfl rfl)
theorem dL_law_1352 : decode cL_law 1352 = .ok (.aload_n 1, 1) := dk_43 (dk_at dksL_law_52 3 rfl rfl)
theorem dL_law_1353 : decode cL_law 1353 = .ok (.invokevirtual 147, 3) := dk_182 0 147 (dk_at dksL_law_52 4 rfl rfl)
theorem dL_law_1356 : decode cL_law 1356 = .ok (.aload_n 2, 1) := dk_44 (dk_at dksL_law_52 7 rfl rfl)
theorem dL_law_1357 : decode cL_law 1357 = .ok (.invokevirtual 150, 3) := dk_182 0 150 (dk_at dksL_law_52 8 rfl rfl)
theorem dL_law_1360 : decode cL_law 1360 = .ok (.if_icmp .eq 631, 3) := dk_159 2 119 (dk_at dksL_law_52 11 rfl rfl)
theorem dL_law_1363 : decode cL_law 1363 = .ok (.iconst 0, 1) := dk_3 (dk_at dksL_law_52 14 rfl rfl)
theorem dL_law_1364 : decode cL_law 1364 = .ok (.ireturn, 1) := dk_172 (dk_at dksL_law_52 15 rfl rfl)
theorem dL_law_1365 : decode cL_law 1365 = .ok (.aload_n 1, 1) := dk_43 (dk_at dksL_law_52 16 rfl rfl)
theorem dL_law_1366 : decode cL_law 1366 = .ok (.invokevirtual 151, 3) := dk_182 0 151 (dk_at dksL_law_52 17 rfl rfl)
theorem dL_law_1369 : decode cL_law 1369 = .ok (.aload_n 2, 1) := dk_44 (dk_at dksL_law_52 20 rfl rfl)
theorem dL_law_1370 : decode cL_law 1370 = .ok (.invokevirtual 154, 3) := dk_182 0 154 (dk_at dksL_law_52 21 rfl rfl)
theorem dL_law_1373 : decode cL_law 1373 = .ok (.if_icmp .eq 618, 3) := dk_159 2 106 (dk_at dksL_law_53 0 rfl rfl)
theorem dL_law_1376 : decode cL_law 1376 = .ok (.iconst 0, 1) := dk_3 (dk_at dksL_law_53 3 rfl rfl)
theorem dL_law_1377 : decode cL_law 1377 = .ok (.ireturn, 1) := dk_172 (dk_at dksL_law_53 4 rfl rfl)
theorem dL_law_1378 : decode cL_law 1378 = .ok (.aload_n 1, 1) := dk_43 (dk_at dksL_law_53 5 rfl rfl)
theorem dL_law_1379 : decode cL_law 1379 = .ok (.aload_n 0, 1) := dk_42 (dk_at dksL_law_53 6 rfl rfl)
theorem dL_law_1380 : decode cL_law 1380 = .ok (.iload 4, 2) := dk_21 4 (dk_at dksL_law_53 7 rfl rfl)
theorem dL_law_1382 : decode cL_law 1382 = .ok (.iconst 1, 1) := dk_4 (dk_at dksL_law_53 9 rfl rfl)
theorem dL_law_1383 : decode cL_law 1383 = .ok (.iadd, 1) := dk_96 (dk_at dksL_law_53 10 rfl rfl)
theorem dL_law_1384 : decode cL_law 1384 = .ok (.iaload, 1) := dk_46 (dk_at dksL_law_53 11 rfl rfl)
theorem dL_law_1385 : decode cL_law 1385 = .ok (.aload_n 3, 1) := dk_45 (dk_at dksL_law_53 12 rfl rfl)
theorem dL_law_1386 : decode cL_law 1386 = .ok (.invokestatic 155, 3) := dk_184 0 155 (dk_at dksL_law_53 13 rfl rfl)
theorem dL_law_1389 : decode cL_law 1389 = .ok (.istore 5, 2) := dk_54 5 (dk_at dksL_law_53 16 rfl rfl)
theorem dL_law_1391 : decode cL_law 1391 = .ok (.aload_n 2, 1) := dk_44 (dk_at dksL_law_53 18 rfl rfl)
theorem dL_law_1392 : decode cL_law 1392 = .ok (.aload_n 0, 1) := dk_42 (dk_at dksL_law_53 19 rfl rfl)
theorem dL_law_1393 : decode cL_law 1393 = .ok (.iload 4, 2) := dk_21 4 (dk_at dksL_law_53 20 rfl rfl)
theorem dL_law_1395 : decode cL_law 1395 = .ok (.iconst 1, 1) := dk_4 (dk_at dksL_law_53 22 rfl rfl)
theorem dL_law_1396 : decode cL_law 1396 = .ok (.iadd, 1) := dk_96 (dk_at dksL_law_53 23 rfl rfl)
theorem dL_law_1397 : decode cL_law 1397 = .ok (.iaload, 1) := dk_46 (dk_at dksL_law_54 0 rfl rfl)
theorem dL_law_1398 : decode cL_law 1398 = .ok (.invokevirtual 157, 3) := dk_182 0 157 (dk_at dksL_law_54 1 rfl rfl)
theorem dL_law_1401 : decode cL_law 1401 = .ok (.istore 6, 2) := dk_54 6 (dk_at dksL_law_54 4 rfl rfl)
theorem dL_law_1403 : decode cL_law 1403 = .ok (.aload_n 2, 1) := dk_44 (dk_at dksL_law_54 6 rfl rfl)
theorem dL_law_1404 : decode cL_law 1404 = .ok (.invokevirtual 94, 3) := dk_182 0 94 (dk_at dksL_law_54 7 rfl rfl)
theorem dL_law_1407 : decode cL_law 1407 = .ok (.iload 5, 2) := dk_21 5 (dk_at dksL_law_54 10 rfl rfl)
theorem dL_law_1409 : decode cL_law 1409 = .ok (.if_icmp .eq 5, 3) := dk_159 0 5 (dk_at dksL_law_54 12 rfl rfl)
theorem dL_law_1412 : decode cL_law 1412 = .ok (.iconst 0, 1) := dk_3 (dk_at dksL_law_54 15 rfl rfl)
theorem dL_law_1413 : decode cL_law 1413 = .ok (.ireturn, 1) := dk_172 (dk_at dksL_law_54 16 rfl rfl)
theorem dL_law_1414 : decode cL_law 1414 = .ok (.iload 5, 2) := dk_21 5 (dk_at dksL_law_54 17 rfl rfl)
theorem dL_law_1416 : decode cL_law 1416 = .ok (.ifCond .ne 15, 3) := dk_154 0 15 (dk_at dksL_law_54 19 rfl rfl)
theorem dL_law_1419 : decode cL_law 1419 = .ok (.aload_n 3, 1) := dk_45 (dk_at dksL_law_54 22 rfl rfl)
theorem dL_law_1420 : decode cL_law 1420 = .ok (.iconst 0, 1) := dk_3 (dk_at dksL_law_54 23 rfl rfl)
theorem dL_law_1421 : decode cL_law 1421 = .ok (.laload, 1) := dk_47 (dk_at dksL_law_55 0 rfl rfl)
theorem dL_law_1422 : decode cL_law 1422 = .ok (.iload 6, 2) := dk_21 6 (dk_at dksL_law_55 1 rfl rfl)
theorem dL_law_1424 : decode cL_law 1424 = .ok (.i2l, 1) := dk_133 (dk_at dksL_law_55 3 rfl rfl)
theorem dL_law_1425 : decode cL_law 1425 = .ok (.lcmp, 1) := dk_148 (dk_at dksL_law_55 4 rfl rfl)
theorem dL_law_1426 : decode cL_law 1426 = .ok (.ifCond .eq 5, 3) := dk_153 0 5 (dk_at dksL_law_55 5 rfl rfl)
theorem dL_law_1429 : decode cL_law 1429 = .ok (.iconst 0, 1) := dk_3 (dk_at dksL_law_55 8 rfl rfl)
theorem dL_law_1430 : decode cL_law 1430 = .ok (.ireturn, 1) := dk_172 (dk_at dksL_law_55 9 rfl rfl)
theorem dL_law_1431 : decode cL_law 1431 = .ok (.goto 560, 3) := dk_167 2 48 (dk_at dksL_law_55 10 rfl rfl)
theorem dL_law_1434 : decode cL_law 1434 = .ok (.aload_n 1, 1) := dk_43 (dk_at dksL_law_55 13 rfl rfl)
theorem dL_law_1435 : decode cL_law 1435 = .ok (.aload_n 0, 1) := dk_42 (dk_at dksL_law_55 14 rfl rfl)
theorem dL_law_1436 : decode cL_law 1436 = .ok (.iload 4, 2) := dk_21 4 (dk_at dksL_law_55 15 rfl rfl)
theorem dL_law_1438 : decode cL_law 1438 = .ok (.iconst 1, 1) := dk_4 (dk_at dksL_law_55 17 rfl rfl)
theorem dL_law_1439 : decode cL_law 1439 = .ok (.iadd, 1) := dk_96 (dk_at dksL_law_55 18 rfl rfl)
theorem dL_law_1440 : decode cL_law 1440 = .ok (.iaload, 1) := dk_46 (dk_at dksL_law_55 19 rfl rfl)
theorem dL_law_1441 : decode cL_law 1441 = .ok (.aload_n 3, 1) := dk_45 (dk_at dksL_law_55 20 rfl rfl)
theorem dL_law_1442 : decode cL_law 1442 = .ok (.invokestatic 158, 3) := dk_184 0 158 (dk_at dksL_law_55 21 rfl rfl)
theorem dL_law_1445 : decode cL_law 1445 = .ok (.istore 5, 2) := dk_54 5 (dk_at dksL_law_56 0 rfl rfl)
theorem dL_law_1447 : decode cL_law 1447 = .ok (.aload_n 2, 1) := dk_44 (dk_at dksL_law_56 2 rfl rfl)
theorem dL_law_1448 : decode cL_law 1448 = .ok (.aload_n 0, 1) := dk_42 (dk_at dksL_law_56 3 rfl rfl)
theorem dL_law_1449 : decode cL_law 1449 = .ok (.iload 4, 2) := dk_21 4 (dk_at dksL_law_56 4 rfl rfl)
theorem dL_law_1451 : decode cL_law 1451 = .ok (.iconst 1, 1) := dk_4 (dk_at dksL_law_56 6 rfl rfl)
theorem dL_law_1452 : decode cL_law 1452 = .ok (.iadd, 1) := dk_96 (dk_at dksL_law_56 7 rfl rfl)
theorem dL_law_1453 : decode cL_law 1453 = .ok (.iaload, 1) := dk_46 (dk_at dksL_law_56 8 rfl rfl)
theorem dL_law_1454 : decode cL_law 1454 = .ok (.invokevirtual 160, 3) := dk_182 0 160 (dk_at dksL_law_56 9 rfl rfl)
theorem dL_law_1457 : decode cL_law 1457 = .ok (.istore 6, 2) := dk_54 6 (dk_at dksL_law_56 12 rfl rfl)
theorem dL_law_1459 : decode cL_law 1459 = .ok (.aload_n 2, 1) := dk_44 (dk_at dksL_law_56 14 rfl rfl)
theorem dL_law_1460 : decode cL_law 1460 = .ok (.invokevirtual 94, 3) := dk_182 0 94 (dk_at dksL_law_56 15 rfl rfl)
theorem dL_law_1463 : decode cL_law 1463 = .ok (.iload 5, 2) := dk_21 5 (dk_at dksL_law_56 18 rfl rfl)
theorem dL_law_1465 : decode cL_law 1465 = .ok (.if_icmp .eq 5, 3) := dk_159 0 5 (dk_at dksL_law_56 20 rfl rfl)
theorem dL_law_1468 : decode cL_law 1468 = .ok (.iconst 0, 1) := dk_3 (dk_at dksL_law_56 23 rfl rfl)
theorem dL_law_1469 : decode cL_law 1469 = .ok (.ireturn, 1) := dk_172 (dk_at dksL_law_57 0 rfl rfl)
theorem dL_law_1470 : decode cL_law 1470 = .ok (.iload 5, 2) := dk_21 5 (dk_at dksL_law_57 1 rfl rfl)
theorem dL_law_1472 : decode cL_law 1472 = .ok (.ifCond .ne 15, 3) := dk_154 0 15 (dk_at dksL_law_57 3 rfl rfl)
theorem dL_law_1475 : decode cL_law 1475 = .ok (.aload_n 3, 1) := dk_45 (dk_at dksL_law_57 6 rfl rfl)
theorem dL_law_1476 : decode cL_law 1476 = .ok (.iconst 0, 1) := dk_3 (dk_at dksL_law_57 7 rfl rfl)
theorem dL_law_1477 : decode cL_law 1477 = .ok (.laload, 1) := dk_47 (dk_at dksL_law_57 8 rfl rfl)
theorem dL_law_1478 : decode cL_law 1478 = .ok (.iload 6, 2) := dk_21 6 (dk_at dksL_law_57 9 rfl rfl)
theorem dL_law_1480 : decode cL_law 1480 = .ok (.i2l, 1) := dk_133 (dk_at dksL_law_57 11 rfl rfl)
theorem dL_law_1481 : decode cL_law 1481 = .ok (.lcmp, 1) := dk_148 (dk_at dksL_law_57 12 rfl rfl)
theorem dL_law_1482 : decode cL_law 1482 = .ok (.ifCond .eq 5, 3) := dk_153 0 5 (dk_at dksL_law_57 13 rfl rfl)
theorem dL_law_1485 : decode cL_law 1485 = .ok (.iconst 0, 1) := dk_3 (dk_at dksL_law_57 16 rfl rfl)
theorem dL_law_1486 : decode cL_law 1486 = .ok (.ireturn, 1) := dk_172 (dk_at dksL_law_57 17 rfl rfl)
theorem dL_law_1487 : decode cL_law 1487 = .ok (.goto 504, 3) := dk_167 1 248 (dk_at dksL_law_57 18 rfl rfl)
theorem dL_law_1490 : decode cL_law 1490 = .ok (.aload_n 1, 1) := dk_43 (dk_at dksL_law_57 21 rfl rfl)
theorem dL_law_1491 : decode cL_law 1491 = .ok (.invokevirtual 161, 3) := dk_182 0 161 (dk_at dksL_law_58 0 rfl rfl)
theorem dL_law_1494 : decode cL_law 1494 = .ok (.aload_n 2, 1) := dk_44 (dk_at dksL_law_58 3 rfl rfl)
theorem dL_law_1495 : decode cL_law 1495 = .ok (.invokevirtual 164, 3) := dk_182 0 164 (dk_at dksL_law_58 4 rfl rfl)
theorem dL_law_1498 : decode cL_law 1498 = .ok (.if_icmp .eq 493, 3) := dk_159 1 237 (dk_at dksL_law_58 7 rfl rfl)
theorem dL_law_1501 : decode cL_law 1501 = .ok (.iconst 0, 1) := dk_3 (dk_at dksL_law_58 10 rfl rfl)
theorem dL_law_1502 : decode cL_law 1502 = .ok (.ireturn, 1) := dk_172 (dk_at dksL_law_58 11 rfl rfl)
theorem dL_law_1503 : decode cL_law 1503 = .ok (.aload_n 1, 1) := dk_43 (dk_at dksL_law_58 12 rfl rfl)
theorem dL_law_1504 : decode cL_law 1504 = .ok (.invokevirtual 165, 3) := dk_182 0 165 (dk_at dksL_law_58 13 rfl rfl)
theorem dL_law_1507 : decode cL_law 1507 = .ok (.aload_n 2, 1) := dk_44 (dk_at dksL_law_58 16 rfl rfl)
theorem dL_law_1508 : decode cL_law 1508 = .ok (.invokevirtual 168, 3) := dk_182 0 168 (dk_at dksL_law_58 17 rfl rfl)
theorem dL_law_1511 : decode cL_law 1511 = .ok (.if_icmp .eq 480, 3) := dk_159 1 224 (dk_at dksL_law_58 20 rfl rfl)
theorem dL_law_1514 : decode cL_law 1514 = .ok (.iconst 0, 1) := dk_3 (dk_at dksL_law_58 23 rfl rfl)
theorem dL_law_1515 : decode cL_law 1515 = .ok (.ireturn, 1) := dk_172 (dk_at dksL_law_59 0 rfl rfl)
theorem dL_law_1516 : decode cL_law 1516 = .ok (.aload_n 1, 1) := dk_43 (dk_at dksL_law_59 1 rfl rfl)
theorem dL_law_1517 : decode cL_law 1517 = .ok (.invokevirtual 169, 3) := dk_182 0 169 (dk_at dksL_law_59 2 rfl rfl)
theorem dL_law_1520 : decode cL_law 1520 = .ok (.dstore 5, 2) := dk_57 5 (dk_at dksL_law_59 5 rfl rfl)
theorem dL_law_1522 : decode cL_law 1522 = .ok (.aload_n 2, 1) := dk_44 (dk_at dksL_law_59 7 rfl rfl)
theorem dL_law_1523 : decode cL_law 1523 = .ok (.invokevirtual 173, 3) := dk_182 0 173 (dk_at dksL_law_59 8 rfl rfl)
theorem dL_law_1526 : decode cL_law 1526 = .ok (.dstore 7, 2) := dk_57 7 (dk_at dksL_law_59 11 rfl rfl)
theorem dL_law_1528 : decode cL_law 1528 = .ok (.dload 5, 2) := dk_24 5 (dk_at dksL_law_59 13 rfl rfl)
theorem dL_law_1530 : decode cL_law 1530 = .ok (.dload 7, 2) := dk_24 7 (dk_at dksL_law_59 15 rfl rfl)
theorem dL_law_1532 : decode cL_law 1532 = .ok (.dcmp .l, 1) := dk_151 (dk_at dksL_law_59 17 rfl rfl)
theorem dL_law_1533 : decode cL_law 1533 = .ok (.ifCond .eq 21, 3) := dk_153 0 21 (dk_at dksL_law_59 18 rfl rfl)
theorem dL_law_1536 : decode cL_law 1536 = .ok (.dload 5, 2) := dk_24 5 (dk_at dksL_law_59 21 rfl rfl)
theorem dL_law_1538 : decode cL_law 1538 = .ok (.dload 5, 2) := dk_24 5 (dk_at dksL_law_60 0 rfl rfl)
theorem dL_law_1540 : decode cL_law 1540 = .ok (.dcmp .l, 1) := dk_151 (dk_at dksL_law_60 2 rfl rfl)
theorem dL_law_1541 : decode cL_law 1541 = .ok (.ifCond .eq 11, 3) := dk_153 0 11 (dk_at dksL_law_60 3 rfl rfl)
theorem dL_law_1544 : decode cL_law 1544 = .ok (.dload 7, 2) := dk_24 7 (dk_at dksL_law_60 6 rfl rfl)
theorem dL_law_1546 : decode cL_law 1546 = .ok (.dload 7, 2) := dk_24 7 (dk_at dksL_law_60 8 rfl rfl)
theorem dL_law_1548 : decode cL_law 1548 = .ok (.dcmp .l, 1) := dk_151 (dk_at dksL_law_60 10 rfl rfl)
theorem dL_law_1549 : decode cL_law 1549 = .ok (.ifCond .ne 5, 3) := dk_154 0 5 (dk_at dksL_law_60 11 rfl rfl)
theorem dL_law_1552 : decode cL_law 1552 = .ok (.iconst 0, 1) := dk_3 (dk_at dksL_law_60 14 rfl rfl)
theorem dL_law_1553 : decode cL_law 1553 = .ok (.ireturn, 1) := dk_172 (dk_at dksL_law_60 15 rfl rfl)
theorem dL_law_1554 : decode cL_law 1554 = .ok (.goto 437, 3) := dk_167 1 181 (dk_at dksL_law_60 16 rfl rfl)
theorem dL_law_1557 : decode cL_law 1557 = .ok (.aload_n 1, 1) := dk_43 (dk_at dksL_law_60 19 rfl rfl)
theorem dL_law_1558 : decode cL_law 1558 = .ok (.invokevirtual 174, 3) := dk_182 0 174 (dk_at dksL_law_60 20 rfl rfl)
theorem dL_law_1561 : decode cL_law 1561 = .ok (.aload_n 2, 1) := dk_44 (dk_at dksL_law_60 23 rfl rfl)
theorem dL_law_1562 : decode cL_law 1562 = .ok (.invokevirtual 177, 3) := dk_182 0 177 (dk_at dksL_law_61 0 rfl rfl)
theorem dL_law_1565 : decode cL_law 1565 = .ok (.if_icmp .eq 426, 3) := dk_159 1 170 (dk_at dksL_law_61 3 rfl rfl)
theorem dL_law_1568 : decode cL_law 1568 = .ok (.iconst 0, 1) := dk_3 (dk_at dksL_law_61 6 rfl rfl)
theorem dL_law_1569 : decode cL_law 1569 = .ok (.ireturn, 1) := dk_172 (dk_at dksL_law_61 7 rfl rfl)
theorem dL_law_1570 : decode cL_law 1570 = .ok (.aload_n 1, 1) := dk_43 (dk_at dksL_law_61 8 rfl rfl)
theorem dL_law_1571 : decode cL_law 1571 = .ok (.invokevirtual 178, 3) := dk_182 0 178 (dk_at dksL_law_61 9 rfl rfl)
theorem dL_law_1574 : decode cL_law 1574 = .ok (.aload_n 2, 1) := dk_44 (dk_at dksL_law_61 12 rfl rfl)
theorem dL_law_1575 : decode cL_law 1575 = .ok (.invokevirtual 181, 3) := dk_182 0 181 (dk_at dksL_law_61 13 rfl rfl)
theorem dL_law_1578 : decode cL_law 1578 = .ok (.if_icmp .eq 413, 3) := dk_159 1 157 (dk_at dksL_law_61 16 rfl rfl)
theorem dL_law_1581 : decode cL_law 1581 = .ok (.iconst 0, 1) := dk_3 (dk_at dksL_law_61 19 rfl rfl)
theorem dL_law_1582 : decode cL_law 1582 = .ok (.ireturn, 1) := dk_172 (dk_at dksL_law_61 20 rfl rfl)
theorem dL_law_1583 : decode cL_law 1583 = .ok (.aload_n 1, 1) := dk_43 (dk_at dksL_law_61 21 rfl rfl)
theorem dL_law_1584 : decode cL_law 1584 = .ok (.invokevirtual 182, 3) := dk_182 0 182 (dk_at dksL_law_62 0 rfl rfl)
theorem dL_law_1587 : decode cL_law 1587 = .ok (.aload_n 2, 1) := dk_44 (dk_at dksL_law_62 3 rfl rfl)
theorem dL_law_1588 : decode cL_law 1588 = .ok (.invokevirtual 185, 3) := dk_182 0 185 (dk_at dksL_law_62 4 rfl rfl)
theorem dL_law_1591 : decode cL_law 1591 = .ok (.if_icmp .eq 400, 3) := dk_159 1 144 (dk_at dksL_law_62 7 rfl rfl)
theorem dL_law_1594 : decode cL_law 1594 = .ok (.iconst 0, 1) := dk_3 (dk_at dksL_law_62 10 rfl rfl)
theorem dL_law_1595 : decode cL_law 1595 = .ok (.ireturn, 1) := dk_172 (dk_at dksL_law_62 11 rfl rfl)
theorem dL_law_1596 : decode cL_law 1596 = .ok (.aload_n 1, 1) := dk_43 (dk_at dksL_law_62 12 rfl rfl)
theorem dL_law_1597 : decode cL_law 1597 = .ok (.aload_n 0, 1) := dk_42 (dk_at dksL_law_62 13 rfl rfl)
theorem dL_law_1598 : decode cL_law 1598 = .ok (.iload 4, 2) := dk_21 4 (dk_at dksL_law_62 14 rfl rfl)
theorem dL_law_1600 : decode cL_law 1600 = .ok (.iconst 1, 1) := dk_4 (dk_at dksL_law_62 16 rfl rfl)
theorem dL_law_1601 : decode cL_law 1601 = .ok (.iadd, 1) := dk_96 (dk_at dksL_law_62 17 rfl rfl)
theorem dL_law_1602 : decode cL_law 1602 = .ok (.iaload, 1) := dk_46 (dk_at dksL_law_62 18 rfl rfl)
theorem dL_law_1603 : decode cL_law 1603 = .ok (.aload_n 0, 1) := dk_42 (dk_at dksL_law_62 19 rfl rfl)
theorem dL_law_1604 : decode cL_law 1604 = .ok (.iload 4, 2) := dk_21 4 (dk_at dksL_law_62 20 rfl rfl)
theorem dL_law_1606 : decode cL_law 1606 = .ok (.iconst 2, 1) := dk_5 (dk_at dksL_law_62 22 rfl rfl)
theorem dL_law_1607 : decode cL_law 1607 = .ok (.iadd, 1) := dk_96 (dk_at dksL_law_62 23 rfl rfl)
theorem dL_law_1608 : decode cL_law 1608 = .ok (.iaload, 1) := dk_46 (dk_at dksL_law_63 0 rfl rfl)
theorem dL_law_1609 : decode cL_law 1609 = .ok (.aload_n 3, 1) := dk_45 (dk_at dksL_law_63 1 rfl rfl)
theorem dL_law_1610 : decode cL_law 1610 = .ok (.invokestatic 186, 3) := dk_184 0 186 (dk_at dksL_law_63 2 rfl rfl)
theorem dL_law_1613 : decode cL_law 1613 = .ok (.istore 5, 2) := dk_54 5 (dk_at dksL_law_63 5 rfl rfl)
theorem dL_law_1615 : decode cL_law 1615 = .ok (.aload_n 2, 1) := dk_44 (dk_at dksL_law_63 7 rfl rfl)
theorem dL_law_1616 : decode cL_law 1616 = .ok (.aload_n 0, 1) := dk_42 (dk_at dksL_law_63 8 rfl rfl)
theorem dL_law_1617 : decode cL_law 1617 = .ok (.iload 4, 2) := dk_21 4 (dk_at dksL_law_63 9 rfl rfl)
theorem dL_law_1619 : decode cL_law 1619 = .ok (.iconst 1, 1) := dk_4 (dk_at dksL_law_63 11 rfl rfl)
theorem dL_law_1620 : decode cL_law 1620 = .ok (.iadd, 1) := dk_96 (dk_at dksL_law_63 12 rfl rfl)
theorem dL_law_1621 : decode cL_law 1621 = .ok (.iaload, 1) := dk_46 (dk_at dksL_law_63 13 rfl rfl)
theorem dL_law_1622 : decode cL_law 1622 = .ok (.aload_n 0, 1) := dk_42 (dk_at dksL_law_63 14 rfl rfl)
theorem dL_law_1623 : decode cL_law 1623 = .ok (.iload 4, 2) := dk_21 4 (dk_at dksL_law_63 15 rfl rfl)
theorem dL_law_1625 : decode cL_law 1625 = .ok (.iconst 2, 1) := dk_5 (dk_at dksL_law_63 17 rfl rfl)
theorem dL_law_1626 : decode cL_law 1626 = .ok (.iadd, 1) := dk_96 (dk_at dksL_law_63 18 rfl rfl)
theorem dL_law_1627 : decode cL_law 1627 = .ok (.iaload, 1) := dk_46 (dk_at dksL_law_63 19 rfl rfl)
theorem dL_law_1628 : decode cL_law 1628 = .ok (.invokevirtual 188, 3) := dk_182 0 188 (dk_at dksL_law_63 20 rfl rfl)
theorem dL_law_1631 : decode cL_law 1631 = .ok (.istore 6, 2) := dk_54 6 (dk_at dksL_law_64 0 rfl rfl)
theorem dL_law_1633 : decode cL_law 1633 = .ok (.aload_n 2, 1) := dk_44 (dk_at dksL_law_64 2 rfl rfl)
theorem dL_law_1634 : decode cL_law 1634 = .ok (.invokevirtual 94, 3) := dk_182 0 94 (dk_at dksL_law_64 3 rfl rfl)
theorem dL_law_1637 : decode cL_law 1637 = .ok (.iload 5, 2) := dk_21 5 (dk_at dksL_law_64 6 rfl rfl)
theorem dL_law_1639 : decode cL_law 1639 = .ok (.if_icmp .eq 5, 3) := dk_159 0 5 (dk_at dksL_law_64 8 rfl rfl)
theorem dL_law_1642 : decode cL_law 1642 = .ok (.iconst 0, 1) := dk_3 (dk_at dksL_law_64 11 rfl rfl)
theorem dL_law_1643 : decode cL_law 1643 = .ok (.ireturn, 1) := dk_172 (dk_at dksL_law_64 12 rfl rfl)
theorem dL_law_1644 : decode cL_law 1644 = .ok (.iload 5, 2) := dk_21 5 (dk_at dksL_law_64 13 rfl rfl)
theorem dL_law_1646 : decode cL_law 1646 = .ok (.ifCond .ne 15, 3) := dk_154 0 15 (dk_at dksL_law_64 15 rfl rfl)
theorem dL_law_1649 : decode cL_law 1649 = .ok (.aload_n 3, 1) := dk_45 (dk_at dksL_law_64 18 rfl rfl)
theorem dL_law_1650 : decode cL_law 1650 = .ok (.iconst 0, 1) := dk_3 (dk_at dksL_law_64 19 rfl rfl)
theorem dL_law_1651 : decode cL_law 1651 = .ok (.laload, 1) := dk_47 (dk_at dksL_law_64 20 rfl rfl)
theorem dL_law_1652 : decode cL_law 1652 = .ok (.iload 6, 2) := dk_21 6 (dk_at dksL_law_64 21 rfl rfl)
theorem dL_law_1654 : decode cL_law 1654 = .ok (.i2l, 1) := dk_133 (dk_at dksL_law_64 23 rfl rfl)
theorem dL_law_1655 : decode cL_law 1655 = .ok (.lcmp, 1) := dk_148 (dk_at dksL_law_65 0 rfl rfl)
theorem dL_law_1656 : decode cL_law 1656 = .ok (.ifCond .eq 5, 3) := dk_153 0 5 (dk_at dksL_law_65 1 rfl rfl)
theorem dL_law_1659 : decode cL_law 1659 = .ok (.iconst 0, 1) := dk_3 (dk_at dksL_law_65 4 rfl rfl)
theorem dL_law_1660 : decode cL_law 1660 = .ok (.ireturn, 1) := dk_172 (dk_at dksL_law_65 5 rfl rfl)
theorem dL_law_1661 : decode cL_law 1661 = .ok (.goto 330, 3) := dk_167 1 74 (dk_at dksL_law_65 6 rfl rfl)
theorem dL_law_1664 : decode cL_law 1664 = .ok (.aload_n 1, 1) := dk_43 (dk_at dksL_law_65 9 rfl rfl)
theorem dL_law_1665 : decode cL_law 1665 = .ok (.invokevirtual 189, 3) := dk_182 0 189 (dk_at dksL_law_65 10 rfl rfl)
theorem dL_law_1668 : decode cL_law 1668 = .ok (.aload_n 2, 1) := dk_44 (dk_at dksL_law_65 13 rfl rfl)
theorem dL_law_1669 : decode cL_law 1669 = .ok (.invokevirtual 192, 3) := dk_182 0 192 (dk_at dksL_law_65 14 rfl rfl)
theorem dL_law_1672 : decode cL_law 1672 = .ok (.if_icmp .eq 319, 3) := dk_159 1 63 (dk_at dksL_law_65 17 rfl rfl)
theorem dL_law_1675 : decode cL_law 1675 = .ok (.iconst 0, 1) := dk_3 (dk_at dksL_law_65 20 rfl rfl)
theorem dL_law_1676 : decode cL_law 1676 = .ok (.ireturn, 1) := dk_172 (dk_at dksL_law_65 21 rfl rfl)
theorem dL_law_1677 : decode cL_law 1677 = .ok (.aload_n 1, 1) := dk_43 (dk_at dksL_law_65 22 rfl rfl)
theorem dL_law_1678 : decode cL_law 1678 = .ok (.invokevirtual 193, 3) := dk_182 0 193 (dk_at dksL_law_66 0 rfl rfl)
theorem dL_law_1681 : decode cL_law 1681 = .ok (.aload_n 2, 1) := dk_44 (dk_at dksL_law_66 3 rfl rfl)
theorem dL_law_1682 : decode cL_law 1682 = .ok (.invokevirtual 196, 3) := dk_182 0 196 (dk_at dksL_law_66 4 rfl rfl)
theorem dL_law_1685 : decode cL_law 1685 = .ok (.if_icmp .eq 306, 3) := dk_159 1 50 (dk_at dksL_law_66 7 rfl rfl)
theorem dL_law_1688 : decode cL_law 1688 = .ok (.iconst 0, 1) := dk_3 (dk_at dksL_law_66 10 rfl rfl)
theorem dL_law_1689 : decode cL_law 1689 = .ok (.ireturn, 1) := dk_172 (dk_at dksL_law_66 11 rfl rfl)
theorem dL_law_1690 : decode cL_law 1690 = .ok (.aload_n 1, 1) := dk_43 (dk_at dksL_law_66 12 rfl rfl)
theorem dL_law_1691 : decode cL_law 1691 = .ok (.invokevirtual 197, 3) := dk_182 0 197 (dk_at dksL_law_66 13 rfl rfl)
theorem dL_law_1694 : decode cL_law 1694 = .ok (.aload_n 2, 1) := dk_44 (dk_at dksL_law_66 16 rfl rfl)
theorem dL_law_1695 : decode cL_law 1695 = .ok (.invokevirtual 201, 3) := dk_182 0 201 (dk_at dksL_law_66 17 rfl rfl)
theorem dL_law_1698 : decode cL_law 1698 = .ok (.if_icmp .eq 293, 3) := dk_159 1 37 (dk_at dksL_law_66 20 rfl rfl)
theorem dL_law_1701 : decode cL_law 1701 = .ok (.iconst 0, 1) := dk_3 (dk_at dksL_law_66 23 rfl rfl)
theorem dL_law_1702 : decode cL_law 1702 = .ok (.ireturn, 1) := dk_172 (dk_at dksL_law_67 0 rfl rfl)
theorem dL_law_1703 : decode cL_law 1703 = .ok (.aload_n 1, 1) := dk_43 (dk_at dksL_law_67 1 rfl rfl)
theorem dL_law_1704 : decode cL_law 1704 = .ok (.invokevirtual 202, 3) := dk_182 0 202 (dk_at dksL_law_67 2 rfl rfl)
theorem dL_law_1707 : decode cL_law 1707 = .ok (.aload_n 2, 1) := dk_44 (dk_at dksL_law_67 5 rfl rfl)
theorem dL_law_1708 : decode cL_law 1708 = .ok (.invokevirtual 205, 3) := dk_182 0 205 (dk_at dksL_law_67 6 rfl rfl)
theorem dL_law_1711 : decode cL_law 1711 = .ok (.if_icmp .eq 280, 3) := dk_159 1 24 (dk_at dksL_law_67 9 rfl rfl)
theorem dL_law_1714 : decode cL_law 1714 = .ok (.iconst 0, 1) := dk_3 (dk_at dksL_law_67 12 rfl rfl)
theorem dL_law_1715 : decode cL_law 1715 = .ok (.ireturn, 1) := dk_172 (dk_at dksL_law_67 13 rfl rfl)
theorem dL_law_1716 : decode cL_law 1716 = .ok (.aload_n 1, 1) := dk_43 (dk_at dksL_law_67 14 rfl rfl)
theorem dL_law_1717 : decode cL_law 1717 = .ok (.aload_n 0, 1) := dk_42 (dk_at dksL_law_67 15 rfl rfl)
theorem dL_law_1718 : decode cL_law 1718 = .ok (.iload 4, 2) := dk_21 4 (dk_at dksL_law_67 16 rfl rfl)
theorem dL_law_1720 : decode cL_law 1720 = .ok (.iconst 1, 1) := dk_4 (dk_at dksL_law_67 18 rfl rfl)
theorem dL_law_1721 : decode cL_law 1721 = .ok (.iadd, 1) := dk_96 (dk_at dksL_law_67 19 rfl rfl)
theorem dL_law_1722 : decode cL_law 1722 = .ok (.iaload, 1) := dk_46 (dk_at dksL_law_67 20 rfl rfl)
theorem dL_law_1723 : decode cL_law 1723 = .ok (.aload_n 0, 1) := dk_42 (dk_at dksL_law_67 21 rfl rfl)
theorem dL_law_1724 : decode cL_law 1724 = .ok (.iload 4, 2) := dk_21 4 (dk_at dksL_law_67 22 rfl rfl)
theorem dL_law_1726 : decode cL_law 1726 = .ok (.iconst 2, 1) := dk_5 (dk_at dksL_law_68 0 rfl rfl)
theorem dL_law_1727 : decode cL_law 1727 = .ok (.iadd, 1) := dk_96 (dk_at dksL_law_68 1 rfl rfl)
theorem dL_law_1728 : decode cL_law 1728 = .ok (.iaload, 1) := dk_46 (dk_at dksL_law_68 2 rfl rfl)
theorem dL_law_1729 : decode cL_law 1729 = .ok (.aload_n 0, 1) := dk_42 (dk_at dksL_law_68 3 rfl rfl)
theorem dL_law_1730 : decode cL_law 1730 = .ok (.iload 4, 2) := dk_21 4 (dk_at dksL_law_68 4 rfl rfl)
theorem dL_law_1732 : decode cL_law 1732 = .ok (.iconst 3, 1) := dk_6 (dk_at dksL_law_68 6 rfl rfl)
theorem dL_law_1733 : decode cL_law 1733 = .ok (.iadd, 1) := dk_96 (dk_at dksL_law_68 7 rfl rfl)
theorem dL_law_1734 : decode cL_law 1734 = .ok (.iaload, 1) := dk_46 (dk_at dksL_law_68 8 rfl rfl)
theorem dL_law_1735 : decode cL_law 1735 = .ok (.aload_n 3, 1) := dk_45 (dk_at dksL_law_68 9 rfl rfl)
theorem dL_law_1736 : decode cL_law 1736 = .ok (.invokestatic 206, 3) := dk_184 0 206 (dk_at dksL_law_68 10 rfl rfl)
theorem dL_law_1739 : decode cL_law 1739 = .ok (.istore 5, 2) := dk_54 5 (dk_at dksL_law_68 13 rfl rfl)
theorem dL_law_1741 : decode cL_law 1741 = .ok (.aload_n 2, 1) := dk_44 (dk_at dksL_law_68 15 rfl rfl)
theorem dL_law_1742 : decode cL_law 1742 = .ok (.aload_n 0, 1) := dk_42 (dk_at dksL_law_68 16 rfl rfl)
theorem dL_law_1743 : decode cL_law 1743 = .ok (.iload 4, 2) := dk_21 4 (dk_at dksL_law_68 17 rfl rfl)
theorem dL_law_1745 : decode cL_law 1745 = .ok (.iconst 1, 1) := dk_4 (dk_at dksL_law_68 19 rfl rfl)
theorem dL_law_1746 : decode cL_law 1746 = .ok (.iadd, 1) := dk_96 (dk_at dksL_law_68 20 rfl rfl)
theorem dL_law_1747 : decode cL_law 1747 = .ok (.iaload, 1) := dk_46 (dk_at dksL_law_68 21 rfl rfl)
theorem dL_law_1748 : decode cL_law 1748 = .ok (.aload_n 0, 1) := dk_42 (dk_at dksL_law_68 22 rfl rfl)
theorem dL_law_1749 : decode cL_law 1749 = .ok (.iload 4, 2) := dk_21 4 (dk_at dksL_law_69 0 rfl rfl)
theorem dL_law_1751 : decode cL_law 1751 = .ok (.iconst 2, 1) := dk_5 (dk_at dksL_law_69 2 rfl rfl)
theorem dL_law_1752 : decode cL_law 1752 = .ok (.iadd, 1) := dk_96 (dk_at dksL_law_69 3 rfl rfl)
theorem dL_law_1753 : decode cL_law 1753 = .ok (.iaload, 1) := dk_46 (dk_at dksL_law_69 4 rfl rfl)
theorem dL_law_1754 : decode cL_law 1754 = .ok (.aload_n 0, 1) := dk_42 (dk_at dksL_law_69 5 rfl rfl)
theorem dL_law_1755 : decode cL_law 1755 = .ok (.iload 4, 2) := dk_21 4 (dk_at dksL_law_69 6 rfl rfl)
theorem dL_law_1757 : decode cL_law 1757 = .ok (.iconst 3, 1) := dk_6 (dk_at dksL_law_69 8 rfl rfl)
theorem dL_law_1758 : decode cL_law 1758 = .ok (.iadd, 1) := dk_96 (dk_at dksL_law_69 9 rfl rfl)
theorem dL_law_1759 : decode cL_law 1759 = .ok (.iaload, 1) := dk_46 (dk_at dksL_law_69 10 rfl rfl)
theorem dL_law_1760 : decode cL_law 1760 = .ok (.invokevirtual 208, 3) := dk_182 0 208 (dk_at dksL_law_69 11 rfl rfl)
theorem dL_law_1763 : decode cL_law 1763 = .ok (.istore 6, 2) := dk_54 6 (dk_at dksL_law_69 14 rfl rfl)
theorem dL_law_1765 : decode cL_law 1765 = .ok (.aload_n 2, 1) := dk_44 (dk_at dksL_law_69 16 rfl rfl)
theorem dL_law_1766 : decode cL_law 1766 = .ok (.invokevirtual 94, 3) := dk_182 0 94 (dk_at dksL_law_69 17 rfl rfl)
theorem dL_law_1769 : decode cL_law 1769 = .ok (.iload 5, 2) := dk_21 5 (dk_at dksL_law_69 20 rfl rfl)
theorem dL_law_1771 : decode cL_law 1771 = .ok (.if_icmp .eq 5, 3) := dk_159 0 5 (dk_at dksL_law_70 0 rfl rfl)
theorem dL_law_1774 : decode cL_law 1774 = .ok (.iconst 0, 1) := dk_3 (dk_at dksL_law_70 3 rfl rfl)
theorem dL_law_1775 : decode cL_law 1775 = .ok (.ireturn, 1) := dk_172 (dk_at dksL_law_70 4 rfl rfl)
theorem dL_law_1776 : decode cL_law 1776 = .ok (.iload 5, 2) := dk_21 5 (dk_at dksL_law_70 5 rfl rfl)
theorem dL_law_1778 : decode cL_law 1778 = .ok (.ifCond .ne 15, 3) := dk_154 0 15 (dk_at dksL_law_70 7 rfl rfl)
theorem dL_law_1781 : decode cL_law 1781 = .ok (.aload_n 3, 1) := dk_45 (dk_at dksL_law_70 10 rfl rfl)
theorem dL_law_1782 : decode cL_law 1782 = .ok (.iconst 0, 1) := dk_3 (dk_at dksL_law_70 11 rfl rfl)
theorem dL_law_1783 : decode cL_law 1783 = .ok (.laload, 1) := dk_47 (dk_at dksL_law_70 12 rfl rfl)
theorem dL_law_1784 : decode cL_law 1784 = .ok (.iload 6, 2) := dk_21 6 (dk_at dksL_law_70 13 rfl rfl)
theorem dL_law_1786 : decode cL_law 1786 = .ok (.i2l, 1) := dk_133 (dk_at dksL_law_70 15 rfl rfl)
theorem dL_law_1787 : decode cL_law 1787 = .ok (.lcmp, 1) := dk_148 (dk_at dksL_law_70 16 rfl rfl)
theorem dL_law_1788 : decode cL_law 1788 = .ok (.ifCond .eq 5, 3) := dk_153 0 5 (dk_at dksL_law_70 17 rfl rfl)
theorem dL_law_1791 : decode cL_law 1791 = .ok (.iconst 0, 1) := dk_3 (dk_at dksL_law_70 20 rfl rfl)
theorem dL_law_1792 : decode cL_law 1792 = .ok (.ireturn, 1) := dk_172 (dk_at dksL_law_70 21 rfl rfl)
theorem dL_law_1793 : decode cL_law 1793 = .ok (.goto 198, 3) := dk_167 0 198 (dk_at dksL_law_71 0 rfl rfl)
theorem dL_law_1796 : decode cL_law 1796 = .ok (.aload_n 1, 1) := dk_43 (dk_at dksL_law_71 3 rfl rfl)
theorem dL_law_1797 : decode cL_law 1797 = .ok (.aload_n 0, 1) := dk_42 (dk_at dksL_law_71 4 rfl rfl)
theorem dL_law_1798 : decode cL_law 1798 = .ok (.iload 4, 2) := dk_21 4 (dk_at dksL_law_71 5 rfl rfl)
theorem dL_law_1800 : decode cL_law 1800 = .ok (.iconst 1, 1) := dk_4 (dk_at dksL_law_71 7 rfl rfl)
theorem dL_law_1801 : decode cL_law 1801 = .ok (.iadd, 1) := dk_96 (dk_at dksL_law_71 8 rfl rfl)
theorem dL_law_1802 : decode cL_law 1802 = .ok (.iaload, 1) := dk_46 (dk_at dksL_law_71 9 rfl rfl)
theorem dL_law_1803 : decode cL_law 1803 = .ok (.aload_n 3, 1) := dk_45 (dk_at dksL_law_71 10 rfl rfl)
theorem dL_law_1804 : decode cL_law 1804 = .ok (.invokestatic 209, 3) := dk_184 0 209 (dk_at dksL_law_71 11 rfl rfl)
theorem dL_law_1807 : decode cL_law 1807 = .ok (.istore 5, 2) := dk_54 5 (dk_at dksL_law_71 14 rfl rfl)
theorem dL_law_1809 : decode cL_law 1809 = .ok (.aload_n 2, 1) := dk_44 (dk_at dksL_law_71 16 rfl rfl)
theorem dL_law_1810 : decode cL_law 1810 = .ok (.aload_n 0, 1) := dk_42 (dk_at dksL_law_71 17 rfl rfl)
theorem dL_law_1811 : decode cL_law 1811 = .ok (.iload 4, 2) := dk_21 4 (dk_at dksL_law_71 18 rfl rfl)
theorem dL_law_1813 : decode cL_law 1813 = .ok (.iconst 1, 1) := dk_4 (dk_at dksL_law_71 20 rfl rfl)
theorem dL_law_1814 : decode cL_law 1814 = .ok (.iadd, 1) := dk_96 (dk_at dksL_law_71 21 rfl rfl)
theorem dL_law_1815 : decode cL_law 1815 = .ok (.iaload, 1) := dk_46 (dk_at dksL_law_71 22 rfl rfl)
theorem dL_law_1816 : decode cL_law 1816 = .ok (.invokevirtual 211, 3) := dk_182 0 211 (dk_at dksL_law_72 0 rfl rfl)
theorem dL_law_1819 : decode cL_law 1819 = .ok (.istore 6, 2) := dk_54 6 (dk_at dksL_law_72 3 rfl rfl)
theorem dL_law_1821 : decode cL_law 1821 = .ok (.aload_n 2, 1) := dk_44 (dk_at dksL_law_72 5 rfl rfl)
theorem dL_law_1822 : decode cL_law 1822 = .ok (.invokevirtual 94, 3) := dk_182 0 94 (dk_at dksL_law_72 6 rfl rfl)
theorem dL_law_1825 : decode cL_law 1825 = .ok (.iload 5, 2) := dk_21 5 (dk_at dksL_law_72 9 rfl rfl)
theorem dL_law_1827 : decode cL_law 1827 = .ok (.if_icmp .eq 5, 3) := dk_159 0 5 (dk_at dksL_law_72 11 rfl rfl)
theorem dL_law_1830 : decode cL_law 1830 = .ok (.iconst 0, 1) := dk_3 (dk_at dksL_law_72 14 rfl rfl)
theorem dL_law_1831 : decode cL_law 1831 = .ok (.ireturn, 1) := dk_172 (dk_at dksL_law_72 15 rfl rfl)
theorem dL_law_1832 : decode cL_law 1832 = .ok (.iload 5, 2) := dk_21 5 (dk_at dksL_law_72 16 rfl rfl)
theorem dL_law_1834 : decode cL_law 1834 = .ok (.ifCond .ne 15, 3) := dk_154 0 15 (dk_at dksL_law_72 18 rfl rfl)
theorem dL_law_1837 : decode cL_law 1837 = .ok (.aload_n 3, 1) := dk_45 (dk_at dksL_law_72 21 rfl rfl)
theorem dL_law_1838 : decode cL_law 1838 = .ok (.iconst 0, 1) := dk_3 (dk_at dksL_law_72 22 rfl rfl)
theorem dL_law_1839 : decode cL_law 1839 = .ok (.laload, 1) := dk_47 (dk_at dksL_law_72 23 rfl rfl)
theorem dL_law_1840 : decode cL_law 1840 = .ok (.iload 6, 2) := dk_21 6 (dk_at dksL_law_73 0 rfl rfl)
theorem dL_law_1842 : decode cL_law 1842 = .ok (.i2l, 1) := dk_133 (dk_at dksL_law_73 2 rfl rfl)
theorem dL_law_1843 : decode cL_law 1843 = .ok (.lcmp, 1) := dk_148 (dk_at dksL_law_73 3 rfl rfl)
theorem dL_law_1844 : decode cL_law 1844 = .ok (.ifCond .eq 5, 3) := dk_153 0 5 (dk_at dksL_law_73 4 rfl rfl)
theorem dL_law_1847 : decode cL_law 1847 = .ok (.iconst 0, 1) := dk_3 (dk_at dksL_law_73 7 rfl rfl)
theorem dL_law_1848 : decode cL_law 1848 = .ok (.ireturn, 1) := dk_172 (dk_at dksL_law_73 8 rfl rfl)
theorem dL_law_1849 : decode cL_law 1849 = .ok (.goto 142, 3) := dk_167 0 142 (dk_at dksL_law_73 9 rfl rfl)
theorem dL_law_1852 : decode cL_law 1852 = .ok (.aload_n 1, 1) := dk_43 (dk_at dksL_law_73 12 rfl rfl)
theorem dL_law_1853 : decode cL_law 1853 = .ok (.aload_n 0, 1) := dk_42 (dk_at dksL_law_73 13 rfl rfl)
theorem dL_law_1854 : decode cL_law 1854 = .ok (.iload 4, 2) := dk_21 4 (dk_at dksL_law_73 14 rfl rfl)
theorem dL_law_1856 : decode cL_law 1856 = .ok (.iconst 1, 1) := dk_4 (dk_at dksL_law_73 16 rfl rfl)
theorem dL_law_1857 : decode cL_law 1857 = .ok (.iadd, 1) := dk_96 (dk_at dksL_law_73 17 rfl rfl)
theorem dL_law_1858 : decode cL_law 1858 = .ok (.iaload, 1) := dk_46 (dk_at dksL_law_73 18 rfl rfl)
theorem dL_law_1859 : decode cL_law 1859 = .ok (.aload_n 3, 1) := dk_45 (dk_at dksL_law_73 19 rfl rfl)
theorem dL_law_1860 : decode cL_law 1860 = .ok (.invokestatic 212, 3) := dk_184 0 212 (dk_at dksL_law_73 20 rfl rfl)
theorem dL_law_1863 : decode cL_law 1863 = .ok (.istore 5, 2) := dk_54 5 (dk_at dksL_law_74 0 rfl rfl)
theorem dL_law_1865 : decode cL_law 1865 = .ok (.aload_n 2, 1) := dk_44 (dk_at dksL_law_74 2 rfl rfl)
theorem dL_law_1866 : decode cL_law 1866 = .ok (.aload_n 0, 1) := dk_42 (dk_at dksL_law_74 3 rfl rfl)
theorem dL_law_1867 : decode cL_law 1867 = .ok (.iload 4, 2) := dk_21 4 (dk_at dksL_law_74 4 rfl rfl)
theorem dL_law_1869 : decode cL_law 1869 = .ok (.iconst 1, 1) := dk_4 (dk_at dksL_law_74 6 rfl rfl)
theorem dL_law_1870 : decode cL_law 1870 = .ok (.iadd, 1) := dk_96 (dk_at dksL_law_74 7 rfl rfl)
theorem dL_law_1871 : decode cL_law 1871 = .ok (.iaload, 1) := dk_46 (dk_at dksL_law_74 8 rfl rfl)
theorem dL_law_1872 : decode cL_law 1872 = .ok (.invokevirtual 214, 3) := dk_182 0 214 (dk_at dksL_law_74 9 rfl rfl)
theorem dL_law_1875 : decode cL_law 1875 = .ok (.istore 6, 2) := dk_54 6 (dk_at dksL_law_74 12 rfl rfl)
theorem dL_law_1877 : decode cL_law 1877 = .ok (.aload_n 2, 1) := dk_44 (dk_at dksL_law_74 14 rfl rfl)
theorem dL_law_1878 : decode cL_law 1878 = .ok (.invokevirtual 94, 3) := dk_182 0 94 (dk_at dksL_law_74 15 rfl rfl)
theorem dL_law_1881 : decode cL_law 1881 = .ok (.iload 5, 2) := dk_21 5 (dk_at dksL_law_74 18 rfl rfl)
theorem dL_law_1883 : decode cL_law 1883 = .ok (.if_icmp .eq 5, 3) := dk_159 0 5 (dk_at dksL_law_74 20 rfl rfl)
theorem dL_law_1886 : decode cL_law 1886 = .ok (.iconst 0, 1) := dk_3 (dk_at dksL_law_74 23 rfl rfl)
theorem dL_law_1887 : decode cL_law 1887 = .ok (.ireturn, 1) := dk_172 (dk_at dksL_law_75 0 rfl rfl)
theorem dL_law_1888 : decode cL_law 1888 = .ok (.iload 5, 2) := dk_21 5 (dk_at dksL_law_75 1 rfl rfl)
theorem dL_law_1890 : decode cL_law 1890 = .ok (.ifCond .ne 15, 3) := dk_154 0 15 (dk_at dksL_law_75 3 rfl rfl)
theorem dL_law_1893 : decode cL_law 1893 = .ok (.aload_n 3, 1) := dk_45 (dk_at dksL_law_75 6 rfl rfl)
theorem dL_law_1894 : decode cL_law 1894 = .ok (.iconst 0, 1) := dk_3 (dk_at dksL_law_75 7 rfl rfl)
theorem dL_law_1895 : decode cL_law 1895 = .ok (.laload, 1) := dk_47 (dk_at dksL_law_75 8 rfl rfl)
theorem dL_law_1896 : decode cL_law 1896 = .ok (.iload 6, 2) := dk_21 6 (dk_at dksL_law_75 9 rfl rfl)
theorem dL_law_1898 : decode cL_law 1898 = .ok (.i2l, 1) := dk_133 (dk_at dksL_law_75 11 rfl rfl)
theorem dL_law_1899 : decode cL_law 1899 = .ok (.lcmp, 1) := dk_148 (dk_at dksL_law_75 12 rfl rfl)
theorem dL_law_1900 : decode cL_law 1900 = .ok (.ifCond .eq 5, 3) := dk_153 0 5 (dk_at dksL_law_75 13 rfl rfl)
theorem dL_law_1903 : decode cL_law 1903 = .ok (.iconst 0, 1) := dk_3 (dk_at dksL_law_75 16 rfl rfl)
theorem dL_law_1904 : decode cL_law 1904 = .ok (.ireturn, 1) := dk_172 (dk_at dksL_law_75 17 rfl rfl)
theorem dL_law_1905 : decode cL_law 1905 = .ok (.goto 86, 3) := dk_167 0 86 (dk_at dksL_law_75 18 rfl rfl)
theorem dL_law_1908 : decode cL_law 1908 = .ok (.aload_n 1, 1) := dk_43 (dk_at dksL_law_75 21 rfl rfl)
theorem dL_law_1909 : decode cL_law 1909 = .ok (.aload_n 0, 1) := dk_42 (dk_at dksL_law_75 22 rfl rfl)
theorem dL_law_1910 : decode cL_law 1910 = .ok (.iload 4, 2) := dk_21 4 (dk_at dksL_law_76 0 rfl rfl)
theorem dL_law_1912 : decode cL_law 1912 = .ok (.iconst 1, 1) := dk_4 (dk_at dksL_law_76 2 rfl rfl)
theorem dL_law_1913 : decode cL_law 1913 = .ok (.iadd, 1) := dk_96 (dk_at dksL_law_76 3 rfl rfl)
theorem dL_law_1914 : decode cL_law 1914 = .ok (.iaload, 1) := dk_46 (dk_at dksL_law_76 4 rfl rfl)
theorem dL_law_1915 : decode cL_law 1915 = .ok (.aload_n 3, 1) := dk_45 (dk_at dksL_law_76 5 rfl rfl)
theorem dL_law_1916 : decode cL_law 1916 = .ok (.invokestatic 215, 3) := dk_184 0 215 (dk_at dksL_law_76 6 rfl rfl)
theorem dL_law_1919 : decode cL_law 1919 = .ok (.istore 5, 2) := dk_54 5 (dk_at dksL_law_76 9 rfl rfl)
theorem dL_law_1921 : decode cL_law 1921 = .ok (.aload_n 2, 1) := dk_44 (dk_at dksL_law_76 11 rfl rfl)
theorem dL_law_1922 : decode cL_law 1922 = .ok (.aload_n 0, 1) := dk_42 (dk_at dksL_law_76 12 rfl rfl)
theorem dL_law_1923 : decode cL_law 1923 = .ok (.iload 4, 2) := dk_21 4 (dk_at dksL_law_76 13 rfl rfl)
theorem dL_law_1925 : decode cL_law 1925 = .ok (.iconst 1, 1) := dk_4 (dk_at dksL_law_76 15 rfl rfl)
theorem dL_law_1926 : decode cL_law 1926 = .ok (.iadd, 1) := dk_96 (dk_at dksL_law_76 16 rfl rfl)
theorem dL_law_1927 : decode cL_law 1927 = .ok (.iaload, 1) := dk_46 (dk_at dksL_law_76 17 rfl rfl)
theorem dL_law_1928 : decode cL_law 1928 = .ok (.invokevirtual 217, 3) := dk_182 0 217 (dk_at dksL_law_76 18 rfl rfl)
theorem dL_law_1931 : decode cL_law 1931 = .ok (.istore 6, 2) := dk_54 6 (dk_at dksL_law_76 21 rfl rfl)
theorem dL_law_1933 : decode cL_law 1933 = .ok (.aload_n 2, 1) := dk_44 (dk_at dksL_law_76 23 rfl rfl)
theorem dL_law_1934 : decode cL_law 1934 = .ok (.invokevirtual 94, 3) := dk_182 0 94 (dk_at dksL_law_77 0 rfl rfl)
theorem dL_law_1937 : decode cL_law 1937 = .ok (.iload 5, 2) := dk_21 5 (dk_at dksL_law_77 3 rfl rfl)
theorem dL_law_1939 : decode cL_law 1939 = .ok (.if_icmp .eq 5, 3) := dk_159 0 5 (dk_at dksL_law_77 5 rfl rfl)
theorem dL_law_1942 : decode cL_law 1942 = .ok (.iconst 0, 1) := dk_3 (dk_at dksL_law_77 8 rfl rfl)
theorem dL_law_1943 : decode cL_law 1943 = .ok (.ireturn, 1) := dk_172 (dk_at dksL_law_77 9 rfl rfl)
theorem dL_law_1944 : decode cL_law 1944 = .ok (.iload 5, 2) := dk_21 5 (dk_at dksL_law_77 10 rfl rfl)
theorem dL_law_1946 : decode cL_law 1946 = .ok (.ifCond .ne 15, 3) := dk_154 0 15 (dk_at dksL_law_77 12 rfl rfl)
theorem dL_law_1949 : decode cL_law 1949 = .ok (.aload_n 3, 1) := dk_45 (dk_at dksL_law_77 15 rfl rfl)
theorem dL_law_1950 : decode cL_law 1950 = .ok (.iconst 0, 1) := dk_3 (dk_at dksL_law_77 16 rfl rfl)
theorem dL_law_1951 : decode cL_law 1951 = .ok (.laload, 1) := dk_47 (dk_at dksL_law_77 17 rfl rfl)
theorem dL_law_1952 : decode cL_law 1952 = .ok (.iload 6, 2) := dk_21 6 (dk_at dksL_law_77 18 rfl rfl)
theorem dL_law_1954 : decode cL_law 1954 = .ok (.i2l, 1) := dk_133 (dk_at dksL_law_77 20 rfl rfl)
theorem dL_law_1955 : decode cL_law 1955 = .ok (.lcmp, 1) := dk_148 (dk_at dksL_law_77 21 rfl rfl)
theorem dL_law_1956 : decode cL_law 1956 = .ok (.ifCond .eq 5, 3) := dk_153 0 5 (dk_at dksL_law_78 0 rfl rfl)
theorem dL_law_1959 : decode cL_law 1959 = .ok (.iconst 0, 1) := dk_3 (dk_at dksL_law_78 3 rfl rfl)
theorem dL_law_1960 : decode cL_law 1960 = .ok (.ireturn, 1) := dk_172 (dk_at dksL_law_78 4 rfl rfl)
theorem dL_law_1961 : decode cL_law 1961 = .ok (.goto 30, 3) := dk_167 0 30 (dk_at dksL_law_78 5 rfl rfl)
theorem dL_law_1964 : decode cL_law 1964 = .ok (.aload_n 1, 1) := dk_43 (dk_at dksL_law_78 8 rfl rfl)
theorem dL_law_1965 : decode cL_law 1965 = .ok (.invokevirtual 218, 3) := dk_182 0 218 (dk_at dksL_law_78 9 rfl rfl)
theorem dL_law_1968 : decode cL_law 1968 = .ok (.aload_n 2, 1) := dk_44 (dk_at dksL_law_78 12 rfl rfl)
theorem dL_law_1969 : decode cL_law 1969 = .ok (.invokevirtual 221, 3) := dk_182 0 221 (dk_at dksL_law_78 13 rfl rfl)
theorem dL_law_1972 : decode cL_law 1972 = .ok (.if_icmp .eq 19, 3) := dk_159 0 19 (dk_at dksL_law_78 16 rfl rfl)
theorem dL_law_1975 : decode cL_law 1975 = .ok (.iconst 0, 1) := dk_3 (dk_at dksL_law_78 19 rfl rfl)
theorem dL_law_1976 : decode cL_law 1976 = .ok (.ireturn, 1) := dk_172 (dk_at dksL_law_78 20 rfl rfl)
theorem dL_law_1977 : decode cL_law 1977 = .ok (.aload_n 1, 1) := dk_43 (dk_at dksL_law_78 21 rfl rfl)
theorem dL_law_1978 : decode cL_law 1978 = .ok (.invokevirtual 222, 3) := dk_182 0 222 (dk_at dksL_law_79 0 rfl rfl)
theorem dL_law_1981 : decode cL_law 1981 = .ok (.aload_n 2, 1) := dk_44 (dk_at dksL_law_79 3 rfl rfl)
theorem dL_law_1982 : decode cL_law 1982 = .ok (.invokevirtual 226, 3) := dk_182 0 226 (dk_at dksL_law_79 4 rfl rfl)
theorem dL_law_1985 : decode cL_law 1985 = .ok (.lcmp, 1) := dk_148 (dk_at dksL_law_79 7 rfl rfl)
theorem dL_law_1986 : decode cL_law 1986 = .ok (.ifCond .eq 5, 3) := dk_153 0 5 (dk_at dksL_law_79 8 rfl rfl)
theorem dL_law_1989 : decode cL_law 1989 = .ok (.iconst 0, 1) := dk_3 (dk_at dksL_law_79 11 rfl rfl)
theorem dL_law_1990 : decode cL_law 1990 = .ok (.ireturn, 1) := dk_172 (dk_at dksL_law_79 12 rfl rfl)
theorem dL_law_1991 : decode cL_law 1991 = .ok (.iinc 4 6, 3) := dk_132 4 6 (dk_at dksL_law_79 13 rfl rfl)
theorem dL_law_1994 : decode cL_law 1994 = .ok (.goto (-1971), 3) := dk_167 248 77 (dk_at dksL_law_79 16 rfl rfl)
theorem dL_law_1997 : decode cL_law 1997 = .ok (.iconst 1, 1) := dk_4 (dk_at dksL_law_79 19 rfl rfl)
theorem dL_law_1998 : decode cL_law 1998 = .ok (.ireturn, 1) := dk_172 (dk_at dksL_law_79 20 rfl rfl)
