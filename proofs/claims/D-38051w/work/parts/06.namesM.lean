/-! Melodeon -/
set_option maxRecDepth 100000
def RX1 : String := "Melodeon"
def TX1 : u_T := fun k => match k with
  | 0 => ("Melodeon", "drawn", "[I", true)
  | 1 => ("Melodeon", "instruments", "Ljava/util/ArrayList;", true)
  | 2 => ("Melodeon", "tracks", "Ljava/util/ArrayList;", true)
  | 3 => ("Melodeon", "tempo", "I", false)
  | 4 => ("Melodeon", "swing", "I", false)
  | 5 => ("Melodeon", "gain", "I", false)
  | 6 => ("Melodeon", "length", "I", false)
  | 7 => ("Melodeon", "wet", "I", false)
  | 8 => ("Melodeon", "back", "I", false)
  | 9 => ("Melodeon", "engine", "LMelodeon$Engine;", true)
  | 10 => ("Melodeon", "heard", "[I", true)
  | 11 => ("Melodeon", "counted", "I", false)
  | 12 => ("Melodeon", "peak", "I", false)
  | 13 => ("Melodeon", "loud", "J", false)
  | 14 => ("Melodeon", "clipped", "I", false)
  | 15 => ("Melodeon", "crossings", "I", false)
  | _ => ("Melodeon", "sum", "J", false)
def tyX1 : Nat → FieldType := fun k => match k with
  | 0 => .array .int
  | 1 => .object "java/util/ArrayList"
  | 2 => .object "java/util/ArrayList"
  | 3 => .int
  | 4 => .int
  | 5 => .int
  | 6 => .int
  | 7 => .int
  | 8 => .int
  | 9 => .object "Melodeon$Engine"
  | 10 => .array .int
  | 11 => .int
  | 12 => .int
  | 13 => .long
  | 14 => .int
  | 15 => .int
  | _ => .long
abbrev wsX10 : List Cond := u_ws RX1 TX1 17
set_option maxRecDepth 100000 in
theorem nmX1 : ∀ a, a < 17 → ∀ b, b < 17 → a ≠ b → (TX1 a).2.1 ≠ (TX1 b).2.1 := by decide +kernel
set_option maxRecDepth 100000 in
theorem tyX1_ok : ∀ k, k < 17 → parseFieldDescriptor (TX1 k).2.2.1 = some (tyX1 k) := by decide +kernel
abbrev cX1_init : ByteArray := prog_1_method_9_code
def yX1_init : MethodName := ⟨RX1, "<init>", "()V"⟩
def dkwX1_init_6 : List UInt8 := [183, 0, 113, 182, 0, 101, 87, 132, 1, 1, 167, 255, 230, 177]
abbrev dktX1_init_6 : List UInt8 := dkwX1_init_6 ++ []
def dkwX1_init_5 : List UInt8 := [132, 1, 1, 167, 255, 233, 3, 60, 27, 7, 162, 0, 27, 42, 180, 0, 35, 180, 0, 108, 187, 0, 111, 89]
abbrev dktX1_init_5 : List UInt8 := dkwX1_init_5 ++ dktX1_init_6
def dkwX1_init_4 : List UInt8 := [3, 60, 27, 6, 162, 0, 24, 42, 180, 0, 86, 187, 0, 105, 89, 183, 0, 107, 182, 0, 101, 87]
abbrev dktX1_init_4 : List UInt8 := dkwX1_init_4 ++ dktX1_init_5
def dkwX1_init_3 : List UInt8 := [162, 0, 24, 42, 180, 0, 82, 187, 0, 98, 89, 183, 0, 100, 182, 0, 101, 87, 132, 1, 1, 167, 255, 233]
abbrev dktX1_init_3 : List UInt8 := dkwX1_init_3 ++ dktX1_init_4
def dkwX1_init_2 : List UInt8 := [187, 0, 40, 89, 42, 183, 0, 95, 181, 0, 35, 42, 16, 64, 188, 10, 181, 0, 32, 3, 60, 27, 7]
abbrev dktX1_init_2 : List UInt8 := dkwX1_init_2 ++ dktX1_init_3
def dkwX1_init_1 : List UInt8 := [187, 0, 79, 89, 183, 0, 81, 181, 0, 86, 42, 16, 20, 181, 0, 89, 42, 16, 64, 181, 0, 92, 42]
abbrev dktX1_init_1 : List UInt8 := dkwX1_init_1 ++ dktX1_init_2
def dkwX1_init_0 : List UInt8 := [42, 183, 0, 76, 42, 16, 32, 188, 10, 181, 0, 25, 42, 187, 0, 79, 89, 183, 0, 81, 181, 0, 82, 42]
abbrev dktX1_init_0 : List UInt8 := dkwX1_init_0 ++ dktX1_init_1
theorem dksX1_init_0 : cX1_init.data.toList.drop 0 = dktX1_init_0 := by decide +kernel
theorem dksX1_init_1 : cX1_init.data.toList.drop 24 = dktX1_init_1 := dk_seg dksX1_init_0 24 rfl rfl
theorem dksX1_init_2 : cX1_init.data.toList.drop 47 = dktX1_init_2 := dk_seg dksX1_init_1 23 rfl rfl
theorem dksX1_init_3 : cX1_init.data.toList.drop 70 = dktX1_init_3 := dk_seg dksX1_init_2 23 rfl rfl
theorem dksX1_init_4 : cX1_init.data.toList.drop 94 = dktX1_init_4 := dk_seg dksX1_init_3 24 rfl rfl
theorem dksX1_init_5 : cX1_init.data.toList.drop 116 = dktX1_init_5 := dk_seg dksX1_init_4 22 rfl rfl
theorem dksX1_init_6 : cX1_init.data.toList.drop 140 = dktX1_init_6 := dk_seg dksX1_init_5 24 rfl rfl
theorem dX1_init_0 : decode cX1_init 0 = .ok (.aload_n 0, 1) := dk_42 (dk_at dksX1_init_0 0 rfl rfl)
theorem dX1_init_1 : decode cX1_init 1 = .ok (.invokespecial 76, 3) := dk_183 0 76 (dk_at dksX1_init_0 1 rfl rfl)
theorem dX1_init_4 : decode cX1_init 4 = .ok (.aload_n 0, 1) := dk_42 (dk_at dksX1_init_0 4 rfl rfl)
theorem dX1_init_5 : decode cX1_init 5 = .ok (.bipush 32, 2) := dk_16 32 (dk_at dksX1_init_0 5 rfl rfl)
theorem dX1_init_7 : decode cX1_init 7 = .ok (.newarray .int, 2) := dk_188_10 (dk_at dksX1_init_0 7 rfl rfl)
theorem dX1_init_9 : decode cX1_init 9 = .ok (.putfield 25, 3) := dk_181 0 25 (dk_at dksX1_init_0 9 rfl rfl)
theorem dX1_init_12 : decode cX1_init 12 = .ok (.aload_n 0, 1) := dk_42 (dk_at dksX1_init_0 12 rfl rfl)
theorem dX1_init_13 : decode cX1_init 13 = .ok (.new 79, 3) := dk_187 0 79 (dk_at dksX1_init_0 13 rfl rfl)
theorem dX1_init_16 : decode cX1_init 16 = .ok (.dup, 1) := dk_89 (dk_at dksX1_init_0 16 rfl rfl)
theorem dX1_init_17 : decode cX1_init 17 = .ok (.invokespecial 81, 3) := dk_183 0 81 (dk_at dksX1_init_0 17 rfl rfl)
theorem dX1_init_20 : decode cX1_init 20 = .ok (.putfield 82, 3) := dk_181 0 82 (dk_at dksX1_init_0 20 rfl rfl)
theorem dX1_init_23 : decode cX1_init 23 = .ok (.aload_n 0, 1) := dk_42 (dk_at dksX1_init_0 23 rfl rfl)
theorem dX1_init_24 : decode cX1_init 24 = .ok (.new 79, 3) := dk_187 0 79 (dk_at dksX1_init_1 0 rfl rfl)
theorem dX1_init_27 : decode cX1_init 27 = .ok (.dup, 1) := dk_89 (dk_at dksX1_init_1 3 rfl rfl)
theorem dX1_init_28 : decode cX1_init 28 = .ok (.invokespecial 81, 3) := dk_183 0 81 (dk_at dksX1_init_1 4 rfl rfl)
theorem dX1_init_31 : decode cX1_init 31 = .ok (.putfield 86, 3) := dk_181 0 86 (dk_at dksX1_init_1 7 rfl rfl)
theorem dX1_init_34 : decode cX1_init 34 = .ok (.aload_n 0, 1) := dk_42 (dk_at dksX1_init_1 10 rfl rfl)
theorem dX1_init_35 : decode cX1_init 35 = .ok (.bipush 20, 2) := dk_16 20 (dk_at dksX1_init_1 11 rfl rfl)
theorem dX1_init_37 : decode cX1_init 37 = .ok (.putfield 89, 3) := dk_181 0 89 (dk_at dksX1_init_1 13 rfl rfl)
theorem dX1_init_40 : decode cX1_init 40 = .ok (.aload_n 0, 1) := dk_42 (dk_at dksX1_init_1 16 rfl rfl)
theorem dX1_init_41 : decode cX1_init 41 = .ok (.bipush 64, 2) := dk_16 64 (dk_at dksX1_init_1 17 rfl rfl)
theorem dX1_init_43 : decode cX1_init 43 = .ok (.putfield 92, 3) := dk_181 0 92 (dk_at dksX1_init_1 19 rfl rfl)
theorem dX1_init_46 : decode cX1_init 46 = .ok (.aload_n 0, 1) := dk_42 (dk_at dksX1_init_1 22 rfl rfl)
theorem dX1_init_47 : decode cX1_init 47 = .ok (.new 40, 3) := dk_187 0 40 (dk_at dksX1_init_2 0 rfl rfl)
theorem dX1_init_50 : decode cX1_init 50 = .ok (.dup, 1) := dk_89 (dk_at dksX1_init_2 3 rfl rfl)
theorem dX1_init_51 : decode cX1_init 51 = .ok (.aload_n 0, 1) := dk_42 (dk_at dksX1_init_2 4 rfl rfl)
theorem dX1_init_52 : decode cX1_init 52 = .ok (.invokespecial 95, 3) := dk_183 0 95 (dk_at dksX1_init_2 5 rfl rfl)
theorem dX1_init_55 : decode cX1_init 55 = .ok (.putfield 35, 3) := dk_181 0 35 (dk_at dksX1_init_2 8 rfl rfl)
theorem dX1_init_58 : decode cX1_init 58 = .ok (.aload_n 0, 1) := dk_42 (dk_at dksX1_init_2 11 rfl rfl)
theorem dX1_init_59 : decode cX1_init 59 = .ok (.bipush 64, 2) := dk_16 64 (dk_at dksX1_init_2 12 rfl rfl)
theorem dX1_init_61 : decode cX1_init 61 = .ok (.newarray .int, 2) := dk_188_10 (dk_at dksX1_init_2 14 rfl rfl)
theorem dX1_init_63 : decode cX1_init 63 = .ok (.putfield 32, 3) := dk_181 0 32 (dk_at dksX1_init_2 16 rfl rfl)
theorem dX1_init_66 : decode cX1_init 66 = .ok (.iconst 0, 1) := dk_3 (dk_at dksX1_init_2 19 rfl rfl)
theorem dX1_init_67 : decode cX1_init 67 = .ok (.istore_n 1, 1) := dk_60 (dk_at dksX1_init_2 20 rfl rfl)
theorem dX1_init_68 : decode cX1_init 68 = .ok (.iload_n 1, 1) := dk_27 (dk_at dksX1_init_2 21 rfl rfl)
theorem dX1_init_69 : decode cX1_init 69 = .ok (.iconst 4, 1) := dk_7 (dk_at dksX1_init_2 22 rfl rfl)
theorem dX1_init_70 : decode cX1_init 70 = .ok (.if_icmp .ge 24, 3) := dk_162 0 24 (dk_at dksX1_init_3 0 rfl rfl)
theorem dX1_init_73 : decode cX1_init 73 = .ok (.aload_n 0, 1) := dk_42 (dk_at dksX1_init_3 3 rfl rfl)
theorem dX1_init_74 : decode cX1_init 74 = .ok (.getfield 82, 3) := dk_180 0 82 (dk_at dksX1_init_3 4 rfl rfl)
theorem dX1_init_77 : decode cX1_init 77 = .ok (.new 98, 3) := dk_187 0 98 (dk_at dksX1_init_3 7 rfl rfl)
theorem dX1_init_80 : decode cX1_init 80 = .ok (.dup, 1) := dk_89 (dk_at dksX1_init_3 10 rfl rfl)
theorem dX1_init_81 : decode cX1_init 81 = .ok (.invokespecial 100, 3) := dk_183 0 100 (dk_at dksX1_init_3 11 rfl rfl)
theorem dX1_init_84 : decode cX1_init 84 = .ok (.invokevirtual 101, 3) := dk_182 0 101 (dk_at dksX1_init_3 14 rfl rfl)
theorem dX1_init_87 : decode cX1_init 87 = .ok (.pop, 1) := dk_87 (dk_at dksX1_init_3 17 rfl rfl)
theorem dX1_init_88 : decode cX1_init 88 = .ok (.iinc 1 1, 3) := dk_132 1 1 (dk_at dksX1_init_3 18 rfl rfl)
theorem dX1_init_91 : decode cX1_init 91 = .ok (.goto (-23), 3) := dk_167 255 233 (dk_at dksX1_init_3 21 rfl rfl)
theorem dX1_init_94 : decode cX1_init 94 = .ok (.iconst 0, 1) := dk_3 (dk_at dksX1_init_4 0 rfl rfl)
theorem dX1_init_95 : decode cX1_init 95 = .ok (.istore_n 1, 1) := dk_60 (dk_at dksX1_init_4 1 rfl rfl)
theorem dX1_init_96 : decode cX1_init 96 = .ok (.iload_n 1, 1) := dk_27 (dk_at dksX1_init_4 2 rfl rfl)
theorem dX1_init_97 : decode cX1_init 97 = .ok (.iconst 3, 1) := dk_6 (dk_at dksX1_init_4 3 rfl rfl)
theorem dX1_init_98 : decode cX1_init 98 = .ok (.if_icmp .ge 24, 3) := dk_162 0 24 (dk_at dksX1_init_4 4 rfl rfl)
theorem dX1_init_101 : decode cX1_init 101 = .ok (.aload_n 0, 1) := dk_42 (dk_at dksX1_init_4 7 rfl rfl)
theorem dX1_init_102 : decode cX1_init 102 = .ok (.getfield 86, 3) := dk_180 0 86 (dk_at dksX1_init_4 8 rfl rfl)
theorem dX1_init_105 : decode cX1_init 105 = .ok (.new 105, 3) := dk_187 0 105 (dk_at dksX1_init_4 11 rfl rfl)
theorem dX1_init_108 : decode cX1_init 108 = .ok (.dup, 1) := dk_89 (dk_at dksX1_init_4 14 rfl rfl)
theorem dX1_init_109 : decode cX1_init 109 = .ok (.invokespecial 107, 3) := dk_183 0 107 (dk_at dksX1_init_4 15 rfl rfl)
theorem dX1_init_112 : decode cX1_init 112 = .ok (.invokevirtual 101, 3) := dk_182 0 101 (dk_at dksX1_init_4 18 rfl rfl)
theorem dX1_init_115 : decode cX1_init 115 = .ok (.pop, 1) := dk_87 (dk_at dksX1_init_4 21 rfl rfl)
theorem dX1_init_116 : decode cX1_init 116 = .ok (.iinc 1 1, 3) := dk_132 1 1 (dk_at dksX1_init_5 0 rfl rfl)
theorem dX1_init_119 : decode cX1_init 119 = .ok (.goto (-23), 3) := dk_167 255 233 (dk_at dksX1_init_5 3 rfl rfl)
theorem dX1_init_122 : decode cX1_init 122 = .ok (.iconst 0, 1) := dk_3 (dk_at dksX1_init_5 6 rfl rfl)
theorem dX1_init_123 : decode cX1_init 123 = .ok (.istore_n 1, 1) := dk_60 (dk_at dksX1_init_5 7 rfl rfl)
theorem dX1_init_124 : decode cX1_init 124 = .ok (.iload_n 1, 1) := dk_27 (dk_at dksX1_init_5 8 rfl rfl)
theorem dX1_init_125 : decode cX1_init 125 = .ok (.iconst 4, 1) := dk_7 (dk_at dksX1_init_5 9 rfl rfl)
theorem dX1_init_126 : decode cX1_init 126 = .ok (.if_icmp .ge 27, 3) := dk_162 0 27 (dk_at dksX1_init_5 10 rfl rfl)
theorem dX1_init_129 : decode cX1_init 129 = .ok (.aload_n 0, 1) := dk_42 (dk_at dksX1_init_5 13 rfl rfl)
theorem dX1_init_130 : decode cX1_init 130 = .ok (.getfield 35, 3) := dk_180 0 35 (dk_at dksX1_init_5 14 rfl rfl)
theorem dX1_init_133 : decode cX1_init 133 = .ok (.getfield 108, 3) := dk_180 0 108 (dk_at dksX1_init_5 17 rfl rfl)
theorem dX1_init_136 : decode cX1_init 136 = .ok (.new 111, 3) := dk_187 0 111 (dk_at dksX1_init_5 20 rfl rfl)
theorem dX1_init_139 : decode cX1_init 139 = .ok (.dup, 1) := dk_89 (dk_at dksX1_init_5 23 rfl rfl)
theorem dX1_init_140 : decode cX1_init 140 = .ok (.invokespecial 113, 3) := dk_183 0 113 (dk_at dksX1_init_6 0 rfl rfl)
theorem dX1_init_143 : decode cX1_init 143 = .ok (.invokevirtual 101, 3) := dk_182 0 101 (dk_at dksX1_init_6 3 rfl rfl)
theorem dX1_init_146 : decode cX1_init 146 = .ok (.pop, 1) := dk_87 (dk_at dksX1_init_6 6 rfl rfl)
theorem dX1_init_147 : decode cX1_init 147 = .ok (.iinc 1 1, 3) := dk_132 1 1 (dk_at dksX1_init_6 7 rfl rfl)
theorem dX1_init_150 : decode cX1_init 150 = .ok (.goto (-26), 3) := dk_167 255 230 (dk_at dksX1_init_6 10 rfl rfl)
theorem dX1_init_153 : decode cX1_init 153 = .ok (.return_, 1) := dk_177 (dk_at dksX1_init_6 13 rfl rfl)
abbrev cX1_hush : ByteArray := prog_1_method_24_code
def yX1_hush : MethodName := ⟨RX1, "hush", "()I"⟩
def dkwX1_hush_2 : List UInt8 := [132, 2, 1, 167, 255, 218, 27, 172]
abbrev dktX1_hush_2 : List UInt8 := dkwX1_hush_2 ++ []
def dkwX1_hush_1 : List UInt8 := [182, 0, 118, 192, 0, 111, 78, 45, 3, 181, 0, 196, 45, 3, 181, 0, 205, 45, 2, 181, 0, 208]
abbrev dktX1_hush_1 : List UInt8 := dkwX1_hush_1 ++ dktX1_hush_2
def dkwX1_hush_0 : List UInt8 := [42, 180, 0, 35, 182, 0, 202, 60, 3, 61, 28, 7, 162, 0, 39, 42, 180, 0, 35, 180, 0, 108, 28]
abbrev dktX1_hush_0 : List UInt8 := dkwX1_hush_0 ++ dktX1_hush_1
theorem dksX1_hush_0 : cX1_hush.data.toList.drop 0 = dktX1_hush_0 := by decide +kernel
theorem dksX1_hush_1 : cX1_hush.data.toList.drop 23 = dktX1_hush_1 := dk_seg dksX1_hush_0 23 rfl rfl
theorem dksX1_hush_2 : cX1_hush.data.toList.drop 45 = dktX1_hush_2 := dk_seg dksX1_hush_1 22 rfl rfl
theorem dX1_hush_0 : decode cX1_hush 0 = .ok (.aload_n 0, 1) := dk_42 (dk_at dksX1_hush_0 0 rfl rfl)
theorem dX1_hush_1 : decode cX1_hush 1 = .ok (.getfield 35, 3) := dk_180 0 35 (dk_at dksX1_hush_0 1 rfl rfl)
theorem dX1_hush_4 : decode cX1_hush 4 = .ok (.invokevirtual 202, 3) := dk_182 0 202 (dk_at dksX1_hush_0 4 rfl rfl)
theorem dX1_hush_7 : decode cX1_hush 7 = .ok (.istore_n 1, 1) := dk_60 (dk_at dksX1_hush_0 7 rfl rfl)
theorem dX1_hush_8 : decode cX1_hush 8 = .ok (.iconst 0, 1) := dk_3 (dk_at dksX1_hush_0 8 rfl rfl)
theorem dX1_hush_9 : decode cX1_hush 9 = .ok (.istore_n 2, 1) := dk_61 (dk_at dksX1_hush_0 9 rfl rfl)
theorem dX1_hush_10 : decode cX1_hush 10 = .ok (.iload_n 2, 1) := dk_28 (dk_at dksX1_hush_0 10 rfl rfl)
theorem dX1_hush_11 : decode cX1_hush 11 = .ok (.iconst 4, 1) := dk_7 (dk_at dksX1_hush_0 11 rfl rfl)
theorem dX1_hush_12 : decode cX1_hush 12 = .ok (.if_icmp .ge 39, 3) := dk_162 0 39 (dk_at dksX1_hush_0 12 rfl rfl)
theorem dX1_hush_15 : decode cX1_hush 15 = .ok (.aload_n 0, 1) := dk_42 (dk_at dksX1_hush_0 15 rfl rfl)
theorem dX1_hush_16 : decode cX1_hush 16 = .ok (.getfield 35, 3) := dk_180 0 35 (dk_at dksX1_hush_0 16 rfl rfl)
theorem dX1_hush_19 : decode cX1_hush 19 = .ok (.getfield 108, 3) := dk_180 0 108 (dk_at dksX1_hush_0 19 rfl rfl)
theorem dX1_hush_22 : decode cX1_hush 22 = .ok (.iload_n 2, 1) := dk_28 (dk_at dksX1_hush_0 22 rfl rfl)
theorem dX1_hush_23 : decode cX1_hush 23 = .ok (.invokevirtual 118, 3) := dk_182 0 118 (dk_at dksX1_hush_1 0 rfl rfl)
theorem dX1_hush_26 : decode cX1_hush 26 = .ok (.checkcast 111, 3) := dk_192 0 111 (dk_at dksX1_hush_1 3 rfl rfl)
theorem dX1_hush_29 : decode cX1_hush 29 = .ok (.astore_n 3, 1) := dk_78 (dk_at dksX1_hush_1 6 rfl rfl)
theorem dX1_hush_30 : decode cX1_hush 30 = .ok (.aload_n 3, 1) := dk_45 (dk_at dksX1_hush_1 7 rfl rfl)
theorem dX1_hush_31 : decode cX1_hush 31 = .ok (.iconst 0, 1) := dk_3 (dk_at dksX1_hush_1 8 rfl rfl)
theorem dX1_hush_32 : decode cX1_hush 32 = .ok (.putfield 196, 3) := dk_181 0 196 (dk_at dksX1_hush_1 9 rfl rfl)
theorem dX1_hush_35 : decode cX1_hush 35 = .ok (.aload_n 3, 1) := dk_45 (dk_at dksX1_hush_1 12 rfl rfl)
theorem dX1_hush_36 : decode cX1_hush 36 = .ok (.iconst 0, 1) := dk_3 (dk_at dksX1_hush_1 13 rfl rfl)
theorem dX1_hush_37 : decode cX1_hush 37 = .ok (.putfield 205, 3) := dk_181 0 205 (dk_at dksX1_hush_1 14 rfl rfl)
theorem dX1_hush_40 : decode cX1_hush 40 = .ok (.aload_n 3, 1) := dk_45 (dk_at dksX1_hush_1 17 rfl rfl)
theorem dX1_hush_41 : decode cX1_hush 41 = .ok (.iconst (-1), 1) := dk_2 (dk_at dksX1_hush_1 18 rfl rfl)
theorem dX1_hush_42 : decode cX1_hush 42 = .ok (.putfield 208, 3) := dk_181 0 208 (dk_at dksX1_hush_1 19 rfl rfl)
theorem dX1_hush_45 : decode cX1_hush 45 = .ok (.iinc 2 1, 3) := dk_132 2 1 (dk_at dksX1_hush_2 0 rfl rfl)
theorem dX1_hush_48 : decode cX1_hush 48 = .ok (.goto (-38), 3) := dk_167 255 218 (dk_at dksX1_hush_2 3 rfl rfl)
theorem dX1_hush_51 : decode cX1_hush 51 = .ok (.iload_n 1, 1) := dk_27 (dk_at dksX1_hush_2 6 rfl rfl)
theorem dX1_hush_52 : decode cX1_hush 52 = .ok (.ireturn, 1) := dk_172 (dk_at dksX1_hush_2 7 rfl rfl)
abbrev cX1_stop : ByteArray := prog_1_method_29_code
def yX1_stop : MethodName := ⟨RX1, "stop", "()I"⟩
def dkwX1_stop_0 : List UInt8 := [42, 182, 0, 237, 60, 42, 180, 0, 35, 3, 181, 0, 228, 27, 172]
abbrev dktX1_stop_0 : List UInt8 := dkwX1_stop_0 ++ []
theorem dksX1_stop_0 : cX1_stop.data.toList.drop 0 = dktX1_stop_0 := by decide +kernel
theorem dX1_stop_0 : decode cX1_stop 0 = .ok (.aload_n 0, 1) := dk_42 (dk_at dksX1_stop_0 0 rfl rfl)
theorem dX1_stop_1 : decode cX1_stop 1 = .ok (.invokevirtual 237, 3) := dk_182 0 237 (dk_at dksX1_stop_0 1 rfl rfl)
theorem dX1_stop_4 : decode cX1_stop 4 = .ok (.istore_n 1, 1) := dk_60 (dk_at dksX1_stop_0 4 rfl rfl)
theorem dX1_stop_5 : decode cX1_stop 5 = .ok (.aload_n 0, 1) := dk_42 (dk_at dksX1_stop_0 5 rfl rfl)
theorem dX1_stop_6 : decode cX1_stop 6 = .ok (.getfield 35, 3) := dk_180 0 35 (dk_at dksX1_stop_0 6 rfl rfl)
theorem dX1_stop_9 : decode cX1_stop 9 = .ok (.iconst 0, 1) := dk_3 (dk_at dksX1_stop_0 9 rfl rfl)
theorem dX1_stop_10 : decode cX1_stop 10 = .ok (.putfield 228, 3) := dk_181 0 228 (dk_at dksX1_stop_0 10 rfl rfl)
theorem dX1_stop_13 : decode cX1_stop 13 = .ok (.iload_n 1, 1) := dk_27 (dk_at dksX1_stop_0 13 rfl rfl)
theorem dX1_stop_14 : decode cX1_stop 14 = .ok (.ireturn, 1) := dk_172 (dk_at dksX1_stop_0 14 rfl rfl)
abbrev cX1_step : ByteArray := prog_1_method_43_code
def yX1_step : MethodName := ⟨RX1, "step", "()I"⟩
def dkwX1_step_0 : List UInt8 := [42, 180, 0, 35, 180, 0, 228, 153, 0, 13, 42, 180, 0, 35, 180, 0, 231, 167, 0, 4, 2, 172]
abbrev dktX1_step_0 : List UInt8 := dkwX1_step_0 ++ []
theorem dksX1_step_0 : cX1_step.data.toList.drop 0 = dktX1_step_0 := by decide +kernel
theorem dX1_step_0 : decode cX1_step 0 = .ok (.aload_n 0, 1) := dk_42 (dk_at dksX1_step_0 0 rfl rfl)
theorem dX1_step_1 : decode cX1_step 1 = .ok (.getfield 35, 3) := dk_180 0 35 (dk_at dksX1_step_0 1 rfl rfl)
theorem dX1_step_4 : decode cX1_step 4 = .ok (.getfield 228, 3) := dk_180 0 228 (dk_at dksX1_step_0 4 rfl rfl)
theorem dX1_step_7 : decode cX1_step 7 = .ok (.ifCond .eq 13, 3) := dk_153 0 13 (dk_at dksX1_step_0 7 rfl rfl)
theorem dX1_step_10 : decode cX1_step 10 = .ok (.aload_n 0, 1) := dk_42 (dk_at dksX1_step_0 10 rfl rfl)
theorem dX1_step_11 : decode cX1_step 11 = .ok (.getfield 35, 3) := dk_180 0 35 (dk_at dksX1_step_0 11 rfl rfl)
theorem dX1_step_14 : decode cX1_step 14 = .ok (.getfield 231, 3) := dk_180 0 231 (dk_at dksX1_step_0 14 rfl rfl)
theorem dX1_step_17 : decode cX1_step 17 = .ok (.goto 4, 3) := dk_167 0 4 (dk_at dksX1_step_0 17 rfl rfl)
theorem dX1_step_20 : decode cX1_step 20 = .ok (.iconst (-1), 1) := dk_2 (dk_at dksX1_step_0 20 rfl rfl)
theorem dX1_step_21 : decode cX1_step 21 = .ok (.ireturn, 1) := dk_172 (dk_at dksX1_step_0 21 rfl rfl)
abbrev cX1_sample : ByteArray := prog_1_method_30_code
def yX1_sample : MethodName := ⟨RX1, "sample", "()I"⟩
theorem dX1_sample_0 : decode cX1_sample 0 = .ok (.aload_n 0, 1) := by decide +kernel
theorem dX1_sample_1 : decode cX1_sample 1 = .ok (.invokevirtual 239, 3) := by decide +kernel
theorem dX1_sample_4 : decode cX1_sample 4 = .ok (.ireturn, 1) := by decide +kernel
abbrev cX1_make : ByteArray := prog_1_method_8_code
def yX1_make : MethodName := ⟨RX1, "make", "()I"⟩
def dkwX1_make_5 : List UInt8 := [181, 0, 73, 28, 172]
abbrev dktX1_make_5 : List UInt8 := dkwX1_make_5 ++ []
def dkwX1_make_4 : List UInt8 := [96, 181, 0, 66, 42, 89, 180, 0, 73, 28, 158, 0, 11, 27, 157, 0, 7, 4, 167, 0, 4, 3, 96]
abbrev dktX1_make_4 : List UInt8 := dkwX1_make_4 ++ dktX1_make_5
def dkwX1_make_3 : List UInt8 := [97, 181, 0, 62, 42, 89, 180, 0, 66, 42, 180, 0, 35, 180, 0, 69, 153, 0, 7, 4, 167, 0, 4, 3]
abbrev dktX1_make_3 : List UInt8 := dkwX1_make_3 ++ dktX1_make_4
def dkwX1_make_2 : List UInt8 := [42, 180, 0, 55, 28, 184, 0, 58, 184, 0, 22, 181, 0, 55, 42, 89, 180, 0, 62, 28, 184, 0, 58, 133]
abbrev dktX1_make_2 : List UInt8 := dkwX1_make_2 ++ dktX1_make_3
def dkwX1_make_1 : List UInt8 := [4, 16, 63, 184, 0, 45, 42, 180, 0, 32, 3, 28, 79, 42, 89, 180, 0, 51, 4, 96, 181, 0, 51, 42]
abbrev dktX1_make_1 : List UInt8 := dkwX1_make_1 ++ dktX1_make_2
def dkwX1_make_0 : List UInt8 := [42, 180, 0, 32, 3, 46, 60, 42, 180, 0, 35, 182, 0, 39, 61, 42, 180, 0, 32, 3, 42, 180, 0, 32]
abbrev dktX1_make_0 : List UInt8 := dkwX1_make_0 ++ dktX1_make_1
theorem dksX1_make_0 : cX1_make.data.toList.drop 0 = dktX1_make_0 := by decide +kernel
theorem dksX1_make_1 : cX1_make.data.toList.drop 24 = dktX1_make_1 := dk_seg dksX1_make_0 24 rfl rfl
theorem dksX1_make_2 : cX1_make.data.toList.drop 48 = dktX1_make_2 := dk_seg dksX1_make_1 24 rfl rfl
theorem dksX1_make_3 : cX1_make.data.toList.drop 72 = dktX1_make_3 := dk_seg dksX1_make_2 24 rfl rfl
theorem dksX1_make_4 : cX1_make.data.toList.drop 96 = dktX1_make_4 := dk_seg dksX1_make_3 24 rfl rfl
theorem dksX1_make_5 : cX1_make.data.toList.drop 119 = dktX1_make_5 := dk_seg dksX1_make_4 23 rfl rfl
theorem dX1_make_0 : decode cX1_make 0 = .ok (.aload_n 0, 1) := dk_42 (dk_at dksX1_make_0 0 rfl rfl)
theorem dX1_make_1 : decode cX1_make 1 = .ok (.getfield 32, 3) := dk_180 0 32 (dk_at dksX1_make_0 1 rfl rfl)
theorem dX1_make_4 : decode cX1_make 4 = .ok (.iconst 0, 1) := dk_3 (dk_at dksX1_make_0 4 rfl rfl)
theorem dX1_make_5 : decode cX1_make 5 = .ok (.iaload, 1) := dk_46 (dk_at dksX1_make_0 5 rfl rfl)
theorem dX1_make_6 : decode cX1_make 6 = .ok (.istore_n 1, 1) := dk_60 (dk_at dksX1_make_0 6 rfl rfl)
theorem dX1_make_7 : decode cX1_make 7 = .ok (.aload_n 0, 1) := dk_42 (dk_at dksX1_make_0 7 rfl rfl)
theorem dX1_make_8 : decode cX1_make 8 = .ok (.getfield 35, 3) := dk_180 0 35 (dk_at dksX1_make_0 8 rfl rfl)
theorem dX1_make_11 : decode cX1_make 11 = .ok (.invokevirtual 39, 3) := dk_182 0 39 (dk_at dksX1_make_0 11 rfl rfl)
theorem dX1_make_14 : decode cX1_make 14 = .ok (.istore_n 2, 1) := dk_61 (dk_at dksX1_make_0 14 rfl rfl)
theorem dX1_make_15 : decode cX1_make 15 = .ok (.aload_n 0, 1) := dk_42 (dk_at dksX1_make_0 15 rfl rfl)
theorem dX1_make_16 : decode cX1_make 16 = .ok (.getfield 32, 3) := dk_180 0 32 (dk_at dksX1_make_0 16 rfl rfl)
theorem dX1_make_19 : decode cX1_make 19 = .ok (.iconst 0, 1) := dk_3 (dk_at dksX1_make_0 19 rfl rfl)
theorem dX1_make_20 : decode cX1_make 20 = .ok (.aload_n 0, 1) := dk_42 (dk_at dksX1_make_0 20 rfl rfl)
theorem dX1_make_21 : decode cX1_make 21 = .ok (.getfield 32, 3) := dk_180 0 32 (dk_at dksX1_make_0 21 rfl rfl)
theorem dX1_make_24 : decode cX1_make 24 = .ok (.iconst 1, 1) := dk_4 (dk_at dksX1_make_1 0 rfl rfl)
theorem dX1_make_25 : decode cX1_make 25 = .ok (.bipush 63, 2) := dk_16 63 (dk_at dksX1_make_1 1 rfl rfl)
theorem dX1_make_27 : decode cX1_make 27 = .ok (.invokestatic 45, 3) := dk_184 0 45 (dk_at dksX1_make_1 3 rfl rfl)
theorem dX1_make_30 : decode cX1_make 30 = .ok (.aload_n 0, 1) := dk_42 (dk_at dksX1_make_1 6 rfl rfl)
theorem dX1_make_31 : decode cX1_make 31 = .ok (.getfield 32, 3) := dk_180 0 32 (dk_at dksX1_make_1 7 rfl rfl)
theorem dX1_make_34 : decode cX1_make 34 = .ok (.iconst 0, 1) := dk_3 (dk_at dksX1_make_1 10 rfl rfl)
theorem dX1_make_35 : decode cX1_make 35 = .ok (.iload_n 2, 1) := dk_28 (dk_at dksX1_make_1 11 rfl rfl)
theorem dX1_make_36 : decode cX1_make 36 = .ok (.iastore, 1) := dk_79 (dk_at dksX1_make_1 12 rfl rfl)
theorem dX1_make_37 : decode cX1_make 37 = .ok (.aload_n 0, 1) := dk_42 (dk_at dksX1_make_1 13 rfl rfl)
theorem dX1_make_38 : decode cX1_make 38 = .ok (.dup, 1) := dk_89 (dk_at dksX1_make_1 14 rfl rfl)
theorem dX1_make_39 : decode cX1_make 39 = .ok (.getfield 51, 3) := dk_180 0 51 (dk_at dksX1_make_1 15 rfl rfl)
theorem dX1_make_42 : decode cX1_make 42 = .ok (.iconst 1, 1) := dk_4 (dk_at dksX1_make_1 18 rfl rfl)
theorem dX1_make_43 : decode cX1_make 43 = .ok (.iadd, 1) := dk_96 (dk_at dksX1_make_1 19 rfl rfl)
theorem dX1_make_44 : decode cX1_make 44 = .ok (.putfield 51, 3) := dk_181 0 51 (dk_at dksX1_make_1 20 rfl rfl)
theorem dX1_make_47 : decode cX1_make 47 = .ok (.aload_n 0, 1) := dk_42 (dk_at dksX1_make_1 23 rfl rfl)
theorem dX1_make_48 : decode cX1_make 48 = .ok (.aload_n 0, 1) := dk_42 (dk_at dksX1_make_2 0 rfl rfl)
theorem dX1_make_49 : decode cX1_make 49 = .ok (.getfield 55, 3) := dk_180 0 55 (dk_at dksX1_make_2 1 rfl rfl)
theorem dX1_make_52 : decode cX1_make 52 = .ok (.iload_n 2, 1) := dk_28 (dk_at dksX1_make_2 4 rfl rfl)
theorem dX1_make_53 : decode cX1_make 53 = .ok (.invokestatic 58, 3) := dk_184 0 58 (dk_at dksX1_make_2 5 rfl rfl)
theorem dX1_make_56 : decode cX1_make 56 = .ok (.invokestatic 22, 3) := dk_184 0 22 (dk_at dksX1_make_2 8 rfl rfl)
theorem dX1_make_59 : decode cX1_make 59 = .ok (.putfield 55, 3) := dk_181 0 55 (dk_at dksX1_make_2 11 rfl rfl)
theorem dX1_make_62 : decode cX1_make 62 = .ok (.aload_n 0, 1) := dk_42 (dk_at dksX1_make_2 14 rfl rfl)
theorem dX1_make_63 : decode cX1_make 63 = .ok (.dup, 1) := dk_89 (dk_at dksX1_make_2 15 rfl rfl)
theorem dX1_make_64 : decode cX1_make 64 = .ok (.getfield 62, 3) := dk_180 0 62 (dk_at dksX1_make_2 16 rfl rfl)
theorem dX1_make_67 : decode cX1_make 67 = .ok (.iload_n 2, 1) := dk_28 (dk_at dksX1_make_2 19 rfl rfl)
theorem dX1_make_68 : decode cX1_make 68 = .ok (.invokestatic 58, 3) := dk_184 0 58 (dk_at dksX1_make_2 20 rfl rfl)
theorem dX1_make_71 : decode cX1_make 71 = .ok (.i2l, 1) := dk_133 (dk_at dksX1_make_2 23 rfl rfl)
theorem dX1_make_72 : decode cX1_make 72 = .ok (.ladd, 1) := dk_97 (dk_at dksX1_make_3 0 rfl rfl)
theorem dX1_make_73 : decode cX1_make 73 = .ok (.putfield 62, 3) := dk_181 0 62 (dk_at dksX1_make_3 1 rfl rfl)
theorem dX1_make_76 : decode cX1_make 76 = .ok (.aload_n 0, 1) := dk_42 (dk_at dksX1_make_3 4 rfl rfl)
theorem dX1_make_77 : decode cX1_make 77 = .ok (.dup, 1) := dk_89 (dk_at dksX1_make_3 5 rfl rfl)
theorem dX1_make_78 : decode cX1_make 78 = .ok (.getfield 66, 3) := dk_180 0 66 (dk_at dksX1_make_3 6 rfl rfl)
theorem dX1_make_81 : decode cX1_make 81 = .ok (.aload_n 0, 1) := dk_42 (dk_at dksX1_make_3 9 rfl rfl)
theorem dX1_make_82 : decode cX1_make 82 = .ok (.getfield 35, 3) := dk_180 0 35 (dk_at dksX1_make_3 10 rfl rfl)
theorem dX1_make_85 : decode cX1_make 85 = .ok (.getfield 69, 3) := dk_180 0 69 (dk_at dksX1_make_3 13 rfl rfl)
theorem dX1_make_88 : decode cX1_make 88 = .ok (.ifCond .eq 7, 3) := dk_153 0 7 (dk_at dksX1_make_3 16 rfl rfl)
theorem dX1_make_91 : decode cX1_make 91 = .ok (.iconst 1, 1) := dk_4 (dk_at dksX1_make_3 19 rfl rfl)
theorem dX1_make_92 : decode cX1_make 92 = .ok (.goto 4, 3) := dk_167 0 4 (dk_at dksX1_make_3 20 rfl rfl)
theorem dX1_make_95 : decode cX1_make 95 = .ok (.iconst 0, 1) := dk_3 (dk_at dksX1_make_3 23 rfl rfl)
theorem dX1_make_96 : decode cX1_make 96 = .ok (.iadd, 1) := dk_96 (dk_at dksX1_make_4 0 rfl rfl)
theorem dX1_make_97 : decode cX1_make 97 = .ok (.putfield 66, 3) := dk_181 0 66 (dk_at dksX1_make_4 1 rfl rfl)
theorem dX1_make_100 : decode cX1_make 100 = .ok (.aload_n 0, 1) := dk_42 (dk_at dksX1_make_4 4 rfl rfl)
theorem dX1_make_101 : decode cX1_make 101 = .ok (.dup, 1) := dk_89 (dk_at dksX1_make_4 5 rfl rfl)
theorem dX1_make_102 : decode cX1_make 102 = .ok (.getfield 73, 3) := dk_180 0 73 (dk_at dksX1_make_4 6 rfl rfl)
theorem dX1_make_105 : decode cX1_make 105 = .ok (.iload_n 2, 1) := dk_28 (dk_at dksX1_make_4 9 rfl rfl)
theorem dX1_make_106 : decode cX1_make 106 = .ok (.ifCond .le 11, 3) := dk_158 0 11 (dk_at dksX1_make_4 10 rfl rfl)
theorem dX1_make_109 : decode cX1_make 109 = .ok (.iload_n 1, 1) := dk_27 (dk_at dksX1_make_4 13 rfl rfl)
theorem dX1_make_110 : decode cX1_make 110 = .ok (.ifCond .gt 7, 3) := dk_157 0 7 (dk_at dksX1_make_4 14 rfl rfl)
theorem dX1_make_113 : decode cX1_make 113 = .ok (.iconst 1, 1) := dk_4 (dk_at dksX1_make_4 17 rfl rfl)
theorem dX1_make_114 : decode cX1_make 114 = .ok (.goto 4, 3) := dk_167 0 4 (dk_at dksX1_make_4 18 rfl rfl)
theorem dX1_make_117 : decode cX1_make 117 = .ok (.iconst 0, 1) := dk_3 (dk_at dksX1_make_4 21 rfl rfl)
theorem dX1_make_118 : decode cX1_make 118 = .ok (.iadd, 1) := dk_96 (dk_at dksX1_make_4 22 rfl rfl)
theorem dX1_make_119 : decode cX1_make 119 = .ok (.putfield 73, 3) := dk_181 0 73 (dk_at dksX1_make_5 0 rfl rfl)
theorem dX1_make_122 : decode cX1_make 122 = .ok (.iload_n 2, 1) := dk_28 (dk_at dksX1_make_5 3 rfl rfl)
theorem dX1_make_123 : decode cX1_make 123 = .ok (.ireturn, 1) := dk_172 (dk_at dksX1_make_5 4 rfl rfl)
abbrev cX1_waveAt : ByteArray := prog_1_method_6_code
def yX1_waveAt : MethodName := ⟨RX1, "waveAt", "(II)I"⟩
def dkwX1_waveAt_1 : List UInt8 := [182, 0, 29, 54, 4, 29, 21, 4, 29, 100, 28, 17, 8, 0, 112, 104, 17, 8, 0, 108, 96, 172]
abbrev dktX1_waveAt_1 : List UInt8 := dkwX1_waveAt_1 ++ []
def dkwX1_waveAt_0 : List UInt8 := [42, 27, 28, 17, 8, 0, 108, 182, 0, 29, 62, 42, 27, 28, 17, 8, 0, 108, 4, 96, 16, 32, 112]
abbrev dktX1_waveAt_0 : List UInt8 := dkwX1_waveAt_0 ++ dktX1_waveAt_1
theorem dksX1_waveAt_0 : cX1_waveAt.data.toList.drop 0 = dktX1_waveAt_0 := by decide +kernel
theorem dksX1_waveAt_1 : cX1_waveAt.data.toList.drop 23 = dktX1_waveAt_1 := dk_seg dksX1_waveAt_0 23 rfl rfl
theorem dX1_waveAt_0 : decode cX1_waveAt 0 = .ok (.aload_n 0, 1) := dk_42 (dk_at dksX1_waveAt_0 0 rfl rfl)
theorem dX1_waveAt_1 : decode cX1_waveAt 1 = .ok (.iload_n 1, 1) := dk_27 (dk_at dksX1_waveAt_0 1 rfl rfl)
theorem dX1_waveAt_2 : decode cX1_waveAt 2 = .ok (.iload_n 2, 1) := dk_28 (dk_at dksX1_waveAt_0 2 rfl rfl)
theorem dX1_waveAt_3 : decode cX1_waveAt 3 = .ok (.sipush 2048, 3) := dk_17 8 0 (dk_at dksX1_waveAt_0 3 rfl rfl)
theorem dX1_waveAt_6 : decode cX1_waveAt 6 = .ok (.idiv, 1) := dk_108 (dk_at dksX1_waveAt_0 6 rfl rfl)
theorem dX1_waveAt_7 : decode cX1_waveAt 7 = .ok (.invokevirtual 29, 3) := dk_182 0 29 (dk_at dksX1_waveAt_0 7 rfl rfl)
theorem dX1_waveAt_10 : decode cX1_waveAt 10 = .ok (.istore_n 3, 1) := dk_62 (dk_at dksX1_waveAt_0 10 rfl rfl)
theorem dX1_waveAt_11 : decode cX1_waveAt 11 = .ok (.aload_n 0, 1) := dk_42 (dk_at dksX1_waveAt_0 11 rfl rfl)
theorem dX1_waveAt_12 : decode cX1_waveAt 12 = .ok (.iload_n 1, 1) := dk_27 (dk_at dksX1_waveAt_0 12 rfl rfl)
theorem dX1_waveAt_13 : decode cX1_waveAt 13 = .ok (.iload_n 2, 1) := dk_28 (dk_at dksX1_waveAt_0 13 rfl rfl)
theorem dX1_waveAt_14 : decode cX1_waveAt 14 = .ok (.sipush 2048, 3) := dk_17 8 0 (dk_at dksX1_waveAt_0 14 rfl rfl)
theorem dX1_waveAt_17 : decode cX1_waveAt 17 = .ok (.idiv, 1) := dk_108 (dk_at dksX1_waveAt_0 17 rfl rfl)
theorem dX1_waveAt_18 : decode cX1_waveAt 18 = .ok (.iconst 1, 1) := dk_4 (dk_at dksX1_waveAt_0 18 rfl rfl)
theorem dX1_waveAt_19 : decode cX1_waveAt 19 = .ok (.iadd, 1) := dk_96 (dk_at dksX1_waveAt_0 19 rfl rfl)
theorem dX1_waveAt_20 : decode cX1_waveAt 20 = .ok (.bipush 32, 2) := dk_16 32 (dk_at dksX1_waveAt_0 20 rfl rfl)
theorem dX1_waveAt_22 : decode cX1_waveAt 22 = .ok (.irem, 1) := dk_112 (dk_at dksX1_waveAt_0 22 rfl rfl)
theorem dX1_waveAt_23 : decode cX1_waveAt 23 = .ok (.invokevirtual 29, 3) := dk_182 0 29 (dk_at dksX1_waveAt_1 0 rfl rfl)
theorem dX1_waveAt_26 : decode cX1_waveAt 26 = .ok (.istore 4, 2) := dk_54 4 (dk_at dksX1_waveAt_1 3 rfl rfl)
theorem dX1_waveAt_28 : decode cX1_waveAt 28 = .ok (.iload_n 3, 1) := dk_29 (dk_at dksX1_waveAt_1 5 rfl rfl)
theorem dX1_waveAt_29 : decode cX1_waveAt 29 = .ok (.iload 4, 2) := dk_21 4 (dk_at dksX1_waveAt_1 6 rfl rfl)
theorem dX1_waveAt_31 : decode cX1_waveAt 31 = .ok (.iload_n 3, 1) := dk_29 (dk_at dksX1_waveAt_1 8 rfl rfl)
theorem dX1_waveAt_32 : decode cX1_waveAt 32 = .ok (.isub, 1) := dk_100 (dk_at dksX1_waveAt_1 9 rfl rfl)
theorem dX1_waveAt_33 : decode cX1_waveAt 33 = .ok (.iload_n 2, 1) := dk_28 (dk_at dksX1_waveAt_1 10 rfl rfl)
theorem dX1_waveAt_34 : decode cX1_waveAt 34 = .ok (.sipush 2048, 3) := dk_17 8 0 (dk_at dksX1_waveAt_1 11 rfl rfl)
theorem dX1_waveAt_37 : decode cX1_waveAt 37 = .ok (.irem, 1) := dk_112 (dk_at dksX1_waveAt_1 14 rfl rfl)
theorem dX1_waveAt_38 : decode cX1_waveAt 38 = .ok (.imul, 1) := dk_104 (dk_at dksX1_waveAt_1 15 rfl rfl)
theorem dX1_waveAt_39 : decode cX1_waveAt 39 = .ok (.sipush 2048, 3) := dk_17 8 0 (dk_at dksX1_waveAt_1 16 rfl rfl)
theorem dX1_waveAt_42 : decode cX1_waveAt 42 = .ok (.idiv, 1) := dk_108 (dk_at dksX1_waveAt_1 19 rfl rfl)
theorem dX1_waveAt_43 : decode cX1_waveAt 43 = .ok (.iadd, 1) := dk_96 (dk_at dksX1_waveAt_1 20 rfl rfl)
theorem dX1_waveAt_44 : decode cX1_waveAt 44 = .ok (.ireturn, 1) := dk_172 (dk_at dksX1_waveAt_1 21 rfl rfl)
abbrev cX1_valueOf : ByteArray := prog_1_method_5_code
def yX1_valueOf : MethodName := ⟨RX1, "valueOf", "(II)I"⟩
def dkwX1_valueOf_4 : List UInt8 := [16, 16, 100, 104, 100, 172, 42, 180, 0, 25, 28, 46, 172]
abbrev dktX1_valueOf_4 : List UInt8 := dkwX1_valueOf_4 ++ []
def dkwX1_valueOf_3 : List UInt8 := [172, 28, 16, 16, 162, 0, 14, 17, 252, 24, 16, 125, 28, 104, 96, 167, 0, 14, 17, 3, 232, 16, 125, 28]
abbrev dktX1_valueOf_3 : List UInt8 := dkwX1_valueOf_3 ++ dktX1_valueOf_4
def dkwX1_valueOf_2 : List UInt8 := [17, 252, 32, 16, 64, 28, 104, 96, 172, 28, 16, 16, 162, 0, 9, 17, 3, 232, 167, 0, 6, 17, 252, 24]
abbrev dktX1_valueOf_2 : List UInt8 := dkwX1_valueOf_2 ++ dktX1_valueOf_3
def dkwX1_valueOf_1 : List UInt8 := [170, 0, 0, 0, 0, 0, 81, 0, 0, 0, 0, 0, 0, 0, 2, 0, 0, 0, 27, 0, 0, 0, 36, 0, 0, 0, 52]
abbrev dktX1_valueOf_1 : List UInt8 := dkwX1_valueOf_1 ++ dktX1_valueOf_2
def dkwX1_valueOf_0 : List UInt8 := [27]
abbrev dktX1_valueOf_0 : List UInt8 := dkwX1_valueOf_0 ++ dktX1_valueOf_1
theorem dksX1_valueOf_0 : cX1_valueOf.data.toList.drop 0 = dktX1_valueOf_0 := by decide +kernel
theorem dksX1_valueOf_1 : cX1_valueOf.data.toList.drop 1 = dktX1_valueOf_1 := dk_seg dksX1_valueOf_0 1 rfl rfl
theorem dksX1_valueOf_2 : cX1_valueOf.data.toList.drop 28 = dktX1_valueOf_2 := dk_seg dksX1_valueOf_1 27 rfl rfl
theorem dksX1_valueOf_3 : cX1_valueOf.data.toList.drop 52 = dktX1_valueOf_3 := dk_seg dksX1_valueOf_2 24 rfl rfl
theorem dksX1_valueOf_4 : cX1_valueOf.data.toList.drop 76 = dktX1_valueOf_4 := dk_seg dksX1_valueOf_3 24 rfl rfl
theorem dX1_valueOf_0 : decode cX1_valueOf 0 = .ok (.iload_n 1, 1) := dk_27 (dk_at dksX1_valueOf_0 0 rfl rfl)
theorem dX1_valueOf_1 : decode cX1_valueOf 1 = .ok (.tableswitch 81 0 2 #[27, 36, 52], 27) := by decide +kernel
theorem dX1_valueOf_28 : decode cX1_valueOf 28 = .ok (.sipush (-992), 3) := dk_17 252 32 (dk_at dksX1_valueOf_2 0 rfl rfl)
theorem dX1_valueOf_31 : decode cX1_valueOf 31 = .ok (.bipush 64, 2) := dk_16 64 (dk_at dksX1_valueOf_2 3 rfl rfl)
theorem dX1_valueOf_33 : decode cX1_valueOf 33 = .ok (.iload_n 2, 1) := dk_28 (dk_at dksX1_valueOf_2 5 rfl rfl)
theorem dX1_valueOf_34 : decode cX1_valueOf 34 = .ok (.imul, 1) := dk_104 (dk_at dksX1_valueOf_2 6 rfl rfl)
theorem dX1_valueOf_35 : decode cX1_valueOf 35 = .ok (.iadd, 1) := dk_96 (dk_at dksX1_valueOf_2 7 rfl rfl)
theorem dX1_valueOf_36 : decode cX1_valueOf 36 = .ok (.ireturn, 1) := dk_172 (dk_at dksX1_valueOf_2 8 rfl rfl)
theorem dX1_valueOf_37 : decode cX1_valueOf 37 = .ok (.iload_n 2, 1) := dk_28 (dk_at dksX1_valueOf_2 9 rfl rfl)
theorem dX1_valueOf_38 : decode cX1_valueOf 38 = .ok (.bipush 16, 2) := dk_16 16 (dk_at dksX1_valueOf_2 10 rfl rfl)
theorem dX1_valueOf_40 : decode cX1_valueOf 40 = .ok (.if_icmp .ge 9, 3) := dk_162 0 9 (dk_at dksX1_valueOf_2 12 rfl rfl)
theorem dX1_valueOf_43 : decode cX1_valueOf 43 = .ok (.sipush 1000, 3) := dk_17 3 232 (dk_at dksX1_valueOf_2 15 rfl rfl)
theorem dX1_valueOf_46 : decode cX1_valueOf 46 = .ok (.goto 6, 3) := dk_167 0 6 (dk_at dksX1_valueOf_2 18 rfl rfl)
theorem dX1_valueOf_49 : decode cX1_valueOf 49 = .ok (.sipush (-1000), 3) := dk_17 252 24 (dk_at dksX1_valueOf_2 21 rfl rfl)
theorem dX1_valueOf_52 : decode cX1_valueOf 52 = .ok (.ireturn, 1) := dk_172 (dk_at dksX1_valueOf_3 0 rfl rfl)
theorem dX1_valueOf_53 : decode cX1_valueOf 53 = .ok (.iload_n 2, 1) := dk_28 (dk_at dksX1_valueOf_3 1 rfl rfl)
theorem dX1_valueOf_54 : decode cX1_valueOf 54 = .ok (.bipush 16, 2) := dk_16 16 (dk_at dksX1_valueOf_3 2 rfl rfl)
theorem dX1_valueOf_56 : decode cX1_valueOf 56 = .ok (.if_icmp .ge 14, 3) := dk_162 0 14 (dk_at dksX1_valueOf_3 4 rfl rfl)
theorem dX1_valueOf_59 : decode cX1_valueOf 59 = .ok (.sipush (-1000), 3) := dk_17 252 24 (dk_at dksX1_valueOf_3 7 rfl rfl)
theorem dX1_valueOf_62 : decode cX1_valueOf 62 = .ok (.bipush 125, 2) := dk_16 125 (dk_at dksX1_valueOf_3 10 rfl rfl)
theorem dX1_valueOf_64 : decode cX1_valueOf 64 = .ok (.iload_n 2, 1) := dk_28 (dk_at dksX1_valueOf_3 12 rfl rfl)
theorem dX1_valueOf_65 : decode cX1_valueOf 65 = .ok (.imul, 1) := dk_104 (dk_at dksX1_valueOf_3 13 rfl rfl)
theorem dX1_valueOf_66 : decode cX1_valueOf 66 = .ok (.iadd, 1) := dk_96 (dk_at dksX1_valueOf_3 14 rfl rfl)
theorem dX1_valueOf_67 : decode cX1_valueOf 67 = .ok (.goto 14, 3) := dk_167 0 14 (dk_at dksX1_valueOf_3 15 rfl rfl)
theorem dX1_valueOf_70 : decode cX1_valueOf 70 = .ok (.sipush 1000, 3) := dk_17 3 232 (dk_at dksX1_valueOf_3 18 rfl rfl)
theorem dX1_valueOf_73 : decode cX1_valueOf 73 = .ok (.bipush 125, 2) := dk_16 125 (dk_at dksX1_valueOf_3 21 rfl rfl)
theorem dX1_valueOf_75 : decode cX1_valueOf 75 = .ok (.iload_n 2, 1) := dk_28 (dk_at dksX1_valueOf_3 23 rfl rfl)
theorem dX1_valueOf_76 : decode cX1_valueOf 76 = .ok (.bipush 16, 2) := dk_16 16 (dk_at dksX1_valueOf_4 0 rfl rfl)
theorem dX1_valueOf_78 : decode cX1_valueOf 78 = .ok (.isub, 1) := dk_100 (dk_at dksX1_valueOf_4 2 rfl rfl)
theorem dX1_valueOf_79 : decode cX1_valueOf 79 = .ok (.imul, 1) := dk_104 (dk_at dksX1_valueOf_4 3 rfl rfl)
theorem dX1_valueOf_80 : decode cX1_valueOf 80 = .ok (.isub, 1) := dk_100 (dk_at dksX1_valueOf_4 4 rfl rfl)
theorem dX1_valueOf_81 : decode cX1_valueOf 81 = .ok (.ireturn, 1) := dk_172 (dk_at dksX1_valueOf_4 5 rfl rfl)
theorem dX1_valueOf_82 : decode cX1_valueOf 82 = .ok (.aload_n 0, 1) := dk_42 (dk_at dksX1_valueOf_4 6 rfl rfl)
theorem dX1_valueOf_83 : decode cX1_valueOf 83 = .ok (.getfield 25, 3) := dk_180 0 25 (dk_at dksX1_valueOf_4 7 rfl rfl)
theorem dX1_valueOf_86 : decode cX1_valueOf 86 = .ok (.iload_n 2, 1) := dk_28 (dk_at dksX1_valueOf_4 10 rfl rfl)
theorem dX1_valueOf_87 : decode cX1_valueOf 87 = .ok (.iaload, 1) := dk_46 (dk_at dksX1_valueOf_4 11 rfl rfl)
theorem dX1_valueOf_88 : decode cX1_valueOf 88 = .ok (.ireturn, 1) := dk_172 (dk_at dksX1_valueOf_4 12 rfl rfl)
abbrev cX1_strideOf : ByteArray := prog_1_method_7_code
def yX1_strideOf : MethodName := ⟨RX1, "strideOf", "(I)I"⟩
def dkwX1_strideOf_3 : List UInt8 := [17, 1, 200, 79, 89, 16, 11, 17, 1, 227, 79, 76, 43, 26, 16, 12, 112, 46, 26, 16, 12, 108, 120, 172]
abbrev dktX1_strideOf_3 : List UInt8 := dkwX1_strideOf_3 ++ []
def dkwX1_strideOf_2 : List UInt8 := [16, 7, 17, 1, 128, 79, 89, 16, 8, 17, 1, 150, 79, 89, 16, 9, 17, 1, 175, 79, 89, 16, 10]
abbrev dktX1_strideOf_2 : List UInt8 := dkwX1_strideOf_2 ++ dktX1_strideOf_3
def dkwX1_strideOf_1 : List UInt8 := [17, 1, 48, 79, 89, 7, 17, 1, 67, 79, 89, 8, 17, 1, 86, 79, 89, 16, 6, 17, 1, 106, 79, 89]
abbrev dktX1_strideOf_1 : List UInt8 := dkwX1_strideOf_1 ++ dktX1_strideOf_2
def dkwX1_strideOf_0 : List UInt8 := [16, 12, 188, 10, 89, 3, 17, 1, 0, 79, 89, 4, 17, 1, 15, 79, 89, 5, 17, 1, 31, 79, 89, 6]
abbrev dktX1_strideOf_0 : List UInt8 := dkwX1_strideOf_0 ++ dktX1_strideOf_1
theorem dksX1_strideOf_0 : cX1_strideOf.data.toList.drop 0 = dktX1_strideOf_0 := by decide +kernel
theorem dksX1_strideOf_1 : cX1_strideOf.data.toList.drop 24 = dktX1_strideOf_1 := dk_seg dksX1_strideOf_0 24 rfl rfl
theorem dksX1_strideOf_2 : cX1_strideOf.data.toList.drop 48 = dktX1_strideOf_2 := dk_seg dksX1_strideOf_1 24 rfl rfl
theorem dksX1_strideOf_3 : cX1_strideOf.data.toList.drop 71 = dktX1_strideOf_3 := dk_seg dksX1_strideOf_2 23 rfl rfl
theorem dX1_strideOf_0 : decode cX1_strideOf 0 = .ok (.bipush 12, 2) := dk_16 12 (dk_at dksX1_strideOf_0 0 rfl rfl)
theorem dX1_strideOf_2 : decode cX1_strideOf 2 = .ok (.newarray .int, 2) := dk_188_10 (dk_at dksX1_strideOf_0 2 rfl rfl)
theorem dX1_strideOf_4 : decode cX1_strideOf 4 = .ok (.dup, 1) := dk_89 (dk_at dksX1_strideOf_0 4 rfl rfl)
theorem dX1_strideOf_5 : decode cX1_strideOf 5 = .ok (.iconst 0, 1) := dk_3 (dk_at dksX1_strideOf_0 5 rfl rfl)
theorem dX1_strideOf_6 : decode cX1_strideOf 6 = .ok (.sipush 256, 3) := dk_17 1 0 (dk_at dksX1_strideOf_0 6 rfl rfl)
theorem dX1_strideOf_9 : decode cX1_strideOf 9 = .ok (.iastore, 1) := dk_79 (dk_at dksX1_strideOf_0 9 rfl rfl)
theorem dX1_strideOf_10 : decode cX1_strideOf 10 = .ok (.dup, 1) := dk_89 (dk_at dksX1_strideOf_0 10 rfl rfl)
theorem dX1_strideOf_11 : decode cX1_strideOf 11 = .ok (.iconst 1, 1) := dk_4 (dk_at dksX1_strideOf_0 11 rfl rfl)
theorem dX1_strideOf_12 : decode cX1_strideOf 12 = .ok (.sipush 271, 3) := dk_17 1 15 (dk_at dksX1_strideOf_0 12 rfl rfl)
theorem dX1_strideOf_15 : decode cX1_strideOf 15 = .ok (.iastore, 1) := dk_79 (dk_at dksX1_strideOf_0 15 rfl rfl)
theorem dX1_strideOf_16 : decode cX1_strideOf 16 = .ok (.dup, 1) := dk_89 (dk_at dksX1_strideOf_0 16 rfl rfl)
theorem dX1_strideOf_17 : decode cX1_strideOf 17 = .ok (.iconst 2, 1) := dk_5 (dk_at dksX1_strideOf_0 17 rfl rfl)
theorem dX1_strideOf_18 : decode cX1_strideOf 18 = .ok (.sipush 287, 3) := dk_17 1 31 (dk_at dksX1_strideOf_0 18 rfl rfl)
theorem dX1_strideOf_21 : decode cX1_strideOf 21 = .ok (.iastore, 1) := dk_79 (dk_at dksX1_strideOf_0 21 rfl rfl)
theorem dX1_strideOf_22 : decode cX1_strideOf 22 = .ok (.dup, 1) := dk_89 (dk_at dksX1_strideOf_0 22 rfl rfl)
theorem dX1_strideOf_23 : decode cX1_strideOf 23 = .ok (.iconst 3, 1) := dk_6 (dk_at dksX1_strideOf_0 23 rfl rfl)
theorem dX1_strideOf_24 : decode cX1_strideOf 24 = .ok (.sipush 304, 3) := dk_17 1 48 (dk_at dksX1_strideOf_1 0 rfl rfl)
theorem dX1_strideOf_27 : decode cX1_strideOf 27 = .ok (.iastore, 1) := dk_79 (dk_at dksX1_strideOf_1 3 rfl rfl)
theorem dX1_strideOf_28 : decode cX1_strideOf 28 = .ok (.dup, 1) := dk_89 (dk_at dksX1_strideOf_1 4 rfl rfl)
theorem dX1_strideOf_29 : decode cX1_strideOf 29 = .ok (.iconst 4, 1) := dk_7 (dk_at dksX1_strideOf_1 5 rfl rfl)
theorem dX1_strideOf_30 : decode cX1_strideOf 30 = .ok (.sipush 323, 3) := dk_17 1 67 (dk_at dksX1_strideOf_1 6 rfl rfl)
theorem dX1_strideOf_33 : decode cX1_strideOf 33 = .ok (.iastore, 1) := dk_79 (dk_at dksX1_strideOf_1 9 rfl rfl)
theorem dX1_strideOf_34 : decode cX1_strideOf 34 = .ok (.dup, 1) := dk_89 (dk_at dksX1_strideOf_1 10 rfl rfl)
theorem dX1_strideOf_35 : decode cX1_strideOf 35 = .ok (.iconst 5, 1) := dk_8 (dk_at dksX1_strideOf_1 11 rfl rfl)
theorem dX1_strideOf_36 : decode cX1_strideOf 36 = .ok (.sipush 342, 3) := dk_17 1 86 (dk_at dksX1_strideOf_1 12 rfl rfl)
theorem dX1_strideOf_39 : decode cX1_strideOf 39 = .ok (.iastore, 1) := dk_79 (dk_at dksX1_strideOf_1 15 rfl rfl)
theorem dX1_strideOf_40 : decode cX1_strideOf 40 = .ok (.dup, 1) := dk_89 (dk_at dksX1_strideOf_1 16 rfl rfl)
theorem dX1_strideOf_41 : decode cX1_strideOf 41 = .ok (.bipush 6, 2) := dk_16 6 (dk_at dksX1_strideOf_1 17 rfl rfl)
theorem dX1_strideOf_43 : decode cX1_strideOf 43 = .ok (.sipush 362, 3) := dk_17 1 106 (dk_at dksX1_strideOf_1 19 rfl rfl)
theorem dX1_strideOf_46 : decode cX1_strideOf 46 = .ok (.iastore, 1) := dk_79 (dk_at dksX1_strideOf_1 22 rfl rfl)
theorem dX1_strideOf_47 : decode cX1_strideOf 47 = .ok (.dup, 1) := dk_89 (dk_at dksX1_strideOf_1 23 rfl rfl)
theorem dX1_strideOf_48 : decode cX1_strideOf 48 = .ok (.bipush 7, 2) := dk_16 7 (dk_at dksX1_strideOf_2 0 rfl rfl)
theorem dX1_strideOf_50 : decode cX1_strideOf 50 = .ok (.sipush 384, 3) := dk_17 1 128 (dk_at dksX1_strideOf_2 2 rfl rfl)
theorem dX1_strideOf_53 : decode cX1_strideOf 53 = .ok (.iastore, 1) := dk_79 (dk_at dksX1_strideOf_2 5 rfl rfl)
theorem dX1_strideOf_54 : decode cX1_strideOf 54 = .ok (.dup, 1) := dk_89 (dk_at dksX1_strideOf_2 6 rfl rfl)
theorem dX1_strideOf_55 : decode cX1_strideOf 55 = .ok (.bipush 8, 2) := dk_16 8 (dk_at dksX1_strideOf_2 7 rfl rfl)
theorem dX1_strideOf_57 : decode cX1_strideOf 57 = .ok (.sipush 406, 3) := dk_17 1 150 (dk_at dksX1_strideOf_2 9 rfl rfl)
theorem dX1_strideOf_60 : decode cX1_strideOf 60 = .ok (.iastore, 1) := dk_79 (dk_at dksX1_strideOf_2 12 rfl rfl)
theorem dX1_strideOf_61 : decode cX1_strideOf 61 = .ok (.dup, 1) := dk_89 (dk_at dksX1_strideOf_2 13 rfl rfl)
theorem dX1_strideOf_62 : decode cX1_strideOf 62 = .ok (.bipush 9, 2) := dk_16 9 (dk_at dksX1_strideOf_2 14 rfl rfl)
theorem dX1_strideOf_64 : decode cX1_strideOf 64 = .ok (.sipush 431, 3) := dk_17 1 175 (dk_at dksX1_strideOf_2 16 rfl rfl)
theorem dX1_strideOf_67 : decode cX1_strideOf 67 = .ok (.iastore, 1) := dk_79 (dk_at dksX1_strideOf_2 19 rfl rfl)
theorem dX1_strideOf_68 : decode cX1_strideOf 68 = .ok (.dup, 1) := dk_89 (dk_at dksX1_strideOf_2 20 rfl rfl)
theorem dX1_strideOf_69 : decode cX1_strideOf 69 = .ok (.bipush 10, 2) := dk_16 10 (dk_at dksX1_strideOf_2 21 rfl rfl)
theorem dX1_strideOf_71 : decode cX1_strideOf 71 = .ok (.sipush 456, 3) := dk_17 1 200 (dk_at dksX1_strideOf_3 0 rfl rfl)
theorem dX1_strideOf_74 : decode cX1_strideOf 74 = .ok (.iastore, 1) := dk_79 (dk_at dksX1_strideOf_3 3 rfl rfl)
theorem dX1_strideOf_75 : decode cX1_strideOf 75 = .ok (.dup, 1) := dk_89 (dk_at dksX1_strideOf_3 4 rfl rfl)
theorem dX1_strideOf_76 : decode cX1_strideOf 76 = .ok (.bipush 11, 2) := dk_16 11 (dk_at dksX1_strideOf_3 5 rfl rfl)
theorem dX1_strideOf_78 : decode cX1_strideOf 78 = .ok (.sipush 483, 3) := dk_17 1 227 (dk_at dksX1_strideOf_3 7 rfl rfl)
theorem dX1_strideOf_81 : decode cX1_strideOf 81 = .ok (.iastore, 1) := dk_79 (dk_at dksX1_strideOf_3 10 rfl rfl)
theorem dX1_strideOf_82 : decode cX1_strideOf 82 = .ok (.astore_n 1, 1) := dk_76 (dk_at dksX1_strideOf_3 11 rfl rfl)
theorem dX1_strideOf_83 : decode cX1_strideOf 83 = .ok (.aload_n 1, 1) := dk_43 (dk_at dksX1_strideOf_3 12 rfl rfl)
theorem dX1_strideOf_84 : decode cX1_strideOf 84 = .ok (.iload_n 0, 1) := dk_26 (dk_at dksX1_strideOf_3 13 rfl rfl)
theorem dX1_strideOf_85 : decode cX1_strideOf 85 = .ok (.bipush 12, 2) := dk_16 12 (dk_at dksX1_strideOf_3 14 rfl rfl)
theorem dX1_strideOf_87 : decode cX1_strideOf 87 = .ok (.irem, 1) := dk_112 (dk_at dksX1_strideOf_3 16 rfl rfl)
theorem dX1_strideOf_88 : decode cX1_strideOf 88 = .ok (.iaload, 1) := dk_46 (dk_at dksX1_strideOf_3 17 rfl rfl)
theorem dX1_strideOf_89 : decode cX1_strideOf 89 = .ok (.iload_n 0, 1) := dk_26 (dk_at dksX1_strideOf_3 18 rfl rfl)
theorem dX1_strideOf_90 : decode cX1_strideOf 90 = .ok (.bipush 12, 2) := dk_16 12 (dk_at dksX1_strideOf_3 19 rfl rfl)
theorem dX1_strideOf_92 : decode cX1_strideOf 92 = .ok (.idiv, 1) := dk_108 (dk_at dksX1_strideOf_3 21 rfl rfl)
theorem dX1_strideOf_93 : decode cX1_strideOf 93 = .ok (.ishl, 1) := dk_120 (dk_at dksX1_strideOf_3 22 rfl rfl)
theorem dX1_strideOf_94 : decode cX1_strideOf 94 = .ok (.ireturn, 1) := dk_172 (dk_at dksX1_strideOf_3 23 rfl rfl)
abbrev cX1_kept : ByteArray := prog_1_method_4_code
def yX1_kept : MethodName := ⟨RX1, "kept", "(II)I"⟩
def dkwX1_kept_0 : List UInt8 := [27, 116, 27, 26, 184, 0, 16, 184, 0, 22, 172]
abbrev dktX1_kept_0 : List UInt8 := dkwX1_kept_0 ++ []
theorem dksX1_kept_0 : cX1_kept.data.toList.drop 0 = dktX1_kept_0 := by decide +kernel
theorem dX1_kept_0 : decode cX1_kept 0 = .ok (.iload_n 1, 1) := dk_27 (dk_at dksX1_kept_0 0 rfl rfl)
theorem dX1_kept_1 : decode cX1_kept 1 = .ok (.ineg, 1) := dk_116 (dk_at dksX1_kept_0 1 rfl rfl)
theorem dX1_kept_2 : decode cX1_kept 2 = .ok (.iload_n 1, 1) := dk_27 (dk_at dksX1_kept_0 2 rfl rfl)
theorem dX1_kept_3 : decode cX1_kept 3 = .ok (.iload_n 0, 1) := dk_26 (dk_at dksX1_kept_0 3 rfl rfl)
theorem dX1_kept_4 : decode cX1_kept 4 = .ok (.invokestatic 16, 3) := dk_184 0 16 (dk_at dksX1_kept_0 4 rfl rfl)
theorem dX1_kept_7 : decode cX1_kept 7 = .ok (.invokestatic 22, 3) := dk_184 0 22 (dk_at dksX1_kept_0 7 rfl rfl)
theorem dX1_kept_10 : decode cX1_kept 10 = .ok (.ireturn, 1) := dk_172 (dk_at dksX1_kept_0 10 rfl rfl)
abbrev cX1_clock : ByteArray := prog_1_method_33_code
def yX1_clock : MethodName := ⟨RX1, "clock", "()I"⟩
def dkwX1_clock_0 : List UInt8 := [42, 180, 0, 35, 180, 0, 242, 172]
abbrev dktX1_clock_0 : List UInt8 := dkwX1_clock_0 ++ []
theorem dksX1_clock_0 : cX1_clock.data.toList.drop 0 = dktX1_clock_0 := by decide +kernel
theorem dX1_clock_0 : decode cX1_clock 0 = .ok (.aload_n 0, 1) := dk_42 (dk_at dksX1_clock_0 0 rfl rfl)
theorem dX1_clock_1 : decode cX1_clock 1 = .ok (.getfield 35, 3) := dk_180 0 35 (dk_at dksX1_clock_0 1 rfl rfl)
theorem dX1_clock_4 : decode cX1_clock 4 = .ok (.getfield 242, 3) := dk_180 0 242 (dk_at dksX1_clock_0 4 rfl rfl)
theorem dX1_clock_7 : decode cX1_clock 7 = .ok (.ireturn, 1) := dk_172 (dk_at dksX1_clock_0 7 rfl rfl)
abbrev cX1_peak : ByteArray := prog_1_method_34_code
def yX1_peak : MethodName := ⟨RX1, "peak", "()I"⟩
theorem dX1_peak_0 : decode cX1_peak 0 = .ok (.aload_n 0, 1) := by decide +kernel
theorem dX1_peak_1 : decode cX1_peak 1 = .ok (.getfield 55, 3) := by decide +kernel
theorem dX1_peak_4 : decode cX1_peak 4 = .ok (.ireturn, 1) := by decide +kernel
abbrev cX1_loudness : ByteArray := prog_1_method_35_code
def yX1_loudness : MethodName := ⟨RX1, "loudness", "()D"⟩
def dkwX1_loudness_0 : List UInt8 := [42, 180, 0, 51, 154, 0, 7, 14, 167, 0, 14, 42, 180, 0, 62, 138, 42, 180, 0, 51, 135, 111, 175]
abbrev dktX1_loudness_0 : List UInt8 := dkwX1_loudness_0 ++ []
theorem dksX1_loudness_0 : cX1_loudness.data.toList.drop 0 = dktX1_loudness_0 := by decide +kernel
theorem dX1_loudness_0 : decode cX1_loudness 0 = .ok (.aload_n 0, 1) := dk_42 (dk_at dksX1_loudness_0 0 rfl rfl)
theorem dX1_loudness_1 : decode cX1_loudness 1 = .ok (.getfield 51, 3) := dk_180 0 51 (dk_at dksX1_loudness_0 1 rfl rfl)
theorem dX1_loudness_4 : decode cX1_loudness 4 = .ok (.ifCond .ne 7, 3) := dk_154 0 7 (dk_at dksX1_loudness_0 4 rfl rfl)
theorem dX1_loudness_7 : decode cX1_loudness 7 = .ok (.dconst 0, 1) := dk_14 (dk_at dksX1_loudness_0 7 rfl rfl)
theorem dX1_loudness_8 : decode cX1_loudness 8 = .ok (.goto 14, 3) := dk_167 0 14 (dk_at dksX1_loudness_0 8 rfl rfl)
theorem dX1_loudness_11 : decode cX1_loudness 11 = .ok (.aload_n 0, 1) := dk_42 (dk_at dksX1_loudness_0 11 rfl rfl)
theorem dX1_loudness_12 : decode cX1_loudness 12 = .ok (.getfield 62, 3) := dk_180 0 62 (dk_at dksX1_loudness_0 12 rfl rfl)
theorem dX1_loudness_15 : decode cX1_loudness 15 = .ok (.l2d, 1) := dk_138 (dk_at dksX1_loudness_0 15 rfl rfl)
theorem dX1_loudness_16 : decode cX1_loudness 16 = .ok (.aload_n 0, 1) := dk_42 (dk_at dksX1_loudness_0 16 rfl rfl)
theorem dX1_loudness_17 : decode cX1_loudness 17 = .ok (.getfield 51, 3) := dk_180 0 51 (dk_at dksX1_loudness_0 17 rfl rfl)
theorem dX1_loudness_20 : decode cX1_loudness 20 = .ok (.i2d, 1) := dk_135 (dk_at dksX1_loudness_0 20 rfl rfl)
theorem dX1_loudness_21 : decode cX1_loudness 21 = .ok (.ddiv, 1) := dk_111 (dk_at dksX1_loudness_0 21 rfl rfl)
theorem dX1_loudness_22 : decode cX1_loudness 22 = .ok (.dreturn, 1) := dk_175 (dk_at dksX1_loudness_0 22 rfl rfl)
abbrev cX1_clipped : ByteArray := prog_1_method_36_code
def yX1_clipped : MethodName := ⟨RX1, "clipped", "()I"⟩
theorem dX1_clipped_0 : decode cX1_clipped 0 = .ok (.aload_n 0, 1) := by decide +kernel
theorem dX1_clipped_1 : decode cX1_clipped 1 = .ok (.getfield 66, 3) := by decide +kernel
theorem dX1_clipped_4 : decode cX1_clipped 4 = .ok (.ireturn, 1) := by decide +kernel
abbrev cX1_crossings : ByteArray := prog_1_method_37_code
def yX1_crossings : MethodName := ⟨RX1, "crossings", "()I"⟩
theorem dX1_crossings_0 : decode cX1_crossings 0 = .ok (.aload_n 0, 1) := by decide +kernel
theorem dX1_crossings_1 : decode cX1_crossings 1 = .ok (.getfield 73, 3) := by decide +kernel
theorem dX1_crossings_4 : decode cX1_crossings 4 = .ok (.ireturn, 1) := by decide +kernel
abbrev cX1_reset : ByteArray := prog_1_method_38_code
def yX1_reset : MethodName := ⟨RX1, "reset", "()I"⟩
def dkwX1_reset_1 : List UInt8 := [181, 0, 66, 42, 3, 181, 0, 73, 27, 172]
abbrev dktX1_reset_1 : List UInt8 := dkwX1_reset_1 ++ []
def dkwX1_reset_0 : List UInt8 := [42, 180, 0, 51, 60, 42, 3, 181, 0, 51, 42, 3, 181, 0, 55, 42, 9, 181, 0, 62, 42, 3]
abbrev dktX1_reset_0 : List UInt8 := dkwX1_reset_0 ++ dktX1_reset_1
theorem dksX1_reset_0 : cX1_reset.data.toList.drop 0 = dktX1_reset_0 := by decide +kernel
theorem dksX1_reset_1 : cX1_reset.data.toList.drop 22 = dktX1_reset_1 := dk_seg dksX1_reset_0 22 rfl rfl
theorem dX1_reset_0 : decode cX1_reset 0 = .ok (.aload_n 0, 1) := dk_42 (dk_at dksX1_reset_0 0 rfl rfl)
theorem dX1_reset_1 : decode cX1_reset 1 = .ok (.getfield 51, 3) := dk_180 0 51 (dk_at dksX1_reset_0 1 rfl rfl)
theorem dX1_reset_4 : decode cX1_reset 4 = .ok (.istore_n 1, 1) := dk_60 (dk_at dksX1_reset_0 4 rfl rfl)
theorem dX1_reset_5 : decode cX1_reset 5 = .ok (.aload_n 0, 1) := dk_42 (dk_at dksX1_reset_0 5 rfl rfl)
theorem dX1_reset_6 : decode cX1_reset 6 = .ok (.iconst 0, 1) := dk_3 (dk_at dksX1_reset_0 6 rfl rfl)
theorem dX1_reset_7 : decode cX1_reset 7 = .ok (.putfield 51, 3) := dk_181 0 51 (dk_at dksX1_reset_0 7 rfl rfl)
theorem dX1_reset_10 : decode cX1_reset 10 = .ok (.aload_n 0, 1) := dk_42 (dk_at dksX1_reset_0 10 rfl rfl)
theorem dX1_reset_11 : decode cX1_reset 11 = .ok (.iconst 0, 1) := dk_3 (dk_at dksX1_reset_0 11 rfl rfl)
theorem dX1_reset_12 : decode cX1_reset 12 = .ok (.putfield 55, 3) := dk_181 0 55 (dk_at dksX1_reset_0 12 rfl rfl)
theorem dX1_reset_15 : decode cX1_reset 15 = .ok (.aload_n 0, 1) := dk_42 (dk_at dksX1_reset_0 15 rfl rfl)
theorem dX1_reset_16 : decode cX1_reset 16 = .ok (.lconst 0, 1) := dk_9 (dk_at dksX1_reset_0 16 rfl rfl)
theorem dX1_reset_17 : decode cX1_reset 17 = .ok (.putfield 62, 3) := dk_181 0 62 (dk_at dksX1_reset_0 17 rfl rfl)
theorem dX1_reset_20 : decode cX1_reset 20 = .ok (.aload_n 0, 1) := dk_42 (dk_at dksX1_reset_0 20 rfl rfl)
theorem dX1_reset_21 : decode cX1_reset 21 = .ok (.iconst 0, 1) := dk_3 (dk_at dksX1_reset_0 21 rfl rfl)
theorem dX1_reset_22 : decode cX1_reset 22 = .ok (.putfield 66, 3) := dk_181 0 66 (dk_at dksX1_reset_1 0 rfl rfl)
theorem dX1_reset_25 : decode cX1_reset 25 = .ok (.aload_n 0, 1) := dk_42 (dk_at dksX1_reset_1 3 rfl rfl)
theorem dX1_reset_26 : decode cX1_reset 26 = .ok (.iconst 0, 1) := dk_3 (dk_at dksX1_reset_1 4 rfl rfl)
theorem dX1_reset_27 : decode cX1_reset 27 = .ok (.putfield 73, 3) := dk_181 0 73 (dk_at dksX1_reset_1 5 rfl rfl)
theorem dX1_reset_30 : decode cX1_reset 30 = .ok (.iload_n 1, 1) := dk_27 (dk_at dksX1_reset_1 8 rfl rfl)
theorem dX1_reset_31 : decode cX1_reset 31 = .ok (.ireturn, 1) := dk_172 (dk_at dksX1_reset_1 9 rfl rfl)
abbrev cX1_sounding : ByteArray := prog_1_method_40_code
def yX1_sounding : MethodName := ⟨RX1, "sounding", "()I"⟩
def dkwX1_sounding_0 : List UInt8 := [42, 180, 0, 35, 182, 0, 202, 172]
abbrev dktX1_sounding_0 : List UInt8 := dkwX1_sounding_0 ++ []
theorem dksX1_sounding_0 : cX1_sounding.data.toList.drop 0 = dktX1_sounding_0 := by decide +kernel
theorem dX1_sounding_0 : decode cX1_sounding 0 = .ok (.aload_n 0, 1) := dk_42 (dk_at dksX1_sounding_0 0 rfl rfl)
theorem dX1_sounding_1 : decode cX1_sounding 1 = .ok (.getfield 35, 3) := dk_180 0 35 (dk_at dksX1_sounding_0 1 rfl rfl)
theorem dX1_sounding_4 : decode cX1_sounding 4 = .ok (.invokevirtual 202, 3) := dk_182 0 202 (dk_at dksX1_sounding_0 4 rfl rfl)
theorem dX1_sounding_7 : decode cX1_sounding 7 = .ok (.ireturn, 1) := dk_172 (dk_at dksX1_sounding_0 7 rfl rfl)
abbrev cX1_taken : ByteArray := prog_1_method_41_code
def yX1_taken : MethodName := ⟨RX1, "taken", "()I"⟩
def dkwX1_taken_0 : List UInt8 := [42, 180, 0, 35, 180, 1, 6, 172]
abbrev dktX1_taken_0 : List UInt8 := dkwX1_taken_0 ++ []
theorem dksX1_taken_0 : cX1_taken.data.toList.drop 0 = dktX1_taken_0 := by decide +kernel
theorem dX1_taken_0 : decode cX1_taken 0 = .ok (.aload_n 0, 1) := dk_42 (dk_at dksX1_taken_0 0 rfl rfl)
theorem dX1_taken_1 : decode cX1_taken 1 = .ok (.getfield 35, 3) := dk_180 0 35 (dk_at dksX1_taken_0 1 rfl rfl)
theorem dX1_taken_4 : decode cX1_taken 4 = .ok (.getfield 262, 3) := dk_180 1 6 (dk_at dksX1_taken_0 4 rfl rfl)
theorem dX1_taken_7 : decode cX1_taken 7 = .ok (.ireturn, 1) := dk_172 (dk_at dksX1_taken_0 7 rfl rfl)
abbrev cX1_isPlaying : ByteArray := prog_1_method_42_code
def yX1_isPlaying : MethodName := ⟨RX1, "isPlaying", "()Z"⟩
def dkwX1_isPlaying_0 : List UInt8 := [42, 180, 0, 35, 180, 0, 228, 172]
abbrev dktX1_isPlaying_0 : List UInt8 := dkwX1_isPlaying_0 ++ []
theorem dksX1_isPlaying_0 : cX1_isPlaying.data.toList.drop 0 = dktX1_isPlaying_0 := by decide +kernel
theorem dX1_isPlaying_0 : decode cX1_isPlaying 0 = .ok (.aload_n 0, 1) := dk_42 (dk_at dksX1_isPlaying_0 0 rfl rfl)
theorem dX1_isPlaying_1 : decode cX1_isPlaying 1 = .ok (.getfield 35, 3) := dk_180 0 35 (dk_at dksX1_isPlaying_0 1 rfl rfl)
theorem dX1_isPlaying_4 : decode cX1_isPlaying 4 = .ok (.getfield 228, 3) := dk_180 0 228 (dk_at dksX1_isPlaying_0 4 rfl rfl)
theorem dX1_isPlaying_7 : decode cX1_isPlaying 7 = .ok (.ireturn, 1) := dk_172 (dk_at dksX1_isPlaying_0 7 rfl rfl)
abbrev cX1_nextVoice : ByteArray := prog_1_method_48_code
def yX1_nextVoice : MethodName := ⟨RX1, "nextVoice", "()I"⟩
def dkwX1_nextVoice_0 : List UInt8 := [42, 180, 0, 35, 182, 1, 13, 172]
abbrev dktX1_nextVoice_0 : List UInt8 := dkwX1_nextVoice_0 ++ []
theorem dksX1_nextVoice_0 : cX1_nextVoice.data.toList.drop 0 = dktX1_nextVoice_0 := by decide +kernel
theorem dX1_nextVoice_0 : decode cX1_nextVoice 0 = .ok (.aload_n 0, 1) := dk_42 (dk_at dksX1_nextVoice_0 0 rfl rfl)
theorem dX1_nextVoice_1 : decode cX1_nextVoice 1 = .ok (.getfield 35, 3) := dk_180 0 35 (dk_at dksX1_nextVoice_0 1 rfl rfl)
theorem dX1_nextVoice_4 : decode cX1_nextVoice 4 = .ok (.invokevirtual 269, 3) := dk_182 1 13 (dk_at dksX1_nextVoice_0 4 rfl rfl)
theorem dX1_nextVoice_7 : decode cX1_nextVoice 7 = .ok (.ireturn, 1) := dk_172 (dk_at dksX1_nextVoice_0 7 rfl rfl)
abbrev cX1_digest : ByteArray := prog_1_method_51_code
def yX1_digest : MethodName := ⟨RX1, "digest", "()J"⟩
def dkwX1_digest_10 : List UInt8 := [132, 1, 1, 167, 255, 236, 42, 180, 1, 16, 173]
abbrev dktX1_digest_10 : List UInt8 := dkwX1_digest_10 ++ []
def dkwX1_digest_9 : List UInt8 := [167, 255, 197, 3, 60, 27, 42, 180, 0, 173, 162, 0, 18, 42, 42, 27, 182, 1, 56, 182, 1, 21]
abbrev dktX1_digest_9 : List UInt8 := dkwX1_digest_9 ++ dktX1_digest_10
def dkwX1_digest_8 : List UInt8 := [89, 5, 42, 27, 28, 5, 182, 1, 52, 79, 182, 1, 45, 132, 2, 1, 167, 255, 210, 132, 1, 1]
abbrev dktX1_digest_8 : List UInt8 := dkwX1_digest_8 ++ dktX1_digest_9
def dkwX1_digest_7 : List UInt8 := [42, 6, 188, 10, 89, 3, 42, 27, 28, 3, 182, 1, 52, 79, 89, 4, 42, 27, 28, 4, 182, 1, 52, 79]
abbrev dktX1_digest_7 : List UInt8 := dkwX1_digest_7 ++ dktX1_digest_8
def dkwX1_digest_6 : List UInt8 := [167, 255, 237, 132, 1, 1, 167, 255, 224, 3, 60, 27, 6, 162, 0, 60, 3, 61, 28, 16, 8, 162, 0, 46]
abbrev dktX1_digest_6 : List UInt8 := dkwX1_digest_6 ++ dktX1_digest_7
def dkwX1_digest_5 : List UInt8 := [162, 0, 33, 3, 61, 28, 16, 9, 163, 0, 19, 42, 42, 27, 28, 182, 1, 49, 182, 1, 21, 132, 2, 1]
abbrev dktX1_digest_5 : List UInt8 := dkwX1_digest_5 ++ dktX1_digest_6
def dkwX1_digest_4 : List UInt8 := [16, 6, 42, 182, 0, 237, 79, 89, 16, 7, 42, 182, 1, 42, 79, 182, 1, 45, 3, 60, 27, 7]
abbrev dktX1_digest_4 : List UInt8 := dkwX1_digest_4 ++ dktX1_digest_5
def dkwX1_digest_3 : List UInt8 := [79, 89, 7, 42, 182, 1, 37, 79, 89, 8, 42, 182, 1, 39, 153, 0, 7, 4, 167, 0, 4, 3, 79, 89]
abbrev dktX1_digest_3 : List UInt8 := dkwX1_digest_3 ++ dktX1_digest_4
def dkwX1_digest_2 : List UInt8 := [182, 1, 30, 79, 89, 4, 42, 182, 1, 32, 79, 89, 5, 42, 182, 1, 34, 79, 89, 6, 42, 182, 1, 36]
abbrev dktX1_digest_2 : List UInt8 := dkwX1_digest_2 ++ dktX1_digest_3
def dkwX1_digest_1 : List UInt8 := [42, 27, 182, 1, 28, 182, 1, 21, 132, 1, 1, 167, 255, 238, 42, 16, 8, 188, 10, 89, 3, 42]
abbrev dktX1_digest_1 : List UInt8 := dkwX1_digest_1 ++ dktX1_digest_2
def dkwX1_digest_0 : List UInt8 := [42, 20, 1, 24, 181, 1, 16, 42, 42, 182, 1, 26, 182, 1, 21, 3, 60, 27, 16, 8, 162, 0, 18, 42]
abbrev dktX1_digest_0 : List UInt8 := dkwX1_digest_0 ++ dktX1_digest_1
theorem dksX1_digest_0 : cX1_digest.data.toList.drop 0 = dktX1_digest_0 := by decide +kernel
theorem dksX1_digest_1 : cX1_digest.data.toList.drop 24 = dktX1_digest_1 := dk_seg dksX1_digest_0 24 rfl rfl
theorem dksX1_digest_2 : cX1_digest.data.toList.drop 46 = dktX1_digest_2 := dk_seg dksX1_digest_1 22 rfl rfl
theorem dksX1_digest_3 : cX1_digest.data.toList.drop 70 = dktX1_digest_3 := dk_seg dksX1_digest_2 24 rfl rfl
theorem dksX1_digest_4 : cX1_digest.data.toList.drop 94 = dktX1_digest_4 := dk_seg dksX1_digest_3 24 rfl rfl
theorem dksX1_digest_5 : cX1_digest.data.toList.drop 116 = dktX1_digest_5 := dk_seg dksX1_digest_4 22 rfl rfl
theorem dksX1_digest_6 : cX1_digest.data.toList.drop 140 = dktX1_digest_6 := dk_seg dksX1_digest_5 24 rfl rfl
theorem dksX1_digest_7 : cX1_digest.data.toList.drop 164 = dktX1_digest_7 := dk_seg dksX1_digest_6 24 rfl rfl
theorem dksX1_digest_8 : cX1_digest.data.toList.drop 188 = dktX1_digest_8 := dk_seg dksX1_digest_7 24 rfl rfl
theorem dksX1_digest_9 : cX1_digest.data.toList.drop 210 = dktX1_digest_9 := dk_seg dksX1_digest_8 22 rfl rfl
theorem dksX1_digest_10 : cX1_digest.data.toList.drop 232 = dktX1_digest_10 := dk_seg dksX1_digest_9 22 rfl rfl
theorem dX1_digest_0 : decode cX1_digest 0 = .ok (.aload_n 0, 1) := dk_42 (dk_at dksX1_digest_0 0 rfl rfl)
theorem dX1_digest_1 : decode cX1_digest 1 = .ok (.ldc2_w 280, 3) := dk_20 1 24 (dk_at dksX1_digest_0 1 rfl rfl)
theorem dX1_digest_4 : decode cX1_digest 4 = .ok (.putfield 272, 3) := dk_181 1 16 (dk_at dksX1_digest_0 4 rfl rfl)
theorem dX1_digest_7 : decode cX1_digest 7 = .ok (.aload_n 0, 1) := dk_42 (dk_at dksX1_digest_0 7 rfl rfl)
theorem dX1_digest_8 : decode cX1_digest 8 = .ok (.aload_n 0, 1) := dk_42 (dk_at dksX1_digest_0 8 rfl rfl)
theorem dX1_digest_9 : decode cX1_digest 9 = .ok (.invokevirtual 282, 3) := dk_182 1 26 (dk_at dksX1_digest_0 9 rfl rfl)
theorem dX1_digest_12 : decode cX1_digest 12 = .ok (.invokevirtual 277, 3) := dk_182 1 21 (dk_at dksX1_digest_0 12 rfl rfl)
theorem dX1_digest_15 : decode cX1_digest 15 = .ok (.iconst 0, 1) := dk_3 (dk_at dksX1_digest_0 15 rfl rfl)
theorem dX1_digest_16 : decode cX1_digest 16 = .ok (.istore_n 1, 1) := dk_60 (dk_at dksX1_digest_0 16 rfl rfl)
theorem dX1_digest_17 : decode cX1_digest 17 = .ok (.iload_n 1, 1) := dk_27 (dk_at dksX1_digest_0 17 rfl rfl)
theorem dX1_digest_18 : decode cX1_digest 18 = .ok (.bipush 8, 2) := dk_16 8 (dk_at dksX1_digest_0 18 rfl rfl)
theorem dX1_digest_20 : decode cX1_digest 20 = .ok (.if_icmp .ge 18, 3) := dk_162 0 18 (dk_at dksX1_digest_0 20 rfl rfl)
theorem dX1_digest_23 : decode cX1_digest 23 = .ok (.aload_n 0, 1) := dk_42 (dk_at dksX1_digest_0 23 rfl rfl)
theorem dX1_digest_24 : decode cX1_digest 24 = .ok (.aload_n 0, 1) := dk_42 (dk_at dksX1_digest_1 0 rfl rfl)
theorem dX1_digest_25 : decode cX1_digest 25 = .ok (.iload_n 1, 1) := dk_27 (dk_at dksX1_digest_1 1 rfl rfl)
theorem dX1_digest_26 : decode cX1_digest 26 = .ok (.invokevirtual 284, 3) := dk_182 1 28 (dk_at dksX1_digest_1 2 rfl rfl)
theorem dX1_digest_29 : decode cX1_digest 29 = .ok (.invokevirtual 277, 3) := dk_182 1 21 (dk_at dksX1_digest_1 5 rfl rfl)
theorem dX1_digest_32 : decode cX1_digest 32 = .ok (.iinc 1 1, 3) := dk_132 1 1 (dk_at dksX1_digest_1 8 rfl rfl)
theorem dX1_digest_35 : decode cX1_digest 35 = .ok (.goto (-18), 3) := dk_167 255 238 (dk_at dksX1_digest_1 11 rfl rfl)
theorem dX1_digest_38 : decode cX1_digest 38 = .ok (.aload_n 0, 1) := dk_42 (dk_at dksX1_digest_1 14 rfl rfl)
theorem dX1_digest_39 : decode cX1_digest 39 = .ok (.bipush 8, 2) := dk_16 8 (dk_at dksX1_digest_1 15 rfl rfl)
theorem dX1_digest_41 : decode cX1_digest 41 = .ok (.newarray .int, 2) := dk_188_10 (dk_at dksX1_digest_1 17 rfl rfl)
theorem dX1_digest_43 : decode cX1_digest 43 = .ok (.dup, 1) := dk_89 (dk_at dksX1_digest_1 19 rfl rfl)
theorem dX1_digest_44 : decode cX1_digest 44 = .ok (.iconst 0, 1) := dk_3 (dk_at dksX1_digest_1 20 rfl rfl)
theorem dX1_digest_45 : decode cX1_digest 45 = .ok (.aload_n 0, 1) := dk_42 (dk_at dksX1_digest_1 21 rfl rfl)
theorem dX1_digest_46 : decode cX1_digest 46 = .ok (.invokevirtual 286, 3) := dk_182 1 30 (dk_at dksX1_digest_2 0 rfl rfl)
theorem dX1_digest_49 : decode cX1_digest 49 = .ok (.iastore, 1) := dk_79 (dk_at dksX1_digest_2 3 rfl rfl)
theorem dX1_digest_50 : decode cX1_digest 50 = .ok (.dup, 1) := dk_89 (dk_at dksX1_digest_2 4 rfl rfl)
theorem dX1_digest_51 : decode cX1_digest 51 = .ok (.iconst 1, 1) := dk_4 (dk_at dksX1_digest_2 5 rfl rfl)
theorem dX1_digest_52 : decode cX1_digest 52 = .ok (.aload_n 0, 1) := dk_42 (dk_at dksX1_digest_2 6 rfl rfl)
theorem dX1_digest_53 : decode cX1_digest 53 = .ok (.invokevirtual 288, 3) := dk_182 1 32 (dk_at dksX1_digest_2 7 rfl rfl)
theorem dX1_digest_56 : decode cX1_digest 56 = .ok (.iastore, 1) := dk_79 (dk_at dksX1_digest_2 10 rfl rfl)
theorem dX1_digest_57 : decode cX1_digest 57 = .ok (.dup, 1) := dk_89 (dk_at dksX1_digest_2 11 rfl rfl)
theorem dX1_digest_58 : decode cX1_digest 58 = .ok (.iconst 2, 1) := dk_5 (dk_at dksX1_digest_2 12 rfl rfl)
theorem dX1_digest_59 : decode cX1_digest 59 = .ok (.aload_n 0, 1) := dk_42 (dk_at dksX1_digest_2 13 rfl rfl)
theorem dX1_digest_60 : decode cX1_digest 60 = .ok (.invokevirtual 290, 3) := dk_182 1 34 (dk_at dksX1_digest_2 14 rfl rfl)
theorem dX1_digest_63 : decode cX1_digest 63 = .ok (.iastore, 1) := dk_79 (dk_at dksX1_digest_2 17 rfl rfl)
theorem dX1_digest_64 : decode cX1_digest 64 = .ok (.dup, 1) := dk_89 (dk_at dksX1_digest_2 18 rfl rfl)
theorem dX1_digest_65 : decode cX1_digest 65 = .ok (.iconst 3, 1) := dk_6 (dk_at dksX1_digest_2 19 rfl rfl)
theorem dX1_digest_66 : decode cX1_digest 66 = .ok (.aload_n 0, 1) := dk_42 (dk_at dksX1_digest_2 20 rfl rfl)
theorem dX1_digest_67 : decode cX1_digest 67 = .ok (.invokevirtual 292, 3) := dk_182 1 36 (dk_at dksX1_digest_2 21 rfl rfl)
theorem dX1_digest_70 : decode cX1_digest 70 = .ok (.iastore, 1) := dk_79 (dk_at dksX1_digest_3 0 rfl rfl)
theorem dX1_digest_71 : decode cX1_digest 71 = .ok (.dup, 1) := dk_89 (dk_at dksX1_digest_3 1 rfl rfl)
theorem dX1_digest_72 : decode cX1_digest 72 = .ok (.iconst 4, 1) := dk_7 (dk_at dksX1_digest_3 2 rfl rfl)
theorem dX1_digest_73 : decode cX1_digest 73 = .ok (.aload_n 0, 1) := dk_42 (dk_at dksX1_digest_3 3 rfl rfl)
theorem dX1_digest_74 : decode cX1_digest 74 = .ok (.invokevirtual 293, 3) := dk_182 1 37 (dk_at dksX1_digest_3 4 rfl rfl)
theorem dX1_digest_77 : decode cX1_digest 77 = .ok (.iastore, 1) := dk_79 (dk_at dksX1_digest_3 7 rfl rfl)
theorem dX1_digest_78 : decode cX1_digest 78 = .ok (.dup, 1) := dk_89 (dk_at dksX1_digest_3 8 rfl rfl)
theorem dX1_digest_79 : decode cX1_digest 79 = .ok (.iconst 5, 1) := dk_8 (dk_at dksX1_digest_3 9 rfl rfl)
theorem dX1_digest_80 : decode cX1_digest 80 = .ok (.aload_n 0, 1) := dk_42 (dk_at dksX1_digest_3 10 rfl rfl)
theorem dX1_digest_81 : decode cX1_digest 81 = .ok (.invokevirtual 295, 3) := dk_182 1 39 (dk_at dksX1_digest_3 11 rfl rfl)
theorem dX1_digest_84 : decode cX1_digest 84 = .ok (.ifCond .eq 7, 3) := dk_153 0 7 (dk_at dksX1_digest_3 14 rfl rfl)
theorem dX1_digest_87 : decode cX1_digest 87 = .ok (.iconst 1, 1) := dk_4 (dk_at dksX1_digest_3 17 rfl rfl)
theorem dX1_digest_88 : decode cX1_digest 88 = .ok (.goto 4, 3) := dk_167 0 4 (dk_at dksX1_digest_3 18 rfl rfl)
theorem dX1_digest_91 : decode cX1_digest 91 = .ok (.iconst 0, 1) := dk_3 (dk_at dksX1_digest_3 21 rfl rfl)
theorem dX1_digest_92 : decode cX1_digest 92 = .ok (.iastore, 1) := dk_79 (dk_at dksX1_digest_3 22 rfl rfl)
theorem dX1_digest_93 : decode cX1_digest 93 = .ok (.dup, 1) := dk_89 (dk_at dksX1_digest_3 23 rfl rfl)
theorem dX1_digest_94 : decode cX1_digest 94 = .ok (.bipush 6, 2) := dk_16 6 (dk_at dksX1_digest_4 0 rfl rfl)
theorem dX1_digest_96 : decode cX1_digest 96 = .ok (.aload_n 0, 1) := dk_42 (dk_at dksX1_digest_4 2 rfl rfl)
theorem dX1_digest_97 : decode cX1_digest 97 = .ok (.invokevirtual 237, 3) := dk_182 0 237 (dk_at dksX1_digest_4 3 rfl rfl)
theorem dX1_digest_100 : decode cX1_digest 100 = .ok (.iastore, 1) := dk_79 (dk_at dksX1_digest_4 6 rfl rfl)
theorem dX1_digest_101 : decode cX1_digest 101 = .ok (.dup, 1) := dk_89 (dk_at dksX1_digest_4 7 rfl rfl)
theorem dX1_digest_102 : decode cX1_digest 102 = .ok (.bipush 7, 2) := dk_16 7 (dk_at dksX1_digest_4 8 rfl rfl)
theorem dX1_digest_104 : decode cX1_digest 104 = .ok (.aload_n 0, 1) := dk_42 (dk_at dksX1_digest_4 10 rfl rfl)
theorem dX1_digest_105 : decode cX1_digest 105 = .ok (.invokevirtual 298, 3) := dk_182 1 42 (dk_at dksX1_digest_4 11 rfl rfl)
theorem dX1_digest_108 : decode cX1_digest 108 = .ok (.iastore, 1) := dk_79 (dk_at dksX1_digest_4 14 rfl rfl)
theorem dX1_digest_109 : decode cX1_digest 109 = .ok (.invokevirtual 301, 3) := dk_182 1 45 (dk_at dksX1_digest_4 15 rfl rfl)
theorem dX1_digest_112 : decode cX1_digest 112 = .ok (.iconst 0, 1) := dk_3 (dk_at dksX1_digest_4 18 rfl rfl)
theorem dX1_digest_113 : decode cX1_digest 113 = .ok (.istore_n 1, 1) := dk_60 (dk_at dksX1_digest_4 19 rfl rfl)
theorem dX1_digest_114 : decode cX1_digest 114 = .ok (.iload_n 1, 1) := dk_27 (dk_at dksX1_digest_4 20 rfl rfl)
theorem dX1_digest_115 : decode cX1_digest 115 = .ok (.iconst 4, 1) := dk_7 (dk_at dksX1_digest_4 21 rfl rfl)
theorem dX1_digest_116 : decode cX1_digest 116 = .ok (.if_icmp .ge 33, 3) := dk_162 0 33 (dk_at dksX1_digest_5 0 rfl rfl)
theorem dX1_digest_119 : decode cX1_digest 119 = .ok (.iconst 0, 1) := dk_3 (dk_at dksX1_digest_5 3 rfl rfl)
theorem dX1_digest_120 : decode cX1_digest 120 = .ok (.istore_n 2, 1) := dk_61 (dk_at dksX1_digest_5 4 rfl rfl)
theorem dX1_digest_121 : decode cX1_digest 121 = .ok (.iload_n 2, 1) := dk_28 (dk_at dksX1_digest_5 5 rfl rfl)
theorem dX1_digest_122 : decode cX1_digest 122 = .ok (.bipush 9, 2) := dk_16 9 (dk_at dksX1_digest_5 6 rfl rfl)
theorem dX1_digest_124 : decode cX1_digest 124 = .ok (.if_icmp .gt 19, 3) := dk_163 0 19 (dk_at dksX1_digest_5 8 rfl rfl)
theorem dX1_digest_127 : decode cX1_digest 127 = .ok (.aload_n 0, 1) := dk_42 (dk_at dksX1_digest_5 11 rfl rfl)
theorem dX1_digest_128 : decode cX1_digest 128 = .ok (.aload_n 0, 1) := dk_42 (dk_at dksX1_digest_5 12 rfl rfl)
theorem dX1_digest_129 : decode cX1_digest 129 = .ok (.iload_n 1, 1) := dk_27 (dk_at dksX1_digest_5 13 rfl rfl)
theorem dX1_digest_130 : decode cX1_digest 130 = .ok (.iload_n 2, 1) := dk_28 (dk_at dksX1_digest_5 14 rfl rfl)
theorem dX1_digest_131 : decode cX1_digest 131 = .ok (.invokevirtual 305, 3) := dk_182 1 49 (dk_at dksX1_digest_5 15 rfl rfl)
theorem dX1_digest_134 : decode cX1_digest 134 = .ok (.invokevirtual 277, 3) := dk_182 1 21 (dk_at dksX1_digest_5 18 rfl rfl)
theorem dX1_digest_137 : decode cX1_digest 137 = .ok (.iinc 2 1, 3) := dk_132 2 1 (dk_at dksX1_digest_5 21 rfl rfl)
theorem dX1_digest_140 : decode cX1_digest 140 = .ok (.goto (-19), 3) := dk_167 255 237 (dk_at dksX1_digest_6 0 rfl rfl)
theorem dX1_digest_143 : decode cX1_digest 143 = .ok (.iinc 1 1, 3) := dk_132 1 1 (dk_at dksX1_digest_6 3 rfl rfl)
theorem dX1_digest_146 : decode cX1_digest 146 = .ok (.goto (-32), 3) := dk_167 255 224 (dk_at dksX1_digest_6 6 rfl rfl)
theorem dX1_digest_149 : decode cX1_digest 149 = .ok (.iconst 0, 1) := dk_3 (dk_at dksX1_digest_6 9 rfl rfl)
theorem dX1_digest_150 : decode cX1_digest 150 = .ok (.istore_n 1, 1) := dk_60 (dk_at dksX1_digest_6 10 rfl rfl)
theorem dX1_digest_151 : decode cX1_digest 151 = .ok (.iload_n 1, 1) := dk_27 (dk_at dksX1_digest_6 11 rfl rfl)
theorem dX1_digest_152 : decode cX1_digest 152 = .ok (.iconst 3, 1) := dk_6 (dk_at dksX1_digest_6 12 rfl rfl)
theorem dX1_digest_153 : decode cX1_digest 153 = .ok (.if_icmp .ge 60, 3) := dk_162 0 60 (dk_at dksX1_digest_6 13 rfl rfl)
theorem dX1_digest_156 : decode cX1_digest 156 = .ok (.iconst 0, 1) := dk_3 (dk_at dksX1_digest_6 16 rfl rfl)
theorem dX1_digest_157 : decode cX1_digest 157 = .ok (.istore_n 2, 1) := dk_61 (dk_at dksX1_digest_6 17 rfl rfl)
theorem dX1_digest_158 : decode cX1_digest 158 = .ok (.iload_n 2, 1) := dk_28 (dk_at dksX1_digest_6 18 rfl rfl)
theorem dX1_digest_159 : decode cX1_digest 159 = .ok (.bipush 8, 2) := dk_16 8 (dk_at dksX1_digest_6 19 rfl rfl)
theorem dX1_digest_161 : decode cX1_digest 161 = .ok (.if_icmp .ge 46, 3) := dk_162 0 46 (dk_at dksX1_digest_6 21 rfl rfl)
theorem dX1_digest_164 : decode cX1_digest 164 = .ok (.aload_n 0, 1) := dk_42 (dk_at dksX1_digest_7 0 rfl rfl)
theorem dX1_digest_165 : decode cX1_digest 165 = .ok (.iconst 3, 1) := dk_6 (dk_at dksX1_digest_7 1 rfl rfl)
theorem dX1_digest_166 : decode cX1_digest 166 = .ok (.newarray .int, 2) := dk_188_10 (dk_at dksX1_digest_7 2 rfl rfl)
theorem dX1_digest_168 : decode cX1_digest 168 = .ok (.dup, 1) := dk_89 (dk_at dksX1_digest_7 4 rfl rfl)
theorem dX1_digest_169 : decode cX1_digest 169 = .ok (.iconst 0, 1) := dk_3 (dk_at dksX1_digest_7 5 rfl rfl)
theorem dX1_digest_170 : decode cX1_digest 170 = .ok (.aload_n 0, 1) := dk_42 (dk_at dksX1_digest_7 6 rfl rfl)
theorem dX1_digest_171 : decode cX1_digest 171 = .ok (.iload_n 1, 1) := dk_27 (dk_at dksX1_digest_7 7 rfl rfl)
theorem dX1_digest_172 : decode cX1_digest 172 = .ok (.iload_n 2, 1) := dk_28 (dk_at dksX1_digest_7 8 rfl rfl)
theorem dX1_digest_173 : decode cX1_digest 173 = .ok (.iconst 0, 1) := dk_3 (dk_at dksX1_digest_7 9 rfl rfl)
theorem dX1_digest_174 : decode cX1_digest 174 = .ok (.invokevirtual 308, 3) := dk_182 1 52 (dk_at dksX1_digest_7 10 rfl rfl)
theorem dX1_digest_177 : decode cX1_digest 177 = .ok (.iastore, 1) := dk_79 (dk_at dksX1_digest_7 13 rfl rfl)
theorem dX1_digest_178 : decode cX1_digest 178 = .ok (.dup, 1) := dk_89 (dk_at dksX1_digest_7 14 rfl rfl)
theorem dX1_digest_179 : decode cX1_digest 179 = .ok (.iconst 1, 1) := dk_4 (dk_at dksX1_digest_7 15 rfl rfl)
theorem dX1_digest_180 : decode cX1_digest 180 = .ok (.aload_n 0, 1) := dk_42 (dk_at dksX1_digest_7 16 rfl rfl)
theorem dX1_digest_181 : decode cX1_digest 181 = .ok (.iload_n 1, 1) := dk_27 (dk_at dksX1_digest_7 17 rfl rfl)
theorem dX1_digest_182 : decode cX1_digest 182 = .ok (.iload_n 2, 1) := dk_28 (dk_at dksX1_digest_7 18 rfl rfl)
theorem dX1_digest_183 : decode cX1_digest 183 = .ok (.iconst 1, 1) := dk_4 (dk_at dksX1_digest_7 19 rfl rfl)
theorem dX1_digest_184 : decode cX1_digest 184 = .ok (.invokevirtual 308, 3) := dk_182 1 52 (dk_at dksX1_digest_7 20 rfl rfl)
theorem dX1_digest_187 : decode cX1_digest 187 = .ok (.iastore, 1) := dk_79 (dk_at dksX1_digest_7 23 rfl rfl)
theorem dX1_digest_188 : decode cX1_digest 188 = .ok (.dup, 1) := dk_89 (dk_at dksX1_digest_8 0 rfl rfl)
theorem dX1_digest_189 : decode cX1_digest 189 = .ok (.iconst 2, 1) := dk_5 (dk_at dksX1_digest_8 1 rfl rfl)
theorem dX1_digest_190 : decode cX1_digest 190 = .ok (.aload_n 0, 1) := dk_42 (dk_at dksX1_digest_8 2 rfl rfl)
theorem dX1_digest_191 : decode cX1_digest 191 = .ok (.iload_n 1, 1) := dk_27 (dk_at dksX1_digest_8 3 rfl rfl)
theorem dX1_digest_192 : decode cX1_digest 192 = .ok (.iload_n 2, 1) := dk_28 (dk_at dksX1_digest_8 4 rfl rfl)
theorem dX1_digest_193 : decode cX1_digest 193 = .ok (.iconst 2, 1) := dk_5 (dk_at dksX1_digest_8 5 rfl rfl)
theorem dX1_digest_194 : decode cX1_digest 194 = .ok (.invokevirtual 308, 3) := dk_182 1 52 (dk_at dksX1_digest_8 6 rfl rfl)
theorem dX1_digest_197 : decode cX1_digest 197 = .ok (.iastore, 1) := dk_79 (dk_at dksX1_digest_8 9 rfl rfl)
theorem dX1_digest_198 : decode cX1_digest 198 = .ok (.invokevirtual 301, 3) := dk_182 1 45 (dk_at dksX1_digest_8 10 rfl rfl)
theorem dX1_digest_201 : decode cX1_digest 201 = .ok (.iinc 2 1, 3) := dk_132 2 1 (dk_at dksX1_digest_8 13 rfl rfl)
theorem dX1_digest_204 : decode cX1_digest 204 = .ok (.goto (-46), 3) := dk_167 255 210 (dk_at dksX1_digest_8 16 rfl rfl)
theorem dX1_digest_207 : decode cX1_digest 207 = .ok (.iinc 1 1, 3) := dk_132 1 1 (dk_at dksX1_digest_8 19 rfl rfl)
theorem dX1_digest_210 : decode cX1_digest 210 = .ok (.goto (-59), 3) := dk_167 255 197 (dk_at dksX1_digest_9 0 rfl rfl)
theorem dX1_digest_213 : decode cX1_digest 213 = .ok (.iconst 0, 1) := dk_3 (dk_at dksX1_digest_9 3 rfl rfl)
theorem dX1_digest_214 : decode cX1_digest 214 = .ok (.istore_n 1, 1) := dk_60 (dk_at dksX1_digest_9 4 rfl rfl)
theorem dX1_digest_215 : decode cX1_digest 215 = .ok (.iload_n 1, 1) := dk_27 (dk_at dksX1_digest_9 5 rfl rfl)
theorem dX1_digest_216 : decode cX1_digest 216 = .ok (.aload_n 0, 1) := dk_42 (dk_at dksX1_digest_9 6 rfl rfl)
theorem dX1_digest_217 : decode cX1_digest 217 = .ok (.getfield 173, 3) := dk_180 0 173 (dk_at dksX1_digest_9 7 rfl rfl)
theorem dX1_digest_220 : decode cX1_digest 220 = .ok (.if_icmp .ge 18, 3) := dk_162 0 18 (dk_at dksX1_digest_9 10 rfl rfl)
theorem dX1_digest_223 : decode cX1_digest 223 = .ok (.aload_n 0, 1) := dk_42 (dk_at dksX1_digest_9 13 rfl rfl)
theorem dX1_digest_224 : decode cX1_digest 224 = .ok (.aload_n 0, 1) := dk_42 (dk_at dksX1_digest_9 14 rfl rfl)
theorem dX1_digest_225 : decode cX1_digest 225 = .ok (.iload_n 1, 1) := dk_27 (dk_at dksX1_digest_9 15 rfl rfl)
theorem dX1_digest_226 : decode cX1_digest 226 = .ok (.invokevirtual 312, 3) := dk_182 1 56 (dk_at dksX1_digest_9 16 rfl rfl)
theorem dX1_digest_229 : decode cX1_digest 229 = .ok (.invokevirtual 277, 3) := dk_182 1 21 (dk_at dksX1_digest_9 19 rfl rfl)
theorem dX1_digest_232 : decode cX1_digest 232 = .ok (.iinc 1 1, 3) := dk_132 1 1 (dk_at dksX1_digest_10 0 rfl rfl)
theorem dX1_digest_235 : decode cX1_digest 235 = .ok (.goto (-20), 3) := dk_167 255 236 (dk_at dksX1_digest_10 3 rfl rfl)
theorem dX1_digest_238 : decode cX1_digest 238 = .ok (.aload_n 0, 1) := dk_42 (dk_at dksX1_digest_10 6 rfl rfl)
theorem dX1_digest_239 : decode cX1_digest 239 = .ok (.getfield 272, 3) := dk_180 1 16 (dk_at dksX1_digest_10 7 rfl rfl)
theorem dX1_digest_242 : decode cX1_digest 242 = .ok (.lreturn, 1) := dk_173 (dk_at dksX1_digest_10 10 rfl rfl)
abbrev cX1_add : ByteArray := prog_1_method_49_code
def yX1_add : MethodName := ⟨RX1, "add", "(I)V"⟩
def dkwX1_add_0 : List UInt8 := [42, 42, 180, 1, 16, 20, 1, 19, 105, 27, 133, 97, 181, 1, 16, 177]
abbrev dktX1_add_0 : List UInt8 := dkwX1_add_0 ++ []
theorem dksX1_add_0 : cX1_add.data.toList.drop 0 = dktX1_add_0 := by decide +kernel
theorem dX1_add_0 : decode cX1_add 0 = .ok (.aload_n 0, 1) := dk_42 (dk_at dksX1_add_0 0 rfl rfl)
theorem dX1_add_1 : decode cX1_add 1 = .ok (.aload_n 0, 1) := dk_42 (dk_at dksX1_add_0 1 rfl rfl)
theorem dX1_add_2 : decode cX1_add 2 = .ok (.getfield 272, 3) := dk_180 1 16 (dk_at dksX1_add_0 2 rfl rfl)
theorem dX1_add_5 : decode cX1_add 5 = .ok (.ldc2_w 275, 3) := dk_20 1 19 (dk_at dksX1_add_0 5 rfl rfl)
theorem dX1_add_8 : decode cX1_add 8 = .ok (.lmul, 1) := dk_105 (dk_at dksX1_add_0 8 rfl rfl)
theorem dX1_add_9 : decode cX1_add 9 = .ok (.iload_n 1, 1) := dk_27 (dk_at dksX1_add_0 9 rfl rfl)
theorem dX1_add_10 : decode cX1_add 10 = .ok (.i2l, 1) := dk_133 (dk_at dksX1_add_0 10 rfl rfl)
theorem dX1_add_11 : decode cX1_add 11 = .ok (.ladd, 1) := dk_97 (dk_at dksX1_add_0 11 rfl rfl)
theorem dX1_add_12 : decode cX1_add 12 = .ok (.putfield 272, 3) := dk_181 1 16 (dk_at dksX1_add_0 12 rfl rfl)
theorem dX1_add_15 : decode cX1_add 15 = .ok (.return_, 1) := dk_177 (dk_at dksX1_add_0 15 rfl rfl)
abbrev cX1_heard : ByteArray := prog_1_method_32_code
def yX1_heard : MethodName := ⟨RX1, "heard", "(I)I"⟩
def dkwX1_heard_0 : List UInt8 := [3, 16, 63, 27, 184, 0, 122, 42, 180, 0, 32, 27, 46, 172]
abbrev dktX1_heard_0 : List UInt8 := dkwX1_heard_0 ++ []
theorem dksX1_heard_0 : cX1_heard.data.toList.drop 0 = dktX1_heard_0 := by decide +kernel
theorem dX1_heard_0 : decode cX1_heard 0 = .ok (.iconst 0, 1) := dk_3 (dk_at dksX1_heard_0 0 rfl rfl)
theorem dX1_heard_1 : decode cX1_heard 1 = .ok (.bipush 63, 2) := dk_16 63 (dk_at dksX1_heard_0 1 rfl rfl)
theorem dX1_heard_3 : decode cX1_heard 3 = .ok (.iload_n 1, 1) := dk_27 (dk_at dksX1_heard_0 3 rfl rfl)
theorem dX1_heard_4 : decode cX1_heard 4 = .ok (.invokestatic 122, 3) := dk_184 0 122 (dk_at dksX1_heard_0 4 rfl rfl)
theorem dX1_heard_7 : decode cX1_heard 7 = .ok (.aload_n 0, 1) := dk_42 (dk_at dksX1_heard_0 7 rfl rfl)
theorem dX1_heard_8 : decode cX1_heard 8 = .ok (.getfield 32, 3) := dk_180 0 32 (dk_at dksX1_heard_0 8 rfl rfl)
theorem dX1_heard_11 : decode cX1_heard 11 = .ok (.iload_n 1, 1) := dk_27 (dk_at dksX1_heard_0 11 rfl rfl)
theorem dX1_heard_12 : decode cX1_heard 12 = .ok (.iaload, 1) := dk_46 (dk_at dksX1_heard_0 12 rfl rfl)
theorem dX1_heard_13 : decode cX1_heard 13 = .ok (.ireturn, 1) := dk_172 (dk_at dksX1_heard_0 13 rfl rfl)
abbrev cX1_requireFrom : ByteArray := prog_1_method_3_code
def yX1_requireFrom : MethodName := ⟨RX1, "requireFrom", "(III)V"⟩
def dkwX1_requireFrom_0 : List UInt8 := [28, 26, 161, 0, 12, 28, 27, 163, 0, 7, 4, 167, 0, 4, 3, 184, 0, 10, 177]
abbrev dktX1_requireFrom_0 : List UInt8 := dkwX1_requireFrom_0 ++ []
theorem dksX1_requireFrom_0 : cX1_requireFrom.data.toList.drop 0 = dktX1_requireFrom_0 := by decide +kernel
theorem dX1_requireFrom_0 : decode cX1_requireFrom 0 = .ok (.iload_n 2, 1) := dk_28 (dk_at dksX1_requireFrom_0 0 rfl rfl)
theorem dX1_requireFrom_1 : decode cX1_requireFrom 1 = .ok (.iload_n 0, 1) := dk_26 (dk_at dksX1_requireFrom_0 1 rfl rfl)
theorem dX1_requireFrom_2 : decode cX1_requireFrom 2 = .ok (.if_icmp .lt 12, 3) := dk_161 0 12 (dk_at dksX1_requireFrom_0 2 rfl rfl)
theorem dX1_requireFrom_5 : decode cX1_requireFrom 5 = .ok (.iload_n 2, 1) := dk_28 (dk_at dksX1_requireFrom_0 5 rfl rfl)
theorem dX1_requireFrom_6 : decode cX1_requireFrom 6 = .ok (.iload_n 1, 1) := dk_27 (dk_at dksX1_requireFrom_0 6 rfl rfl)
theorem dX1_requireFrom_7 : decode cX1_requireFrom 7 = .ok (.if_icmp .gt 7, 3) := dk_163 0 7 (dk_at dksX1_requireFrom_0 7 rfl rfl)
theorem dX1_requireFrom_10 : decode cX1_requireFrom 10 = .ok (.iconst 1, 1) := dk_4 (dk_at dksX1_requireFrom_0 10 rfl rfl)
theorem dX1_requireFrom_11 : decode cX1_requireFrom 11 = .ok (.goto 4, 3) := dk_167 0 4 (dk_at dksX1_requireFrom_0 11 rfl rfl)
theorem dX1_requireFrom_14 : decode cX1_requireFrom 14 = .ok (.iconst 0, 1) := dk_3 (dk_at dksX1_requireFrom_0 14 rfl rfl)
theorem dX1_requireFrom_15 : decode cX1_requireFrom 15 = .ok (.invokestatic 10, 3) := dk_184 0 10 (dk_at dksX1_requireFrom_0 15 rfl rfl)
theorem dX1_requireFrom_18 : decode cX1_requireFrom 18 = .ok (.return_, 1) := dk_177 (dk_at dksX1_requireFrom_0 18 rfl rfl)
abbrev cX1_require : ByteArray := prog_1_method_1_code
def yX1_require : MethodName := ⟨RX1, "require", "(Z)V"⟩
def dkwX1_require_0 : List UInt8 := [26, 154, 0, 11, 187, 0, 1, 89, 183, 0, 3, 191, 177]
abbrev dktX1_require_0 : List UInt8 := dkwX1_require_0 ++ []
theorem dksX1_require_0 : cX1_require.data.toList.drop 0 = dktX1_require_0 := by decide +kernel
theorem dX1_require_0 : decode cX1_require 0 = .ok (.iload_n 0, 1) := dk_26 (dk_at dksX1_require_0 0 rfl rfl)
theorem dX1_require_1 : decode cX1_require 1 = .ok (.ifCond .ne 11, 3) := dk_154 0 11 (dk_at dksX1_require_0 1 rfl rfl)
theorem dX1_require_4 : decode cX1_require 4 = .ok (.new 1, 3) := dk_187 0 1 (dk_at dksX1_require_0 4 rfl rfl)
theorem dX1_require_7 : decode cX1_require 7 = .ok (.dup, 1) := dk_89 (dk_at dksX1_require_0 7 rfl rfl)
theorem dX1_require_8 : decode cX1_require 8 = .ok (.invokespecial 3, 3) := dk_183 0 3 (dk_at dksX1_require_0 8 rfl rfl)
theorem dX1_require_11 : decode cX1_require 11 = .ok (.athrow, 1) := dk_191 (dk_at dksX1_require_0 11 rfl rfl)
theorem dX1_require_12 : decode cX1_require 12 = .ok (.return_, 1) := dk_177 (dk_at dksX1_require_0 12 rfl rfl)
abbrev cX1_addAll : ByteArray := prog_1_method_50_code
def yX1_addAll : MethodName := ⟨RX1, "addAll", "([I)V"⟩
def dkwX1_addAll_1 : List UInt8 := [182, 1, 21, 132, 4, 1, 167, 255, 235, 177]
abbrev dktX1_addAll_1 : List UInt8 := dkwX1_addAll_1 ++ []
def dkwX1_addAll_0 : List UInt8 := [43, 77, 44, 190, 62, 3, 54, 4, 21, 4, 29, 162, 0, 21, 44, 21, 4, 46, 54, 5, 42, 21, 5]
abbrev dktX1_addAll_0 : List UInt8 := dkwX1_addAll_0 ++ dktX1_addAll_1
theorem dksX1_addAll_0 : cX1_addAll.data.toList.drop 0 = dktX1_addAll_0 := by decide +kernel
theorem dksX1_addAll_1 : cX1_addAll.data.toList.drop 23 = dktX1_addAll_1 := dk_seg dksX1_addAll_0 23 rfl rfl
theorem dX1_addAll_0 : decode cX1_addAll 0 = .ok (.aload_n 1, 1) := dk_43 (dk_at dksX1_addAll_0 0 rfl rfl)
theorem dX1_addAll_1 : decode cX1_addAll 1 = .ok (.astore_n 2, 1) := dk_77 (dk_at dksX1_addAll_0 1 rfl rfl)
theorem dX1_addAll_2 : decode cX1_addAll 2 = .ok (.aload_n 2, 1) := dk_44 (dk_at dksX1_addAll_0 2 rfl rfl)
theorem dX1_addAll_3 : decode cX1_addAll 3 = .ok (.arraylength, 1) := dk_190 (dk_at dksX1_addAll_0 3 rfl rfl)
theorem dX1_addAll_4 : decode cX1_addAll 4 = .ok (.istore_n 3, 1) := dk_62 (dk_at dksX1_addAll_0 4 rfl rfl)
theorem dX1_addAll_5 : decode cX1_addAll 5 = .ok (.iconst 0, 1) := dk_3 (dk_at dksX1_addAll_0 5 rfl rfl)
theorem dX1_addAll_6 : decode cX1_addAll 6 = .ok (.istore 4, 2) := dk_54 4 (dk_at dksX1_addAll_0 6 rfl rfl)
theorem dX1_addAll_8 : decode cX1_addAll 8 = .ok (.iload 4, 2) := dk_21 4 (dk_at dksX1_addAll_0 8 rfl rfl)
theorem dX1_addAll_10 : decode cX1_addAll 10 = .ok (.iload_n 3, 1) := dk_29 (dk_at dksX1_addAll_0 10 rfl rfl)
theorem dX1_addAll_11 : decode cX1_addAll 11 = .ok (.if_icmp .ge 21, 3) := dk_162 0 21 (dk_at dksX1_addAll_0 11 rfl rfl)
theorem dX1_addAll_14 : decode cX1_addAll 14 = .ok (.aload_n 2, 1) := dk_44 (dk_at dksX1_addAll_0 14 rfl rfl)
theorem dX1_addAll_15 : decode cX1_addAll 15 = .ok (.iload 4, 2) := dk_21 4 (dk_at dksX1_addAll_0 15 rfl rfl)
theorem dX1_addAll_17 : decode cX1_addAll 17 = .ok (.iaload, 1) := dk_46 (dk_at dksX1_addAll_0 17 rfl rfl)
theorem dX1_addAll_18 : decode cX1_addAll 18 = .ok (.istore 5, 2) := dk_54 5 (dk_at dksX1_addAll_0 18 rfl rfl)
theorem dX1_addAll_20 : decode cX1_addAll 20 = .ok (.aload_n 0, 1) := dk_42 (dk_at dksX1_addAll_0 20 rfl rfl)
theorem dX1_addAll_21 : decode cX1_addAll 21 = .ok (.iload 5, 2) := dk_21 5 (dk_at dksX1_addAll_0 21 rfl rfl)
theorem dX1_addAll_23 : decode cX1_addAll 23 = .ok (.invokevirtual 277, 3) := dk_182 1 21 (dk_at dksX1_addAll_1 0 rfl rfl)
theorem dX1_addAll_26 : decode cX1_addAll 26 = .ok (.iinc 4 1, 3) := dk_132 4 1 (dk_at dksX1_addAll_1 3 rfl rfl)
theorem dX1_addAll_29 : decode cX1_addAll 29 = .ok (.goto (-21), 3) := dk_167 255 235 (dk_at dksX1_addAll_1 6 rfl rfl)
theorem dX1_addAll_32 : decode cX1_addAll 32 = .ok (.return_, 1) := dk_177 (dk_at dksX1_addAll_1 9 rfl rfl)
abbrev cX1_ofVoice : ByteArray := prog_1_method_39_code
def yX1_ofVoice : MethodName := ⟨RX1, "ofVoice", "(II)I"⟩
def dkwX1_ofVoice_4 : List UInt8 := [28, 46, 172]
abbrev dktX1_ofVoice_4 : List UInt8 := dkwX1_ofVoice_4 ++ []
def dkwX1_ofVoice_3 : List UInt8 := [180, 1, 0, 79, 89, 16, 8, 45, 180, 1, 3, 79, 89, 16, 9, 45, 180, 0, 208, 79, 58, 4, 25, 4]
abbrev dktX1_ofVoice_3 : List UInt8 := dkwX1_ofVoice_3 ++ dktX1_ofVoice_4
def dkwX1_ofVoice_2 : List UInt8 := [180, 0, 248, 79, 89, 8, 45, 180, 0, 250, 79, 89, 16, 6, 45, 180, 0, 253, 79, 89, 16, 7, 45]
abbrev dktX1_ofVoice_2 : List UInt8 := dkwX1_ofVoice_2 ++ dktX1_ofVoice_3
def dkwX1_ofVoice_1 : List UInt8 := [89, 4, 45, 180, 0, 205, 79, 89, 5, 45, 180, 0, 245, 79, 89, 6, 45, 180, 0, 246, 79, 89, 7, 45]
abbrev dktX1_ofVoice_1 : List UInt8 := dkwX1_ofVoice_1 ++ dktX1_ofVoice_2
def dkwX1_ofVoice_0 : List UInt8 := [42, 27, 182, 0, 192, 78, 3, 16, 9, 28, 184, 0, 122, 16, 10, 188, 10, 89, 3, 45, 180, 0, 196, 79]
abbrev dktX1_ofVoice_0 : List UInt8 := dkwX1_ofVoice_0 ++ dktX1_ofVoice_1
theorem dksX1_ofVoice_0 : cX1_ofVoice.data.toList.drop 0 = dktX1_ofVoice_0 := by decide +kernel
theorem dksX1_ofVoice_1 : cX1_ofVoice.data.toList.drop 24 = dktX1_ofVoice_1 := dk_seg dksX1_ofVoice_0 24 rfl rfl
theorem dksX1_ofVoice_2 : cX1_ofVoice.data.toList.drop 48 = dktX1_ofVoice_2 := dk_seg dksX1_ofVoice_1 24 rfl rfl
theorem dksX1_ofVoice_3 : cX1_ofVoice.data.toList.drop 71 = dktX1_ofVoice_3 := dk_seg dksX1_ofVoice_2 23 rfl rfl
theorem dksX1_ofVoice_4 : cX1_ofVoice.data.toList.drop 95 = dktX1_ofVoice_4 := dk_seg dksX1_ofVoice_3 24 rfl rfl
theorem dX1_ofVoice_0 : decode cX1_ofVoice 0 = .ok (.aload_n 0, 1) := dk_42 (dk_at dksX1_ofVoice_0 0 rfl rfl)
theorem dX1_ofVoice_1 : decode cX1_ofVoice 1 = .ok (.iload_n 1, 1) := dk_27 (dk_at dksX1_ofVoice_0 1 rfl rfl)
theorem dX1_ofVoice_2 : decode cX1_ofVoice 2 = .ok (.invokevirtual 192, 3) := dk_182 0 192 (dk_at dksX1_ofVoice_0 2 rfl rfl)
theorem dX1_ofVoice_5 : decode cX1_ofVoice 5 = .ok (.astore_n 3, 1) := dk_78 (dk_at dksX1_ofVoice_0 5 rfl rfl)
theorem dX1_ofVoice_6 : decode cX1_ofVoice 6 = .ok (.iconst 0, 1) := dk_3 (dk_at dksX1_ofVoice_0 6 rfl rfl)
theorem dX1_ofVoice_7 : decode cX1_ofVoice 7 = .ok (.bipush 9, 2) := dk_16 9 (dk_at dksX1_ofVoice_0 7 rfl rfl)
theorem dX1_ofVoice_9 : decode cX1_ofVoice 9 = .ok (.iload_n 2, 1) := dk_28 (dk_at dksX1_ofVoice_0 9 rfl rfl)
theorem dX1_ofVoice_10 : decode cX1_ofVoice 10 = .ok (.invokestatic 122, 3) := dk_184 0 122 (dk_at dksX1_ofVoice_0 10 rfl rfl)
theorem dX1_ofVoice_13 : decode cX1_ofVoice 13 = .ok (.bipush 10, 2) := dk_16 10 (dk_at dksX1_ofVoice_0 13 rfl rfl)
theorem dX1_ofVoice_15 : decode cX1_ofVoice 15 = .ok (.newarray .int, 2) := dk_188_10 (dk_at dksX1_ofVoice_0 15 rfl rfl)
theorem dX1_ofVoice_17 : decode cX1_ofVoice 17 = .ok (.dup, 1) := dk_89 (dk_at dksX1_ofVoice_0 17 rfl rfl)
theorem dX1_ofVoice_18 : decode cX1_ofVoice 18 = .ok (.iconst 0, 1) := dk_3 (dk_at dksX1_ofVoice_0 18 rfl rfl)
theorem dX1_ofVoice_19 : decode cX1_ofVoice 19 = .ok (.aload_n 3, 1) := dk_45 (dk_at dksX1_ofVoice_0 19 rfl rfl)
theorem dX1_ofVoice_20 : decode cX1_ofVoice 20 = .ok (.getfield 196, 3) := dk_180 0 196 (dk_at dksX1_ofVoice_0 20 rfl rfl)
theorem dX1_ofVoice_23 : decode cX1_ofVoice 23 = .ok (.iastore, 1) := dk_79 (dk_at dksX1_ofVoice_0 23 rfl rfl)
theorem dX1_ofVoice_24 : decode cX1_ofVoice 24 = .ok (.dup, 1) := dk_89 (dk_at dksX1_ofVoice_1 0 rfl rfl)
theorem dX1_ofVoice_25 : decode cX1_ofVoice 25 = .ok (.iconst 1, 1) := dk_4 (dk_at dksX1_ofVoice_1 1 rfl rfl)
theorem dX1_ofVoice_26 : decode cX1_ofVoice 26 = .ok (.aload_n 3, 1) := dk_45 (dk_at dksX1_ofVoice_1 2 rfl rfl)
theorem dX1_ofVoice_27 : decode cX1_ofVoice 27 = .ok (.getfield 205, 3) := dk_180 0 205 (dk_at dksX1_ofVoice_1 3 rfl rfl)
theorem dX1_ofVoice_30 : decode cX1_ofVoice 30 = .ok (.iastore, 1) := dk_79 (dk_at dksX1_ofVoice_1 6 rfl rfl)
theorem dX1_ofVoice_31 : decode cX1_ofVoice 31 = .ok (.dup, 1) := dk_89 (dk_at dksX1_ofVoice_1 7 rfl rfl)
theorem dX1_ofVoice_32 : decode cX1_ofVoice 32 = .ok (.iconst 2, 1) := dk_5 (dk_at dksX1_ofVoice_1 8 rfl rfl)
theorem dX1_ofVoice_33 : decode cX1_ofVoice 33 = .ok (.aload_n 3, 1) := dk_45 (dk_at dksX1_ofVoice_1 9 rfl rfl)
theorem dX1_ofVoice_34 : decode cX1_ofVoice 34 = .ok (.getfield 245, 3) := dk_180 0 245 (dk_at dksX1_ofVoice_1 10 rfl rfl)
theorem dX1_ofVoice_37 : decode cX1_ofVoice 37 = .ok (.iastore, 1) := dk_79 (dk_at dksX1_ofVoice_1 13 rfl rfl)
theorem dX1_ofVoice_38 : decode cX1_ofVoice 38 = .ok (.dup, 1) := dk_89 (dk_at dksX1_ofVoice_1 14 rfl rfl)
theorem dX1_ofVoice_39 : decode cX1_ofVoice 39 = .ok (.iconst 3, 1) := dk_6 (dk_at dksX1_ofVoice_1 15 rfl rfl)
theorem dX1_ofVoice_40 : decode cX1_ofVoice 40 = .ok (.aload_n 3, 1) := dk_45 (dk_at dksX1_ofVoice_1 16 rfl rfl)
theorem dX1_ofVoice_41 : decode cX1_ofVoice 41 = .ok (.getfield 246, 3) := dk_180 0 246 (dk_at dksX1_ofVoice_1 17 rfl rfl)
theorem dX1_ofVoice_44 : decode cX1_ofVoice 44 = .ok (.iastore, 1) := dk_79 (dk_at dksX1_ofVoice_1 20 rfl rfl)
theorem dX1_ofVoice_45 : decode cX1_ofVoice 45 = .ok (.dup, 1) := dk_89 (dk_at dksX1_ofVoice_1 21 rfl rfl)
theorem dX1_ofVoice_46 : decode cX1_ofVoice 46 = .ok (.iconst 4, 1) := dk_7 (dk_at dksX1_ofVoice_1 22 rfl rfl)
theorem dX1_ofVoice_47 : decode cX1_ofVoice 47 = .ok (.aload_n 3, 1) := dk_45 (dk_at dksX1_ofVoice_1 23 rfl rfl)
theorem dX1_ofVoice_48 : decode cX1_ofVoice 48 = .ok (.getfield 248, 3) := dk_180 0 248 (dk_at dksX1_ofVoice_2 0 rfl rfl)
theorem dX1_ofVoice_51 : decode cX1_ofVoice 51 = .ok (.iastore, 1) := dk_79 (dk_at dksX1_ofVoice_2 3 rfl rfl)
theorem dX1_ofVoice_52 : decode cX1_ofVoice 52 = .ok (.dup, 1) := dk_89 (dk_at dksX1_ofVoice_2 4 rfl rfl)
theorem dX1_ofVoice_53 : decode cX1_ofVoice 53 = .ok (.iconst 5, 1) := dk_8 (dk_at dksX1_ofVoice_2 5 rfl rfl)
theorem dX1_ofVoice_54 : decode cX1_ofVoice 54 = .ok (.aload_n 3, 1) := dk_45 (dk_at dksX1_ofVoice_2 6 rfl rfl)
theorem dX1_ofVoice_55 : decode cX1_ofVoice 55 = .ok (.getfield 250, 3) := dk_180 0 250 (dk_at dksX1_ofVoice_2 7 rfl rfl)
theorem dX1_ofVoice_58 : decode cX1_ofVoice 58 = .ok (.iastore, 1) := dk_79 (dk_at dksX1_ofVoice_2 10 rfl rfl)
theorem dX1_ofVoice_59 : decode cX1_ofVoice 59 = .ok (.dup, 1) := dk_89 (dk_at dksX1_ofVoice_2 11 rfl rfl)
theorem dX1_ofVoice_60 : decode cX1_ofVoice 60 = .ok (.bipush 6, 2) := dk_16 6 (dk_at dksX1_ofVoice_2 12 rfl rfl)
theorem dX1_ofVoice_62 : decode cX1_ofVoice 62 = .ok (.aload_n 3, 1) := dk_45 (dk_at dksX1_ofVoice_2 14 rfl rfl)
theorem dX1_ofVoice_63 : decode cX1_ofVoice 63 = .ok (.getfield 253, 3) := dk_180 0 253 (dk_at dksX1_ofVoice_2 15 rfl rfl)
theorem dX1_ofVoice_66 : decode cX1_ofVoice 66 = .ok (.iastore, 1) := dk_79 (dk_at dksX1_ofVoice_2 18 rfl rfl)
theorem dX1_ofVoice_67 : decode cX1_ofVoice 67 = .ok (.dup, 1) := dk_89 (dk_at dksX1_ofVoice_2 19 rfl rfl)
theorem dX1_ofVoice_68 : decode cX1_ofVoice 68 = .ok (.bipush 7, 2) := dk_16 7 (dk_at dksX1_ofVoice_2 20 rfl rfl)
theorem dX1_ofVoice_70 : decode cX1_ofVoice 70 = .ok (.aload_n 3, 1) := dk_45 (dk_at dksX1_ofVoice_2 22 rfl rfl)
theorem dX1_ofVoice_71 : decode cX1_ofVoice 71 = .ok (.getfield 256, 3) := dk_180 1 0 (dk_at dksX1_ofVoice_3 0 rfl rfl)
theorem dX1_ofVoice_74 : decode cX1_ofVoice 74 = .ok (.iastore, 1) := dk_79 (dk_at dksX1_ofVoice_3 3 rfl rfl)
theorem dX1_ofVoice_75 : decode cX1_ofVoice 75 = .ok (.dup, 1) := dk_89 (dk_at dksX1_ofVoice_3 4 rfl rfl)
theorem dX1_ofVoice_76 : decode cX1_ofVoice 76 = .ok (.bipush 8, 2) := dk_16 8 (dk_at dksX1_ofVoice_3 5 rfl rfl)
theorem dX1_ofVoice_78 : decode cX1_ofVoice 78 = .ok (.aload_n 3, 1) := dk_45 (dk_at dksX1_ofVoice_3 7 rfl rfl)
theorem dX1_ofVoice_79 : decode cX1_ofVoice 79 = .ok (.getfield 259, 3) := dk_180 1 3 (dk_at dksX1_ofVoice_3 8 rfl rfl)
theorem dX1_ofVoice_82 : decode cX1_ofVoice 82 = .ok (.iastore, 1) := dk_79 (dk_at dksX1_ofVoice_3 11 rfl rfl)
theorem dX1_ofVoice_83 : decode cX1_ofVoice 83 = .ok (.dup, 1) := dk_89 (dk_at dksX1_ofVoice_3 12 rfl rfl)
theorem dX1_ofVoice_84 : decode cX1_ofVoice 84 = .ok (.bipush 9, 2) := dk_16 9 (dk_at dksX1_ofVoice_3 13 rfl rfl)
theorem dX1_ofVoice_86 : decode cX1_ofVoice 86 = .ok (.aload_n 3, 1) := dk_45 (dk_at dksX1_ofVoice_3 15 rfl rfl)
theorem dX1_ofVoice_87 : decode cX1_ofVoice 87 = .ok (.getfield 208, 3) := dk_180 0 208 (dk_at dksX1_ofVoice_3 16 rfl rfl)
theorem dX1_ofVoice_90 : decode cX1_ofVoice 90 = .ok (.iastore, 1) := dk_79 (dk_at dksX1_ofVoice_3 19 rfl rfl)
theorem dX1_ofVoice_91 : decode cX1_ofVoice 91 = .ok (.astore 4, 2) := dk_58 4 (dk_at dksX1_ofVoice_3 20 rfl rfl)
theorem dX1_ofVoice_93 : decode cX1_ofVoice 93 = .ok (.aload 4, 2) := dk_25 4 (dk_at dksX1_ofVoice_3 22 rfl rfl)
theorem dX1_ofVoice_95 : decode cX1_ofVoice 95 = .ok (.iload_n 2, 1) := dk_28 (dk_at dksX1_ofVoice_4 0 rfl rfl)
theorem dX1_ofVoice_96 : decode cX1_ofVoice 96 = .ok (.iaload, 1) := dk_46 (dk_at dksX1_ofVoice_4 1 rfl rfl)
theorem dX1_ofVoice_97 : decode cX1_ofVoice 97 = .ok (.ireturn, 1) := dk_172 (dk_at dksX1_ofVoice_4 2 rfl rfl)
abbrev cX1_voice : ByteArray := prog_1_method_11_code
def yX1_voice : MethodName := ⟨RX1, "voice", "(I)LMelodeon$Voice;"⟩
def dkwX1_voice_0 : List UInt8 := [27, 7, 184, 0, 114, 42, 180, 0, 35, 180, 0, 108, 27, 182, 0, 118, 192, 0, 111, 176]
abbrev dktX1_voice_0 : List UInt8 := dkwX1_voice_0 ++ []
theorem dksX1_voice_0 : cX1_voice.data.toList.drop 0 = dktX1_voice_0 := by decide +kernel
theorem dX1_voice_0 : decode cX1_voice 0 = .ok (.iload_n 1, 1) := dk_27 (dk_at dksX1_voice_0 0 rfl rfl)
theorem dX1_voice_1 : decode cX1_voice 1 = .ok (.iconst 4, 1) := dk_7 (dk_at dksX1_voice_0 1 rfl rfl)
theorem dX1_voice_2 : decode cX1_voice 2 = .ok (.invokestatic 114, 3) := dk_184 0 114 (dk_at dksX1_voice_0 2 rfl rfl)
theorem dX1_voice_5 : decode cX1_voice 5 = .ok (.aload_n 0, 1) := dk_42 (dk_at dksX1_voice_0 5 rfl rfl)
theorem dX1_voice_6 : decode cX1_voice 6 = .ok (.getfield 35, 3) := dk_180 0 35 (dk_at dksX1_voice_0 6 rfl rfl)
theorem dX1_voice_9 : decode cX1_voice 9 = .ok (.getfield 108, 3) := dk_180 0 108 (dk_at dksX1_voice_0 9 rfl rfl)
theorem dX1_voice_12 : decode cX1_voice 12 = .ok (.iload_n 1, 1) := dk_27 (dk_at dksX1_voice_0 12 rfl rfl)
theorem dX1_voice_13 : decode cX1_voice 13 = .ok (.invokevirtual 118, 3) := dk_182 0 118 (dk_at dksX1_voice_0 13 rfl rfl)
theorem dX1_voice_16 : decode cX1_voice 16 = .ok (.checkcast 111, 3) := dk_192 0 111 (dk_at dksX1_voice_0 16 rfl rfl)
theorem dX1_voice_19 : decode cX1_voice 19 = .ok (.areturn, 1) := dk_176 (dk_at dksX1_voice_0 19 rfl rfl)
abbrev cX1_requireIndex : ByteArray := prog_1_method_2_code
def yX1_requireIndex : MethodName := ⟨RX1, "requireIndex", "(II)V"⟩
def dkwX1_requireIndex_0 : List UInt8 := [26, 155, 0, 8, 26, 27, 161, 0, 11, 187, 0, 7, 89, 183, 0, 9, 191, 177]
abbrev dktX1_requireIndex_0 : List UInt8 := dkwX1_requireIndex_0 ++ []
theorem dksX1_requireIndex_0 : cX1_requireIndex.data.toList.drop 0 = dktX1_requireIndex_0 := by decide +kernel
theorem dX1_requireIndex_0 : decode cX1_requireIndex 0 = .ok (.iload_n 0, 1) := dk_26 (dk_at dksX1_requireIndex_0 0 rfl rfl)
theorem dX1_requireIndex_1 : decode cX1_requireIndex 1 = .ok (.ifCond .lt 8, 3) := dk_155 0 8 (dk_at dksX1_requireIndex_0 1 rfl rfl)
theorem dX1_requireIndex_4 : decode cX1_requireIndex 4 = .ok (.iload_n 0, 1) := dk_26 (dk_at dksX1_requireIndex_0 4 rfl rfl)
theorem dX1_requireIndex_5 : decode cX1_requireIndex 5 = .ok (.iload_n 1, 1) := dk_27 (dk_at dksX1_requireIndex_0 5 rfl rfl)
theorem dX1_requireIndex_6 : decode cX1_requireIndex 6 = .ok (.if_icmp .lt 11, 3) := dk_161 0 11 (dk_at dksX1_requireIndex_0 6 rfl rfl)
theorem dX1_requireIndex_9 : decode cX1_requireIndex 9 = .ok (.new 7, 3) := dk_187 0 7 (dk_at dksX1_requireIndex_0 9 rfl rfl)
theorem dX1_requireIndex_12 : decode cX1_requireIndex 12 = .ok (.dup, 1) := dk_89 (dk_at dksX1_requireIndex_0 12 rfl rfl)
theorem dX1_requireIndex_13 : decode cX1_requireIndex 13 = .ok (.invokespecial 9, 3) := dk_183 0 9 (dk_at dksX1_requireIndex_0 13 rfl rfl)
theorem dX1_requireIndex_16 : decode cX1_requireIndex 16 = .ok (.athrow, 1) := dk_191 (dk_at dksX1_requireIndex_0 16 rfl rfl)
theorem dX1_requireIndex_17 : decode cX1_requireIndex 17 = .ok (.return_, 1) := dk_177 (dk_at dksX1_requireIndex_0 17 rfl rfl)
abbrev cX1_ofStep : ByteArray := prog_1_method_44_code
def yX1_ofStep : MethodName := ⟨RX1, "ofStep", "(III)I"⟩
def dkwX1_ofStep_2 : List UInt8 := [180, 0, 221, 28, 46, 79, 58, 5, 25, 5, 29, 46, 172]
abbrev dktX1_ofStep_2 : List UInt8 := dkwX1_ofStep_2 ++ []
def dkwX1_ofStep_1 : List UInt8 := [25, 4, 180, 0, 215, 28, 46, 79, 89, 4, 25, 4, 180, 0, 218, 28, 46, 79, 89, 5, 25, 4]
abbrev dktX1_ofStep_1 : List UInt8 := dkwX1_ofStep_1 ++ dktX1_ofStep_2
def dkwX1_ofStep_0 : List UInt8 := [42, 27, 182, 0, 211, 58, 4, 28, 16, 8, 184, 0, 114, 3, 5, 29, 184, 0, 122, 6, 188, 10, 89, 3]
abbrev dktX1_ofStep_0 : List UInt8 := dkwX1_ofStep_0 ++ dktX1_ofStep_1
theorem dksX1_ofStep_0 : cX1_ofStep.data.toList.drop 0 = dktX1_ofStep_0 := by decide +kernel
theorem dksX1_ofStep_1 : cX1_ofStep.data.toList.drop 24 = dktX1_ofStep_1 := dk_seg dksX1_ofStep_0 24 rfl rfl
theorem dksX1_ofStep_2 : cX1_ofStep.data.toList.drop 46 = dktX1_ofStep_2 := dk_seg dksX1_ofStep_1 22 rfl rfl
theorem dX1_ofStep_0 : decode cX1_ofStep 0 = .ok (.aload_n 0, 1) := dk_42 (dk_at dksX1_ofStep_0 0 rfl rfl)
theorem dX1_ofStep_1 : decode cX1_ofStep 1 = .ok (.iload_n 1, 1) := dk_27 (dk_at dksX1_ofStep_0 1 rfl rfl)
theorem dX1_ofStep_2 : decode cX1_ofStep 2 = .ok (.invokevirtual 211, 3) := dk_182 0 211 (dk_at dksX1_ofStep_0 2 rfl rfl)
theorem dX1_ofStep_5 : decode cX1_ofStep 5 = .ok (.astore 4, 2) := dk_58 4 (dk_at dksX1_ofStep_0 5 rfl rfl)
theorem dX1_ofStep_7 : decode cX1_ofStep 7 = .ok (.iload_n 2, 1) := dk_28 (dk_at dksX1_ofStep_0 7 rfl rfl)
theorem dX1_ofStep_8 : decode cX1_ofStep 8 = .ok (.bipush 8, 2) := dk_16 8 (dk_at dksX1_ofStep_0 8 rfl rfl)
theorem dX1_ofStep_10 : decode cX1_ofStep 10 = .ok (.invokestatic 114, 3) := dk_184 0 114 (dk_at dksX1_ofStep_0 10 rfl rfl)
theorem dX1_ofStep_13 : decode cX1_ofStep 13 = .ok (.iconst 0, 1) := dk_3 (dk_at dksX1_ofStep_0 13 rfl rfl)
theorem dX1_ofStep_14 : decode cX1_ofStep 14 = .ok (.iconst 2, 1) := dk_5 (dk_at dksX1_ofStep_0 14 rfl rfl)
theorem dX1_ofStep_15 : decode cX1_ofStep 15 = .ok (.iload_n 3, 1) := dk_29 (dk_at dksX1_ofStep_0 15 rfl rfl)
theorem dX1_ofStep_16 : decode cX1_ofStep 16 = .ok (.invokestatic 122, 3) := dk_184 0 122 (dk_at dksX1_ofStep_0 16 rfl rfl)
theorem dX1_ofStep_19 : decode cX1_ofStep 19 = .ok (.iconst 3, 1) := dk_6 (dk_at dksX1_ofStep_0 19 rfl rfl)
theorem dX1_ofStep_20 : decode cX1_ofStep 20 = .ok (.newarray .int, 2) := dk_188_10 (dk_at dksX1_ofStep_0 20 rfl rfl)
theorem dX1_ofStep_22 : decode cX1_ofStep 22 = .ok (.dup, 1) := dk_89 (dk_at dksX1_ofStep_0 22 rfl rfl)
theorem dX1_ofStep_23 : decode cX1_ofStep 23 = .ok (.iconst 0, 1) := dk_3 (dk_at dksX1_ofStep_0 23 rfl rfl)
theorem dX1_ofStep_24 : decode cX1_ofStep 24 = .ok (.aload 4, 2) := dk_25 4 (dk_at dksX1_ofStep_1 0 rfl rfl)
theorem dX1_ofStep_26 : decode cX1_ofStep 26 = .ok (.getfield 215, 3) := dk_180 0 215 (dk_at dksX1_ofStep_1 2 rfl rfl)
theorem dX1_ofStep_29 : decode cX1_ofStep 29 = .ok (.iload_n 2, 1) := dk_28 (dk_at dksX1_ofStep_1 5 rfl rfl)
theorem dX1_ofStep_30 : decode cX1_ofStep 30 = .ok (.iaload, 1) := dk_46 (dk_at dksX1_ofStep_1 6 rfl rfl)
theorem dX1_ofStep_31 : decode cX1_ofStep 31 = .ok (.iastore, 1) := dk_79 (dk_at dksX1_ofStep_1 7 rfl rfl)
theorem dX1_ofStep_32 : decode cX1_ofStep 32 = .ok (.dup, 1) := dk_89 (dk_at dksX1_ofStep_1 8 rfl rfl)
theorem dX1_ofStep_33 : decode cX1_ofStep 33 = .ok (.iconst 1, 1) := dk_4 (dk_at dksX1_ofStep_1 9 rfl rfl)
theorem dX1_ofStep_34 : decode cX1_ofStep 34 = .ok (.aload 4, 2) := dk_25 4 (dk_at dksX1_ofStep_1 10 rfl rfl)
theorem dX1_ofStep_36 : decode cX1_ofStep 36 = .ok (.getfield 218, 3) := dk_180 0 218 (dk_at dksX1_ofStep_1 12 rfl rfl)
theorem dX1_ofStep_39 : decode cX1_ofStep 39 = .ok (.iload_n 2, 1) := dk_28 (dk_at dksX1_ofStep_1 15 rfl rfl)
theorem dX1_ofStep_40 : decode cX1_ofStep 40 = .ok (.iaload, 1) := dk_46 (dk_at dksX1_ofStep_1 16 rfl rfl)
theorem dX1_ofStep_41 : decode cX1_ofStep 41 = .ok (.iastore, 1) := dk_79 (dk_at dksX1_ofStep_1 17 rfl rfl)
theorem dX1_ofStep_42 : decode cX1_ofStep 42 = .ok (.dup, 1) := dk_89 (dk_at dksX1_ofStep_1 18 rfl rfl)
theorem dX1_ofStep_43 : decode cX1_ofStep 43 = .ok (.iconst 2, 1) := dk_5 (dk_at dksX1_ofStep_1 19 rfl rfl)
theorem dX1_ofStep_44 : decode cX1_ofStep 44 = .ok (.aload 4, 2) := dk_25 4 (dk_at dksX1_ofStep_1 20 rfl rfl)
theorem dX1_ofStep_46 : decode cX1_ofStep 46 = .ok (.getfield 221, 3) := dk_180 0 221 (dk_at dksX1_ofStep_2 0 rfl rfl)
theorem dX1_ofStep_49 : decode cX1_ofStep 49 = .ok (.iload_n 2, 1) := dk_28 (dk_at dksX1_ofStep_2 3 rfl rfl)
theorem dX1_ofStep_50 : decode cX1_ofStep 50 = .ok (.iaload, 1) := dk_46 (dk_at dksX1_ofStep_2 4 rfl rfl)
theorem dX1_ofStep_51 : decode cX1_ofStep 51 = .ok (.iastore, 1) := dk_79 (dk_at dksX1_ofStep_2 5 rfl rfl)
theorem dX1_ofStep_52 : decode cX1_ofStep 52 = .ok (.astore 5, 2) := dk_58 5 (dk_at dksX1_ofStep_2 6 rfl rfl)
theorem dX1_ofStep_54 : decode cX1_ofStep 54 = .ok (.aload 5, 2) := dk_25 5 (dk_at dksX1_ofStep_2 8 rfl rfl)
theorem dX1_ofStep_56 : decode cX1_ofStep 56 = .ok (.iload_n 3, 1) := dk_29 (dk_at dksX1_ofStep_2 10 rfl rfl)
theorem dX1_ofStep_57 : decode cX1_ofStep 57 = .ok (.iaload, 1) := dk_46 (dk_at dksX1_ofStep_2 11 rfl rfl)
theorem dX1_ofStep_58 : decode cX1_ofStep 58 = .ok (.ireturn, 1) := dk_172 (dk_at dksX1_ofStep_2 12 rfl rfl)
abbrev cX1_track : ByteArray := prog_1_method_12_code
def yX1_track : MethodName := ⟨RX1, "track", "(I)LMelodeon$Track;"⟩
def dkwX1_track_0 : List UInt8 := [27, 6, 184, 0, 114, 42, 180, 0, 86, 27, 182, 0, 118, 192, 0, 105, 176]
abbrev dktX1_track_0 : List UInt8 := dkwX1_track_0 ++ []
theorem dksX1_track_0 : cX1_track.data.toList.drop 0 = dktX1_track_0 := by decide +kernel
theorem dX1_track_0 : decode cX1_track 0 = .ok (.iload_n 1, 1) := dk_27 (dk_at dksX1_track_0 0 rfl rfl)
theorem dX1_track_1 : decode cX1_track 1 = .ok (.iconst 3, 1) := dk_6 (dk_at dksX1_track_0 1 rfl rfl)
theorem dX1_track_2 : decode cX1_track 2 = .ok (.invokestatic 114, 3) := dk_184 0 114 (dk_at dksX1_track_0 2 rfl rfl)
theorem dX1_track_5 : decode cX1_track 5 = .ok (.aload_n 0, 1) := dk_42 (dk_at dksX1_track_0 5 rfl rfl)
theorem dX1_track_6 : decode cX1_track 6 = .ok (.getfield 86, 3) := dk_180 0 86 (dk_at dksX1_track_0 6 rfl rfl)
theorem dX1_track_9 : decode cX1_track 9 = .ok (.iload_n 1, 1) := dk_27 (dk_at dksX1_track_0 9 rfl rfl)
theorem dX1_track_10 : decode cX1_track 10 = .ok (.invokevirtual 118, 3) := dk_182 0 118 (dk_at dksX1_track_0 10 rfl rfl)
theorem dX1_track_13 : decode cX1_track 13 = .ok (.checkcast 105, 3) := dk_192 0 105 (dk_at dksX1_track_0 13 rfl rfl)
theorem dX1_track_16 : decode cX1_track 16 = .ok (.areturn, 1) := dk_176 (dk_at dksX1_track_0 16 rfl rfl)
abbrev cX1_inDelay : ByteArray := prog_1_method_45_code
def yX1_inDelay : MethodName := ⟨RX1, "inDelay", "(I)I"⟩
def dkwX1_inDelay_1 : List UInt8 := [42, 180, 0, 173, 112, 46, 172]
abbrev dktX1_inDelay_1 : List UInt8 := dkwX1_inDelay_1 ++ []
def dkwX1_inDelay_0 : List UInt8 := [27, 42, 180, 0, 173, 184, 0, 114, 42, 180, 0, 35, 180, 0, 182, 42, 180, 0, 35, 180, 0, 185, 27, 96]
abbrev dktX1_inDelay_0 : List UInt8 := dkwX1_inDelay_0 ++ dktX1_inDelay_1
theorem dksX1_inDelay_0 : cX1_inDelay.data.toList.drop 0 = dktX1_inDelay_0 := by decide +kernel
theorem dksX1_inDelay_1 : cX1_inDelay.data.toList.drop 24 = dktX1_inDelay_1 := dk_seg dksX1_inDelay_0 24 rfl rfl
theorem dX1_inDelay_0 : decode cX1_inDelay 0 = .ok (.iload_n 1, 1) := dk_27 (dk_at dksX1_inDelay_0 0 rfl rfl)
theorem dX1_inDelay_1 : decode cX1_inDelay 1 = .ok (.aload_n 0, 1) := dk_42 (dk_at dksX1_inDelay_0 1 rfl rfl)
theorem dX1_inDelay_2 : decode cX1_inDelay 2 = .ok (.getfield 173, 3) := dk_180 0 173 (dk_at dksX1_inDelay_0 2 rfl rfl)
theorem dX1_inDelay_5 : decode cX1_inDelay 5 = .ok (.invokestatic 114, 3) := dk_184 0 114 (dk_at dksX1_inDelay_0 5 rfl rfl)
theorem dX1_inDelay_8 : decode cX1_inDelay 8 = .ok (.aload_n 0, 1) := dk_42 (dk_at dksX1_inDelay_0 8 rfl rfl)
theorem dX1_inDelay_9 : decode cX1_inDelay 9 = .ok (.getfield 35, 3) := dk_180 0 35 (dk_at dksX1_inDelay_0 9 rfl rfl)
theorem dX1_inDelay_12 : decode cX1_inDelay 12 = .ok (.getfield 182, 3) := dk_180 0 182 (dk_at dksX1_inDelay_0 12 rfl rfl)
theorem dX1_inDelay_15 : decode cX1_inDelay 15 = .ok (.aload_n 0, 1) := dk_42 (dk_at dksX1_inDelay_0 15 rfl rfl)
theorem dX1_inDelay_16 : decode cX1_inDelay 16 = .ok (.getfield 35, 3) := dk_180 0 35 (dk_at dksX1_inDelay_0 16 rfl rfl)
theorem dX1_inDelay_19 : decode cX1_inDelay 19 = .ok (.getfield 185, 3) := dk_180 0 185 (dk_at dksX1_inDelay_0 19 rfl rfl)
theorem dX1_inDelay_22 : decode cX1_inDelay 22 = .ok (.iload_n 1, 1) := dk_27 (dk_at dksX1_inDelay_0 22 rfl rfl)
theorem dX1_inDelay_23 : decode cX1_inDelay 23 = .ok (.iadd, 1) := dk_96 (dk_at dksX1_inDelay_0 23 rfl rfl)
theorem dX1_inDelay_24 : decode cX1_inDelay 24 = .ok (.aload_n 0, 1) := dk_42 (dk_at dksX1_inDelay_1 0 rfl rfl)
theorem dX1_inDelay_25 : decode cX1_inDelay 25 = .ok (.getfield 173, 3) := dk_180 0 173 (dk_at dksX1_inDelay_1 1 rfl rfl)
theorem dX1_inDelay_28 : decode cX1_inDelay 28 = .ok (.irem, 1) := dk_112 (dk_at dksX1_inDelay_1 4 rfl rfl)
theorem dX1_inDelay_29 : decode cX1_inDelay 29 = .ok (.iaload, 1) := dk_46 (dk_at dksX1_inDelay_1 5 rfl rfl)
theorem dX1_inDelay_30 : decode cX1_inDelay 30 = .ok (.ireturn, 1) := dk_172 (dk_at dksX1_inDelay_1 6 rfl rfl)
abbrev cX1_draw : ByteArray := prog_1_method_13_code
def yX1_draw : MethodName := ⟨RX1, "draw", "(II)I"⟩
def dkwX1_draw_1 : List UInt8 := [180, 0, 25, 27, 28, 79, 29, 172]
abbrev dktX1_draw_1 : List UInt8 := dkwX1_draw_1 ++ []
def dkwX1_draw_0 : List UInt8 := [27, 16, 32, 184, 0, 114, 17, 252, 24, 17, 3, 232, 28, 184, 0, 122, 42, 180, 0, 25, 27, 46, 62, 42]
abbrev dktX1_draw_0 : List UInt8 := dkwX1_draw_0 ++ dktX1_draw_1
theorem dksX1_draw_0 : cX1_draw.data.toList.drop 0 = dktX1_draw_0 := by decide +kernel
theorem dksX1_draw_1 : cX1_draw.data.toList.drop 24 = dktX1_draw_1 := dk_seg dksX1_draw_0 24 rfl rfl
theorem dX1_draw_0 : decode cX1_draw 0 = .ok (.iload_n 1, 1) := dk_27 (dk_at dksX1_draw_0 0 rfl rfl)
theorem dX1_draw_1 : decode cX1_draw 1 = .ok (.bipush 32, 2) := dk_16 32 (dk_at dksX1_draw_0 1 rfl rfl)
theorem dX1_draw_3 : decode cX1_draw 3 = .ok (.invokestatic 114, 3) := dk_184 0 114 (dk_at dksX1_draw_0 3 rfl rfl)
theorem dX1_draw_6 : decode cX1_draw 6 = .ok (.sipush (-1000), 3) := dk_17 252 24 (dk_at dksX1_draw_0 6 rfl rfl)
theorem dX1_draw_9 : decode cX1_draw 9 = .ok (.sipush 1000, 3) := dk_17 3 232 (dk_at dksX1_draw_0 9 rfl rfl)
theorem dX1_draw_12 : decode cX1_draw 12 = .ok (.iload_n 2, 1) := dk_28 (dk_at dksX1_draw_0 12 rfl rfl)
theorem dX1_draw_13 : decode cX1_draw 13 = .ok (.invokestatic 122, 3) := dk_184 0 122 (dk_at dksX1_draw_0 13 rfl rfl)
theorem dX1_draw_16 : decode cX1_draw 16 = .ok (.aload_n 0, 1) := dk_42 (dk_at dksX1_draw_0 16 rfl rfl)
theorem dX1_draw_17 : decode cX1_draw 17 = .ok (.getfield 25, 3) := dk_180 0 25 (dk_at dksX1_draw_0 17 rfl rfl)
theorem dX1_draw_20 : decode cX1_draw 20 = .ok (.iload_n 1, 1) := dk_27 (dk_at dksX1_draw_0 20 rfl rfl)
theorem dX1_draw_21 : decode cX1_draw 21 = .ok (.iaload, 1) := dk_46 (dk_at dksX1_draw_0 21 rfl rfl)
theorem dX1_draw_22 : decode cX1_draw 22 = .ok (.istore_n 3, 1) := dk_62 (dk_at dksX1_draw_0 22 rfl rfl)
theorem dX1_draw_23 : decode cX1_draw 23 = .ok (.aload_n 0, 1) := dk_42 (dk_at dksX1_draw_0 23 rfl rfl)
theorem dX1_draw_24 : decode cX1_draw 24 = .ok (.getfield 25, 3) := dk_180 0 25 (dk_at dksX1_draw_1 0 rfl rfl)
theorem dX1_draw_27 : decode cX1_draw 27 = .ok (.iload_n 1, 1) := dk_27 (dk_at dksX1_draw_1 3 rfl rfl)
theorem dX1_draw_28 : decode cX1_draw 28 = .ok (.iload_n 2, 1) := dk_28 (dk_at dksX1_draw_1 4 rfl rfl)
theorem dX1_draw_29 : decode cX1_draw 29 = .ok (.iastore, 1) := dk_79 (dk_at dksX1_draw_1 5 rfl rfl)
theorem dX1_draw_30 : decode cX1_draw 30 = .ok (.iload_n 3, 1) := dk_29 (dk_at dksX1_draw_1 6 rfl rfl)
theorem dX1_draw_31 : decode cX1_draw 31 = .ok (.ireturn, 1) := dk_172 (dk_at dksX1_draw_1 7 rfl rfl)
abbrev cX1_wave : ByteArray := prog_1_method_14_code
def yX1_wave : MethodName := ⟨RX1, "wave", "(II)I"⟩
def dkwX1_wave_0 : List UInt8 := [27, 7, 184, 0, 114, 3, 18, 126, 28, 184, 0, 122, 42, 27, 28, 182, 0, 127, 172]
abbrev dktX1_wave_0 : List UInt8 := dkwX1_wave_0 ++ []
theorem dksX1_wave_0 : cX1_wave.data.toList.drop 0 = dktX1_wave_0 := by decide +kernel
theorem dX1_wave_0 : decode cX1_wave 0 = .ok (.iload_n 1, 1) := dk_27 (dk_at dksX1_wave_0 0 rfl rfl)
theorem dX1_wave_1 : decode cX1_wave 1 = .ok (.iconst 4, 1) := dk_7 (dk_at dksX1_wave_0 1 rfl rfl)
theorem dX1_wave_2 : decode cX1_wave 2 = .ok (.invokestatic 114, 3) := dk_184 0 114 (dk_at dksX1_wave_0 2 rfl rfl)
theorem dX1_wave_5 : decode cX1_wave 5 = .ok (.iconst 0, 1) := dk_3 (dk_at dksX1_wave_0 5 rfl rfl)
theorem dX1_wave_6 : decode cX1_wave 6 = .ok (.ldc 126, 2) := dk_18 126 (dk_at dksX1_wave_0 6 rfl rfl)
theorem dX1_wave_8 : decode cX1_wave 8 = .ok (.iload_n 2, 1) := dk_28 (dk_at dksX1_wave_0 8 rfl rfl)
theorem dX1_wave_9 : decode cX1_wave 9 = .ok (.invokestatic 122, 3) := dk_184 0 122 (dk_at dksX1_wave_0 9 rfl rfl)
theorem dX1_wave_12 : decode cX1_wave 12 = .ok (.aload_n 0, 1) := dk_42 (dk_at dksX1_wave_0 12 rfl rfl)
theorem dX1_wave_13 : decode cX1_wave 13 = .ok (.iload_n 1, 1) := dk_27 (dk_at dksX1_wave_0 13 rfl rfl)
theorem dX1_wave_14 : decode cX1_wave 14 = .ok (.iload_n 2, 1) := dk_28 (dk_at dksX1_wave_0 14 rfl rfl)
theorem dX1_wave_15 : decode cX1_wave 15 = .ok (.invokevirtual 127, 3) := dk_182 0 127 (dk_at dksX1_wave_0 15 rfl rfl)
theorem dX1_wave_18 : decode cX1_wave 18 = .ok (.ireturn, 1) := dk_172 (dk_at dksX1_wave_0 18 rfl rfl)
abbrev cX1_stride : ByteArray := prog_1_method_15_code
def yX1_stride : MethodName := ⟨RX1, "stride", "(I)I"⟩
def dkwX1_stride_0 : List UInt8 := [3, 16, 47, 27, 184, 0, 122, 27, 184, 0, 130, 172]
abbrev dktX1_stride_0 : List UInt8 := dkwX1_stride_0 ++ []
theorem dksX1_stride_0 : cX1_stride.data.toList.drop 0 = dktX1_stride_0 := by decide +kernel
theorem dX1_stride_0 : decode cX1_stride 0 = .ok (.iconst 0, 1) := dk_3 (dk_at dksX1_stride_0 0 rfl rfl)
theorem dX1_stride_1 : decode cX1_stride 1 = .ok (.bipush 47, 2) := dk_16 47 (dk_at dksX1_stride_0 1 rfl rfl)
theorem dX1_stride_3 : decode cX1_stride 3 = .ok (.iload_n 1, 1) := dk_27 (dk_at dksX1_stride_0 3 rfl rfl)
theorem dX1_stride_4 : decode cX1_stride 4 = .ok (.invokestatic 122, 3) := dk_184 0 122 (dk_at dksX1_stride_0 4 rfl rfl)
theorem dX1_stride_7 : decode cX1_stride 7 = .ok (.iload_n 1, 1) := dk_27 (dk_at dksX1_stride_0 7 rfl rfl)
theorem dX1_stride_8 : decode cX1_stride 8 = .ok (.invokestatic 130, 3) := dk_184 0 130 (dk_at dksX1_stride_0 8 rfl rfl)
theorem dX1_stride_11 : decode cX1_stride 11 = .ok (.ireturn, 1) := dk_172 (dk_at dksX1_stride_0 11 rfl rfl)
abbrev cX1_setWaves : ByteArray := prog_1_method_16_code
def yX1_setWaves : MethodName := ⟨RX1, "setWaves", "(IIIII)I"⟩
def dkwX1_setWaves_2 : List UInt8 := [25, 6, 29, 181, 0, 143, 25, 6, 21, 4, 181, 0, 146, 25, 6, 21, 5, 181, 0, 137, 21, 7, 172]
abbrev dktX1_setWaves_2 : List UInt8 := dkwX1_setWaves_2 ++ []
def dkwX1_setWaves_1 : List UInt8 := [184, 0, 122, 3, 16, 100, 21, 5, 184, 0, 122, 25, 6, 180, 0, 137, 54, 7, 25, 6, 28, 181, 0, 140]
abbrev dktX1_setWaves_1 : List UInt8 := dkwX1_setWaves_1 ++ dktX1_setWaves_2
def dkwX1_setWaves_0 : List UInt8 := [42, 27, 182, 0, 133, 58, 6, 28, 7, 184, 0, 114, 29, 7, 184, 0, 114, 16, 192, 16, 64, 21, 4]
abbrev dktX1_setWaves_0 : List UInt8 := dkwX1_setWaves_0 ++ dktX1_setWaves_1
theorem dksX1_setWaves_0 : cX1_setWaves.data.toList.drop 0 = dktX1_setWaves_0 := by decide +kernel
theorem dksX1_setWaves_1 : cX1_setWaves.data.toList.drop 23 = dktX1_setWaves_1 := dk_seg dksX1_setWaves_0 23 rfl rfl
theorem dksX1_setWaves_2 : cX1_setWaves.data.toList.drop 47 = dktX1_setWaves_2 := dk_seg dksX1_setWaves_1 24 rfl rfl
theorem dX1_setWaves_0 : decode cX1_setWaves 0 = .ok (.aload_n 0, 1) := dk_42 (dk_at dksX1_setWaves_0 0 rfl rfl)
theorem dX1_setWaves_1 : decode cX1_setWaves 1 = .ok (.iload_n 1, 1) := dk_27 (dk_at dksX1_setWaves_0 1 rfl rfl)
theorem dX1_setWaves_2 : decode cX1_setWaves 2 = .ok (.invokevirtual 133, 3) := dk_182 0 133 (dk_at dksX1_setWaves_0 2 rfl rfl)
theorem dX1_setWaves_5 : decode cX1_setWaves 5 = .ok (.astore 6, 2) := dk_58 6 (dk_at dksX1_setWaves_0 5 rfl rfl)
theorem dX1_setWaves_7 : decode cX1_setWaves 7 = .ok (.iload_n 2, 1) := dk_28 (dk_at dksX1_setWaves_0 7 rfl rfl)
theorem dX1_setWaves_8 : decode cX1_setWaves 8 = .ok (.iconst 4, 1) := dk_7 (dk_at dksX1_setWaves_0 8 rfl rfl)
theorem dX1_setWaves_9 : decode cX1_setWaves 9 = .ok (.invokestatic 114, 3) := dk_184 0 114 (dk_at dksX1_setWaves_0 9 rfl rfl)
theorem dX1_setWaves_12 : decode cX1_setWaves 12 = .ok (.iload_n 3, 1) := dk_29 (dk_at dksX1_setWaves_0 12 rfl rfl)
theorem dX1_setWaves_13 : decode cX1_setWaves 13 = .ok (.iconst 4, 1) := dk_7 (dk_at dksX1_setWaves_0 13 rfl rfl)
theorem dX1_setWaves_14 : decode cX1_setWaves 14 = .ok (.invokestatic 114, 3) := dk_184 0 114 (dk_at dksX1_setWaves_0 14 rfl rfl)
theorem dX1_setWaves_17 : decode cX1_setWaves 17 = .ok (.bipush (-64), 2) := dk_16 192 (dk_at dksX1_setWaves_0 17 rfl rfl)
theorem dX1_setWaves_19 : decode cX1_setWaves 19 = .ok (.bipush 64, 2) := dk_16 64 (dk_at dksX1_setWaves_0 19 rfl rfl)
theorem dX1_setWaves_21 : decode cX1_setWaves 21 = .ok (.iload 4, 2) := dk_21 4 (dk_at dksX1_setWaves_0 21 rfl rfl)
theorem dX1_setWaves_23 : decode cX1_setWaves 23 = .ok (.invokestatic 122, 3) := dk_184 0 122 (dk_at dksX1_setWaves_1 0 rfl rfl)
theorem dX1_setWaves_26 : decode cX1_setWaves 26 = .ok (.iconst 0, 1) := dk_3 (dk_at dksX1_setWaves_1 3 rfl rfl)
theorem dX1_setWaves_27 : decode cX1_setWaves 27 = .ok (.bipush 100, 2) := dk_16 100 (dk_at dksX1_setWaves_1 4 rfl rfl)
theorem dX1_setWaves_29 : decode cX1_setWaves 29 = .ok (.iload 5, 2) := dk_21 5 (dk_at dksX1_setWaves_1 6 rfl rfl)
theorem dX1_setWaves_31 : decode cX1_setWaves 31 = .ok (.invokestatic 122, 3) := dk_184 0 122 (dk_at dksX1_setWaves_1 8 rfl rfl)
theorem dX1_setWaves_34 : decode cX1_setWaves 34 = .ok (.aload 6, 2) := dk_25 6 (dk_at dksX1_setWaves_1 11 rfl rfl)
theorem dX1_setWaves_36 : decode cX1_setWaves 36 = .ok (.getfield 137, 3) := dk_180 0 137 (dk_at dksX1_setWaves_1 13 rfl rfl)
theorem dX1_setWaves_39 : decode cX1_setWaves 39 = .ok (.istore 7, 2) := dk_54 7 (dk_at dksX1_setWaves_1 16 rfl rfl)
theorem dX1_setWaves_41 : decode cX1_setWaves 41 = .ok (.aload 6, 2) := dk_25 6 (dk_at dksX1_setWaves_1 18 rfl rfl)
theorem dX1_setWaves_43 : decode cX1_setWaves 43 = .ok (.iload_n 2, 1) := dk_28 (dk_at dksX1_setWaves_1 20 rfl rfl)
theorem dX1_setWaves_44 : decode cX1_setWaves 44 = .ok (.putfield 140, 3) := dk_181 0 140 (dk_at dksX1_setWaves_1 21 rfl rfl)
theorem dX1_setWaves_47 : decode cX1_setWaves 47 = .ok (.aload 6, 2) := dk_25 6 (dk_at dksX1_setWaves_2 0 rfl rfl)
theorem dX1_setWaves_49 : decode cX1_setWaves 49 = .ok (.iload_n 3, 1) := dk_29 (dk_at dksX1_setWaves_2 2 rfl rfl)
theorem dX1_setWaves_50 : decode cX1_setWaves 50 = .ok (.putfield 143, 3) := dk_181 0 143 (dk_at dksX1_setWaves_2 3 rfl rfl)
theorem dX1_setWaves_53 : decode cX1_setWaves 53 = .ok (.aload 6, 2) := dk_25 6 (dk_at dksX1_setWaves_2 6 rfl rfl)
theorem dX1_setWaves_55 : decode cX1_setWaves 55 = .ok (.iload 4, 2) := dk_21 4 (dk_at dksX1_setWaves_2 8 rfl rfl)
theorem dX1_setWaves_57 : decode cX1_setWaves 57 = .ok (.putfield 146, 3) := dk_181 0 146 (dk_at dksX1_setWaves_2 10 rfl rfl)
theorem dX1_setWaves_60 : decode cX1_setWaves 60 = .ok (.aload 6, 2) := dk_25 6 (dk_at dksX1_setWaves_2 13 rfl rfl)
theorem dX1_setWaves_62 : decode cX1_setWaves 62 = .ok (.iload 5, 2) := dk_21 5 (dk_at dksX1_setWaves_2 15 rfl rfl)
theorem dX1_setWaves_64 : decode cX1_setWaves 64 = .ok (.putfield 137, 3) := dk_181 0 137 (dk_at dksX1_setWaves_2 17 rfl rfl)
theorem dX1_setWaves_67 : decode cX1_setWaves 67 = .ok (.iload 7, 2) := dk_21 7 (dk_at dksX1_setWaves_2 20 rfl rfl)
theorem dX1_setWaves_69 : decode cX1_setWaves 69 = .ok (.ireturn, 1) := dk_172 (dk_at dksX1_setWaves_2 22 rfl rfl)
abbrev cX1_instrument : ByteArray := prog_1_method_10_code
def yX1_instrument : MethodName := ⟨RX1, "instrument", "(I)LMelodeon$Instrument;"⟩
def dkwX1_instrument_0 : List UInt8 := [27, 7, 184, 0, 114, 42, 180, 0, 82, 27, 182, 0, 118, 192, 0, 98, 176]
abbrev dktX1_instrument_0 : List UInt8 := dkwX1_instrument_0 ++ []
theorem dksX1_instrument_0 : cX1_instrument.data.toList.drop 0 = dktX1_instrument_0 := by decide +kernel
theorem dX1_instrument_0 : decode cX1_instrument 0 = .ok (.iload_n 1, 1) := dk_27 (dk_at dksX1_instrument_0 0 rfl rfl)
theorem dX1_instrument_1 : decode cX1_instrument 1 = .ok (.iconst 4, 1) := dk_7 (dk_at dksX1_instrument_0 1 rfl rfl)
theorem dX1_instrument_2 : decode cX1_instrument 2 = .ok (.invokestatic 114, 3) := dk_184 0 114 (dk_at dksX1_instrument_0 2 rfl rfl)
theorem dX1_instrument_5 : decode cX1_instrument 5 = .ok (.aload_n 0, 1) := dk_42 (dk_at dksX1_instrument_0 5 rfl rfl)
theorem dX1_instrument_6 : decode cX1_instrument 6 = .ok (.getfield 82, 3) := dk_180 0 82 (dk_at dksX1_instrument_0 6 rfl rfl)
theorem dX1_instrument_9 : decode cX1_instrument 9 = .ok (.iload_n 1, 1) := dk_27 (dk_at dksX1_instrument_0 9 rfl rfl)
theorem dX1_instrument_10 : decode cX1_instrument 10 = .ok (.invokevirtual 118, 3) := dk_182 0 118 (dk_at dksX1_instrument_0 10 rfl rfl)
theorem dX1_instrument_13 : decode cX1_instrument 13 = .ok (.checkcast 98, 3) := dk_192 0 98 (dk_at dksX1_instrument_0 13 rfl rfl)
theorem dX1_instrument_16 : decode cX1_instrument 16 = .ok (.areturn, 1) := dk_176 (dk_at dksX1_instrument_0 16 rfl rfl)
abbrev cX1_setEnvelope : ByteArray := prog_1_method_17_code
def yX1_setEnvelope : MethodName := ⟨RX1, "setEnvelope", "(IIIII)I"⟩
def dkwX1_setEnvelope_3 : List UInt8 := [181, 0, 158, 21, 7, 172]
abbrev dktX1_setEnvelope_3 : List UInt8 := dkwX1_setEnvelope_3 ++ []
def dkwX1_setEnvelope_2 : List UInt8 := [25, 6, 28, 181, 0, 152, 25, 6, 29, 181, 0, 155, 25, 6, 21, 4, 181, 0, 149, 25, 6, 21, 5]
abbrev dktX1_setEnvelope_2 : List UInt8 := dkwX1_setEnvelope_2 ++ dktX1_setEnvelope_3
def dkwX1_setEnvelope_1 : List UInt8 := [17, 3, 232, 21, 4, 184, 0, 122, 4, 17, 1, 144, 21, 5, 184, 0, 122, 25, 6, 180, 0, 149, 54, 7]
abbrev dktX1_setEnvelope_1 : List UInt8 := dkwX1_setEnvelope_1 ++ dktX1_setEnvelope_2
def dkwX1_setEnvelope_0 : List UInt8 := [42, 27, 182, 0, 133, 58, 6, 4, 17, 1, 144, 28, 184, 0, 122, 4, 17, 1, 144, 29, 184, 0, 122, 3]
abbrev dktX1_setEnvelope_0 : List UInt8 := dkwX1_setEnvelope_0 ++ dktX1_setEnvelope_1
theorem dksX1_setEnvelope_0 : cX1_setEnvelope.data.toList.drop 0 = dktX1_setEnvelope_0 := by decide +kernel
theorem dksX1_setEnvelope_1 : cX1_setEnvelope.data.toList.drop 24 = dktX1_setEnvelope_1 := dk_seg dksX1_setEnvelope_0 24 rfl rfl
theorem dksX1_setEnvelope_2 : cX1_setEnvelope.data.toList.drop 48 = dktX1_setEnvelope_2 := dk_seg dksX1_setEnvelope_1 24 rfl rfl
theorem dksX1_setEnvelope_3 : cX1_setEnvelope.data.toList.drop 71 = dktX1_setEnvelope_3 := dk_seg dksX1_setEnvelope_2 23 rfl rfl
theorem dX1_setEnvelope_0 : decode cX1_setEnvelope 0 = .ok (.aload_n 0, 1) := dk_42 (dk_at dksX1_setEnvelope_0 0 rfl rfl)
theorem dX1_setEnvelope_1 : decode cX1_setEnvelope 1 = .ok (.iload_n 1, 1) := dk_27 (dk_at dksX1_setEnvelope_0 1 rfl rfl)
theorem dX1_setEnvelope_2 : decode cX1_setEnvelope 2 = .ok (.invokevirtual 133, 3) := dk_182 0 133 (dk_at dksX1_setEnvelope_0 2 rfl rfl)
theorem dX1_setEnvelope_5 : decode cX1_setEnvelope 5 = .ok (.astore 6, 2) := dk_58 6 (dk_at dksX1_setEnvelope_0 5 rfl rfl)
theorem dX1_setEnvelope_7 : decode cX1_setEnvelope 7 = .ok (.iconst 1, 1) := dk_4 (dk_at dksX1_setEnvelope_0 7 rfl rfl)
theorem dX1_setEnvelope_8 : decode cX1_setEnvelope 8 = .ok (.sipush 400, 3) := dk_17 1 144 (dk_at dksX1_setEnvelope_0 8 rfl rfl)
theorem dX1_setEnvelope_11 : decode cX1_setEnvelope 11 = .ok (.iload_n 2, 1) := dk_28 (dk_at dksX1_setEnvelope_0 11 rfl rfl)
theorem dX1_setEnvelope_12 : decode cX1_setEnvelope 12 = .ok (.invokestatic 122, 3) := dk_184 0 122 (dk_at dksX1_setEnvelope_0 12 rfl rfl)
theorem dX1_setEnvelope_15 : decode cX1_setEnvelope 15 = .ok (.iconst 1, 1) := dk_4 (dk_at dksX1_setEnvelope_0 15 rfl rfl)
theorem dX1_setEnvelope_16 : decode cX1_setEnvelope 16 = .ok (.sipush 400, 3) := dk_17 1 144 (dk_at dksX1_setEnvelope_0 16 rfl rfl)
theorem dX1_setEnvelope_19 : decode cX1_setEnvelope 19 = .ok (.iload_n 3, 1) := dk_29 (dk_at dksX1_setEnvelope_0 19 rfl rfl)
theorem dX1_setEnvelope_20 : decode cX1_setEnvelope 20 = .ok (.invokestatic 122, 3) := dk_184 0 122 (dk_at dksX1_setEnvelope_0 20 rfl rfl)
theorem dX1_setEnvelope_23 : decode cX1_setEnvelope 23 = .ok (.iconst 0, 1) := dk_3 (dk_at dksX1_setEnvelope_0 23 rfl rfl)
theorem dX1_setEnvelope_24 : decode cX1_setEnvelope 24 = .ok (.sipush 1000, 3) := dk_17 3 232 (dk_at dksX1_setEnvelope_1 0 rfl rfl)
theorem dX1_setEnvelope_27 : decode cX1_setEnvelope 27 = .ok (.iload 4, 2) := dk_21 4 (dk_at dksX1_setEnvelope_1 3 rfl rfl)
theorem dX1_setEnvelope_29 : decode cX1_setEnvelope 29 = .ok (.invokestatic 122, 3) := dk_184 0 122 (dk_at dksX1_setEnvelope_1 5 rfl rfl)
theorem dX1_setEnvelope_32 : decode cX1_setEnvelope 32 = .ok (.iconst 1, 1) := dk_4 (dk_at dksX1_setEnvelope_1 8 rfl rfl)
theorem dX1_setEnvelope_33 : decode cX1_setEnvelope 33 = .ok (.sipush 400, 3) := dk_17 1 144 (dk_at dksX1_setEnvelope_1 9 rfl rfl)
theorem dX1_setEnvelope_36 : decode cX1_setEnvelope 36 = .ok (.iload 5, 2) := dk_21 5 (dk_at dksX1_setEnvelope_1 12 rfl rfl)
theorem dX1_setEnvelope_38 : decode cX1_setEnvelope 38 = .ok (.invokestatic 122, 3) := dk_184 0 122 (dk_at dksX1_setEnvelope_1 14 rfl rfl)
theorem dX1_setEnvelope_41 : decode cX1_setEnvelope 41 = .ok (.aload 6, 2) := dk_25 6 (dk_at dksX1_setEnvelope_1 17 rfl rfl)
theorem dX1_setEnvelope_43 : decode cX1_setEnvelope 43 = .ok (.getfield 149, 3) := dk_180 0 149 (dk_at dksX1_setEnvelope_1 19 rfl rfl)
theorem dX1_setEnvelope_46 : decode cX1_setEnvelope 46 = .ok (.istore 7, 2) := dk_54 7 (dk_at dksX1_setEnvelope_1 22 rfl rfl)
theorem dX1_setEnvelope_48 : decode cX1_setEnvelope 48 = .ok (.aload 6, 2) := dk_25 6 (dk_at dksX1_setEnvelope_2 0 rfl rfl)
theorem dX1_setEnvelope_50 : decode cX1_setEnvelope 50 = .ok (.iload_n 2, 1) := dk_28 (dk_at dksX1_setEnvelope_2 2 rfl rfl)
theorem dX1_setEnvelope_51 : decode cX1_setEnvelope 51 = .ok (.putfield 152, 3) := dk_181 0 152 (dk_at dksX1_setEnvelope_2 3 rfl rfl)
theorem dX1_setEnvelope_54 : decode cX1_setEnvelope 54 = .ok (.aload 6, 2) := dk_25 6 (dk_at dksX1_setEnvelope_2 6 rfl rfl)
theorem dX1_setEnvelope_56 : decode cX1_setEnvelope 56 = .ok (.iload_n 3, 1) := dk_29 (dk_at dksX1_setEnvelope_2 8 rfl rfl)
theorem dX1_setEnvelope_57 : decode cX1_setEnvelope 57 = .ok (.putfield 155, 3) := dk_181 0 155 (dk_at dksX1_setEnvelope_2 9 rfl rfl)
theorem dX1_setEnvelope_60 : decode cX1_setEnvelope 60 = .ok (.aload 6, 2) := dk_25 6 (dk_at dksX1_setEnvelope_2 12 rfl rfl)
theorem dX1_setEnvelope_62 : decode cX1_setEnvelope 62 = .ok (.iload 4, 2) := dk_21 4 (dk_at dksX1_setEnvelope_2 14 rfl rfl)
theorem dX1_setEnvelope_64 : decode cX1_setEnvelope 64 = .ok (.putfield 149, 3) := dk_181 0 149 (dk_at dksX1_setEnvelope_2 16 rfl rfl)
theorem dX1_setEnvelope_67 : decode cX1_setEnvelope 67 = .ok (.aload 6, 2) := dk_25 6 (dk_at dksX1_setEnvelope_2 19 rfl rfl)
theorem dX1_setEnvelope_69 : decode cX1_setEnvelope 69 = .ok (.iload 5, 2) := dk_21 5 (dk_at dksX1_setEnvelope_2 21 rfl rfl)
theorem dX1_setEnvelope_71 : decode cX1_setEnvelope 71 = .ok (.putfield 158, 3) := dk_181 0 158 (dk_at dksX1_setEnvelope_3 0 rfl rfl)
theorem dX1_setEnvelope_74 : decode cX1_setEnvelope 74 = .ok (.iload 7, 2) := dk_21 7 (dk_at dksX1_setEnvelope_3 3 rfl rfl)
theorem dX1_setEnvelope_76 : decode cX1_setEnvelope 76 = .ok (.ireturn, 1) := dk_172 (dk_at dksX1_setEnvelope_3 5 rfl rfl)
abbrev cX1_setFilter : ByteArray := prog_1_method_18_code
def yX1_setFilter : MethodName := ⟨RX1, "setFilter", "(III)I"⟩
def dkwX1_setFilter_1 : List UInt8 := [25, 4, 180, 0, 161, 54, 5, 25, 4, 28, 181, 0, 161, 25, 4, 29, 181, 0, 164, 21, 5, 172]
abbrev dktX1_setFilter_1 : List UInt8 := dkwX1_setFilter_1 ++ []
def dkwX1_setFilter_0 : List UInt8 := [42, 27, 182, 0, 133, 58, 4, 4, 17, 0, 128, 28, 184, 0, 122, 16, 16, 17, 1, 0, 29, 184, 0, 122]
abbrev dktX1_setFilter_0 : List UInt8 := dkwX1_setFilter_0 ++ dktX1_setFilter_1
theorem dksX1_setFilter_0 : cX1_setFilter.data.toList.drop 0 = dktX1_setFilter_0 := by decide +kernel
theorem dksX1_setFilter_1 : cX1_setFilter.data.toList.drop 24 = dktX1_setFilter_1 := dk_seg dksX1_setFilter_0 24 rfl rfl
theorem dX1_setFilter_0 : decode cX1_setFilter 0 = .ok (.aload_n 0, 1) := dk_42 (dk_at dksX1_setFilter_0 0 rfl rfl)
theorem dX1_setFilter_1 : decode cX1_setFilter 1 = .ok (.iload_n 1, 1) := dk_27 (dk_at dksX1_setFilter_0 1 rfl rfl)
theorem dX1_setFilter_2 : decode cX1_setFilter 2 = .ok (.invokevirtual 133, 3) := dk_182 0 133 (dk_at dksX1_setFilter_0 2 rfl rfl)
theorem dX1_setFilter_5 : decode cX1_setFilter 5 = .ok (.astore 4, 2) := dk_58 4 (dk_at dksX1_setFilter_0 5 rfl rfl)
theorem dX1_setFilter_7 : decode cX1_setFilter 7 = .ok (.iconst 1, 1) := dk_4 (dk_at dksX1_setFilter_0 7 rfl rfl)
theorem dX1_setFilter_8 : decode cX1_setFilter 8 = .ok (.sipush 128, 3) := dk_17 0 128 (dk_at dksX1_setFilter_0 8 rfl rfl)
theorem dX1_setFilter_11 : decode cX1_setFilter 11 = .ok (.iload_n 2, 1) := dk_28 (dk_at dksX1_setFilter_0 11 rfl rfl)
theorem dX1_setFilter_12 : decode cX1_setFilter 12 = .ok (.invokestatic 122, 3) := dk_184 0 122 (dk_at dksX1_setFilter_0 12 rfl rfl)
theorem dX1_setFilter_15 : decode cX1_setFilter 15 = .ok (.bipush 16, 2) := dk_16 16 (dk_at dksX1_setFilter_0 15 rfl rfl)
theorem dX1_setFilter_17 : decode cX1_setFilter 17 = .ok (.sipush 256, 3) := dk_17 1 0 (dk_at dksX1_setFilter_0 17 rfl rfl)
theorem dX1_setFilter_20 : decode cX1_setFilter 20 = .ok (.iload_n 3, 1) := dk_29 (dk_at dksX1_setFilter_0 20 rfl rfl)
theorem dX1_setFilter_21 : decode cX1_setFilter 21 = .ok (.invokestatic 122, 3) := dk_184 0 122 (dk_at dksX1_setFilter_0 21 rfl rfl)
theorem dX1_setFilter_24 : decode cX1_setFilter 24 = .ok (.aload 4, 2) := dk_25 4 (dk_at dksX1_setFilter_1 0 rfl rfl)
theorem dX1_setFilter_26 : decode cX1_setFilter 26 = .ok (.getfield 161, 3) := dk_180 0 161 (dk_at dksX1_setFilter_1 2 rfl rfl)
theorem dX1_setFilter_29 : decode cX1_setFilter 29 = .ok (.istore 5, 2) := dk_54 5 (dk_at dksX1_setFilter_1 5 rfl rfl)
theorem dX1_setFilter_31 : decode cX1_setFilter 31 = .ok (.aload 4, 2) := dk_25 4 (dk_at dksX1_setFilter_1 7 rfl rfl)
theorem dX1_setFilter_33 : decode cX1_setFilter 33 = .ok (.iload_n 2, 1) := dk_28 (dk_at dksX1_setFilter_1 9 rfl rfl)
theorem dX1_setFilter_34 : decode cX1_setFilter 34 = .ok (.putfield 161, 3) := dk_181 0 161 (dk_at dksX1_setFilter_1 10 rfl rfl)
theorem dX1_setFilter_37 : decode cX1_setFilter 37 = .ok (.aload 4, 2) := dk_25 4 (dk_at dksX1_setFilter_1 13 rfl rfl)
theorem dX1_setFilter_39 : decode cX1_setFilter 39 = .ok (.iload_n 3, 1) := dk_29 (dk_at dksX1_setFilter_1 15 rfl rfl)
theorem dX1_setFilter_40 : decode cX1_setFilter 40 = .ok (.putfield 164, 3) := dk_181 0 164 (dk_at dksX1_setFilter_1 16 rfl rfl)
theorem dX1_setFilter_43 : decode cX1_setFilter 43 = .ok (.iload 5, 2) := dk_21 5 (dk_at dksX1_setFilter_1 19 rfl rfl)
theorem dX1_setFilter_45 : decode cX1_setFilter 45 = .ok (.ireturn, 1) := dk_172 (dk_at dksX1_setFilter_1 21 rfl rfl)
abbrev cX1_setVibrato : ByteArray := prog_1_method_19_code
def yX1_setVibrato : MethodName := ⟨RX1, "setVibrato", "(III)I"⟩
def dkwX1_setVibrato_1 : List UInt8 := [25, 4, 180, 0, 167, 54, 5, 25, 4, 28, 181, 0, 167, 25, 4, 29, 181, 0, 170, 21, 5, 172]
abbrev dktX1_setVibrato_1 : List UInt8 := dkwX1_setVibrato_1 ++ []
def dkwX1_setVibrato_0 : List UInt8 := [42, 27, 182, 0, 133, 58, 4, 3, 16, 64, 28, 184, 0, 122, 16, 8, 17, 0, 255, 29, 184, 0, 122]
abbrev dktX1_setVibrato_0 : List UInt8 := dkwX1_setVibrato_0 ++ dktX1_setVibrato_1
theorem dksX1_setVibrato_0 : cX1_setVibrato.data.toList.drop 0 = dktX1_setVibrato_0 := by decide +kernel
theorem dksX1_setVibrato_1 : cX1_setVibrato.data.toList.drop 23 = dktX1_setVibrato_1 := dk_seg dksX1_setVibrato_0 23 rfl rfl
theorem dX1_setVibrato_0 : decode cX1_setVibrato 0 = .ok (.aload_n 0, 1) := dk_42 (dk_at dksX1_setVibrato_0 0 rfl rfl)
theorem dX1_setVibrato_1 : decode cX1_setVibrato 1 = .ok (.iload_n 1, 1) := dk_27 (dk_at dksX1_setVibrato_0 1 rfl rfl)
theorem dX1_setVibrato_2 : decode cX1_setVibrato 2 = .ok (.invokevirtual 133, 3) := dk_182 0 133 (dk_at dksX1_setVibrato_0 2 rfl rfl)
theorem dX1_setVibrato_5 : decode cX1_setVibrato 5 = .ok (.astore 4, 2) := dk_58 4 (dk_at dksX1_setVibrato_0 5 rfl rfl)
theorem dX1_setVibrato_7 : decode cX1_setVibrato 7 = .ok (.iconst 0, 1) := dk_3 (dk_at dksX1_setVibrato_0 7 rfl rfl)
theorem dX1_setVibrato_8 : decode cX1_setVibrato 8 = .ok (.bipush 64, 2) := dk_16 64 (dk_at dksX1_setVibrato_0 8 rfl rfl)
theorem dX1_setVibrato_10 : decode cX1_setVibrato 10 = .ok (.iload_n 2, 1) := dk_28 (dk_at dksX1_setVibrato_0 10 rfl rfl)
theorem dX1_setVibrato_11 : decode cX1_setVibrato 11 = .ok (.invokestatic 122, 3) := dk_184 0 122 (dk_at dksX1_setVibrato_0 11 rfl rfl)
theorem dX1_setVibrato_14 : decode cX1_setVibrato 14 = .ok (.bipush 8, 2) := dk_16 8 (dk_at dksX1_setVibrato_0 14 rfl rfl)
theorem dX1_setVibrato_16 : decode cX1_setVibrato 16 = .ok (.sipush 255, 3) := dk_17 0 255 (dk_at dksX1_setVibrato_0 16 rfl rfl)
theorem dX1_setVibrato_19 : decode cX1_setVibrato 19 = .ok (.iload_n 3, 1) := dk_29 (dk_at dksX1_setVibrato_0 19 rfl rfl)
theorem dX1_setVibrato_20 : decode cX1_setVibrato 20 = .ok (.invokestatic 122, 3) := dk_184 0 122 (dk_at dksX1_setVibrato_0 20 rfl rfl)
theorem dX1_setVibrato_23 : decode cX1_setVibrato 23 = .ok (.aload 4, 2) := dk_25 4 (dk_at dksX1_setVibrato_1 0 rfl rfl)
theorem dX1_setVibrato_25 : decode cX1_setVibrato 25 = .ok (.getfield 167, 3) := dk_180 0 167 (dk_at dksX1_setVibrato_1 2 rfl rfl)
theorem dX1_setVibrato_28 : decode cX1_setVibrato 28 = .ok (.istore 5, 2) := dk_54 5 (dk_at dksX1_setVibrato_1 5 rfl rfl)
theorem dX1_setVibrato_30 : decode cX1_setVibrato 30 = .ok (.aload 4, 2) := dk_25 4 (dk_at dksX1_setVibrato_1 7 rfl rfl)
theorem dX1_setVibrato_32 : decode cX1_setVibrato 32 = .ok (.iload_n 2, 1) := dk_28 (dk_at dksX1_setVibrato_1 9 rfl rfl)
theorem dX1_setVibrato_33 : decode cX1_setVibrato 33 = .ok (.putfield 167, 3) := dk_181 0 167 (dk_at dksX1_setVibrato_1 10 rfl rfl)
theorem dX1_setVibrato_36 : decode cX1_setVibrato 36 = .ok (.aload 4, 2) := dk_25 4 (dk_at dksX1_setVibrato_1 13 rfl rfl)
theorem dX1_setVibrato_38 : decode cX1_setVibrato 38 = .ok (.iload_n 3, 1) := dk_29 (dk_at dksX1_setVibrato_1 15 rfl rfl)
theorem dX1_setVibrato_39 : decode cX1_setVibrato 39 = .ok (.putfield 170, 3) := dk_181 0 170 (dk_at dksX1_setVibrato_1 16 rfl rfl)
theorem dX1_setVibrato_42 : decode cX1_setVibrato 42 = .ok (.iload 5, 2) := dk_21 5 (dk_at dksX1_setVibrato_1 19 rfl rfl)
theorem dX1_setVibrato_44 : decode cX1_setVibrato 44 = .ok (.ireturn, 1) := dk_172 (dk_at dksX1_setVibrato_1 21 rfl rfl)
abbrev cX1_setGain : ByteArray := prog_1_method_20_code
def yX1_setGain : MethodName := ⟨RX1, "setGain", "(I)I"⟩
def dkwX1_setGain_0 : List UInt8 := [3, 17, 1, 0, 27, 184, 0, 122, 42, 180, 0, 92, 61, 42, 27, 181, 0, 92, 28, 172]
abbrev dktX1_setGain_0 : List UInt8 := dkwX1_setGain_0 ++ []
theorem dksX1_setGain_0 : cX1_setGain.data.toList.drop 0 = dktX1_setGain_0 := by decide +kernel
theorem dX1_setGain_0 : decode cX1_setGain 0 = .ok (.iconst 0, 1) := dk_3 (dk_at dksX1_setGain_0 0 rfl rfl)
theorem dX1_setGain_1 : decode cX1_setGain 1 = .ok (.sipush 256, 3) := dk_17 1 0 (dk_at dksX1_setGain_0 1 rfl rfl)
theorem dX1_setGain_4 : decode cX1_setGain 4 = .ok (.iload_n 1, 1) := dk_27 (dk_at dksX1_setGain_0 4 rfl rfl)
theorem dX1_setGain_5 : decode cX1_setGain 5 = .ok (.invokestatic 122, 3) := dk_184 0 122 (dk_at dksX1_setGain_0 5 rfl rfl)
theorem dX1_setGain_8 : decode cX1_setGain 8 = .ok (.aload_n 0, 1) := dk_42 (dk_at dksX1_setGain_0 8 rfl rfl)
theorem dX1_setGain_9 : decode cX1_setGain 9 = .ok (.getfield 92, 3) := dk_180 0 92 (dk_at dksX1_setGain_0 9 rfl rfl)
theorem dX1_setGain_12 : decode cX1_setGain 12 = .ok (.istore_n 2, 1) := dk_61 (dk_at dksX1_setGain_0 12 rfl rfl)
theorem dX1_setGain_13 : decode cX1_setGain 13 = .ok (.aload_n 0, 1) := dk_42 (dk_at dksX1_setGain_0 13 rfl rfl)
theorem dX1_setGain_14 : decode cX1_setGain 14 = .ok (.iload_n 1, 1) := dk_27 (dk_at dksX1_setGain_0 14 rfl rfl)
theorem dX1_setGain_15 : decode cX1_setGain 15 = .ok (.putfield 92, 3) := dk_181 0 92 (dk_at dksX1_setGain_0 15 rfl rfl)
theorem dX1_setGain_18 : decode cX1_setGain 18 = .ok (.iload_n 2, 1) := dk_28 (dk_at dksX1_setGain_0 18 rfl rfl)
theorem dX1_setGain_19 : decode cX1_setGain 19 = .ok (.ireturn, 1) := dk_172 (dk_at dksX1_setGain_0 19 rfl rfl)
abbrev cX1_setDelay : ByteArray := prog_1_method_21_code
def yX1_setDelay : MethodName := ⟨RX1, "setDelay", "(III)I"⟩
def dkwX1_setDelay_3 : List UInt8 := [167, 255, 234, 42, 180, 0, 35, 3, 181, 0, 185, 21, 4, 172]
abbrev dktX1_setDelay_3 : List UInt8 := dkwX1_setDelay_3 ++ []
def dkwX1_setDelay_2 : List UInt8 := [21, 5, 17, 0, 200, 162, 0, 20, 42, 180, 0, 35, 180, 0, 182, 21, 5, 3, 79, 132, 5, 1]
abbrev dktX1_setDelay_2 : List UInt8 := dkwX1_setDelay_2 ++ dktX1_setDelay_3
def dkwX1_setDelay_1 : List UInt8 := [42, 180, 0, 173, 54, 4, 42, 27, 181, 0, 173, 42, 28, 181, 0, 176, 42, 29, 181, 0, 179, 3, 54, 5]
abbrev dktX1_setDelay_1 : List UInt8 := dkwX1_setDelay_1 ++ dktX1_setDelay_2
def dkwX1_setDelay_0 : List UInt8 := [3, 17, 0, 200, 27, 184, 0, 122, 3, 17, 1, 0, 28, 184, 0, 122, 3, 17, 1, 0, 29, 184, 0, 122]
abbrev dktX1_setDelay_0 : List UInt8 := dkwX1_setDelay_0 ++ dktX1_setDelay_1
theorem dksX1_setDelay_0 : cX1_setDelay.data.toList.drop 0 = dktX1_setDelay_0 := by decide +kernel
theorem dksX1_setDelay_1 : cX1_setDelay.data.toList.drop 24 = dktX1_setDelay_1 := dk_seg dksX1_setDelay_0 24 rfl rfl
theorem dksX1_setDelay_2 : cX1_setDelay.data.toList.drop 48 = dktX1_setDelay_2 := dk_seg dksX1_setDelay_1 24 rfl rfl
theorem dksX1_setDelay_3 : cX1_setDelay.data.toList.drop 70 = dktX1_setDelay_3 := dk_seg dksX1_setDelay_2 22 rfl rfl
theorem dX1_setDelay_0 : decode cX1_setDelay 0 = .ok (.iconst 0, 1) := dk_3 (dk_at dksX1_setDelay_0 0 rfl rfl)
theorem dX1_setDelay_1 : decode cX1_setDelay 1 = .ok (.sipush 200, 3) := dk_17 0 200 (dk_at dksX1_setDelay_0 1 rfl rfl)
theorem dX1_setDelay_4 : decode cX1_setDelay 4 = .ok (.iload_n 1, 1) := dk_27 (dk_at dksX1_setDelay_0 4 rfl rfl)
theorem dX1_setDelay_5 : decode cX1_setDelay 5 = .ok (.invokestatic 122, 3) := dk_184 0 122 (dk_at dksX1_setDelay_0 5 rfl rfl)
theorem dX1_setDelay_8 : decode cX1_setDelay 8 = .ok (.iconst 0, 1) := dk_3 (dk_at dksX1_setDelay_0 8 rfl rfl)
theorem dX1_setDelay_9 : decode cX1_setDelay 9 = .ok (.sipush 256, 3) := dk_17 1 0 (dk_at dksX1_setDelay_0 9 rfl rfl)
theorem dX1_setDelay_12 : decode cX1_setDelay 12 = .ok (.iload_n 2, 1) := dk_28 (dk_at dksX1_setDelay_0 12 rfl rfl)
theorem dX1_setDelay_13 : decode cX1_setDelay 13 = .ok (.invokestatic 122, 3) := dk_184 0 122 (dk_at dksX1_setDelay_0 13 rfl rfl)
theorem dX1_setDelay_16 : decode cX1_setDelay 16 = .ok (.iconst 0, 1) := dk_3 (dk_at dksX1_setDelay_0 16 rfl rfl)
theorem dX1_setDelay_17 : decode cX1_setDelay 17 = .ok (.sipush 256, 3) := dk_17 1 0 (dk_at dksX1_setDelay_0 17 rfl rfl)
theorem dX1_setDelay_20 : decode cX1_setDelay 20 = .ok (.iload_n 3, 1) := dk_29 (dk_at dksX1_setDelay_0 20 rfl rfl)
theorem dX1_setDelay_21 : decode cX1_setDelay 21 = .ok (.invokestatic 122, 3) := dk_184 0 122 (dk_at dksX1_setDelay_0 21 rfl rfl)
theorem dX1_setDelay_24 : decode cX1_setDelay 24 = .ok (.aload_n 0, 1) := dk_42 (dk_at dksX1_setDelay_1 0 rfl rfl)
theorem dX1_setDelay_25 : decode cX1_setDelay 25 = .ok (.getfield 173, 3) := dk_180 0 173 (dk_at dksX1_setDelay_1 1 rfl rfl)
theorem dX1_setDelay_28 : decode cX1_setDelay 28 = .ok (.istore 4, 2) := dk_54 4 (dk_at dksX1_setDelay_1 4 rfl rfl)
theorem dX1_setDelay_30 : decode cX1_setDelay 30 = .ok (.aload_n 0, 1) := dk_42 (dk_at dksX1_setDelay_1 6 rfl rfl)
theorem dX1_setDelay_31 : decode cX1_setDelay 31 = .ok (.iload_n 1, 1) := dk_27 (dk_at dksX1_setDelay_1 7 rfl rfl)
theorem dX1_setDelay_32 : decode cX1_setDelay 32 = .ok (.putfield 173, 3) := dk_181 0 173 (dk_at dksX1_setDelay_1 8 rfl rfl)
theorem dX1_setDelay_35 : decode cX1_setDelay 35 = .ok (.aload_n 0, 1) := dk_42 (dk_at dksX1_setDelay_1 11 rfl rfl)
theorem dX1_setDelay_36 : decode cX1_setDelay 36 = .ok (.iload_n 2, 1) := dk_28 (dk_at dksX1_setDelay_1 12 rfl rfl)
theorem dX1_setDelay_37 : decode cX1_setDelay 37 = .ok (.putfield 176, 3) := dk_181 0 176 (dk_at dksX1_setDelay_1 13 rfl rfl)
theorem dX1_setDelay_40 : decode cX1_setDelay 40 = .ok (.aload_n 0, 1) := dk_42 (dk_at dksX1_setDelay_1 16 rfl rfl)
theorem dX1_setDelay_41 : decode cX1_setDelay 41 = .ok (.iload_n 3, 1) := dk_29 (dk_at dksX1_setDelay_1 17 rfl rfl)
theorem dX1_setDelay_42 : decode cX1_setDelay 42 = .ok (.putfield 179, 3) := dk_181 0 179 (dk_at dksX1_setDelay_1 18 rfl rfl)
theorem dX1_setDelay_45 : decode cX1_setDelay 45 = .ok (.iconst 0, 1) := dk_3 (dk_at dksX1_setDelay_1 21 rfl rfl)
theorem dX1_setDelay_46 : decode cX1_setDelay 46 = .ok (.istore 5, 2) := dk_54 5 (dk_at dksX1_setDelay_1 22 rfl rfl)
theorem dX1_setDelay_48 : decode cX1_setDelay 48 = .ok (.iload 5, 2) := dk_21 5 (dk_at dksX1_setDelay_2 0 rfl rfl)
theorem dX1_setDelay_50 : decode cX1_setDelay 50 = .ok (.sipush 200, 3) := dk_17 0 200 (dk_at dksX1_setDelay_2 2 rfl rfl)
theorem dX1_setDelay_53 : decode cX1_setDelay 53 = .ok (.if_icmp .ge 20, 3) := dk_162 0 20 (dk_at dksX1_setDelay_2 5 rfl rfl)
theorem dX1_setDelay_56 : decode cX1_setDelay 56 = .ok (.aload_n 0, 1) := dk_42 (dk_at dksX1_setDelay_2 8 rfl rfl)
theorem dX1_setDelay_57 : decode cX1_setDelay 57 = .ok (.getfield 35, 3) := dk_180 0 35 (dk_at dksX1_setDelay_2 9 rfl rfl)
theorem dX1_setDelay_60 : decode cX1_setDelay 60 = .ok (.getfield 182, 3) := dk_180 0 182 (dk_at dksX1_setDelay_2 12 rfl rfl)
theorem dX1_setDelay_63 : decode cX1_setDelay 63 = .ok (.iload 5, 2) := dk_21 5 (dk_at dksX1_setDelay_2 15 rfl rfl)
theorem dX1_setDelay_65 : decode cX1_setDelay 65 = .ok (.iconst 0, 1) := dk_3 (dk_at dksX1_setDelay_2 17 rfl rfl)
theorem dX1_setDelay_66 : decode cX1_setDelay 66 = .ok (.iastore, 1) := dk_79 (dk_at dksX1_setDelay_2 18 rfl rfl)
theorem dX1_setDelay_67 : decode cX1_setDelay 67 = .ok (.iinc 5 1, 3) := dk_132 5 1 (dk_at dksX1_setDelay_2 19 rfl rfl)
theorem dX1_setDelay_70 : decode cX1_setDelay 70 = .ok (.goto (-22), 3) := dk_167 255 234 (dk_at dksX1_setDelay_3 0 rfl rfl)
theorem dX1_setDelay_73 : decode cX1_setDelay 73 = .ok (.aload_n 0, 1) := dk_42 (dk_at dksX1_setDelay_3 3 rfl rfl)
theorem dX1_setDelay_74 : decode cX1_setDelay 74 = .ok (.getfield 35, 3) := dk_180 0 35 (dk_at dksX1_setDelay_3 4 rfl rfl)
theorem dX1_setDelay_77 : decode cX1_setDelay 77 = .ok (.iconst 0, 1) := dk_3 (dk_at dksX1_setDelay_3 7 rfl rfl)
theorem dX1_setDelay_78 : decode cX1_setDelay 78 = .ok (.putfield 185, 3) := dk_181 0 185 (dk_at dksX1_setDelay_3 8 rfl rfl)
theorem dX1_setDelay_81 : decode cX1_setDelay 81 = .ok (.iload 4, 2) := dk_21 4 (dk_at dksX1_setDelay_3 11 rfl rfl)
theorem dX1_setDelay_83 : decode cX1_setDelay 83 = .ok (.ireturn, 1) := dk_172 (dk_at dksX1_setDelay_3 13 rfl rfl)
abbrev cX1_begin : ByteArray := prog_1_method_22_code
def yX1_begin : MethodName := ⟨RX1, "begin", "(III)I"⟩
def dkwX1_begin_1 : List UInt8 := [27, 28, 29, 2, 182, 0, 188, 172]
abbrev dktX1_begin_1 : List UInt8 := dkwX1_begin_1 ++ []
def dkwX1_begin_0 : List UInt8 := [42, 27, 182, 0, 133, 87, 3, 16, 47, 28, 184, 0, 122, 4, 16, 127, 29, 184, 0, 122, 42, 180, 0, 35]
abbrev dktX1_begin_0 : List UInt8 := dkwX1_begin_0 ++ dktX1_begin_1
theorem dksX1_begin_0 : cX1_begin.data.toList.drop 0 = dktX1_begin_0 := by decide +kernel
theorem dksX1_begin_1 : cX1_begin.data.toList.drop 24 = dktX1_begin_1 := dk_seg dksX1_begin_0 24 rfl rfl
theorem dX1_begin_0 : decode cX1_begin 0 = .ok (.aload_n 0, 1) := dk_42 (dk_at dksX1_begin_0 0 rfl rfl)
theorem dX1_begin_1 : decode cX1_begin 1 = .ok (.iload_n 1, 1) := dk_27 (dk_at dksX1_begin_0 1 rfl rfl)
theorem dX1_begin_2 : decode cX1_begin 2 = .ok (.invokevirtual 133, 3) := dk_182 0 133 (dk_at dksX1_begin_0 2 rfl rfl)
theorem dX1_begin_5 : decode cX1_begin 5 = .ok (.pop, 1) := dk_87 (dk_at dksX1_begin_0 5 rfl rfl)
theorem dX1_begin_6 : decode cX1_begin 6 = .ok (.iconst 0, 1) := dk_3 (dk_at dksX1_begin_0 6 rfl rfl)
theorem dX1_begin_7 : decode cX1_begin 7 = .ok (.bipush 47, 2) := dk_16 47 (dk_at dksX1_begin_0 7 rfl rfl)
theorem dX1_begin_9 : decode cX1_begin 9 = .ok (.iload_n 2, 1) := dk_28 (dk_at dksX1_begin_0 9 rfl rfl)
theorem dX1_begin_10 : decode cX1_begin 10 = .ok (.invokestatic 122, 3) := dk_184 0 122 (dk_at dksX1_begin_0 10 rfl rfl)
theorem dX1_begin_13 : decode cX1_begin 13 = .ok (.iconst 1, 1) := dk_4 (dk_at dksX1_begin_0 13 rfl rfl)
theorem dX1_begin_14 : decode cX1_begin 14 = .ok (.bipush 127, 2) := dk_16 127 (dk_at dksX1_begin_0 14 rfl rfl)
theorem dX1_begin_16 : decode cX1_begin 16 = .ok (.iload_n 3, 1) := dk_29 (dk_at dksX1_begin_0 16 rfl rfl)
theorem dX1_begin_17 : decode cX1_begin 17 = .ok (.invokestatic 122, 3) := dk_184 0 122 (dk_at dksX1_begin_0 17 rfl rfl)
theorem dX1_begin_20 : decode cX1_begin 20 = .ok (.aload_n 0, 1) := dk_42 (dk_at dksX1_begin_0 20 rfl rfl)
theorem dX1_begin_21 : decode cX1_begin 21 = .ok (.getfield 35, 3) := dk_180 0 35 (dk_at dksX1_begin_0 21 rfl rfl)
theorem dX1_begin_24 : decode cX1_begin 24 = .ok (.iload_n 1, 1) := dk_27 (dk_at dksX1_begin_1 0 rfl rfl)
theorem dX1_begin_25 : decode cX1_begin 25 = .ok (.iload_n 2, 1) := dk_28 (dk_at dksX1_begin_1 1 rfl rfl)
theorem dX1_begin_26 : decode cX1_begin 26 = .ok (.iload_n 3, 1) := dk_29 (dk_at dksX1_begin_1 2 rfl rfl)
theorem dX1_begin_27 : decode cX1_begin 27 = .ok (.iconst (-1), 1) := dk_2 (dk_at dksX1_begin_1 3 rfl rfl)
theorem dX1_begin_28 : decode cX1_begin 28 = .ok (.invokevirtual 188, 3) := dk_182 0 188 (dk_at dksX1_begin_1 4 rfl rfl)
theorem dX1_begin_31 : decode cX1_begin 31 = .ok (.ireturn, 1) := dk_172 (dk_at dksX1_begin_1 7 rfl rfl)
abbrev cX1_end : ByteArray := prog_1_method_23_code
def yX1_end : MethodName := ⟨RX1, "end", "(I)I"⟩
def dkwX1_end_0 : List UInt8 := [42, 27, 182, 0, 192, 77, 44, 180, 0, 196, 62, 44, 182, 0, 199, 29, 172]
abbrev dktX1_end_0 : List UInt8 := dkwX1_end_0 ++ []
theorem dksX1_end_0 : cX1_end.data.toList.drop 0 = dktX1_end_0 := by decide +kernel
theorem dX1_end_0 : decode cX1_end 0 = .ok (.aload_n 0, 1) := dk_42 (dk_at dksX1_end_0 0 rfl rfl)
theorem dX1_end_1 : decode cX1_end 1 = .ok (.iload_n 1, 1) := dk_27 (dk_at dksX1_end_0 1 rfl rfl)
theorem dX1_end_2 : decode cX1_end 2 = .ok (.invokevirtual 192, 3) := dk_182 0 192 (dk_at dksX1_end_0 2 rfl rfl)
theorem dX1_end_5 : decode cX1_end 5 = .ok (.astore_n 2, 1) := dk_77 (dk_at dksX1_end_0 5 rfl rfl)
theorem dX1_end_6 : decode cX1_end 6 = .ok (.aload_n 2, 1) := dk_44 (dk_at dksX1_end_0 6 rfl rfl)
theorem dX1_end_7 : decode cX1_end 7 = .ok (.getfield 196, 3) := dk_180 0 196 (dk_at dksX1_end_0 7 rfl rfl)
theorem dX1_end_10 : decode cX1_end 10 = .ok (.istore_n 3, 1) := dk_62 (dk_at dksX1_end_0 10 rfl rfl)
theorem dX1_end_11 : decode cX1_end 11 = .ok (.aload_n 2, 1) := dk_44 (dk_at dksX1_end_0 11 rfl rfl)
theorem dX1_end_12 : decode cX1_end 12 = .ok (.invokevirtual 199, 3) := dk_182 0 199 (dk_at dksX1_end_0 12 rfl rfl)
theorem dX1_end_15 : decode cX1_end 15 = .ok (.iload_n 3, 1) := dk_29 (dk_at dksX1_end_0 15 rfl rfl)
theorem dX1_end_16 : decode cX1_end 16 = .ok (.ireturn, 1) := dk_172 (dk_at dksX1_end_0 16 rfl rfl)
abbrev cX1_write : ByteArray := prog_1_method_25_code
def yX1_write : MethodName := ⟨RX1, "write", "(IIIII)I"⟩
def dkwX1_write_4 : List UInt8 := [21, 4, 79, 25, 6, 180, 0, 221, 28, 21, 7, 153, 0, 7, 3, 167, 0, 5, 21, 5, 79, 21, 8, 172]
abbrev dktX1_write_4 : List UInt8 := dkwX1_write_4 ++ []
def dkwX1_write_3 : List UInt8 := [25, 6, 180, 0, 215, 28, 29, 79, 25, 6, 180, 0, 218, 28, 21, 7, 153, 0, 7, 3, 167, 0, 5]
abbrev dktX1_write_3 : List UInt8 := dkwX1_write_3 ++ dktX1_write_4
def dkwX1_write_2 : List UInt8 := [21, 7, 154, 0, 12, 4, 17, 0, 200, 21, 5, 184, 0, 122, 25, 6, 180, 0, 215, 28, 46, 54, 8]
abbrev dktX1_write_2 : List UInt8 := dkwX1_write_2 ++ dktX1_write_3
def dkwX1_write_1 : List UInt8 := [160, 0, 7, 4, 167, 0, 4, 3, 54, 7, 21, 7, 154, 0, 11, 4, 16, 127, 21, 4, 184, 0, 122]
abbrev dktX1_write_1 : List UInt8 := dkwX1_write_1 ++ dktX1_write_2
def dkwX1_write_0 : List UInt8 := [42, 27, 182, 0, 211, 58, 6, 28, 16, 8, 184, 0, 114, 2, 16, 47, 29, 184, 0, 122, 29, 2]
abbrev dktX1_write_0 : List UInt8 := dkwX1_write_0 ++ dktX1_write_1
theorem dksX1_write_0 : cX1_write.data.toList.drop 0 = dktX1_write_0 := by decide +kernel
theorem dksX1_write_1 : cX1_write.data.toList.drop 22 = dktX1_write_1 := dk_seg dksX1_write_0 22 rfl rfl
theorem dksX1_write_2 : cX1_write.data.toList.drop 45 = dktX1_write_2 := dk_seg dksX1_write_1 23 rfl rfl
theorem dksX1_write_3 : cX1_write.data.toList.drop 68 = dktX1_write_3 := dk_seg dksX1_write_2 23 rfl rfl
theorem dksX1_write_4 : cX1_write.data.toList.drop 91 = dktX1_write_4 := dk_seg dksX1_write_3 23 rfl rfl
theorem dX1_write_0 : decode cX1_write 0 = .ok (.aload_n 0, 1) := dk_42 (dk_at dksX1_write_0 0 rfl rfl)
theorem dX1_write_1 : decode cX1_write 1 = .ok (.iload_n 1, 1) := dk_27 (dk_at dksX1_write_0 1 rfl rfl)
theorem dX1_write_2 : decode cX1_write 2 = .ok (.invokevirtual 211, 3) := dk_182 0 211 (dk_at dksX1_write_0 2 rfl rfl)
theorem dX1_write_5 : decode cX1_write 5 = .ok (.astore 6, 2) := dk_58 6 (dk_at dksX1_write_0 5 rfl rfl)
theorem dX1_write_7 : decode cX1_write 7 = .ok (.iload_n 2, 1) := dk_28 (dk_at dksX1_write_0 7 rfl rfl)
theorem dX1_write_8 : decode cX1_write 8 = .ok (.bipush 8, 2) := dk_16 8 (dk_at dksX1_write_0 8 rfl rfl)
theorem dX1_write_10 : decode cX1_write 10 = .ok (.invokestatic 114, 3) := dk_184 0 114 (dk_at dksX1_write_0 10 rfl rfl)
theorem dX1_write_13 : decode cX1_write 13 = .ok (.iconst (-1), 1) := dk_2 (dk_at dksX1_write_0 13 rfl rfl)
theorem dX1_write_14 : decode cX1_write 14 = .ok (.bipush 47, 2) := dk_16 47 (dk_at dksX1_write_0 14 rfl rfl)
theorem dX1_write_16 : decode cX1_write 16 = .ok (.iload_n 3, 1) := dk_29 (dk_at dksX1_write_0 16 rfl rfl)
theorem dX1_write_17 : decode cX1_write 17 = .ok (.invokestatic 122, 3) := dk_184 0 122 (dk_at dksX1_write_0 17 rfl rfl)
theorem dX1_write_20 : decode cX1_write 20 = .ok (.iload_n 3, 1) := dk_29 (dk_at dksX1_write_0 20 rfl rfl)
theorem dX1_write_21 : decode cX1_write 21 = .ok (.iconst (-1), 1) := dk_2 (dk_at dksX1_write_0 21 rfl rfl)
theorem dX1_write_22 : decode cX1_write 22 = .ok (.if_icmp .ne 7, 3) := dk_160 0 7 (dk_at dksX1_write_1 0 rfl rfl)
theorem dX1_write_25 : decode cX1_write 25 = .ok (.iconst 1, 1) := dk_4 (dk_at dksX1_write_1 3 rfl rfl)
theorem dX1_write_26 : decode cX1_write 26 = .ok (.goto 4, 3) := dk_167 0 4 (dk_at dksX1_write_1 4 rfl rfl)
theorem dX1_write_29 : decode cX1_write 29 = .ok (.iconst 0, 1) := dk_3 (dk_at dksX1_write_1 7 rfl rfl)
theorem dX1_write_30 : decode cX1_write 30 = .ok (.istore 7, 2) := dk_54 7 (dk_at dksX1_write_1 8 rfl rfl)
theorem dX1_write_32 : decode cX1_write 32 = .ok (.iload 7, 2) := dk_21 7 (dk_at dksX1_write_1 10 rfl rfl)
theorem dX1_write_34 : decode cX1_write 34 = .ok (.ifCond .ne 11, 3) := dk_154 0 11 (dk_at dksX1_write_1 12 rfl rfl)
theorem dX1_write_37 : decode cX1_write 37 = .ok (.iconst 1, 1) := dk_4 (dk_at dksX1_write_1 15 rfl rfl)
theorem dX1_write_38 : decode cX1_write 38 = .ok (.bipush 127, 2) := dk_16 127 (dk_at dksX1_write_1 16 rfl rfl)
theorem dX1_write_40 : decode cX1_write 40 = .ok (.iload 4, 2) := dk_21 4 (dk_at dksX1_write_1 18 rfl rfl)
theorem dX1_write_42 : decode cX1_write 42 = .ok (.invokestatic 122, 3) := dk_184 0 122 (dk_at dksX1_write_1 20 rfl rfl)
theorem dX1_write_45 : decode cX1_write 45 = .ok (.iload 7, 2) := dk_21 7 (dk_at dksX1_write_2 0 rfl rfl)
theorem dX1_write_47 : decode cX1_write 47 = .ok (.ifCond .ne 12, 3) := dk_154 0 12 (dk_at dksX1_write_2 2 rfl rfl)
theorem dX1_write_50 : decode cX1_write 50 = .ok (.iconst 1, 1) := dk_4 (dk_at dksX1_write_2 5 rfl rfl)
theorem dX1_write_51 : decode cX1_write 51 = .ok (.sipush 200, 3) := dk_17 0 200 (dk_at dksX1_write_2 6 rfl rfl)
theorem dX1_write_54 : decode cX1_write 54 = .ok (.iload 5, 2) := dk_21 5 (dk_at dksX1_write_2 9 rfl rfl)
theorem dX1_write_56 : decode cX1_write 56 = .ok (.invokestatic 122, 3) := dk_184 0 122 (dk_at dksX1_write_2 11 rfl rfl)
theorem dX1_write_59 : decode cX1_write 59 = .ok (.aload 6, 2) := dk_25 6 (dk_at dksX1_write_2 14 rfl rfl)
theorem dX1_write_61 : decode cX1_write 61 = .ok (.getfield 215, 3) := dk_180 0 215 (dk_at dksX1_write_2 16 rfl rfl)
theorem dX1_write_64 : decode cX1_write 64 = .ok (.iload_n 2, 1) := dk_28 (dk_at dksX1_write_2 19 rfl rfl)
theorem dX1_write_65 : decode cX1_write 65 = .ok (.iaload, 1) := dk_46 (dk_at dksX1_write_2 20 rfl rfl)
theorem dX1_write_66 : decode cX1_write 66 = .ok (.istore 8, 2) := dk_54 8 (dk_at dksX1_write_2 21 rfl rfl)
theorem dX1_write_68 : decode cX1_write 68 = .ok (.aload 6, 2) := dk_25 6 (dk_at dksX1_write_3 0 rfl rfl)
theorem dX1_write_70 : decode cX1_write 70 = .ok (.getfield 215, 3) := dk_180 0 215 (dk_at dksX1_write_3 2 rfl rfl)
theorem dX1_write_73 : decode cX1_write 73 = .ok (.iload_n 2, 1) := dk_28 (dk_at dksX1_write_3 5 rfl rfl)
theorem dX1_write_74 : decode cX1_write 74 = .ok (.iload_n 3, 1) := dk_29 (dk_at dksX1_write_3 6 rfl rfl)
theorem dX1_write_75 : decode cX1_write 75 = .ok (.iastore, 1) := dk_79 (dk_at dksX1_write_3 7 rfl rfl)
theorem dX1_write_76 : decode cX1_write 76 = .ok (.aload 6, 2) := dk_25 6 (dk_at dksX1_write_3 8 rfl rfl)
theorem dX1_write_78 : decode cX1_write 78 = .ok (.getfield 218, 3) := dk_180 0 218 (dk_at dksX1_write_3 10 rfl rfl)
theorem dX1_write_81 : decode cX1_write 81 = .ok (.iload_n 2, 1) := dk_28 (dk_at dksX1_write_3 13 rfl rfl)
theorem dX1_write_82 : decode cX1_write 82 = .ok (.iload 7, 2) := dk_21 7 (dk_at dksX1_write_3 14 rfl rfl)
theorem dX1_write_84 : decode cX1_write 84 = .ok (.ifCond .eq 7, 3) := dk_153 0 7 (dk_at dksX1_write_3 16 rfl rfl)
theorem dX1_write_87 : decode cX1_write 87 = .ok (.iconst 0, 1) := dk_3 (dk_at dksX1_write_3 19 rfl rfl)
theorem dX1_write_88 : decode cX1_write 88 = .ok (.goto 5, 3) := dk_167 0 5 (dk_at dksX1_write_3 20 rfl rfl)
theorem dX1_write_91 : decode cX1_write 91 = .ok (.iload 4, 2) := dk_21 4 (dk_at dksX1_write_4 0 rfl rfl)
theorem dX1_write_93 : decode cX1_write 93 = .ok (.iastore, 1) := dk_79 (dk_at dksX1_write_4 2 rfl rfl)
theorem dX1_write_94 : decode cX1_write 94 = .ok (.aload 6, 2) := dk_25 6 (dk_at dksX1_write_4 3 rfl rfl)
theorem dX1_write_96 : decode cX1_write 96 = .ok (.getfield 221, 3) := dk_180 0 221 (dk_at dksX1_write_4 5 rfl rfl)
theorem dX1_write_99 : decode cX1_write 99 = .ok (.iload_n 2, 1) := dk_28 (dk_at dksX1_write_4 8 rfl rfl)
theorem dX1_write_100 : decode cX1_write 100 = .ok (.iload 7, 2) := dk_21 7 (dk_at dksX1_write_4 9 rfl rfl)
theorem dX1_write_102 : decode cX1_write 102 = .ok (.ifCond .eq 7, 3) := dk_153 0 7 (dk_at dksX1_write_4 11 rfl rfl)
theorem dX1_write_105 : decode cX1_write 105 = .ok (.iconst 0, 1) := dk_3 (dk_at dksX1_write_4 14 rfl rfl)
theorem dX1_write_106 : decode cX1_write 106 = .ok (.goto 5, 3) := dk_167 0 5 (dk_at dksX1_write_4 15 rfl rfl)
theorem dX1_write_109 : decode cX1_write 109 = .ok (.iload 5, 2) := dk_21 5 (dk_at dksX1_write_4 18 rfl rfl)
theorem dX1_write_111 : decode cX1_write 111 = .ok (.iastore, 1) := dk_79 (dk_at dksX1_write_4 20 rfl rfl)
theorem dX1_write_112 : decode cX1_write 112 = .ok (.iload 8, 2) := dk_21 8 (dk_at dksX1_write_4 21 rfl rfl)
theorem dX1_write_114 : decode cX1_write 114 = .ok (.ireturn, 1) := dk_172 (dk_at dksX1_write_4 23 rfl rfl)
abbrev cX1_setTrack : ByteArray := prog_1_method_26_code
def yX1_setTrack : MethodName := ⟨RX1, "setTrack", "(II)I"⟩
def dkwX1_setTrack_1 : List UInt8 := [21, 4, 172]
abbrev dktX1_setTrack_1 : List UInt8 := dkwX1_setTrack_1 ++ []
def dkwX1_setTrack_0 : List UInt8 := [42, 27, 182, 0, 211, 78, 42, 28, 182, 0, 133, 87, 45, 180, 0, 223, 54, 4, 45, 28, 181, 0, 223]
abbrev dktX1_setTrack_0 : List UInt8 := dkwX1_setTrack_0 ++ dktX1_setTrack_1
theorem dksX1_setTrack_0 : cX1_setTrack.data.toList.drop 0 = dktX1_setTrack_0 := by decide +kernel
theorem dksX1_setTrack_1 : cX1_setTrack.data.toList.drop 23 = dktX1_setTrack_1 := dk_seg dksX1_setTrack_0 23 rfl rfl
theorem dX1_setTrack_0 : decode cX1_setTrack 0 = .ok (.aload_n 0, 1) := dk_42 (dk_at dksX1_setTrack_0 0 rfl rfl)
theorem dX1_setTrack_1 : decode cX1_setTrack 1 = .ok (.iload_n 1, 1) := dk_27 (dk_at dksX1_setTrack_0 1 rfl rfl)
theorem dX1_setTrack_2 : decode cX1_setTrack 2 = .ok (.invokevirtual 211, 3) := dk_182 0 211 (dk_at dksX1_setTrack_0 2 rfl rfl)
theorem dX1_setTrack_5 : decode cX1_setTrack 5 = .ok (.astore_n 3, 1) := dk_78 (dk_at dksX1_setTrack_0 5 rfl rfl)
theorem dX1_setTrack_6 : decode cX1_setTrack 6 = .ok (.aload_n 0, 1) := dk_42 (dk_at dksX1_setTrack_0 6 rfl rfl)
theorem dX1_setTrack_7 : decode cX1_setTrack 7 = .ok (.iload_n 2, 1) := dk_28 (dk_at dksX1_setTrack_0 7 rfl rfl)
theorem dX1_setTrack_8 : decode cX1_setTrack 8 = .ok (.invokevirtual 133, 3) := dk_182 0 133 (dk_at dksX1_setTrack_0 8 rfl rfl)
theorem dX1_setTrack_11 : decode cX1_setTrack 11 = .ok (.pop, 1) := dk_87 (dk_at dksX1_setTrack_0 11 rfl rfl)
theorem dX1_setTrack_12 : decode cX1_setTrack 12 = .ok (.aload_n 3, 1) := dk_45 (dk_at dksX1_setTrack_0 12 rfl rfl)
theorem dX1_setTrack_13 : decode cX1_setTrack 13 = .ok (.getfield 223, 3) := dk_180 0 223 (dk_at dksX1_setTrack_0 13 rfl rfl)
theorem dX1_setTrack_16 : decode cX1_setTrack 16 = .ok (.istore 4, 2) := dk_54 4 (dk_at dksX1_setTrack_0 16 rfl rfl)
theorem dX1_setTrack_18 : decode cX1_setTrack 18 = .ok (.aload_n 3, 1) := dk_45 (dk_at dksX1_setTrack_0 18 rfl rfl)
theorem dX1_setTrack_19 : decode cX1_setTrack 19 = .ok (.iload_n 2, 1) := dk_28 (dk_at dksX1_setTrack_0 19 rfl rfl)
theorem dX1_setTrack_20 : decode cX1_setTrack 20 = .ok (.putfield 223, 3) := dk_181 0 223 (dk_at dksX1_setTrack_0 20 rfl rfl)
theorem dX1_setTrack_23 : decode cX1_setTrack 23 = .ok (.iload 4, 2) := dk_21 4 (dk_at dksX1_setTrack_1 0 rfl rfl)
theorem dX1_setTrack_25 : decode cX1_setTrack 25 = .ok (.ireturn, 1) := dk_172 (dk_at dksX1_setTrack_1 2 rfl rfl)
abbrev cX1_setTempo : ByteArray := prog_1_method_27_code
def yX1_setTempo : MethodName := ⟨RX1, "setTempo", "(II)I"⟩
def dkwX1_setTempo_1 : List UInt8 := [181, 0, 89, 42, 28, 181, 0, 225, 29, 172]
abbrev dktX1_setTempo_1 : List UInt8 := dkwX1_setTempo_1 ++ []
def dkwX1_setTempo_0 : List UInt8 := [4, 17, 0, 200, 27, 184, 0, 122, 3, 27, 4, 100, 28, 184, 0, 122, 42, 180, 0, 89, 62, 42, 27]
abbrev dktX1_setTempo_0 : List UInt8 := dkwX1_setTempo_0 ++ dktX1_setTempo_1
theorem dksX1_setTempo_0 : cX1_setTempo.data.toList.drop 0 = dktX1_setTempo_0 := by decide +kernel
theorem dksX1_setTempo_1 : cX1_setTempo.data.toList.drop 23 = dktX1_setTempo_1 := dk_seg dksX1_setTempo_0 23 rfl rfl
theorem dX1_setTempo_0 : decode cX1_setTempo 0 = .ok (.iconst 1, 1) := dk_4 (dk_at dksX1_setTempo_0 0 rfl rfl)
theorem dX1_setTempo_1 : decode cX1_setTempo 1 = .ok (.sipush 200, 3) := dk_17 0 200 (dk_at dksX1_setTempo_0 1 rfl rfl)
theorem dX1_setTempo_4 : decode cX1_setTempo 4 = .ok (.iload_n 1, 1) := dk_27 (dk_at dksX1_setTempo_0 4 rfl rfl)
theorem dX1_setTempo_5 : decode cX1_setTempo 5 = .ok (.invokestatic 122, 3) := dk_184 0 122 (dk_at dksX1_setTempo_0 5 rfl rfl)
theorem dX1_setTempo_8 : decode cX1_setTempo 8 = .ok (.iconst 0, 1) := dk_3 (dk_at dksX1_setTempo_0 8 rfl rfl)
theorem dX1_setTempo_9 : decode cX1_setTempo 9 = .ok (.iload_n 1, 1) := dk_27 (dk_at dksX1_setTempo_0 9 rfl rfl)
theorem dX1_setTempo_10 : decode cX1_setTempo 10 = .ok (.iconst 1, 1) := dk_4 (dk_at dksX1_setTempo_0 10 rfl rfl)
theorem dX1_setTempo_11 : decode cX1_setTempo 11 = .ok (.isub, 1) := dk_100 (dk_at dksX1_setTempo_0 11 rfl rfl)
theorem dX1_setTempo_12 : decode cX1_setTempo 12 = .ok (.iload_n 2, 1) := dk_28 (dk_at dksX1_setTempo_0 12 rfl rfl)
theorem dX1_setTempo_13 : decode cX1_setTempo 13 = .ok (.invokestatic 122, 3) := dk_184 0 122 (dk_at dksX1_setTempo_0 13 rfl rfl)
theorem dX1_setTempo_16 : decode cX1_setTempo 16 = .ok (.aload_n 0, 1) := dk_42 (dk_at dksX1_setTempo_0 16 rfl rfl)
theorem dX1_setTempo_17 : decode cX1_setTempo 17 = .ok (.getfield 89, 3) := dk_180 0 89 (dk_at dksX1_setTempo_0 17 rfl rfl)
theorem dX1_setTempo_20 : decode cX1_setTempo 20 = .ok (.istore_n 3, 1) := dk_62 (dk_at dksX1_setTempo_0 20 rfl rfl)
theorem dX1_setTempo_21 : decode cX1_setTempo 21 = .ok (.aload_n 0, 1) := dk_42 (dk_at dksX1_setTempo_0 21 rfl rfl)
theorem dX1_setTempo_22 : decode cX1_setTempo 22 = .ok (.iload_n 1, 1) := dk_27 (dk_at dksX1_setTempo_0 22 rfl rfl)
theorem dX1_setTempo_23 : decode cX1_setTempo 23 = .ok (.putfield 89, 3) := dk_181 0 89 (dk_at dksX1_setTempo_1 0 rfl rfl)
theorem dX1_setTempo_26 : decode cX1_setTempo 26 = .ok (.aload_n 0, 1) := dk_42 (dk_at dksX1_setTempo_1 3 rfl rfl)
theorem dX1_setTempo_27 : decode cX1_setTempo 27 = .ok (.iload_n 2, 1) := dk_28 (dk_at dksX1_setTempo_1 4 rfl rfl)
theorem dX1_setTempo_28 : decode cX1_setTempo 28 = .ok (.putfield 225, 3) := dk_181 0 225 (dk_at dksX1_setTempo_1 5 rfl rfl)
theorem dX1_setTempo_31 : decode cX1_setTempo 31 = .ok (.iload_n 3, 1) := dk_29 (dk_at dksX1_setTempo_1 8 rfl rfl)
theorem dX1_setTempo_32 : decode cX1_setTempo 32 = .ok (.ireturn, 1) := dk_172 (dk_at dksX1_setTempo_1 9 rfl rfl)
abbrev cX1_play : ByteArray := prog_1_method_28_code
def yX1_play : MethodName := ⟨RX1, "play", "(I)Z"⟩
def dkwX1_play_1 : List UInt8 := [180, 0, 35, 27, 181, 0, 231, 42, 180, 0, 35, 3, 181, 0, 234, 28, 172]
abbrev dktX1_play_1 : List UInt8 := dkwX1_play_1 ++ []
def dkwX1_play_0 : List UInt8 := [27, 16, 8, 184, 0, 114, 42, 180, 0, 35, 180, 0, 228, 61, 42, 180, 0, 35, 4, 181, 0, 228, 42]
abbrev dktX1_play_0 : List UInt8 := dkwX1_play_0 ++ dktX1_play_1
theorem dksX1_play_0 : cX1_play.data.toList.drop 0 = dktX1_play_0 := by decide +kernel
theorem dksX1_play_1 : cX1_play.data.toList.drop 23 = dktX1_play_1 := dk_seg dksX1_play_0 23 rfl rfl
theorem dX1_play_0 : decode cX1_play 0 = .ok (.iload_n 1, 1) := dk_27 (dk_at dksX1_play_0 0 rfl rfl)
theorem dX1_play_1 : decode cX1_play 1 = .ok (.bipush 8, 2) := dk_16 8 (dk_at dksX1_play_0 1 rfl rfl)
theorem dX1_play_3 : decode cX1_play 3 = .ok (.invokestatic 114, 3) := dk_184 0 114 (dk_at dksX1_play_0 3 rfl rfl)
theorem dX1_play_6 : decode cX1_play 6 = .ok (.aload_n 0, 1) := dk_42 (dk_at dksX1_play_0 6 rfl rfl)
theorem dX1_play_7 : decode cX1_play 7 = .ok (.getfield 35, 3) := dk_180 0 35 (dk_at dksX1_play_0 7 rfl rfl)
theorem dX1_play_10 : decode cX1_play 10 = .ok (.getfield 228, 3) := dk_180 0 228 (dk_at dksX1_play_0 10 rfl rfl)
theorem dX1_play_13 : decode cX1_play 13 = .ok (.istore_n 2, 1) := dk_61 (dk_at dksX1_play_0 13 rfl rfl)
theorem dX1_play_14 : decode cX1_play 14 = .ok (.aload_n 0, 1) := dk_42 (dk_at dksX1_play_0 14 rfl rfl)
theorem dX1_play_15 : decode cX1_play 15 = .ok (.getfield 35, 3) := dk_180 0 35 (dk_at dksX1_play_0 15 rfl rfl)
theorem dX1_play_18 : decode cX1_play 18 = .ok (.iconst 1, 1) := dk_4 (dk_at dksX1_play_0 18 rfl rfl)
theorem dX1_play_19 : decode cX1_play 19 = .ok (.putfield 228, 3) := dk_181 0 228 (dk_at dksX1_play_0 19 rfl rfl)
theorem dX1_play_22 : decode cX1_play 22 = .ok (.aload_n 0, 1) := dk_42 (dk_at dksX1_play_0 22 rfl rfl)
theorem dX1_play_23 : decode cX1_play 23 = .ok (.getfield 35, 3) := dk_180 0 35 (dk_at dksX1_play_1 0 rfl rfl)
theorem dX1_play_26 : decode cX1_play 26 = .ok (.iload_n 1, 1) := dk_27 (dk_at dksX1_play_1 3 rfl rfl)
theorem dX1_play_27 : decode cX1_play 27 = .ok (.putfield 231, 3) := dk_181 0 231 (dk_at dksX1_play_1 4 rfl rfl)
theorem dX1_play_30 : decode cX1_play 30 = .ok (.aload_n 0, 1) := dk_42 (dk_at dksX1_play_1 7 rfl rfl)
theorem dX1_play_31 : decode cX1_play 31 = .ok (.getfield 35, 3) := dk_180 0 35 (dk_at dksX1_play_1 8 rfl rfl)
theorem dX1_play_34 : decode cX1_play 34 = .ok (.iconst 0, 1) := dk_3 (dk_at dksX1_play_1 11 rfl rfl)
theorem dX1_play_35 : decode cX1_play 35 = .ok (.putfield 234, 3) := dk_181 0 234 (dk_at dksX1_play_1 12 rfl rfl)
theorem dX1_play_38 : decode cX1_play 38 = .ok (.iload_n 2, 1) := dk_28 (dk_at dksX1_play_1 15 rfl rfl)
theorem dX1_play_39 : decode cX1_play 39 = .ok (.ireturn, 1) := dk_172 (dk_at dksX1_play_1 16 rfl rfl)
abbrev cX1_run : ByteArray := prog_1_method_31_code
def yX1_run : MethodName := ⟨RX1, "run", "(I)I"⟩
def dkwX1_run_1 : List UInt8 := [167, 255, 243, 42, 180, 0, 32, 3, 46, 172]
abbrev dktX1_run_1 : List UInt8 := dkwX1_run_1 ++ []
def dkwX1_run_0 : List UInt8 := [4, 17, 0, 200, 27, 184, 0, 122, 3, 61, 28, 27, 162, 0, 14, 42, 182, 0, 239, 87, 132, 2, 1]
abbrev dktX1_run_0 : List UInt8 := dkwX1_run_0 ++ dktX1_run_1
theorem dksX1_run_0 : cX1_run.data.toList.drop 0 = dktX1_run_0 := by decide +kernel
theorem dksX1_run_1 : cX1_run.data.toList.drop 23 = dktX1_run_1 := dk_seg dksX1_run_0 23 rfl rfl
theorem dX1_run_0 : decode cX1_run 0 = .ok (.iconst 1, 1) := dk_4 (dk_at dksX1_run_0 0 rfl rfl)
theorem dX1_run_1 : decode cX1_run 1 = .ok (.sipush 200, 3) := dk_17 0 200 (dk_at dksX1_run_0 1 rfl rfl)
theorem dX1_run_4 : decode cX1_run 4 = .ok (.iload_n 1, 1) := dk_27 (dk_at dksX1_run_0 4 rfl rfl)
theorem dX1_run_5 : decode cX1_run 5 = .ok (.invokestatic 122, 3) := dk_184 0 122 (dk_at dksX1_run_0 5 rfl rfl)
theorem dX1_run_8 : decode cX1_run 8 = .ok (.iconst 0, 1) := dk_3 (dk_at dksX1_run_0 8 rfl rfl)
theorem dX1_run_9 : decode cX1_run 9 = .ok (.istore_n 2, 1) := dk_61 (dk_at dksX1_run_0 9 rfl rfl)
theorem dX1_run_10 : decode cX1_run 10 = .ok (.iload_n 2, 1) := dk_28 (dk_at dksX1_run_0 10 rfl rfl)
theorem dX1_run_11 : decode cX1_run 11 = .ok (.iload_n 1, 1) := dk_27 (dk_at dksX1_run_0 11 rfl rfl)
theorem dX1_run_12 : decode cX1_run 12 = .ok (.if_icmp .ge 14, 3) := dk_162 0 14 (dk_at dksX1_run_0 12 rfl rfl)
theorem dX1_run_15 : decode cX1_run 15 = .ok (.aload_n 0, 1) := dk_42 (dk_at dksX1_run_0 15 rfl rfl)
theorem dX1_run_16 : decode cX1_run 16 = .ok (.invokevirtual 239, 3) := dk_182 0 239 (dk_at dksX1_run_0 16 rfl rfl)
theorem dX1_run_19 : decode cX1_run 19 = .ok (.pop, 1) := dk_87 (dk_at dksX1_run_0 19 rfl rfl)
theorem dX1_run_20 : decode cX1_run 20 = .ok (.iinc 2 1, 3) := dk_132 2 1 (dk_at dksX1_run_0 20 rfl rfl)
theorem dX1_run_23 : decode cX1_run 23 = .ok (.goto (-13), 3) := dk_167 255 243 (dk_at dksX1_run_1 0 rfl rfl)
theorem dX1_run_26 : decode cX1_run 26 = .ok (.aload_n 0, 1) := dk_42 (dk_at dksX1_run_1 3 rfl rfl)
theorem dX1_run_27 : decode cX1_run 27 = .ok (.getfield 32, 3) := dk_180 0 32 (dk_at dksX1_run_1 4 rfl rfl)
theorem dX1_run_30 : decode cX1_run 30 = .ok (.iconst 0, 1) := dk_3 (dk_at dksX1_run_1 7 rfl rfl)
theorem dX1_run_31 : decode cX1_run 31 = .ok (.iaload, 1) := dk_46 (dk_at dksX1_run_1 8 rfl rfl)
theorem dX1_run_32 : decode cX1_run 32 = .ok (.ireturn, 1) := dk_172 (dk_at dksX1_run_1 9 rfl rfl)
abbrev cX1_wouldPeak : ByteArray := prog_1_method_46_code
def yX1_wouldPeak : MethodName := ⟨RX1, "wouldPeak", "(I)I"⟩
def dkwX1_wouldPeak_1 : List UInt8 := [162, 0, 21, 29, 44, 182, 0, 39, 184, 0, 58, 184, 0, 22, 62, 132, 4, 1, 167, 255, 235, 29, 172]
abbrev dktX1_wouldPeak_1 : List UInt8 := dkwX1_wouldPeak_1 ++ []
def dkwX1_wouldPeak_0 : List UInt8 := [4, 17, 0, 200, 27, 184, 0, 122, 42, 180, 0, 35, 182, 1, 9, 77, 3, 62, 3, 54, 4, 21, 4, 27]
abbrev dktX1_wouldPeak_0 : List UInt8 := dkwX1_wouldPeak_0 ++ dktX1_wouldPeak_1
theorem dksX1_wouldPeak_0 : cX1_wouldPeak.data.toList.drop 0 = dktX1_wouldPeak_0 := by decide +kernel
theorem dksX1_wouldPeak_1 : cX1_wouldPeak.data.toList.drop 24 = dktX1_wouldPeak_1 := dk_seg dksX1_wouldPeak_0 24 rfl rfl
theorem dX1_wouldPeak_0 : decode cX1_wouldPeak 0 = .ok (.iconst 1, 1) := dk_4 (dk_at dksX1_wouldPeak_0 0 rfl rfl)
theorem dX1_wouldPeak_1 : decode cX1_wouldPeak 1 = .ok (.sipush 200, 3) := dk_17 0 200 (dk_at dksX1_wouldPeak_0 1 rfl rfl)
theorem dX1_wouldPeak_4 : decode cX1_wouldPeak 4 = .ok (.iload_n 1, 1) := dk_27 (dk_at dksX1_wouldPeak_0 4 rfl rfl)
theorem dX1_wouldPeak_5 : decode cX1_wouldPeak 5 = .ok (.invokestatic 122, 3) := dk_184 0 122 (dk_at dksX1_wouldPeak_0 5 rfl rfl)
theorem dX1_wouldPeak_8 : decode cX1_wouldPeak 8 = .ok (.aload_n 0, 1) := dk_42 (dk_at dksX1_wouldPeak_0 8 rfl rfl)
theorem dX1_wouldPeak_9 : decode cX1_wouldPeak 9 = .ok (.getfield 35, 3) := dk_180 0 35 (dk_at dksX1_wouldPeak_0 9 rfl rfl)
theorem dX1_wouldPeak_12 : decode cX1_wouldPeak 12 = .ok (.invokevirtual 265, 3) := dk_182 1 9 (dk_at dksX1_wouldPeak_0 12 rfl rfl)
theorem dX1_wouldPeak_15 : decode cX1_wouldPeak 15 = .ok (.astore_n 2, 1) := dk_77 (dk_at dksX1_wouldPeak_0 15 rfl rfl)
theorem dX1_wouldPeak_16 : decode cX1_wouldPeak 16 = .ok (.iconst 0, 1) := dk_3 (dk_at dksX1_wouldPeak_0 16 rfl rfl)
theorem dX1_wouldPeak_17 : decode cX1_wouldPeak 17 = .ok (.istore_n 3, 1) := dk_62 (dk_at dksX1_wouldPeak_0 17 rfl rfl)
theorem dX1_wouldPeak_18 : decode cX1_wouldPeak 18 = .ok (.iconst 0, 1) := dk_3 (dk_at dksX1_wouldPeak_0 18 rfl rfl)
theorem dX1_wouldPeak_19 : decode cX1_wouldPeak 19 = .ok (.istore 4, 2) := dk_54 4 (dk_at dksX1_wouldPeak_0 19 rfl rfl)
theorem dX1_wouldPeak_21 : decode cX1_wouldPeak 21 = .ok (.iload 4, 2) := dk_21 4 (dk_at dksX1_wouldPeak_0 21 rfl rfl)
theorem dX1_wouldPeak_23 : decode cX1_wouldPeak 23 = .ok (.iload_n 1, 1) := dk_27 (dk_at dksX1_wouldPeak_0 23 rfl rfl)
theorem dX1_wouldPeak_24 : decode cX1_wouldPeak 24 = .ok (.if_icmp .ge 21, 3) := dk_162 0 21 (dk_at dksX1_wouldPeak_1 0 rfl rfl)
theorem dX1_wouldPeak_27 : decode cX1_wouldPeak 27 = .ok (.iload_n 3, 1) := dk_29 (dk_at dksX1_wouldPeak_1 3 rfl rfl)
theorem dX1_wouldPeak_28 : decode cX1_wouldPeak 28 = .ok (.aload_n 2, 1) := dk_44 (dk_at dksX1_wouldPeak_1 4 rfl rfl)
theorem dX1_wouldPeak_29 : decode cX1_wouldPeak 29 = .ok (.invokevirtual 39, 3) := dk_182 0 39 (dk_at dksX1_wouldPeak_1 5 rfl rfl)
theorem dX1_wouldPeak_32 : decode cX1_wouldPeak 32 = .ok (.invokestatic 58, 3) := dk_184 0 58 (dk_at dksX1_wouldPeak_1 8 rfl rfl)
theorem dX1_wouldPeak_35 : decode cX1_wouldPeak 35 = .ok (.invokestatic 22, 3) := dk_184 0 22 (dk_at dksX1_wouldPeak_1 11 rfl rfl)
theorem dX1_wouldPeak_38 : decode cX1_wouldPeak 38 = .ok (.istore_n 3, 1) := dk_62 (dk_at dksX1_wouldPeak_1 14 rfl rfl)
theorem dX1_wouldPeak_39 : decode cX1_wouldPeak 39 = .ok (.iinc 4 1, 3) := dk_132 4 1 (dk_at dksX1_wouldPeak_1 15 rfl rfl)
theorem dX1_wouldPeak_42 : decode cX1_wouldPeak 42 = .ok (.goto (-21), 3) := dk_167 255 235 (dk_at dksX1_wouldPeak_1 18 rfl rfl)
theorem dX1_wouldPeak_45 : decode cX1_wouldPeak 45 = .ok (.iload_n 3, 1) := dk_29 (dk_at dksX1_wouldPeak_1 21 rfl rfl)
theorem dX1_wouldPeak_46 : decode cX1_wouldPeak 46 = .ok (.ireturn, 1) := dk_172 (dk_at dksX1_wouldPeak_1 22 rfl rfl)
abbrev cX1_silentIn : ByteArray := prog_1_method_47_code
def yX1_silentIn : MethodName := ⟨RX1, "silentIn", "(I)I"⟩
def dkwX1_silentIn_2 : List UInt8 := [2, 172]
abbrev dktX1_silentIn_2 : List UInt8 := dkwX1_silentIn_2 ++ []
def dkwX1_silentIn_1 : List UInt8 := [182, 0, 202, 154, 0, 5, 29, 172, 29, 27, 162, 0, 8, 44, 182, 0, 39, 87, 132, 3, 1, 167, 255, 229]
abbrev dktX1_silentIn_1 : List UInt8 := dkwX1_silentIn_1 ++ dktX1_silentIn_2
def dkwX1_silentIn_0 : List UInt8 := [4, 17, 0, 200, 27, 184, 0, 122, 42, 180, 0, 35, 182, 1, 9, 77, 3, 62, 29, 27, 163, 0, 28, 44]
abbrev dktX1_silentIn_0 : List UInt8 := dkwX1_silentIn_0 ++ dktX1_silentIn_1
theorem dksX1_silentIn_0 : cX1_silentIn.data.toList.drop 0 = dktX1_silentIn_0 := by decide +kernel
theorem dksX1_silentIn_1 : cX1_silentIn.data.toList.drop 24 = dktX1_silentIn_1 := dk_seg dksX1_silentIn_0 24 rfl rfl
theorem dksX1_silentIn_2 : cX1_silentIn.data.toList.drop 48 = dktX1_silentIn_2 := dk_seg dksX1_silentIn_1 24 rfl rfl
theorem dX1_silentIn_0 : decode cX1_silentIn 0 = .ok (.iconst 1, 1) := dk_4 (dk_at dksX1_silentIn_0 0 rfl rfl)
theorem dX1_silentIn_1 : decode cX1_silentIn 1 = .ok (.sipush 200, 3) := dk_17 0 200 (dk_at dksX1_silentIn_0 1 rfl rfl)
theorem dX1_silentIn_4 : decode cX1_silentIn 4 = .ok (.iload_n 1, 1) := dk_27 (dk_at dksX1_silentIn_0 4 rfl rfl)
theorem dX1_silentIn_5 : decode cX1_silentIn 5 = .ok (.invokestatic 122, 3) := dk_184 0 122 (dk_at dksX1_silentIn_0 5 rfl rfl)
theorem dX1_silentIn_8 : decode cX1_silentIn 8 = .ok (.aload_n 0, 1) := dk_42 (dk_at dksX1_silentIn_0 8 rfl rfl)
theorem dX1_silentIn_9 : decode cX1_silentIn 9 = .ok (.getfield 35, 3) := dk_180 0 35 (dk_at dksX1_silentIn_0 9 rfl rfl)
theorem dX1_silentIn_12 : decode cX1_silentIn 12 = .ok (.invokevirtual 265, 3) := dk_182 1 9 (dk_at dksX1_silentIn_0 12 rfl rfl)
theorem dX1_silentIn_15 : decode cX1_silentIn 15 = .ok (.astore_n 2, 1) := dk_77 (dk_at dksX1_silentIn_0 15 rfl rfl)
theorem dX1_silentIn_16 : decode cX1_silentIn 16 = .ok (.iconst 0, 1) := dk_3 (dk_at dksX1_silentIn_0 16 rfl rfl)
theorem dX1_silentIn_17 : decode cX1_silentIn 17 = .ok (.istore_n 3, 1) := dk_62 (dk_at dksX1_silentIn_0 17 rfl rfl)
theorem dX1_silentIn_18 : decode cX1_silentIn 18 = .ok (.iload_n 3, 1) := dk_29 (dk_at dksX1_silentIn_0 18 rfl rfl)
theorem dX1_silentIn_19 : decode cX1_silentIn 19 = .ok (.iload_n 1, 1) := dk_27 (dk_at dksX1_silentIn_0 19 rfl rfl)
theorem dX1_silentIn_20 : decode cX1_silentIn 20 = .ok (.if_icmp .gt 28, 3) := dk_163 0 28 (dk_at dksX1_silentIn_0 20 rfl rfl)
theorem dX1_silentIn_23 : decode cX1_silentIn 23 = .ok (.aload_n 2, 1) := dk_44 (dk_at dksX1_silentIn_0 23 rfl rfl)
theorem dX1_silentIn_24 : decode cX1_silentIn 24 = .ok (.invokevirtual 202, 3) := dk_182 0 202 (dk_at dksX1_silentIn_1 0 rfl rfl)
theorem dX1_silentIn_27 : decode cX1_silentIn 27 = .ok (.ifCond .ne 5, 3) := dk_154 0 5 (dk_at dksX1_silentIn_1 3 rfl rfl)
theorem dX1_silentIn_30 : decode cX1_silentIn 30 = .ok (.iload_n 3, 1) := dk_29 (dk_at dksX1_silentIn_1 6 rfl rfl)
theorem dX1_silentIn_31 : decode cX1_silentIn 31 = .ok (.ireturn, 1) := dk_172 (dk_at dksX1_silentIn_1 7 rfl rfl)
theorem dX1_silentIn_32 : decode cX1_silentIn 32 = .ok (.iload_n 3, 1) := dk_29 (dk_at dksX1_silentIn_1 8 rfl rfl)
theorem dX1_silentIn_33 : decode cX1_silentIn 33 = .ok (.iload_n 1, 1) := dk_27 (dk_at dksX1_silentIn_1 9 rfl rfl)
theorem dX1_silentIn_34 : decode cX1_silentIn 34 = .ok (.if_icmp .ge 8, 3) := dk_162 0 8 (dk_at dksX1_silentIn_1 10 rfl rfl)
theorem dX1_silentIn_37 : decode cX1_silentIn 37 = .ok (.aload_n 2, 1) := dk_44 (dk_at dksX1_silentIn_1 13 rfl rfl)
theorem dX1_silentIn_38 : decode cX1_silentIn 38 = .ok (.invokevirtual 39, 3) := dk_182 0 39 (dk_at dksX1_silentIn_1 14 rfl rfl)
theorem dX1_silentIn_41 : decode cX1_silentIn 41 = .ok (.pop, 1) := dk_87 (dk_at dksX1_silentIn_1 17 rfl rfl)
theorem dX1_silentIn_42 : decode cX1_silentIn 42 = .ok (.iinc 3 1, 3) := dk_132 3 1 (dk_at dksX1_silentIn_1 18 rfl rfl)
theorem dX1_silentIn_45 : decode cX1_silentIn 45 = .ok (.goto (-27), 3) := dk_167 255 229 (dk_at dksX1_silentIn_1 21 rfl rfl)
theorem dX1_silentIn_48 : decode cX1_silentIn 48 = .ok (.iconst (-1), 1) := dk_2 (dk_at dksX1_silentIn_2 0 rfl rfl)
theorem dX1_silentIn_49 : decode cX1_silentIn 49 = .ok (.ireturn, 1) := dk_172 (dk_at dksX1_silentIn_2 1 rfl rfl)
theorem q26 : (Jvm.Cond.initialized "Melodeon") ∈ lw_all := lw_g (lw_at lw_m1 1 rfl) rfl
theorem q50 : (Jvm.Cond.instantiable "Melodeon" (17 : Nat)) ∈ lw_all := lw_g (lw_at lw_m1 25 rfl) rfl
theorem q52 : (Jvm.Cond.instanceMethod ({ cls := "Melodeon", name := "<init>", desc := "()V" } : Jvm.MethodName)) ∈ lw_all := lw_g (lw_at lw_m1 27 rfl) rfl
theorem q53 : (Jvm.Cond.code ({ cls := "Melodeon", name := "<init>", desc := "()V" } : Jvm.MethodName) prog_1_method_9_code (2 : Nat) (Option.none : Option Jvm.ClassFile.FieldType)) ∈ lw_all := lw_g (lw_at lw_m1 28 rfl) rfl
theorem q54 : (Jvm.Cond.methodLink "Melodeon" (76 : Nat) ({ cls := "java/lang/Object", name := "<init>", desc := "()V" } : Jvm.MethodName)) ∈ lw_all := lw_g (lw_at lw_m1 29 rfl) rfl
theorem q57 : (Jvm.Cond.classLink "Melodeon" (79 : Nat) "java/util/ArrayList") ∈ lw_all := lw_g (lw_at lw_m1 32 rfl) rfl
theorem q59 : (Jvm.Cond.methodLink "Melodeon" (81 : Nat) ({ cls := "java/util/ArrayList", name := "<init>", desc := "()V" } : Jvm.MethodName)) ∈ lw_all := lw_g (lw_at lw_m1 34 rfl) rfl
theorem q84 : (Jvm.Cond.classLink "Melodeon" (40 : Nat) "Melodeon$Engine") ∈ lw_all := lw_g (lw_at lw_m1 59 rfl) rfl
theorem q86 : (Jvm.Cond.methodLinkNest "Melodeon" (95 : Nat) ({ cls := "Melodeon$Engine", name := "<init>", desc := "(LMelodeon;)V" } : Jvm.MethodName) "Melodeon") ∈ lw_tbl := lw_at lw_m1 61 rfl
theorem q93 : (Jvm.Cond.fieldLinkNest "Melodeon" (108 : Nat) "Melodeon$Engine" "voices" "Ljava/util/ArrayList;" "Melodeon") ∈ lw_tbl := lw_at lw_m1 68 rfl
theorem q95 : (Jvm.Cond.fieldLinkNest "Melodeon" (182 : Nat) "Melodeon$Engine" "row" "[I" "Melodeon") ∈ lw_tbl := lw_at lw_m1 70 rfl
theorem q97 : (Jvm.Cond.fieldLinkNest "Melodeon" (185 : Nat) "Melodeon$Engine" "head" "I" "Melodeon") ∈ lw_tbl := lw_at lw_m1 72 rfl
theorem q99 : (Jvm.Cond.fieldLinkNest "Melodeon" (242 : Nat) "Melodeon$Engine" "clock" "I" "Melodeon") ∈ lw_tbl := lw_at lw_m1 74 rfl
theorem q102 : (Jvm.Cond.fieldLinkNest "Melodeon" (262 : Nat) "Melodeon$Engine" "taken" "I" "Melodeon") ∈ lw_tbl := lw_at lw_m1 77 rfl
theorem q104 : (Jvm.Cond.fieldLinkNest "Melodeon" (228 : Nat) "Melodeon$Engine" "isPlaying" "Z" "Melodeon") ∈ lw_tbl := lw_at lw_m1 79 rfl
theorem q106 : (Jvm.Cond.fieldLinkNest "Melodeon" (231 : Nat) "Melodeon$Engine" "step" "I" "Melodeon") ∈ lw_tbl := lw_at lw_m1 81 rfl
theorem q108 : (Jvm.Cond.fieldLinkNest "Melodeon" (234 : Nat) "Melodeon$Engine" "gone" "I" "Melodeon") ∈ lw_tbl := lw_at lw_m1 83 rfl
theorem q110 : (Jvm.Cond.fieldLinkNest "Melodeon" (69 : Nat) "Melodeon$Engine" "isClipped" "Z" "Melodeon") ∈ lw_tbl := lw_at lw_m1 85 rfl
theorem q138 : (Jvm.Cond.classLink "Melodeon" (98 : Nat) "Melodeon$Instrument") ∈ lw_all := lw_g (lw_at lw_m1 113 rfl) rfl
theorem q140 : (Jvm.Cond.methodLinkNest "Melodeon" (100 : Nat) ({ cls := "Melodeon$Instrument", name := "<init>", desc := "()V" } : Jvm.MethodName) "Melodeon") ∈ lw_tbl := lw_at lw_m1 115 rfl
theorem q145 : (Jvm.Cond.fieldLinkNest "Melodeon" (140 : Nat) "Melodeon$Instrument" "one" "I" "Melodeon") ∈ lw_tbl := lw_at lw_m1 120 rfl
theorem q147 : (Jvm.Cond.fieldLinkNest "Melodeon" (143 : Nat) "Melodeon$Instrument" "other" "I" "Melodeon") ∈ lw_tbl := lw_at lw_m1 122 rfl
theorem q149 : (Jvm.Cond.fieldLinkNest "Melodeon" (146 : Nat) "Melodeon$Instrument" "detune" "I" "Melodeon") ∈ lw_tbl := lw_at lw_m1 124 rfl
theorem q151 : (Jvm.Cond.fieldLinkNest "Melodeon" (137 : Nat) "Melodeon$Instrument" "mix" "I" "Melodeon") ∈ lw_tbl := lw_at lw_m1 126 rfl
theorem q154 : (Jvm.Cond.fieldLinkNest "Melodeon" (152 : Nat) "Melodeon$Instrument" "attack" "I" "Melodeon") ∈ lw_tbl := lw_at lw_m1 129 rfl
theorem q157 : (Jvm.Cond.fieldLinkNest "Melodeon" (155 : Nat) "Melodeon$Instrument" "decay" "I" "Melodeon") ∈ lw_tbl := lw_at lw_m1 132 rfl
theorem q160 : (Jvm.Cond.fieldLinkNest "Melodeon" (149 : Nat) "Melodeon$Instrument" "sustain" "I" "Melodeon") ∈ lw_tbl := lw_at lw_m1 135 rfl
theorem q163 : (Jvm.Cond.fieldLinkNest "Melodeon" (158 : Nat) "Melodeon$Instrument" "release" "I" "Melodeon") ∈ lw_tbl := lw_at lw_m1 138 rfl
theorem q166 : (Jvm.Cond.fieldLinkNest "Melodeon" (161 : Nat) "Melodeon$Instrument" "cutoff" "I" "Melodeon") ∈ lw_tbl := lw_at lw_m1 141 rfl
theorem q169 : (Jvm.Cond.fieldLinkNest "Melodeon" (164 : Nat) "Melodeon$Instrument" "damping" "I" "Melodeon") ∈ lw_tbl := lw_at lw_m1 144 rfl
theorem q171 : (Jvm.Cond.fieldLinkNest "Melodeon" (167 : Nat) "Melodeon$Instrument" "depth" "I" "Melodeon") ∈ lw_tbl := lw_at lw_m1 146 rfl
theorem q174 : (Jvm.Cond.fieldLinkNest "Melodeon" (170 : Nat) "Melodeon$Instrument" "period" "I" "Melodeon") ∈ lw_tbl := lw_at lw_m1 149 rfl
theorem q200 : (Jvm.Cond.methodLink "Melodeon" (101 : Nat) ({ cls := "java/util/ArrayList", name := "add", desc := "(Ljava/lang/Object;)Z" } : Jvm.MethodName)) ∈ lw_all := lw_g (lw_at lw_m1 175 rfl) rfl
theorem q232 : (Jvm.Cond.selects "Melodeon" ({ cls := "java/lang/Object", name := "getClass", desc := "()Ljava/lang/Class;" } : Jvm.MethodName) ({ cls := "java/lang/Object", name := "getClass", desc := "()Ljava/lang/Class;" } : Jvm.MethodName)) ∈ lw_all := lw_g (lw_at lw_m1 207 rfl) rfl
theorem q258 : (Jvm.Cond.classLink "Melodeon" (105 : Nat) "Melodeon$Track") ∈ lw_all := lw_g (lw_at lw_m1 233 rfl) rfl
theorem q260 : (Jvm.Cond.methodLink "Melodeon" (107 : Nat) ({ cls := "Melodeon$Track", name := "<init>", desc := "()V" } : Jvm.MethodName)) ∈ lw_all := lw_g (lw_at lw_m1 235 rfl) rfl
theorem q265 : (Jvm.Cond.fieldLinkNest "Melodeon" (223 : Nat) "Melodeon$Track" "instrument" "I" "Melodeon") ∈ lw_tbl := lw_at lw_m2 0 rfl
theorem q268 : (Jvm.Cond.fieldLinkNest "Melodeon" (215 : Nat) "Melodeon$Track" "pitch" "[I" "Melodeon") ∈ lw_tbl := lw_at lw_m2 3 rfl
theorem q271 : (Jvm.Cond.fieldLinkNest "Melodeon" (218 : Nat) "Melodeon$Track" "force" "[I" "Melodeon") ∈ lw_tbl := lw_at lw_m2 6 rfl
theorem q274 : (Jvm.Cond.fieldLinkNest "Melodeon" (221 : Nat) "Melodeon$Track" "gate" "[I" "Melodeon") ∈ lw_tbl := lw_at lw_m2 9 rfl
theorem q284 : (Jvm.Cond.classLink "Melodeon" (111 : Nat) "Melodeon$Voice") ∈ lw_all := lw_g (lw_at lw_m2 19 rfl) rfl
theorem q286 : (Jvm.Cond.methodLinkNest "Melodeon" (113 : Nat) ({ cls := "Melodeon$Voice", name := "<init>", desc := "()V" } : Jvm.MethodName) "Melodeon") ∈ lw_tbl := lw_at lw_m2 21 rfl
theorem q292 : (Jvm.Cond.fieldLinkNest "Melodeon" (196 : Nat) "Melodeon$Voice" "state" "I" "Melodeon") ∈ lw_tbl := lw_at lw_m2 27 rfl
theorem q295 : (Jvm.Cond.fieldLinkNest "Melodeon" (205 : Nat) "Melodeon$Voice" "level" "I" "Melodeon") ∈ lw_tbl := lw_at lw_m2 30 rfl
theorem q298 : (Jvm.Cond.fieldLinkNest "Melodeon" (245 : Nat) "Melodeon$Voice" "instrument" "I" "Melodeon") ∈ lw_tbl := lw_at lw_m2 33 rfl
theorem q301 : (Jvm.Cond.fieldLinkNest "Melodeon" (246 : Nat) "Melodeon$Voice" "pitch" "I" "Melodeon") ∈ lw_tbl := lw_at lw_m2 36 rfl
theorem q303 : (Jvm.Cond.fieldLinkNest "Melodeon" (248 : Nat) "Melodeon$Voice" "force" "I" "Melodeon") ∈ lw_tbl := lw_at lw_m2 38 rfl
theorem q308 : (Jvm.Cond.fieldLinkNest "Melodeon" (250 : Nat) "Melodeon$Voice" "first" "I" "Melodeon") ∈ lw_tbl := lw_at lw_m2 43 rfl
theorem q311 : (Jvm.Cond.fieldLinkNest "Melodeon" (253 : Nat) "Melodeon$Voice" "second" "I" "Melodeon") ∈ lw_tbl := lw_at lw_m2 46 rfl
theorem q313 : (Jvm.Cond.fieldLinkNest "Melodeon" (256 : Nat) "Melodeon$Voice" "low" "I" "Melodeon") ∈ lw_tbl := lw_at lw_m2 48 rfl
theorem q315 : (Jvm.Cond.fieldLinkNest "Melodeon" (259 : Nat) "Melodeon$Voice" "band" "I" "Melodeon") ∈ lw_tbl := lw_at lw_m2 50 rfl
theorem q318 : (Jvm.Cond.fieldLinkNest "Melodeon" (208 : Nat) "Melodeon$Voice" "gate" "I" "Melodeon") ∈ lw_tbl := lw_at lw_m2 53 rfl
theorem q342 : (Jvm.Cond.fieldLink "Melodeon" (25 : Nat) "Melodeon" "drawn" "[I") ∈ lw_all := lw_g (lw_at lw_m2 77 rfl) rfl
theorem q344 : (Jvm.Cond.fieldLink "Melodeon" (82 : Nat) "Melodeon" "instruments" "Ljava/util/ArrayList;") ∈ lw_all := lw_g (lw_at lw_m2 79 rfl) rfl
theorem q346 : (Jvm.Cond.fieldLink "Melodeon" (86 : Nat) "Melodeon" "tracks" "Ljava/util/ArrayList;") ∈ lw_all := lw_g (lw_at lw_m2 81 rfl) rfl
theorem q348 : (Jvm.Cond.fieldLink "Melodeon" (89 : Nat) "Melodeon" "tempo" "I") ∈ lw_all := lw_g (lw_at lw_m2 83 rfl) rfl
theorem q350 : (Jvm.Cond.fieldLink "Melodeon" (225 : Nat) "Melodeon" "swing" "I") ∈ lw_all := lw_g (lw_at lw_m2 85 rfl) rfl
theorem q351 : (Jvm.Cond.fieldLink "Melodeon" (92 : Nat) "Melodeon" "gain" "I") ∈ lw_all := lw_g (lw_at lw_m2 86 rfl) rfl
theorem q354 : (Jvm.Cond.fieldLink "Melodeon" (173 : Nat) "Melodeon" "length" "I") ∈ lw_all := lw_g (lw_at lw_m2 89 rfl) rfl
theorem q356 : (Jvm.Cond.fieldLink "Melodeon" (176 : Nat) "Melodeon" "wet" "I") ∈ lw_all := lw_g (lw_at lw_m2 91 rfl) rfl
theorem q358 : (Jvm.Cond.fieldLink "Melodeon" (179 : Nat) "Melodeon" "back" "I") ∈ lw_all := lw_g (lw_at lw_m2 93 rfl) rfl
theorem q359 : (Jvm.Cond.fieldLink "Melodeon" (35 : Nat) "Melodeon" "engine" "LMelodeon$Engine;") ∈ lw_all := lw_g (lw_at lw_m2 94 rfl) rfl
theorem q360 : (Jvm.Cond.fieldLink "Melodeon" (32 : Nat) "Melodeon" "heard" "[I") ∈ lw_all := lw_g (lw_at lw_m2 95 rfl) rfl
theorem q361 : (Jvm.Cond.fieldLink "Melodeon" (51 : Nat) "Melodeon" "counted" "I") ∈ lw_all := lw_g (lw_at lw_m2 96 rfl) rfl
theorem q362 : (Jvm.Cond.fieldLink "Melodeon" (55 : Nat) "Melodeon" "peak" "I") ∈ lw_all := lw_g (lw_at lw_m2 97 rfl) rfl
theorem q363 : (Jvm.Cond.fieldLink "Melodeon" (62 : Nat) "Melodeon" "loud" "J") ∈ lw_all := lw_g (lw_at lw_m2 98 rfl) rfl
theorem q364 : (Jvm.Cond.fieldLink "Melodeon" (66 : Nat) "Melodeon" "clipped" "I") ∈ lw_all := lw_g (lw_at lw_m2 99 rfl) rfl
theorem q365 : (Jvm.Cond.fieldLink "Melodeon" (73 : Nat) "Melodeon" "crossings" "I") ∈ lw_all := lw_g (lw_at lw_m2 100 rfl) rfl
theorem q366 : (Jvm.Cond.fieldLink "Melodeon" (272 : Nat) "Melodeon" "sum" "J") ∈ lw_all := lw_g (lw_at lw_m2 101 rfl) rfl
theorem q367 : (Jvm.Cond.laysFinal "Melodeon" "Melodeon" "drawn" "[I") ∈ lw_all := lw_g (lw_at lw_m2 102 rfl) rfl
theorem q368 : (Jvm.Cond.soleField "Melodeon" "drawn") ∈ lw_all := lw_g (lw_at lw_m2 103 rfl) rfl
theorem q369 : (Jvm.Cond.laysFinal "Melodeon" "Melodeon" "instruments" "Ljava/util/ArrayList;") ∈ lw_all := lw_g (lw_at lw_m2 104 rfl) rfl
theorem q370 : (Jvm.Cond.soleField "Melodeon" "instruments") ∈ lw_all := lw_g (lw_at lw_m2 105 rfl) rfl
theorem q371 : (Jvm.Cond.laysFinal "Melodeon" "Melodeon" "tracks" "Ljava/util/ArrayList;") ∈ lw_all := lw_g (lw_at lw_m2 106 rfl) rfl
theorem q372 : (Jvm.Cond.soleField "Melodeon" "tracks") ∈ lw_all := lw_g (lw_at lw_m2 107 rfl) rfl
theorem q373 : (Jvm.Cond.lays "Melodeon" "Melodeon" "tempo" "I") ∈ lw_all := lw_g (lw_at lw_m2 108 rfl) rfl
theorem q374 : (Jvm.Cond.soleField "Melodeon" "tempo") ∈ lw_all := lw_g (lw_at lw_m2 109 rfl) rfl
theorem q375 : (Jvm.Cond.lays "Melodeon" "Melodeon" "swing" "I") ∈ lw_all := lw_g (lw_at lw_m2 110 rfl) rfl
theorem q376 : (Jvm.Cond.soleField "Melodeon" "swing") ∈ lw_all := lw_g (lw_at lw_m2 111 rfl) rfl
theorem q377 : (Jvm.Cond.lays "Melodeon" "Melodeon" "gain" "I") ∈ lw_all := lw_g (lw_at lw_m2 112 rfl) rfl
theorem q378 : (Jvm.Cond.soleField "Melodeon" "gain") ∈ lw_all := lw_g (lw_at lw_m2 113 rfl) rfl
theorem q379 : (Jvm.Cond.lays "Melodeon" "Melodeon" "length" "I") ∈ lw_all := lw_g (lw_at lw_m2 114 rfl) rfl
theorem q380 : (Jvm.Cond.soleField "Melodeon" "length") ∈ lw_all := lw_g (lw_at lw_m2 115 rfl) rfl
theorem q381 : (Jvm.Cond.lays "Melodeon" "Melodeon" "wet" "I") ∈ lw_all := lw_g (lw_at lw_m2 116 rfl) rfl
theorem q382 : (Jvm.Cond.soleField "Melodeon" "wet") ∈ lw_all := lw_g (lw_at lw_m2 117 rfl) rfl
theorem q383 : (Jvm.Cond.lays "Melodeon" "Melodeon" "back" "I") ∈ lw_all := lw_g (lw_at lw_m2 118 rfl) rfl
theorem q384 : (Jvm.Cond.soleField "Melodeon" "back") ∈ lw_all := lw_g (lw_at lw_m2 119 rfl) rfl
theorem q385 : (Jvm.Cond.laysFinal "Melodeon" "Melodeon" "engine" "LMelodeon$Engine;") ∈ lw_all := lw_g (lw_at lw_m2 120 rfl) rfl
theorem q386 : (Jvm.Cond.soleField "Melodeon" "engine") ∈ lw_all := lw_g (lw_at lw_m2 121 rfl) rfl
theorem q387 : (Jvm.Cond.laysFinal "Melodeon" "Melodeon" "heard" "[I") ∈ lw_all := lw_g (lw_at lw_m2 122 rfl) rfl
theorem q388 : (Jvm.Cond.soleField "Melodeon" "heard") ∈ lw_all := lw_g (lw_at lw_m2 123 rfl) rfl
theorem q389 : (Jvm.Cond.lays "Melodeon" "Melodeon" "counted" "I") ∈ lw_all := lw_g (lw_at lw_m2 124 rfl) rfl
theorem q390 : (Jvm.Cond.soleField "Melodeon" "counted") ∈ lw_all := lw_g (lw_at lw_m2 125 rfl) rfl
theorem q391 : (Jvm.Cond.lays "Melodeon" "Melodeon" "peak" "I") ∈ lw_all := lw_g (lw_at lw_m2 126 rfl) rfl
theorem q392 : (Jvm.Cond.soleField "Melodeon" "peak") ∈ lw_all := lw_g (lw_at lw_m2 127 rfl) rfl
theorem q393 : (Jvm.Cond.lays "Melodeon" "Melodeon" "loud" "J") ∈ lw_all := lw_g (lw_at lw_m2 128 rfl) rfl
theorem q394 : (Jvm.Cond.soleField "Melodeon" "loud") ∈ lw_all := lw_g (lw_at lw_m2 129 rfl) rfl
theorem q395 : (Jvm.Cond.lays "Melodeon" "Melodeon" "clipped" "I") ∈ lw_all := lw_g (lw_at lw_m2 130 rfl) rfl
theorem q396 : (Jvm.Cond.soleField "Melodeon" "clipped") ∈ lw_all := lw_g (lw_at lw_m2 131 rfl) rfl
theorem q397 : (Jvm.Cond.lays "Melodeon" "Melodeon" "crossings" "I") ∈ lw_all := lw_g (lw_at lw_m2 132 rfl) rfl
theorem q398 : (Jvm.Cond.soleField "Melodeon" "crossings") ∈ lw_all := lw_g (lw_at lw_m2 133 rfl) rfl
theorem q399 : (Jvm.Cond.lays "Melodeon" "Melodeon" "sum" "J") ∈ lw_all := lw_g (lw_at lw_m2 134 rfl) rfl
theorem q400 : (Jvm.Cond.soleField "Melodeon" "sum") ∈ lw_all := lw_g (lw_at lw_m2 135 rfl) rfl
theorem q401 : (Jvm.Cond.superclass "Melodeon" "java/lang/Object") ∈ lw_all := lw_g (lw_at lw_m2 136 rfl) rfl
theorem q403 : (Jvm.Cond.instanceMethod ({ cls := "Melodeon", name := "hush", desc := "()I" } : Jvm.MethodName)) ∈ lw_all := lw_g (lw_at lw_m2 138 rfl) rfl
theorem q404 : (Jvm.Cond.selects "Melodeon" ({ cls := "Melodeon", name := "hush", desc := "()I" } : Jvm.MethodName) ({ cls := "Melodeon", name := "hush", desc := "()I" } : Jvm.MethodName)) ∈ lw_all := lw_g (lw_at lw_m2 139 rfl) rfl
theorem q405 : (Jvm.Cond.code ({ cls := "Melodeon", name := "hush", desc := "()I" } : Jvm.MethodName) prog_1_method_24_code (4 : Nat) (Option.some Jvm.ClassFile.FieldType.int)) ∈ lw_all := lw_g (lw_at lw_m2 140 rfl) rfl
theorem q406 : (Jvm.Cond.methodLink "Melodeon" (202 : Nat) ({ cls := "Melodeon$Engine", name := "sounding", desc := "()I" } : Jvm.MethodName)) ∈ lw_all := lw_g (lw_at lw_m2 141 rfl) rfl
theorem q429 : (Jvm.Cond.methodLink "Melodeon" (118 : Nat) ({ cls := "java/util/ArrayList", name := "get", desc := "(I)Ljava/lang/Object;" } : Jvm.MethodName)) ∈ lw_all := lw_g (lw_at lw_m2 164 rfl) rfl
theorem q431 : (Jvm.Cond.instanceMethod ({ cls := "Melodeon", name := "stop", desc := "()I" } : Jvm.MethodName)) ∈ lw_all := lw_g (lw_at lw_m2 166 rfl) rfl
theorem q432 : (Jvm.Cond.selects "Melodeon" ({ cls := "Melodeon", name := "stop", desc := "()I" } : Jvm.MethodName) ({ cls := "Melodeon", name := "stop", desc := "()I" } : Jvm.MethodName)) ∈ lw_all := lw_g (lw_at lw_m2 167 rfl) rfl
theorem q433 : (Jvm.Cond.code ({ cls := "Melodeon", name := "stop", desc := "()I" } : Jvm.MethodName) prog_1_method_29_code (2 : Nat) (Option.some Jvm.ClassFile.FieldType.int)) ∈ lw_all := lw_g (lw_at lw_m2 168 rfl) rfl
theorem q434 : (Jvm.Cond.methodLink "Melodeon" (237 : Nat) ({ cls := "Melodeon", name := "step", desc := "()I" } : Jvm.MethodName)) ∈ lw_all := lw_g (lw_at lw_m2 169 rfl) rfl
theorem q435 : (Jvm.Cond.instanceMethod ({ cls := "Melodeon", name := "step", desc := "()I" } : Jvm.MethodName)) ∈ lw_all := lw_g (lw_at lw_m2 170 rfl) rfl
theorem q436 : (Jvm.Cond.selects "Melodeon" ({ cls := "Melodeon", name := "step", desc := "()I" } : Jvm.MethodName) ({ cls := "Melodeon", name := "step", desc := "()I" } : Jvm.MethodName)) ∈ lw_all := lw_g (lw_at lw_m2 171 rfl) rfl
theorem q437 : (Jvm.Cond.code ({ cls := "Melodeon", name := "step", desc := "()I" } : Jvm.MethodName) prog_1_method_43_code (1 : Nat) (Option.some Jvm.ClassFile.FieldType.int)) ∈ lw_all := lw_g (lw_at lw_m2 172 rfl) rfl
theorem q439 : (Jvm.Cond.instanceMethod ({ cls := "Melodeon", name := "sample", desc := "()I" } : Jvm.MethodName)) ∈ lw_all := lw_g (lw_at lw_m2 174 rfl) rfl
theorem q440 : (Jvm.Cond.selects "Melodeon" ({ cls := "Melodeon", name := "sample", desc := "()I" } : Jvm.MethodName) ({ cls := "Melodeon", name := "sample", desc := "()I" } : Jvm.MethodName)) ∈ lw_all := lw_g (lw_at lw_m2 175 rfl) rfl
theorem q441 : (Jvm.Cond.code ({ cls := "Melodeon", name := "sample", desc := "()I" } : Jvm.MethodName) prog_1_method_30_code (1 : Nat) (Option.some Jvm.ClassFile.FieldType.int)) ∈ lw_all := lw_g (lw_at lw_m2 176 rfl) rfl
theorem q442 : (Jvm.Cond.methodLink "Melodeon" (239 : Nat) ({ cls := "Melodeon", name := "make", desc := "()I" } : Jvm.MethodName)) ∈ lw_all := lw_g (lw_at lw_m2 177 rfl) rfl
theorem q443 : (Jvm.Cond.privateMethod ({ cls := "Melodeon", name := "make", desc := "()I" } : Jvm.MethodName)) ∈ lw_tbl := lw_at lw_m2 178 rfl
theorem q444 : (Jvm.Cond.instanceMethod ({ cls := "Melodeon", name := "make", desc := "()I" } : Jvm.MethodName)) ∈ lw_all := lw_g (lw_at lw_m2 179 rfl) rfl
theorem q445 : (Jvm.Cond.code ({ cls := "Melodeon", name := "make", desc := "()I" } : Jvm.MethodName) prog_1_method_8_code (3 : Nat) (Option.some Jvm.ClassFile.FieldType.int)) ∈ lw_all := lw_g (lw_at lw_m2 180 rfl) rfl
theorem q446 : (Jvm.Cond.methodLink "Melodeon" (39 : Nat) ({ cls := "Melodeon$Engine", name := "sample", desc := "()I" } : Jvm.MethodName)) ∈ lw_all := lw_g (lw_at lw_m2 181 rfl) rfl
theorem q495 : (Jvm.Cond.privateMethod ({ cls := "Melodeon", name := "waveAt", desc := "(II)I" } : Jvm.MethodName)) ∈ lw_tbl := lw_at lw_m2 230 rfl
theorem q496 : (Jvm.Cond.instanceMethod ({ cls := "Melodeon", name := "waveAt", desc := "(II)I" } : Jvm.MethodName)) ∈ lw_all := lw_g (lw_at lw_m2 231 rfl) rfl
theorem q497 : (Jvm.Cond.code ({ cls := "Melodeon", name := "waveAt", desc := "(II)I" } : Jvm.MethodName) prog_1_method_6_code (5 : Nat) (Option.some Jvm.ClassFile.FieldType.int)) ∈ lw_all := lw_g (lw_at lw_m2 232 rfl) rfl
theorem q498 : (Jvm.Cond.methodLink "Melodeon" (29 : Nat) ({ cls := "Melodeon", name := "valueOf", desc := "(II)I" } : Jvm.MethodName)) ∈ lw_all := lw_g (lw_at lw_m2 233 rfl) rfl
theorem q499 : (Jvm.Cond.privateMethod ({ cls := "Melodeon", name := "valueOf", desc := "(II)I" } : Jvm.MethodName)) ∈ lw_tbl := lw_at lw_m2 234 rfl
theorem q500 : (Jvm.Cond.instanceMethod ({ cls := "Melodeon", name := "valueOf", desc := "(II)I" } : Jvm.MethodName)) ∈ lw_all := lw_g (lw_at lw_m2 235 rfl) rfl
theorem q501 : (Jvm.Cond.code ({ cls := "Melodeon", name := "valueOf", desc := "(II)I" } : Jvm.MethodName) prog_1_method_5_code (3 : Nat) (Option.some Jvm.ClassFile.FieldType.int)) ∈ lw_all := lw_g (lw_at lw_m2 236 rfl) rfl
theorem q503 : (Jvm.Cond.static ({ cls := "Melodeon", name := "strideOf", desc := "(I)I" } : Jvm.MethodName)) ∈ lw_all := lw_g (lw_at lw_m2 238 rfl) rfl
theorem q504 : (Jvm.Cond.code ({ cls := "Melodeon", name := "strideOf", desc := "(I)I" } : Jvm.MethodName) prog_1_method_7_code (2 : Nat) (Option.some Jvm.ClassFile.FieldType.int)) ∈ lw_all := lw_g (lw_at lw_m2 239 rfl) rfl
theorem q513 : (Jvm.Cond.static ({ cls := "Melodeon", name := "kept", desc := "(II)I" } : Jvm.MethodName)) ∈ lw_all := lw_g (lw_at lw_m3 8 rfl) rfl
theorem q514 : (Jvm.Cond.code ({ cls := "Melodeon", name := "kept", desc := "(II)I" } : Jvm.MethodName) prog_1_method_4_code (2 : Nat) (Option.some Jvm.ClassFile.FieldType.int)) ∈ lw_all := lw_g (lw_at lw_m3 9 rfl) rfl
theorem q515 : (Jvm.Cond.methodLink "Melodeon" (16 : Nat) ({ cls := "java/lang/Math", name := "min", desc := "(II)I" } : Jvm.MethodName)) ∈ lw_all := lw_g (lw_at lw_m3 10 rfl) rfl
theorem q516 : (Jvm.Cond.methodLink "Melodeon" (22 : Nat) ({ cls := "java/lang/Math", name := "max", desc := "(II)I" } : Jvm.MethodName)) ∈ lw_all := lw_g (lw_at lw_m3 11 rfl) rfl
theorem q519 : (Jvm.Cond.methodLink "Melodeon" (45 : Nat) ({ cls := "java/lang/System", name := "arraycopy", desc := "(Ljava/lang/Object;ILjava/lang/Object;II)V" } : Jvm.MethodName)) ∈ lw_all := lw_g (lw_at lw_m3 14 rfl) rfl
theorem q520 : (Jvm.Cond.methodLink "Melodeon" (58 : Nat) ({ cls := "java/lang/Math", name := "abs", desc := "(I)I" } : Jvm.MethodName)) ∈ lw_all := lw_g (lw_at lw_m3 15 rfl) rfl
theorem q524 : (Jvm.Cond.instanceMethod ({ cls := "Melodeon", name := "clock", desc := "()I" } : Jvm.MethodName)) ∈ lw_all := lw_g (lw_at lw_m3 19 rfl) rfl
theorem q525 : (Jvm.Cond.selects "Melodeon" ({ cls := "Melodeon", name := "clock", desc := "()I" } : Jvm.MethodName) ({ cls := "Melodeon", name := "clock", desc := "()I" } : Jvm.MethodName)) ∈ lw_all := lw_g (lw_at lw_m3 20 rfl) rfl
theorem q526 : (Jvm.Cond.code ({ cls := "Melodeon", name := "clock", desc := "()I" } : Jvm.MethodName) prog_1_method_33_code (1 : Nat) (Option.some Jvm.ClassFile.FieldType.int)) ∈ lw_all := lw_g (lw_at lw_m3 21 rfl) rfl
theorem q528 : (Jvm.Cond.instanceMethod ({ cls := "Melodeon", name := "peak", desc := "()I" } : Jvm.MethodName)) ∈ lw_all := lw_g (lw_at lw_m3 23 rfl) rfl
theorem q529 : (Jvm.Cond.selects "Melodeon" ({ cls := "Melodeon", name := "peak", desc := "()I" } : Jvm.MethodName) ({ cls := "Melodeon", name := "peak", desc := "()I" } : Jvm.MethodName)) ∈ lw_all := lw_g (lw_at lw_m3 24 rfl) rfl
theorem q530 : (Jvm.Cond.code ({ cls := "Melodeon", name := "peak", desc := "()I" } : Jvm.MethodName) prog_1_method_34_code (1 : Nat) (Option.some Jvm.ClassFile.FieldType.int)) ∈ lw_all := lw_g (lw_at lw_m3 25 rfl) rfl
theorem q532 : (Jvm.Cond.instanceMethod ({ cls := "Melodeon", name := "loudness", desc := "()D" } : Jvm.MethodName)) ∈ lw_all := lw_g (lw_at lw_m3 27 rfl) rfl
theorem q533 : (Jvm.Cond.selects "Melodeon" ({ cls := "Melodeon", name := "loudness", desc := "()D" } : Jvm.MethodName) ({ cls := "Melodeon", name := "loudness", desc := "()D" } : Jvm.MethodName)) ∈ lw_all := lw_g (lw_at lw_m3 28 rfl) rfl
theorem q534 : (Jvm.Cond.code ({ cls := "Melodeon", name := "loudness", desc := "()D" } : Jvm.MethodName) prog_1_method_35_code (1 : Nat) (Option.some Jvm.ClassFile.FieldType.double)) ∈ lw_all := lw_g (lw_at lw_m3 29 rfl) rfl
theorem q536 : (Jvm.Cond.instanceMethod ({ cls := "Melodeon", name := "clipped", desc := "()I" } : Jvm.MethodName)) ∈ lw_all := lw_g (lw_at lw_m3 31 rfl) rfl
theorem q537 : (Jvm.Cond.selects "Melodeon" ({ cls := "Melodeon", name := "clipped", desc := "()I" } : Jvm.MethodName) ({ cls := "Melodeon", name := "clipped", desc := "()I" } : Jvm.MethodName)) ∈ lw_all := lw_g (lw_at lw_m3 32 rfl) rfl
theorem q538 : (Jvm.Cond.code ({ cls := "Melodeon", name := "clipped", desc := "()I" } : Jvm.MethodName) prog_1_method_36_code (1 : Nat) (Option.some Jvm.ClassFile.FieldType.int)) ∈ lw_all := lw_g (lw_at lw_m3 33 rfl) rfl
theorem q540 : (Jvm.Cond.instanceMethod ({ cls := "Melodeon", name := "crossings", desc := "()I" } : Jvm.MethodName)) ∈ lw_all := lw_g (lw_at lw_m3 35 rfl) rfl
theorem q541 : (Jvm.Cond.selects "Melodeon" ({ cls := "Melodeon", name := "crossings", desc := "()I" } : Jvm.MethodName) ({ cls := "Melodeon", name := "crossings", desc := "()I" } : Jvm.MethodName)) ∈ lw_all := lw_g (lw_at lw_m3 36 rfl) rfl
theorem q542 : (Jvm.Cond.code ({ cls := "Melodeon", name := "crossings", desc := "()I" } : Jvm.MethodName) prog_1_method_37_code (1 : Nat) (Option.some Jvm.ClassFile.FieldType.int)) ∈ lw_all := lw_g (lw_at lw_m3 37 rfl) rfl
theorem q544 : (Jvm.Cond.instanceMethod ({ cls := "Melodeon", name := "reset", desc := "()I" } : Jvm.MethodName)) ∈ lw_all := lw_g (lw_at lw_m3 39 rfl) rfl
theorem q545 : (Jvm.Cond.selects "Melodeon" ({ cls := "Melodeon", name := "reset", desc := "()I" } : Jvm.MethodName) ({ cls := "Melodeon", name := "reset", desc := "()I" } : Jvm.MethodName)) ∈ lw_all := lw_g (lw_at lw_m3 40 rfl) rfl
theorem q546 : (Jvm.Cond.code ({ cls := "Melodeon", name := "reset", desc := "()I" } : Jvm.MethodName) prog_1_method_38_code (2 : Nat) (Option.some Jvm.ClassFile.FieldType.int)) ∈ lw_all := lw_g (lw_at lw_m3 41 rfl) rfl
theorem q548 : (Jvm.Cond.instanceMethod ({ cls := "Melodeon", name := "sounding", desc := "()I" } : Jvm.MethodName)) ∈ lw_all := lw_g (lw_at lw_m3 43 rfl) rfl
theorem q549 : (Jvm.Cond.selects "Melodeon" ({ cls := "Melodeon", name := "sounding", desc := "()I" } : Jvm.MethodName) ({ cls := "Melodeon", name := "sounding", desc := "()I" } : Jvm.MethodName)) ∈ lw_all := lw_g (lw_at lw_m3 44 rfl) rfl
theorem q550 : (Jvm.Cond.code ({ cls := "Melodeon", name := "sounding", desc := "()I" } : Jvm.MethodName) prog_1_method_40_code (1 : Nat) (Option.some Jvm.ClassFile.FieldType.int)) ∈ lw_all := lw_g (lw_at lw_m3 45 rfl) rfl
theorem q552 : (Jvm.Cond.instanceMethod ({ cls := "Melodeon", name := "taken", desc := "()I" } : Jvm.MethodName)) ∈ lw_all := lw_g (lw_at lw_m3 47 rfl) rfl
theorem q553 : (Jvm.Cond.selects "Melodeon" ({ cls := "Melodeon", name := "taken", desc := "()I" } : Jvm.MethodName) ({ cls := "Melodeon", name := "taken", desc := "()I" } : Jvm.MethodName)) ∈ lw_all := lw_g (lw_at lw_m3 48 rfl) rfl
theorem q554 : (Jvm.Cond.code ({ cls := "Melodeon", name := "taken", desc := "()I" } : Jvm.MethodName) prog_1_method_41_code (1 : Nat) (Option.some Jvm.ClassFile.FieldType.int)) ∈ lw_all := lw_g (lw_at lw_m3 49 rfl) rfl
theorem q556 : (Jvm.Cond.instanceMethod ({ cls := "Melodeon", name := "isPlaying", desc := "()Z" } : Jvm.MethodName)) ∈ lw_all := lw_g (lw_at lw_m3 51 rfl) rfl
theorem q557 : (Jvm.Cond.selects "Melodeon" ({ cls := "Melodeon", name := "isPlaying", desc := "()Z" } : Jvm.MethodName) ({ cls := "Melodeon", name := "isPlaying", desc := "()Z" } : Jvm.MethodName)) ∈ lw_all := lw_g (lw_at lw_m3 52 rfl) rfl
theorem q558 : (Jvm.Cond.code ({ cls := "Melodeon", name := "isPlaying", desc := "()Z" } : Jvm.MethodName) prog_1_method_42_code (1 : Nat) (Option.some Jvm.ClassFile.FieldType.boolean)) ∈ lw_all := lw_g (lw_at lw_m3 53 rfl) rfl
theorem q561 : (Jvm.Cond.instanceMethod ({ cls := "Melodeon", name := "nextVoice", desc := "()I" } : Jvm.MethodName)) ∈ lw_all := lw_g (lw_at lw_m3 56 rfl) rfl
theorem q562 : (Jvm.Cond.selects "Melodeon" ({ cls := "Melodeon", name := "nextVoice", desc := "()I" } : Jvm.MethodName) ({ cls := "Melodeon", name := "nextVoice", desc := "()I" } : Jvm.MethodName)) ∈ lw_all := lw_g (lw_at lw_m3 57 rfl) rfl
theorem q563 : (Jvm.Cond.code ({ cls := "Melodeon", name := "nextVoice", desc := "()I" } : Jvm.MethodName) prog_1_method_48_code (1 : Nat) (Option.some Jvm.ClassFile.FieldType.int)) ∈ lw_all := lw_g (lw_at lw_m3 58 rfl) rfl
theorem q564 : (Jvm.Cond.methodLink "Melodeon" (269 : Nat) ({ cls := "Melodeon$Engine", name := "next", desc := "()I" } : Jvm.MethodName)) ∈ lw_all := lw_g (lw_at lw_m3 59 rfl) rfl
theorem q566 : (Jvm.Cond.instanceMethod ({ cls := "Melodeon", name := "digest", desc := "()J" } : Jvm.MethodName)) ∈ lw_all := lw_g (lw_at lw_m3 61 rfl) rfl
theorem q567 : (Jvm.Cond.selects "Melodeon" ({ cls := "Melodeon", name := "digest", desc := "()J" } : Jvm.MethodName) ({ cls := "Melodeon", name := "digest", desc := "()J" } : Jvm.MethodName)) ∈ lw_all := lw_g (lw_at lw_m3 62 rfl) rfl
theorem q568 : (Jvm.Cond.code ({ cls := "Melodeon", name := "digest", desc := "()J" } : Jvm.MethodName) prog_1_method_51_code (3 : Nat) (Option.some Jvm.ClassFile.FieldType.long)) ∈ lw_all := lw_g (lw_at lw_m3 63 rfl) rfl
theorem q569 : (Jvm.Cond.constantLong "Melodeon" (280 : Nat) (58051 : Int64)) ∈ lw_all := lw_g (lw_at lw_m3 64 rfl) rfl
theorem q570 : (Jvm.Cond.methodLink "Melodeon" (282 : Nat) ({ cls := "Melodeon", name := "clock", desc := "()I" } : Jvm.MethodName)) ∈ lw_all := lw_g (lw_at lw_m3 65 rfl) rfl
theorem q571 : (Jvm.Cond.methodLink "Melodeon" (277 : Nat) ({ cls := "Melodeon", name := "add", desc := "(I)V" } : Jvm.MethodName)) ∈ lw_all := lw_g (lw_at lw_m3 66 rfl) rfl
theorem q572 : (Jvm.Cond.privateMethod ({ cls := "Melodeon", name := "add", desc := "(I)V" } : Jvm.MethodName)) ∈ lw_tbl := lw_at lw_m3 67 rfl
theorem q573 : (Jvm.Cond.instanceMethod ({ cls := "Melodeon", name := "add", desc := "(I)V" } : Jvm.MethodName)) ∈ lw_all := lw_g (lw_at lw_m3 68 rfl) rfl
theorem q574 : (Jvm.Cond.code ({ cls := "Melodeon", name := "add", desc := "(I)V" } : Jvm.MethodName) prog_1_method_49_code (2 : Nat) (Option.none : Option Jvm.ClassFile.FieldType)) ∈ lw_all := lw_g (lw_at lw_m3 69 rfl) rfl
theorem q575 : (Jvm.Cond.constantLong "Melodeon" (275 : Nat) (31 : Int64)) ∈ lw_all := lw_g (lw_at lw_m3 70 rfl) rfl
theorem q576 : (Jvm.Cond.methodLink "Melodeon" (284 : Nat) ({ cls := "Melodeon", name := "heard", desc := "(I)I" } : Jvm.MethodName)) ∈ lw_all := lw_g (lw_at lw_m3 71 rfl) rfl
theorem q577 : (Jvm.Cond.instanceMethod ({ cls := "Melodeon", name := "heard", desc := "(I)I" } : Jvm.MethodName)) ∈ lw_all := lw_g (lw_at lw_m3 72 rfl) rfl
theorem q578 : (Jvm.Cond.selects "Melodeon" ({ cls := "Melodeon", name := "heard", desc := "(I)I" } : Jvm.MethodName) ({ cls := "Melodeon", name := "heard", desc := "(I)I" } : Jvm.MethodName)) ∈ lw_all := lw_g (lw_at lw_m3 73 rfl) rfl
theorem q579 : (Jvm.Cond.code ({ cls := "Melodeon", name := "heard", desc := "(I)I" } : Jvm.MethodName) prog_1_method_32_code (2 : Nat) (Option.some Jvm.ClassFile.FieldType.int)) ∈ lw_all := lw_g (lw_at lw_m3 74 rfl) rfl
theorem q580 : (Jvm.Cond.methodLink "Melodeon" (122 : Nat) ({ cls := "Melodeon", name := "requireFrom", desc := "(III)V" } : Jvm.MethodName)) ∈ lw_all := lw_g (lw_at lw_m3 75 rfl) rfl
theorem q581 : (Jvm.Cond.static ({ cls := "Melodeon", name := "requireFrom", desc := "(III)V" } : Jvm.MethodName)) ∈ lw_all := lw_g (lw_at lw_m3 76 rfl) rfl
theorem q582 : (Jvm.Cond.code ({ cls := "Melodeon", name := "requireFrom", desc := "(III)V" } : Jvm.MethodName) prog_1_method_3_code (3 : Nat) (Option.none : Option Jvm.ClassFile.FieldType)) ∈ lw_all := lw_g (lw_at lw_m3 77 rfl) rfl
theorem q583 : (Jvm.Cond.methodLink "Melodeon" (10 : Nat) ({ cls := "Melodeon", name := "require", desc := "(Z)V" } : Jvm.MethodName)) ∈ lw_all := lw_g (lw_at lw_m3 78 rfl) rfl
theorem q584 : (Jvm.Cond.static ({ cls := "Melodeon", name := "require", desc := "(Z)V" } : Jvm.MethodName)) ∈ lw_all := lw_g (lw_at lw_m3 79 rfl) rfl
theorem q585 : (Jvm.Cond.code ({ cls := "Melodeon", name := "require", desc := "(Z)V" } : Jvm.MethodName) prog_1_method_1_code (1 : Nat) (Option.none : Option Jvm.ClassFile.FieldType)) ∈ lw_all := lw_g (lw_at lw_m3 80 rfl) rfl
theorem q586 : (Jvm.Cond.classLink "Melodeon" (1 : Nat) "java/lang/IllegalArgumentException") ∈ lw_all := lw_g (lw_at lw_m3 81 rfl) rfl
theorem q627 : (Jvm.Cond.methodLink "Melodeon" (3 : Nat) ({ cls := "java/lang/IllegalArgumentException", name := "<init>", desc := "()V" } : Jvm.MethodName)) ∈ lw_all := lw_g (lw_at lw_m3 122 rfl) rfl
theorem q650 : (Jvm.Cond.methodLink "Melodeon" (286 : Nat) ({ cls := "Melodeon", name := "peak", desc := "()I" } : Jvm.MethodName)) ∈ lw_all := lw_g (lw_at lw_m3 145 rfl) rfl
theorem q651 : (Jvm.Cond.methodLink "Melodeon" (288 : Nat) ({ cls := "Melodeon", name := "clipped", desc := "()I" } : Jvm.MethodName)) ∈ lw_all := lw_g (lw_at lw_m3 146 rfl) rfl
theorem q652 : (Jvm.Cond.methodLink "Melodeon" (290 : Nat) ({ cls := "Melodeon", name := "crossings", desc := "()I" } : Jvm.MethodName)) ∈ lw_all := lw_g (lw_at lw_m3 147 rfl) rfl
theorem q653 : (Jvm.Cond.methodLink "Melodeon" (292 : Nat) ({ cls := "Melodeon", name := "sounding", desc := "()I" } : Jvm.MethodName)) ∈ lw_all := lw_g (lw_at lw_m3 148 rfl) rfl
theorem q654 : (Jvm.Cond.methodLink "Melodeon" (293 : Nat) ({ cls := "Melodeon", name := "taken", desc := "()I" } : Jvm.MethodName)) ∈ lw_all := lw_g (lw_at lw_m3 149 rfl) rfl
theorem q655 : (Jvm.Cond.methodLink "Melodeon" (295 : Nat) ({ cls := "Melodeon", name := "isPlaying", desc := "()Z" } : Jvm.MethodName)) ∈ lw_all := lw_g (lw_at lw_m3 150 rfl) rfl
theorem q656 : (Jvm.Cond.methodLink "Melodeon" (298 : Nat) ({ cls := "Melodeon", name := "nextVoice", desc := "()I" } : Jvm.MethodName)) ∈ lw_all := lw_g (lw_at lw_m3 151 rfl) rfl
theorem q657 : (Jvm.Cond.methodLink "Melodeon" (301 : Nat) ({ cls := "Melodeon", name := "addAll", desc := "([I)V" } : Jvm.MethodName)) ∈ lw_all := lw_g (lw_at lw_m3 152 rfl) rfl
theorem q658 : (Jvm.Cond.privateMethod ({ cls := "Melodeon", name := "addAll", desc := "([I)V" } : Jvm.MethodName)) ∈ lw_tbl := lw_at lw_m3 153 rfl
theorem q659 : (Jvm.Cond.instanceMethod ({ cls := "Melodeon", name := "addAll", desc := "([I)V" } : Jvm.MethodName)) ∈ lw_all := lw_g (lw_at lw_m3 154 rfl) rfl
theorem q660 : (Jvm.Cond.code ({ cls := "Melodeon", name := "addAll", desc := "([I)V" } : Jvm.MethodName) prog_1_method_50_code (6 : Nat) (Option.none : Option Jvm.ClassFile.FieldType)) ∈ lw_all := lw_g (lw_at lw_m3 155 rfl) rfl
theorem q661 : (Jvm.Cond.methodLink "Melodeon" (305 : Nat) ({ cls := "Melodeon", name := "ofVoice", desc := "(II)I" } : Jvm.MethodName)) ∈ lw_all := lw_g (lw_at lw_m3 156 rfl) rfl
theorem q662 : (Jvm.Cond.instanceMethod ({ cls := "Melodeon", name := "ofVoice", desc := "(II)I" } : Jvm.MethodName)) ∈ lw_all := lw_g (lw_at lw_m3 157 rfl) rfl
theorem q663 : (Jvm.Cond.selects "Melodeon" ({ cls := "Melodeon", name := "ofVoice", desc := "(II)I" } : Jvm.MethodName) ({ cls := "Melodeon", name := "ofVoice", desc := "(II)I" } : Jvm.MethodName)) ∈ lw_all := lw_g (lw_at lw_m3 158 rfl) rfl
theorem q664 : (Jvm.Cond.code ({ cls := "Melodeon", name := "ofVoice", desc := "(II)I" } : Jvm.MethodName) prog_1_method_39_code (5 : Nat) (Option.some Jvm.ClassFile.FieldType.int)) ∈ lw_all := lw_g (lw_at lw_m3 159 rfl) rfl
theorem q665 : (Jvm.Cond.methodLink "Melodeon" (192 : Nat) ({ cls := "Melodeon", name := "voice", desc := "(I)LMelodeon$Voice;" } : Jvm.MethodName)) ∈ lw_all := lw_g (lw_at lw_m3 160 rfl) rfl
theorem q666 : (Jvm.Cond.privateMethod ({ cls := "Melodeon", name := "voice", desc := "(I)LMelodeon$Voice;" } : Jvm.MethodName)) ∈ lw_tbl := lw_at lw_m3 161 rfl
theorem q667 : (Jvm.Cond.instanceMethod ({ cls := "Melodeon", name := "voice", desc := "(I)LMelodeon$Voice;" } : Jvm.MethodName)) ∈ lw_all := lw_g (lw_at lw_m3 162 rfl) rfl
theorem q668 : (Jvm.Cond.code ({ cls := "Melodeon", name := "voice", desc := "(I)LMelodeon$Voice;" } : Jvm.MethodName) prog_1_method_11_code (2 : Nat) (Option.some (Jvm.ClassFile.FieldType.object "Melodeon$Voice"))) ∈ lw_all := lw_g (lw_at lw_m3 163 rfl) rfl
theorem q669 : (Jvm.Cond.methodLink "Melodeon" (114 : Nat) ({ cls := "Melodeon", name := "requireIndex", desc := "(II)V" } : Jvm.MethodName)) ∈ lw_all := lw_g (lw_at lw_m3 164 rfl) rfl
theorem q670 : (Jvm.Cond.static ({ cls := "Melodeon", name := "requireIndex", desc := "(II)V" } : Jvm.MethodName)) ∈ lw_all := lw_g (lw_at lw_m3 165 rfl) rfl
theorem q671 : (Jvm.Cond.code ({ cls := "Melodeon", name := "requireIndex", desc := "(II)V" } : Jvm.MethodName) prog_1_method_2_code (2 : Nat) (Option.none : Option Jvm.ClassFile.FieldType)) ∈ lw_all := lw_g (lw_at lw_m3 166 rfl) rfl
theorem q672 : (Jvm.Cond.classLink "Melodeon" (7 : Nat) "java/lang/IndexOutOfBoundsException") ∈ lw_all := lw_g (lw_at lw_m3 167 rfl) rfl
theorem q681 : (Jvm.Cond.methodLink "Melodeon" (9 : Nat) ({ cls := "java/lang/IndexOutOfBoundsException", name := "<init>", desc := "()V" } : Jvm.MethodName)) ∈ lw_all := lw_g (lw_at lw_m3 176 rfl) rfl
theorem q687 : (Jvm.Cond.methodLink "Melodeon" (308 : Nat) ({ cls := "Melodeon", name := "ofStep", desc := "(III)I" } : Jvm.MethodName)) ∈ lw_all := lw_g (lw_at lw_m3 182 rfl) rfl
theorem q688 : (Jvm.Cond.instanceMethod ({ cls := "Melodeon", name := "ofStep", desc := "(III)I" } : Jvm.MethodName)) ∈ lw_all := lw_g (lw_at lw_m3 183 rfl) rfl
theorem q689 : (Jvm.Cond.selects "Melodeon" ({ cls := "Melodeon", name := "ofStep", desc := "(III)I" } : Jvm.MethodName) ({ cls := "Melodeon", name := "ofStep", desc := "(III)I" } : Jvm.MethodName)) ∈ lw_all := lw_g (lw_at lw_m3 184 rfl) rfl
theorem q690 : (Jvm.Cond.code ({ cls := "Melodeon", name := "ofStep", desc := "(III)I" } : Jvm.MethodName) prog_1_method_44_code (6 : Nat) (Option.some Jvm.ClassFile.FieldType.int)) ∈ lw_all := lw_g (lw_at lw_m3 185 rfl) rfl
theorem q691 : (Jvm.Cond.methodLink "Melodeon" (211 : Nat) ({ cls := "Melodeon", name := "track", desc := "(I)LMelodeon$Track;" } : Jvm.MethodName)) ∈ lw_all := lw_g (lw_at lw_m3 186 rfl) rfl
theorem q692 : (Jvm.Cond.privateMethod ({ cls := "Melodeon", name := "track", desc := "(I)LMelodeon$Track;" } : Jvm.MethodName)) ∈ lw_tbl := lw_at lw_m3 187 rfl
theorem q693 : (Jvm.Cond.instanceMethod ({ cls := "Melodeon", name := "track", desc := "(I)LMelodeon$Track;" } : Jvm.MethodName)) ∈ lw_all := lw_g (lw_at lw_m3 188 rfl) rfl
theorem q694 : (Jvm.Cond.code ({ cls := "Melodeon", name := "track", desc := "(I)LMelodeon$Track;" } : Jvm.MethodName) prog_1_method_12_code (2 : Nat) (Option.some (Jvm.ClassFile.FieldType.object "Melodeon$Track"))) ∈ lw_all := lw_g (lw_at lw_m3 189 rfl) rfl
theorem q695 : (Jvm.Cond.methodLink "Melodeon" (312 : Nat) ({ cls := "Melodeon", name := "inDelay", desc := "(I)I" } : Jvm.MethodName)) ∈ lw_all := lw_g (lw_at lw_m3 190 rfl) rfl
theorem q696 : (Jvm.Cond.instanceMethod ({ cls := "Melodeon", name := "inDelay", desc := "(I)I" } : Jvm.MethodName)) ∈ lw_all := lw_g (lw_at lw_m3 191 rfl) rfl
theorem q697 : (Jvm.Cond.selects "Melodeon" ({ cls := "Melodeon", name := "inDelay", desc := "(I)I" } : Jvm.MethodName) ({ cls := "Melodeon", name := "inDelay", desc := "(I)I" } : Jvm.MethodName)) ∈ lw_all := lw_g (lw_at lw_m3 192 rfl) rfl
theorem q698 : (Jvm.Cond.code ({ cls := "Melodeon", name := "inDelay", desc := "(I)I" } : Jvm.MethodName) prog_1_method_45_code (2 : Nat) (Option.some Jvm.ClassFile.FieldType.int)) ∈ lw_all := lw_g (lw_at lw_m3 193 rfl) rfl
theorem q737 : (Jvm.Cond.instanceMethod ({ cls := "Melodeon", name := "draw", desc := "(II)I" } : Jvm.MethodName)) ∈ lw_all := lw_g (lw_at lw_m3 232 rfl) rfl
theorem q738 : (Jvm.Cond.selects "Melodeon" ({ cls := "Melodeon", name := "draw", desc := "(II)I" } : Jvm.MethodName) ({ cls := "Melodeon", name := "draw", desc := "(II)I" } : Jvm.MethodName)) ∈ lw_all := lw_g (lw_at lw_m3 233 rfl) rfl
theorem q739 : (Jvm.Cond.code ({ cls := "Melodeon", name := "draw", desc := "(II)I" } : Jvm.MethodName) prog_1_method_13_code (4 : Nat) (Option.some Jvm.ClassFile.FieldType.int)) ∈ lw_all := lw_g (lw_at lw_m3 234 rfl) rfl
theorem q744 : (Jvm.Cond.instanceMethod ({ cls := "Melodeon", name := "wave", desc := "(II)I" } : Jvm.MethodName)) ∈ lw_all := lw_g (lw_at lw_m3 239 rfl) rfl
theorem q745 : (Jvm.Cond.selects "Melodeon" ({ cls := "Melodeon", name := "wave", desc := "(II)I" } : Jvm.MethodName) ({ cls := "Melodeon", name := "wave", desc := "(II)I" } : Jvm.MethodName)) ∈ lw_all := lw_g (lw_at lw_m4 0 rfl) rfl
theorem q746 : (Jvm.Cond.code ({ cls := "Melodeon", name := "wave", desc := "(II)I" } : Jvm.MethodName) prog_1_method_14_code (3 : Nat) (Option.some Jvm.ClassFile.FieldType.int)) ∈ lw_all := lw_g (lw_at lw_m4 1 rfl) rfl
theorem q747 : (Jvm.Cond.constant "Melodeon" (126 : Nat) (65535 : Int32)) ∈ lw_all := lw_g (lw_at lw_m4 2 rfl) rfl
theorem q748 : (Jvm.Cond.methodLink "Melodeon" (127 : Nat) ({ cls := "Melodeon", name := "waveAt", desc := "(II)I" } : Jvm.MethodName)) ∈ lw_all := lw_g (lw_at lw_m4 3 rfl) rfl
theorem q753 : (Jvm.Cond.instanceMethod ({ cls := "Melodeon", name := "stride", desc := "(I)I" } : Jvm.MethodName)) ∈ lw_all := lw_g (lw_at lw_m4 8 rfl) rfl
theorem q754 : (Jvm.Cond.selects "Melodeon" ({ cls := "Melodeon", name := "stride", desc := "(I)I" } : Jvm.MethodName) ({ cls := "Melodeon", name := "stride", desc := "(I)I" } : Jvm.MethodName)) ∈ lw_all := lw_g (lw_at lw_m4 9 rfl) rfl
theorem q755 : (Jvm.Cond.code ({ cls := "Melodeon", name := "stride", desc := "(I)I" } : Jvm.MethodName) prog_1_method_15_code (2 : Nat) (Option.some Jvm.ClassFile.FieldType.int)) ∈ lw_all := lw_g (lw_at lw_m4 10 rfl) rfl
theorem q756 : (Jvm.Cond.methodLink "Melodeon" (130 : Nat) ({ cls := "Melodeon", name := "strideOf", desc := "(I)I" } : Jvm.MethodName)) ∈ lw_all := lw_g (lw_at lw_m4 11 rfl) rfl
theorem q761 : (Jvm.Cond.instanceMethod ({ cls := "Melodeon", name := "setWaves", desc := "(IIIII)I" } : Jvm.MethodName)) ∈ lw_all := lw_g (lw_at lw_m4 16 rfl) rfl
theorem q762 : (Jvm.Cond.selects "Melodeon" ({ cls := "Melodeon", name := "setWaves", desc := "(IIIII)I" } : Jvm.MethodName) ({ cls := "Melodeon", name := "setWaves", desc := "(IIIII)I" } : Jvm.MethodName)) ∈ lw_all := lw_g (lw_at lw_m4 17 rfl) rfl
theorem q763 : (Jvm.Cond.code ({ cls := "Melodeon", name := "setWaves", desc := "(IIIII)I" } : Jvm.MethodName) prog_1_method_16_code (8 : Nat) (Option.some Jvm.ClassFile.FieldType.int)) ∈ lw_all := lw_g (lw_at lw_m4 18 rfl) rfl
theorem q764 : (Jvm.Cond.methodLink "Melodeon" (133 : Nat) ({ cls := "Melodeon", name := "instrument", desc := "(I)LMelodeon$Instrument;" } : Jvm.MethodName)) ∈ lw_all := lw_g (lw_at lw_m4 19 rfl) rfl
theorem q765 : (Jvm.Cond.privateMethod ({ cls := "Melodeon", name := "instrument", desc := "(I)LMelodeon$Instrument;" } : Jvm.MethodName)) ∈ lw_tbl := lw_at lw_m4 20 rfl
theorem q766 : (Jvm.Cond.instanceMethod ({ cls := "Melodeon", name := "instrument", desc := "(I)LMelodeon$Instrument;" } : Jvm.MethodName)) ∈ lw_all := lw_g (lw_at lw_m4 21 rfl) rfl
theorem q767 : (Jvm.Cond.code ({ cls := "Melodeon", name := "instrument", desc := "(I)LMelodeon$Instrument;" } : Jvm.MethodName) prog_1_method_10_code (2 : Nat) (Option.some (Jvm.ClassFile.FieldType.object "Melodeon$Instrument"))) ∈ lw_all := lw_g (lw_at lw_m4 22 rfl) rfl
theorem q772 : (Jvm.Cond.instanceMethod ({ cls := "Melodeon", name := "setEnvelope", desc := "(IIIII)I" } : Jvm.MethodName)) ∈ lw_all := lw_g (lw_at lw_m4 27 rfl) rfl
theorem q773 : (Jvm.Cond.selects "Melodeon" ({ cls := "Melodeon", name := "setEnvelope", desc := "(IIIII)I" } : Jvm.MethodName) ({ cls := "Melodeon", name := "setEnvelope", desc := "(IIIII)I" } : Jvm.MethodName)) ∈ lw_all := lw_g (lw_at lw_m4 28 rfl) rfl
theorem q774 : (Jvm.Cond.code ({ cls := "Melodeon", name := "setEnvelope", desc := "(IIIII)I" } : Jvm.MethodName) prog_1_method_17_code (8 : Nat) (Option.some Jvm.ClassFile.FieldType.int)) ∈ lw_all := lw_g (lw_at lw_m4 29 rfl) rfl
theorem q779 : (Jvm.Cond.instanceMethod ({ cls := "Melodeon", name := "setFilter", desc := "(III)I" } : Jvm.MethodName)) ∈ lw_all := lw_g (lw_at lw_m4 34 rfl) rfl
theorem q780 : (Jvm.Cond.selects "Melodeon" ({ cls := "Melodeon", name := "setFilter", desc := "(III)I" } : Jvm.MethodName) ({ cls := "Melodeon", name := "setFilter", desc := "(III)I" } : Jvm.MethodName)) ∈ lw_all := lw_g (lw_at lw_m4 35 rfl) rfl
theorem q781 : (Jvm.Cond.code ({ cls := "Melodeon", name := "setFilter", desc := "(III)I" } : Jvm.MethodName) prog_1_method_18_code (6 : Nat) (Option.some Jvm.ClassFile.FieldType.int)) ∈ lw_all := lw_g (lw_at lw_m4 36 rfl) rfl
theorem q786 : (Jvm.Cond.instanceMethod ({ cls := "Melodeon", name := "setVibrato", desc := "(III)I" } : Jvm.MethodName)) ∈ lw_all := lw_g (lw_at lw_m4 41 rfl) rfl
theorem q787 : (Jvm.Cond.selects "Melodeon" ({ cls := "Melodeon", name := "setVibrato", desc := "(III)I" } : Jvm.MethodName) ({ cls := "Melodeon", name := "setVibrato", desc := "(III)I" } : Jvm.MethodName)) ∈ lw_all := lw_g (lw_at lw_m4 42 rfl) rfl
theorem q788 : (Jvm.Cond.code ({ cls := "Melodeon", name := "setVibrato", desc := "(III)I" } : Jvm.MethodName) prog_1_method_19_code (6 : Nat) (Option.some Jvm.ClassFile.FieldType.int)) ∈ lw_all := lw_g (lw_at lw_m4 43 rfl) rfl
theorem q793 : (Jvm.Cond.instanceMethod ({ cls := "Melodeon", name := "setGain", desc := "(I)I" } : Jvm.MethodName)) ∈ lw_all := lw_g (lw_at lw_m4 48 rfl) rfl
theorem q794 : (Jvm.Cond.selects "Melodeon" ({ cls := "Melodeon", name := "setGain", desc := "(I)I" } : Jvm.MethodName) ({ cls := "Melodeon", name := "setGain", desc := "(I)I" } : Jvm.MethodName)) ∈ lw_all := lw_g (lw_at lw_m4 49 rfl) rfl
theorem q795 : (Jvm.Cond.code ({ cls := "Melodeon", name := "setGain", desc := "(I)I" } : Jvm.MethodName) prog_1_method_20_code (3 : Nat) (Option.some Jvm.ClassFile.FieldType.int)) ∈ lw_all := lw_g (lw_at lw_m4 50 rfl) rfl
theorem q800 : (Jvm.Cond.instanceMethod ({ cls := "Melodeon", name := "setDelay", desc := "(III)I" } : Jvm.MethodName)) ∈ lw_all := lw_g (lw_at lw_m4 55 rfl) rfl
theorem q801 : (Jvm.Cond.selects "Melodeon" ({ cls := "Melodeon", name := "setDelay", desc := "(III)I" } : Jvm.MethodName) ({ cls := "Melodeon", name := "setDelay", desc := "(III)I" } : Jvm.MethodName)) ∈ lw_all := lw_g (lw_at lw_m4 56 rfl) rfl
theorem q802 : (Jvm.Cond.code ({ cls := "Melodeon", name := "setDelay", desc := "(III)I" } : Jvm.MethodName) prog_1_method_21_code (6 : Nat) (Option.some Jvm.ClassFile.FieldType.int)) ∈ lw_all := lw_g (lw_at lw_m4 57 rfl) rfl
theorem q807 : (Jvm.Cond.instanceMethod ({ cls := "Melodeon", name := "begin", desc := "(III)I" } : Jvm.MethodName)) ∈ lw_all := lw_g (lw_at lw_m4 62 rfl) rfl
theorem q808 : (Jvm.Cond.selects "Melodeon" ({ cls := "Melodeon", name := "begin", desc := "(III)I" } : Jvm.MethodName) ({ cls := "Melodeon", name := "begin", desc := "(III)I" } : Jvm.MethodName)) ∈ lw_all := lw_g (lw_at lw_m4 63 rfl) rfl
theorem q809 : (Jvm.Cond.code ({ cls := "Melodeon", name := "begin", desc := "(III)I" } : Jvm.MethodName) prog_1_method_22_code (4 : Nat) (Option.some Jvm.ClassFile.FieldType.int)) ∈ lw_all := lw_g (lw_at lw_m4 64 rfl) rfl
theorem q810 : (Jvm.Cond.methodLink "Melodeon" (188 : Nat) ({ cls := "Melodeon$Engine", name := "begin", desc := "(IIII)I" } : Jvm.MethodName)) ∈ lw_all := lw_g (lw_at lw_m4 65 rfl) rfl
theorem q815 : (Jvm.Cond.instanceMethod ({ cls := "Melodeon", name := "end", desc := "(I)I" } : Jvm.MethodName)) ∈ lw_all := lw_g (lw_at lw_m4 70 rfl) rfl
theorem q816 : (Jvm.Cond.selects "Melodeon" ({ cls := "Melodeon", name := "end", desc := "(I)I" } : Jvm.MethodName) ({ cls := "Melodeon", name := "end", desc := "(I)I" } : Jvm.MethodName)) ∈ lw_all := lw_g (lw_at lw_m4 71 rfl) rfl
theorem q817 : (Jvm.Cond.code ({ cls := "Melodeon", name := "end", desc := "(I)I" } : Jvm.MethodName) prog_1_method_23_code (4 : Nat) (Option.some Jvm.ClassFile.FieldType.int)) ∈ lw_all := lw_g (lw_at lw_m4 72 rfl) rfl
theorem q818 : (Jvm.Cond.methodLink "Melodeon" (199 : Nat) ({ cls := "Melodeon$Voice", name := "end", desc := "()V" } : Jvm.MethodName)) ∈ lw_all := lw_g (lw_at lw_m4 73 rfl) rfl
theorem q823 : (Jvm.Cond.instanceMethod ({ cls := "Melodeon", name := "write", desc := "(IIIII)I" } : Jvm.MethodName)) ∈ lw_all := lw_g (lw_at lw_m4 78 rfl) rfl
theorem q824 : (Jvm.Cond.selects "Melodeon" ({ cls := "Melodeon", name := "write", desc := "(IIIII)I" } : Jvm.MethodName) ({ cls := "Melodeon", name := "write", desc := "(IIIII)I" } : Jvm.MethodName)) ∈ lw_all := lw_g (lw_at lw_m4 79 rfl) rfl
theorem q825 : (Jvm.Cond.code ({ cls := "Melodeon", name := "write", desc := "(IIIII)I" } : Jvm.MethodName) prog_1_method_25_code (9 : Nat) (Option.some Jvm.ClassFile.FieldType.int)) ∈ lw_all := lw_g (lw_at lw_m4 80 rfl) rfl
theorem q830 : (Jvm.Cond.instanceMethod ({ cls := "Melodeon", name := "setTrack", desc := "(II)I" } : Jvm.MethodName)) ∈ lw_all := lw_g (lw_at lw_m4 85 rfl) rfl
theorem q831 : (Jvm.Cond.selects "Melodeon" ({ cls := "Melodeon", name := "setTrack", desc := "(II)I" } : Jvm.MethodName) ({ cls := "Melodeon", name := "setTrack", desc := "(II)I" } : Jvm.MethodName)) ∈ lw_all := lw_g (lw_at lw_m4 86 rfl) rfl
theorem q832 : (Jvm.Cond.code ({ cls := "Melodeon", name := "setTrack", desc := "(II)I" } : Jvm.MethodName) prog_1_method_26_code (5 : Nat) (Option.some Jvm.ClassFile.FieldType.int)) ∈ lw_all := lw_g (lw_at lw_m4 87 rfl) rfl
theorem q837 : (Jvm.Cond.instanceMethod ({ cls := "Melodeon", name := "setTempo", desc := "(II)I" } : Jvm.MethodName)) ∈ lw_all := lw_g (lw_at lw_m4 92 rfl) rfl
theorem q838 : (Jvm.Cond.selects "Melodeon" ({ cls := "Melodeon", name := "setTempo", desc := "(II)I" } : Jvm.MethodName) ({ cls := "Melodeon", name := "setTempo", desc := "(II)I" } : Jvm.MethodName)) ∈ lw_all := lw_g (lw_at lw_m4 93 rfl) rfl
theorem q839 : (Jvm.Cond.code ({ cls := "Melodeon", name := "setTempo", desc := "(II)I" } : Jvm.MethodName) prog_1_method_27_code (4 : Nat) (Option.some Jvm.ClassFile.FieldType.int)) ∈ lw_all := lw_g (lw_at lw_m4 94 rfl) rfl
theorem q844 : (Jvm.Cond.instanceMethod ({ cls := "Melodeon", name := "play", desc := "(I)Z" } : Jvm.MethodName)) ∈ lw_all := lw_g (lw_at lw_m4 99 rfl) rfl
theorem q845 : (Jvm.Cond.selects "Melodeon" ({ cls := "Melodeon", name := "play", desc := "(I)Z" } : Jvm.MethodName) ({ cls := "Melodeon", name := "play", desc := "(I)Z" } : Jvm.MethodName)) ∈ lw_all := lw_g (lw_at lw_m4 100 rfl) rfl
theorem q846 : (Jvm.Cond.code ({ cls := "Melodeon", name := "play", desc := "(I)Z" } : Jvm.MethodName) prog_1_method_28_code (3 : Nat) (Option.some Jvm.ClassFile.FieldType.boolean)) ∈ lw_all := lw_g (lw_at lw_m4 101 rfl) rfl
theorem q851 : (Jvm.Cond.instanceMethod ({ cls := "Melodeon", name := "run", desc := "(I)I" } : Jvm.MethodName)) ∈ lw_all := lw_g (lw_at lw_m4 106 rfl) rfl
theorem q852 : (Jvm.Cond.selects "Melodeon" ({ cls := "Melodeon", name := "run", desc := "(I)I" } : Jvm.MethodName) ({ cls := "Melodeon", name := "run", desc := "(I)I" } : Jvm.MethodName)) ∈ lw_all := lw_g (lw_at lw_m4 107 rfl) rfl
theorem q853 : (Jvm.Cond.code ({ cls := "Melodeon", name := "run", desc := "(I)I" } : Jvm.MethodName) prog_1_method_31_code (3 : Nat) (Option.some Jvm.ClassFile.FieldType.int)) ∈ lw_all := lw_g (lw_at lw_m4 108 rfl) rfl
theorem q874 : (Jvm.Cond.instanceMethod ({ cls := "Melodeon", name := "wouldPeak", desc := "(I)I" } : Jvm.MethodName)) ∈ lw_all := lw_g (lw_at lw_m4 129 rfl) rfl
theorem q875 : (Jvm.Cond.selects "Melodeon" ({ cls := "Melodeon", name := "wouldPeak", desc := "(I)I" } : Jvm.MethodName) ({ cls := "Melodeon", name := "wouldPeak", desc := "(I)I" } : Jvm.MethodName)) ∈ lw_all := lw_g (lw_at lw_m4 130 rfl) rfl
theorem q876 : (Jvm.Cond.code ({ cls := "Melodeon", name := "wouldPeak", desc := "(I)I" } : Jvm.MethodName) prog_1_method_46_code (5 : Nat) (Option.some Jvm.ClassFile.FieldType.int)) ∈ lw_all := lw_g (lw_at lw_m4 131 rfl) rfl
theorem q877 : (Jvm.Cond.methodLink "Melodeon" (265 : Nat) ({ cls := "Melodeon$Engine", name := "copy", desc := "()LMelodeon$Engine;" } : Jvm.MethodName)) ∈ lw_all := lw_g (lw_at lw_m4 132 rfl) rfl
theorem q895 : (Jvm.Cond.instanceMethod ({ cls := "Melodeon", name := "silentIn", desc := "(I)I" } : Jvm.MethodName)) ∈ lw_all := lw_g (lw_at lw_m4 150 rfl) rfl
theorem q896 : (Jvm.Cond.selects "Melodeon" ({ cls := "Melodeon", name := "silentIn", desc := "(I)I" } : Jvm.MethodName) ({ cls := "Melodeon", name := "silentIn", desc := "(I)I" } : Jvm.MethodName)) ∈ lw_all := lw_g (lw_at lw_m4 151 rfl) rfl
theorem q897 : (Jvm.Cond.code ({ cls := "Melodeon", name := "silentIn", desc := "(I)I" } : Jvm.MethodName) prog_1_method_47_code (4 : Nat) (Option.some Jvm.ClassFile.FieldType.int)) ∈ lw_all := lw_g (lw_at lw_m4 152 rfl) rfl
theorem q1325 : (Jvm.Cond.castable "Melodeon" "java/lang/Object") ∈ lw_tbl := lw_at lw_m6 100 rfl
theorem in_X1 : ∀ w ∈ wsX10, w ∈ lw_all := lw_in wsX10 [367, 369, 371, 373, 375, 377, 379, 381, 383, 385, 387, 389, 391, 393, 395, 397, 399] (by decide +kernel) (by decide +kernel)
