/-! MelodeonModel$Desk -/
set_option maxRecDepth 100000
def RX7 : String := "MelodeonModel$Desk"
def TX7 : u_T := fun k => match k with
  | 0 => ("MelodeonModel$Desk", "drawn", "[I", true)
  | 1 => ("MelodeonModel$Desk", "instrument", "[I", true)
  | 2 => ("MelodeonModel$Desk", "state", "[I", true)
  | 3 => ("MelodeonModel$Desk", "level", "[I", true)
  | 4 => ("MelodeonModel$Desk", "of", "[I", true)
  | 5 => ("MelodeonModel$Desk", "pitch", "[I", true)
  | 6 => ("MelodeonModel$Desk", "force", "[I", true)
  | 7 => ("MelodeonModel$Desk", "one", "[I", true)
  | 8 => ("MelodeonModel$Desk", "other", "[I", true)
  | 9 => ("MelodeonModel$Desk", "low", "[I", true)
  | 10 => ("MelodeonModel$Desk", "band", "[I", true)
  | 11 => ("MelodeonModel$Desk", "gate", "[I", true)
  | 12 => ("MelodeonModel$Desk", "began", "[I", true)
  | 13 => ("MelodeonModel$Desk", "begins", "I", false)
  | 14 => ("MelodeonModel$Desk", "taken", "I", false)
  | 15 => ("MelodeonModel$Desk", "gain", "I", false)
  | 16 => ("MelodeonModel$Desk", "length", "I", false)
  | 17 => ("MelodeonModel$Desk", "wet", "I", false)
  | 18 => ("MelodeonModel$Desk", "back", "I", false)
  | 19 => ("MelodeonModel$Desk", "delay", "[I", true)
  | 20 => ("MelodeonModel$Desk", "track", "[I", true)
  | 21 => ("MelodeonModel$Desk", "written", "[I", true)
  | 22 => ("MelodeonModel$Desk", "tempo", "I", false)
  | 23 => ("MelodeonModel$Desk", "swing", "I", false)
  | 24 => ("MelodeonModel$Desk", "isPlaying", "Z", false)
  | 25 => ("MelodeonModel$Desk", "step", "I", false)
  | 26 => ("MelodeonModel$Desk", "passed", "I", false)
  | 27 => ("MelodeonModel$Desk", "steps", "I", false)
  | 28 => ("MelodeonModel$Desk", "clock", "I", false)
  | 29 => ("MelodeonModel$Desk", "heard", "[I", true)
  | 30 => ("MelodeonModel$Desk", "counted", "I", false)
  | 31 => ("MelodeonModel$Desk", "peak", "I", false)
  | 32 => ("MelodeonModel$Desk", "clipped", "I", false)
  | 33 => ("MelodeonModel$Desk", "crossings", "I", false)
  | _ => ("MelodeonModel$Desk", "sum", "J", false)
def tyX7 : Nat → FieldType := fun k => match k with
  | 0 => .array .int
  | 1 => .array .int
  | 2 => .array .int
  | 3 => .array .int
  | 4 => .array .int
  | 5 => .array .int
  | 6 => .array .int
  | 7 => .array .int
  | 8 => .array .int
  | 9 => .array .int
  | 10 => .array .int
  | 11 => .array .int
  | 12 => .array .int
  | 13 => .int
  | 14 => .int
  | 15 => .int
  | 16 => .int
  | 17 => .int
  | 18 => .int
  | 19 => .array .int
  | 20 => .array .int
  | 21 => .array .int
  | 22 => .int
  | 23 => .int
  | 24 => .boolean
  | 25 => .int
  | 26 => .int
  | 27 => .int
  | 28 => .int
  | 29 => .array .int
  | 30 => .int
  | 31 => .int
  | 32 => .int
  | 33 => .int
  | _ => .long
abbrev wsX70 : List Cond := u_ws RX7 TX7 35
set_option maxRecDepth 100000 in
theorem nmX7 : ∀ a, a < 35 → ∀ b, b < 35 → a ≠ b → (TX7 a).2.1 ≠ (TX7 b).2.1 := by decide +kernel
set_option maxRecDepth 100000 in
theorem tyX7_ok : ∀ k, k < 35 → parseFieldDescriptor (TX7 k).2.2.1 = some (tyX7 k) := by decide +kernel
abbrev cX7_init : ByteArray := prog_8_method_1_code
def yX7_init : MethodName := ⟨RX7, "<init>", "()V"⟩
def dkwX7_init_12 : List UInt8 := [190, 162, 0, 16, 42, 180, 0, 61, 27, 2, 79, 132, 1, 3, 167, 255, 237, 177]
abbrev dktX7_init_12 : List UInt8 := dkwX7_init_12 ++ []
def dkwX7_init_11 : List UInt8 := [7, 162, 0, 16, 42, 180, 0, 45, 27, 2, 79, 132, 1, 1, 167, 255, 241, 3, 60, 27, 42, 180, 0, 61]
abbrev dktX7_init_11 : List UInt8 := dkwX7_init_11 ++ dktX7_init_12
def dkwX7_init_10 : List UInt8 := [79, 42, 180, 0, 15, 27, 16, 12, 104, 16, 11, 96, 16, 64, 79, 132, 1, 1, 167, 255, 149, 3, 60, 27]
abbrev dktX7_init_10 : List UInt8 := dkwX7_init_10 ++ dktX7_init_11
def dkwX7_init_9 : List UInt8 := [16, 12, 104, 16, 8, 96, 17, 0, 128, 79, 42, 180, 0, 15, 27, 16, 12, 104, 16, 9, 96, 17, 1, 0]
abbrev dktX7_init_9 : List UInt8 := dkwX7_init_9 ++ dktX7_init_10
def dkwX7_init_8 : List UInt8 := [17, 3, 232, 79, 42, 180, 0, 15, 27, 16, 12, 104, 16, 7, 96, 16, 10, 79, 42, 180, 0, 15, 27]
abbrev dktX7_init_8 : List UInt8 := dkwX7_init_8 ++ dktX7_init_9
def dkwX7_init_7 : List UInt8 := [180, 0, 15, 27, 16, 12, 104, 8, 96, 16, 10, 79, 42, 180, 0, 15, 27, 16, 12, 104, 16, 6, 96]
abbrev dktX7_init_7 : List UInt8 := dkwX7_init_7 ++ dktX7_init_8
def dkwX7_init_6 : List UInt8 := [181, 0, 67, 3, 60, 27, 7, 162, 0, 108, 42, 180, 0, 15, 27, 16, 12, 104, 7, 96, 16, 10, 79, 42]
abbrev dktX7_init_6 : List UInt8 := dkwX7_init_6 ++ dktX7_init_7
def dkwX7_init_5 : List UInt8 := [181, 0, 58, 42, 16, 72, 188, 10, 181, 0, 61, 42, 16, 20, 181, 0, 64, 42, 16, 64, 188, 10]
abbrev dktX7_init_5 : List UInt8 := dkwX7_init_5 ++ dktX7_init_6
def dkwX7_init_4 : List UInt8 := [181, 0, 48, 42, 16, 64, 181, 0, 51, 42, 17, 0, 200, 188, 10, 181, 0, 55, 42, 6, 188, 10]
abbrev dktX7_init_4 : List UInt8 := dkwX7_init_4 ++ dktX7_init_5
def dkwX7_init_3 : List UInt8 := [188, 10, 181, 0, 39, 42, 7, 188, 10, 181, 0, 42, 42, 7, 188, 10, 181, 0, 45, 42, 7, 188, 10]
abbrev dktX7_init_3 : List UInt8 := dkwX7_init_3 ++ dktX7_init_4
def dkwX7_init_2 : List UInt8 := [42, 7, 188, 10, 181, 0, 30, 42, 7, 188, 10, 181, 0, 33, 42, 7, 188, 10, 181, 0, 36, 42, 7]
abbrev dktX7_init_2 : List UInt8 := dkwX7_init_2 ++ dktX7_init_3
def dkwX7_init_1 : List UInt8 := [181, 0, 18, 42, 7, 188, 10, 181, 0, 21, 42, 7, 188, 10, 181, 0, 24, 42, 7, 188, 10, 181, 0, 27]
abbrev dktX7_init_1 : List UInt8 := dkwX7_init_1 ++ dktX7_init_2
def dkwX7_init_0 : List UInt8 := [42, 183, 0, 3, 42, 16, 32, 188, 10, 181, 0, 9, 42, 16, 48, 188, 10, 181, 0, 15, 42, 7, 188, 10]
abbrev dktX7_init_0 : List UInt8 := dkwX7_init_0 ++ dktX7_init_1
theorem dksX7_init_0 : cX7_init.data.toList.drop 0 = dktX7_init_0 := by decide +kernel
theorem dksX7_init_1 : cX7_init.data.toList.drop 24 = dktX7_init_1 := dk_seg dksX7_init_0 24 rfl rfl
theorem dksX7_init_2 : cX7_init.data.toList.drop 48 = dktX7_init_2 := dk_seg dksX7_init_1 24 rfl rfl
theorem dksX7_init_3 : cX7_init.data.toList.drop 71 = dktX7_init_3 := dk_seg dksX7_init_2 23 rfl rfl
theorem dksX7_init_4 : cX7_init.data.toList.drop 94 = dktX7_init_4 := dk_seg dksX7_init_3 23 rfl rfl
theorem dksX7_init_5 : cX7_init.data.toList.drop 116 = dktX7_init_5 := dk_seg dksX7_init_4 22 rfl rfl
theorem dksX7_init_6 : cX7_init.data.toList.drop 138 = dktX7_init_6 := dk_seg dksX7_init_5 22 rfl rfl
theorem dksX7_init_7 : cX7_init.data.toList.drop 162 = dktX7_init_7 := dk_seg dksX7_init_6 24 rfl rfl
theorem dksX7_init_8 : cX7_init.data.toList.drop 185 = dktX7_init_8 := dk_seg dksX7_init_7 23 rfl rfl
theorem dksX7_init_9 : cX7_init.data.toList.drop 208 = dktX7_init_9 := dk_seg dksX7_init_8 23 rfl rfl
theorem dksX7_init_10 : cX7_init.data.toList.drop 232 = dktX7_init_10 := dk_seg dksX7_init_9 24 rfl rfl
theorem dksX7_init_11 : cX7_init.data.toList.drop 256 = dktX7_init_11 := dk_seg dksX7_init_10 24 rfl rfl
theorem dksX7_init_12 : cX7_init.data.toList.drop 280 = dktX7_init_12 := dk_seg dksX7_init_11 24 rfl rfl
theorem dX7_init_0 : decode cX7_init 0 = .ok (.aload_n 0, 1) := dk_42 (dk_at dksX7_init_0 0 rfl rfl)
theorem dX7_init_1 : decode cX7_init 1 = .ok (.invokespecial 3, 3) := dk_183 0 3 (dk_at dksX7_init_0 1 rfl rfl)
theorem dX7_init_4 : decode cX7_init 4 = .ok (.aload_n 0, 1) := dk_42 (dk_at dksX7_init_0 4 rfl rfl)
theorem dX7_init_5 : decode cX7_init 5 = .ok (.bipush 32, 2) := dk_16 32 (dk_at dksX7_init_0 5 rfl rfl)
theorem dX7_init_7 : decode cX7_init 7 = .ok (.newarray .int, 2) := dk_188_10 (dk_at dksX7_init_0 7 rfl rfl)
theorem dX7_init_9 : decode cX7_init 9 = .ok (.putfield 9, 3) := dk_181 0 9 (dk_at dksX7_init_0 9 rfl rfl)
theorem dX7_init_12 : decode cX7_init 12 = .ok (.aload_n 0, 1) := dk_42 (dk_at dksX7_init_0 12 rfl rfl)
theorem dX7_init_13 : decode cX7_init 13 = .ok (.bipush 48, 2) := dk_16 48 (dk_at dksX7_init_0 13 rfl rfl)
theorem dX7_init_15 : decode cX7_init 15 = .ok (.newarray .int, 2) := dk_188_10 (dk_at dksX7_init_0 15 rfl rfl)
theorem dX7_init_17 : decode cX7_init 17 = .ok (.putfield 15, 3) := dk_181 0 15 (dk_at dksX7_init_0 17 rfl rfl)
theorem dX7_init_20 : decode cX7_init 20 = .ok (.aload_n 0, 1) := dk_42 (dk_at dksX7_init_0 20 rfl rfl)
theorem dX7_init_21 : decode cX7_init 21 = .ok (.iconst 4, 1) := dk_7 (dk_at dksX7_init_0 21 rfl rfl)
theorem dX7_init_22 : decode cX7_init 22 = .ok (.newarray .int, 2) := dk_188_10 (dk_at dksX7_init_0 22 rfl rfl)
theorem dX7_init_24 : decode cX7_init 24 = .ok (.putfield 18, 3) := dk_181 0 18 (dk_at dksX7_init_1 0 rfl rfl)
theorem dX7_init_27 : decode cX7_init 27 = .ok (.aload_n 0, 1) := dk_42 (dk_at dksX7_init_1 3 rfl rfl)
theorem dX7_init_28 : decode cX7_init 28 = .ok (.iconst 4, 1) := dk_7 (dk_at dksX7_init_1 4 rfl rfl)
theorem dX7_init_29 : decode cX7_init 29 = .ok (.newarray .int, 2) := dk_188_10 (dk_at dksX7_init_1 5 rfl rfl)
theorem dX7_init_31 : decode cX7_init 31 = .ok (.putfield 21, 3) := dk_181 0 21 (dk_at dksX7_init_1 7 rfl rfl)
theorem dX7_init_34 : decode cX7_init 34 = .ok (.aload_n 0, 1) := dk_42 (dk_at dksX7_init_1 10 rfl rfl)
theorem dX7_init_35 : decode cX7_init 35 = .ok (.iconst 4, 1) := dk_7 (dk_at dksX7_init_1 11 rfl rfl)
theorem dX7_init_36 : decode cX7_init 36 = .ok (.newarray .int, 2) := dk_188_10 (dk_at dksX7_init_1 12 rfl rfl)
theorem dX7_init_38 : decode cX7_init 38 = .ok (.putfield 24, 3) := dk_181 0 24 (dk_at dksX7_init_1 14 rfl rfl)
theorem dX7_init_41 : decode cX7_init 41 = .ok (.aload_n 0, 1) := dk_42 (dk_at dksX7_init_1 17 rfl rfl)
theorem dX7_init_42 : decode cX7_init 42 = .ok (.iconst 4, 1) := dk_7 (dk_at dksX7_init_1 18 rfl rfl)
theorem dX7_init_43 : decode cX7_init 43 = .ok (.newarray .int, 2) := dk_188_10 (dk_at dksX7_init_1 19 rfl rfl)
theorem dX7_init_45 : decode cX7_init 45 = .ok (.putfield 27, 3) := dk_181 0 27 (dk_at dksX7_init_1 21 rfl rfl)
theorem dX7_init_48 : decode cX7_init 48 = .ok (.aload_n 0, 1) := dk_42 (dk_at dksX7_init_2 0 rfl rfl)
theorem dX7_init_49 : decode cX7_init 49 = .ok (.iconst 4, 1) := dk_7 (dk_at dksX7_init_2 1 rfl rfl)
theorem dX7_init_50 : decode cX7_init 50 = .ok (.newarray .int, 2) := dk_188_10 (dk_at dksX7_init_2 2 rfl rfl)
theorem dX7_init_52 : decode cX7_init 52 = .ok (.putfield 30, 3) := dk_181 0 30 (dk_at dksX7_init_2 4 rfl rfl)
theorem dX7_init_55 : decode cX7_init 55 = .ok (.aload_n 0, 1) := dk_42 (dk_at dksX7_init_2 7 rfl rfl)
theorem dX7_init_56 : decode cX7_init 56 = .ok (.iconst 4, 1) := dk_7 (dk_at dksX7_init_2 8 rfl rfl)
theorem dX7_init_57 : decode cX7_init 57 = .ok (.newarray .int, 2) := dk_188_10 (dk_at dksX7_init_2 9 rfl rfl)
theorem dX7_init_59 : decode cX7_init 59 = .ok (.putfield 33, 3) := dk_181 0 33 (dk_at dksX7_init_2 11 rfl rfl)
theorem dX7_init_62 : decode cX7_init 62 = .ok (.aload_n 0, 1) := dk_42 (dk_at dksX7_init_2 14 rfl rfl)
theorem dX7_init_63 : decode cX7_init 63 = .ok (.iconst 4, 1) := dk_7 (dk_at dksX7_init_2 15 rfl rfl)
theorem dX7_init_64 : decode cX7_init 64 = .ok (.newarray .int, 2) := dk_188_10 (dk_at dksX7_init_2 16 rfl rfl)
theorem dX7_init_66 : decode cX7_init 66 = .ok (.putfield 36, 3) := dk_181 0 36 (dk_at dksX7_init_2 18 rfl rfl)
theorem dX7_init_69 : decode cX7_init 69 = .ok (.aload_n 0, 1) := dk_42 (dk_at dksX7_init_2 21 rfl rfl)
theorem dX7_init_70 : decode cX7_init 70 = .ok (.iconst 4, 1) := dk_7 (dk_at dksX7_init_2 22 rfl rfl)
theorem dX7_init_71 : decode cX7_init 71 = .ok (.newarray .int, 2) := dk_188_10 (dk_at dksX7_init_3 0 rfl rfl)
theorem dX7_init_73 : decode cX7_init 73 = .ok (.putfield 39, 3) := dk_181 0 39 (dk_at dksX7_init_3 2 rfl rfl)
theorem dX7_init_76 : decode cX7_init 76 = .ok (.aload_n 0, 1) := dk_42 (dk_at dksX7_init_3 5 rfl rfl)
theorem dX7_init_77 : decode cX7_init 77 = .ok (.iconst 4, 1) := dk_7 (dk_at dksX7_init_3 6 rfl rfl)
theorem dX7_init_78 : decode cX7_init 78 = .ok (.newarray .int, 2) := dk_188_10 (dk_at dksX7_init_3 7 rfl rfl)
theorem dX7_init_80 : decode cX7_init 80 = .ok (.putfield 42, 3) := dk_181 0 42 (dk_at dksX7_init_3 9 rfl rfl)
theorem dX7_init_83 : decode cX7_init 83 = .ok (.aload_n 0, 1) := dk_42 (dk_at dksX7_init_3 12 rfl rfl)
theorem dX7_init_84 : decode cX7_init 84 = .ok (.iconst 4, 1) := dk_7 (dk_at dksX7_init_3 13 rfl rfl)
theorem dX7_init_85 : decode cX7_init 85 = .ok (.newarray .int, 2) := dk_188_10 (dk_at dksX7_init_3 14 rfl rfl)
theorem dX7_init_87 : decode cX7_init 87 = .ok (.putfield 45, 3) := dk_181 0 45 (dk_at dksX7_init_3 16 rfl rfl)
theorem dX7_init_90 : decode cX7_init 90 = .ok (.aload_n 0, 1) := dk_42 (dk_at dksX7_init_3 19 rfl rfl)
theorem dX7_init_91 : decode cX7_init 91 = .ok (.iconst 4, 1) := dk_7 (dk_at dksX7_init_3 20 rfl rfl)
theorem dX7_init_92 : decode cX7_init 92 = .ok (.newarray .int, 2) := dk_188_10 (dk_at dksX7_init_3 21 rfl rfl)
theorem dX7_init_94 : decode cX7_init 94 = .ok (.putfield 48, 3) := dk_181 0 48 (dk_at dksX7_init_4 0 rfl rfl)
theorem dX7_init_97 : decode cX7_init 97 = .ok (.aload_n 0, 1) := dk_42 (dk_at dksX7_init_4 3 rfl rfl)
theorem dX7_init_98 : decode cX7_init 98 = .ok (.bipush 64, 2) := dk_16 64 (dk_at dksX7_init_4 4 rfl rfl)
theorem dX7_init_100 : decode cX7_init 100 = .ok (.putfield 51, 3) := dk_181 0 51 (dk_at dksX7_init_4 6 rfl rfl)
theorem dX7_init_103 : decode cX7_init 103 = .ok (.aload_n 0, 1) := dk_42 (dk_at dksX7_init_4 9 rfl rfl)
theorem dX7_init_104 : decode cX7_init 104 = .ok (.sipush 200, 3) := dk_17 0 200 (dk_at dksX7_init_4 10 rfl rfl)
theorem dX7_init_107 : decode cX7_init 107 = .ok (.newarray .int, 2) := dk_188_10 (dk_at dksX7_init_4 13 rfl rfl)
theorem dX7_init_109 : decode cX7_init 109 = .ok (.putfield 55, 3) := dk_181 0 55 (dk_at dksX7_init_4 15 rfl rfl)
theorem dX7_init_112 : decode cX7_init 112 = .ok (.aload_n 0, 1) := dk_42 (dk_at dksX7_init_4 18 rfl rfl)
theorem dX7_init_113 : decode cX7_init 113 = .ok (.iconst 3, 1) := dk_6 (dk_at dksX7_init_4 19 rfl rfl)
theorem dX7_init_114 : decode cX7_init 114 = .ok (.newarray .int, 2) := dk_188_10 (dk_at dksX7_init_4 20 rfl rfl)
theorem dX7_init_116 : decode cX7_init 116 = .ok (.putfield 58, 3) := dk_181 0 58 (dk_at dksX7_init_5 0 rfl rfl)
theorem dX7_init_119 : decode cX7_init 119 = .ok (.aload_n 0, 1) := dk_42 (dk_at dksX7_init_5 3 rfl rfl)
theorem dX7_init_120 : decode cX7_init 120 = .ok (.bipush 72, 2) := dk_16 72 (dk_at dksX7_init_5 4 rfl rfl)
theorem dX7_init_122 : decode cX7_init 122 = .ok (.newarray .int, 2) := dk_188_10 (dk_at dksX7_init_5 6 rfl rfl)
theorem dX7_init_124 : decode cX7_init 124 = .ok (.putfield 61, 3) := dk_181 0 61 (dk_at dksX7_init_5 8 rfl rfl)
theorem dX7_init_127 : decode cX7_init 127 = .ok (.aload_n 0, 1) := dk_42 (dk_at dksX7_init_5 11 rfl rfl)
theorem dX7_init_128 : decode cX7_init 128 = .ok (.bipush 20, 2) := dk_16 20 (dk_at dksX7_init_5 12 rfl rfl)
theorem dX7_init_130 : decode cX7_init 130 = .ok (.putfield 64, 3) := dk_181 0 64 (dk_at dksX7_init_5 14 rfl rfl)
theorem dX7_init_133 : decode cX7_init 133 = .ok (.aload_n 0, 1) := dk_42 (dk_at dksX7_init_5 17 rfl rfl)
theorem dX7_init_134 : decode cX7_init 134 = .ok (.bipush 64, 2) := dk_16 64 (dk_at dksX7_init_5 18 rfl rfl)
theorem dX7_init_136 : decode cX7_init 136 = .ok (.newarray .int, 2) := dk_188_10 (dk_at dksX7_init_5 20 rfl rfl)
theorem dX7_init_138 : decode cX7_init 138 = .ok (.putfield 67, 3) := dk_181 0 67 (dk_at dksX7_init_6 0 rfl rfl)
theorem dX7_init_141 : decode cX7_init 141 = .ok (.iconst 0, 1) := dk_3 (dk_at dksX7_init_6 3 rfl rfl)
theorem dX7_init_142 : decode cX7_init 142 = .ok (.istore_n 1, 1) := dk_60 (dk_at dksX7_init_6 4 rfl rfl)
theorem dX7_init_143 : decode cX7_init 143 = .ok (.iload_n 1, 1) := dk_27 (dk_at dksX7_init_6 5 rfl rfl)
theorem dX7_init_144 : decode cX7_init 144 = .ok (.iconst 4, 1) := dk_7 (dk_at dksX7_init_6 6 rfl rfl)
theorem dX7_init_145 : decode cX7_init 145 = .ok (.if_icmp .ge 108, 3) := dk_162 0 108 (dk_at dksX7_init_6 7 rfl rfl)
theorem dX7_init_148 : decode cX7_init 148 = .ok (.aload_n 0, 1) := dk_42 (dk_at dksX7_init_6 10 rfl rfl)
theorem dX7_init_149 : decode cX7_init 149 = .ok (.getfield 15, 3) := dk_180 0 15 (dk_at dksX7_init_6 11 rfl rfl)
theorem dX7_init_152 : decode cX7_init 152 = .ok (.iload_n 1, 1) := dk_27 (dk_at dksX7_init_6 14 rfl rfl)
theorem dX7_init_153 : decode cX7_init 153 = .ok (.bipush 12, 2) := dk_16 12 (dk_at dksX7_init_6 15 rfl rfl)
theorem dX7_init_155 : decode cX7_init 155 = .ok (.imul, 1) := dk_104 (dk_at dksX7_init_6 17 rfl rfl)
theorem dX7_init_156 : decode cX7_init 156 = .ok (.iconst 4, 1) := dk_7 (dk_at dksX7_init_6 18 rfl rfl)
theorem dX7_init_157 : decode cX7_init 157 = .ok (.iadd, 1) := dk_96 (dk_at dksX7_init_6 19 rfl rfl)
theorem dX7_init_158 : decode cX7_init 158 = .ok (.bipush 10, 2) := dk_16 10 (dk_at dksX7_init_6 20 rfl rfl)
theorem dX7_init_160 : decode cX7_init 160 = .ok (.iastore, 1) := dk_79 (dk_at dksX7_init_6 22 rfl rfl)
theorem dX7_init_161 : decode cX7_init 161 = .ok (.aload_n 0, 1) := dk_42 (dk_at dksX7_init_6 23 rfl rfl)
theorem dX7_init_162 : decode cX7_init 162 = .ok (.getfield 15, 3) := dk_180 0 15 (dk_at dksX7_init_7 0 rfl rfl)
theorem dX7_init_165 : decode cX7_init 165 = .ok (.iload_n 1, 1) := dk_27 (dk_at dksX7_init_7 3 rfl rfl)
theorem dX7_init_166 : decode cX7_init 166 = .ok (.bipush 12, 2) := dk_16 12 (dk_at dksX7_init_7 4 rfl rfl)
theorem dX7_init_168 : decode cX7_init 168 = .ok (.imul, 1) := dk_104 (dk_at dksX7_init_7 6 rfl rfl)
theorem dX7_init_169 : decode cX7_init 169 = .ok (.iconst 5, 1) := dk_8 (dk_at dksX7_init_7 7 rfl rfl)
theorem dX7_init_170 : decode cX7_init 170 = .ok (.iadd, 1) := dk_96 (dk_at dksX7_init_7 8 rfl rfl)
theorem dX7_init_171 : decode cX7_init 171 = .ok (.bipush 10, 2) := dk_16 10 (dk_at dksX7_init_7 9 rfl rfl)
theorem dX7_init_173 : decode cX7_init 173 = .ok (.iastore, 1) := dk_79 (dk_at dksX7_init_7 11 rfl rfl)
theorem dX7_init_174 : decode cX7_init 174 = .ok (.aload_n 0, 1) := dk_42 (dk_at dksX7_init_7 12 rfl rfl)
theorem dX7_init_175 : decode cX7_init 175 = .ok (.getfield 15, 3) := dk_180 0 15 (dk_at dksX7_init_7 13 rfl rfl)
theorem dX7_init_178 : decode cX7_init 178 = .ok (.iload_n 1, 1) := dk_27 (dk_at dksX7_init_7 16 rfl rfl)
theorem dX7_init_179 : decode cX7_init 179 = .ok (.bipush 12, 2) := dk_16 12 (dk_at dksX7_init_7 17 rfl rfl)
theorem dX7_init_181 : decode cX7_init 181 = .ok (.imul, 1) := dk_104 (dk_at dksX7_init_7 19 rfl rfl)
theorem dX7_init_182 : decode cX7_init 182 = .ok (.bipush 6, 2) := dk_16 6 (dk_at dksX7_init_7 20 rfl rfl)
theorem dX7_init_184 : decode cX7_init 184 = .ok (.iadd, 1) := dk_96 (dk_at dksX7_init_7 22 rfl rfl)
theorem dX7_init_185 : decode cX7_init 185 = .ok (.sipush 1000, 3) := dk_17 3 232 (dk_at dksX7_init_8 0 rfl rfl)
theorem dX7_init_188 : decode cX7_init 188 = .ok (.iastore, 1) := dk_79 (dk_at dksX7_init_8 3 rfl rfl)
theorem dX7_init_189 : decode cX7_init 189 = .ok (.aload_n 0, 1) := dk_42 (dk_at dksX7_init_8 4 rfl rfl)
theorem dX7_init_190 : decode cX7_init 190 = .ok (.getfield 15, 3) := dk_180 0 15 (dk_at dksX7_init_8 5 rfl rfl)
theorem dX7_init_193 : decode cX7_init 193 = .ok (.iload_n 1, 1) := dk_27 (dk_at dksX7_init_8 8 rfl rfl)
theorem dX7_init_194 : decode cX7_init 194 = .ok (.bipush 12, 2) := dk_16 12 (dk_at dksX7_init_8 9 rfl rfl)
theorem dX7_init_196 : decode cX7_init 196 = .ok (.imul, 1) := dk_104 (dk_at dksX7_init_8 11 rfl rfl)
theorem dX7_init_197 : decode cX7_init 197 = .ok (.bipush 7, 2) := dk_16 7 (dk_at dksX7_init_8 12 rfl rfl)
theorem dX7_init_199 : decode cX7_init 199 = .ok (.iadd, 1) := dk_96 (dk_at dksX7_init_8 14 rfl rfl)
theorem dX7_init_200 : decode cX7_init 200 = .ok (.bipush 10, 2) := dk_16 10 (dk_at dksX7_init_8 15 rfl rfl)
theorem dX7_init_202 : decode cX7_init 202 = .ok (.iastore, 1) := dk_79 (dk_at dksX7_init_8 17 rfl rfl)
theorem dX7_init_203 : decode cX7_init 203 = .ok (.aload_n 0, 1) := dk_42 (dk_at dksX7_init_8 18 rfl rfl)
theorem dX7_init_204 : decode cX7_init 204 = .ok (.getfield 15, 3) := dk_180 0 15 (dk_at dksX7_init_8 19 rfl rfl)
theorem dX7_init_207 : decode cX7_init 207 = .ok (.iload_n 1, 1) := dk_27 (dk_at dksX7_init_8 22 rfl rfl)
theorem dX7_init_208 : decode cX7_init 208 = .ok (.bipush 12, 2) := dk_16 12 (dk_at dksX7_init_9 0 rfl rfl)
theorem dX7_init_210 : decode cX7_init 210 = .ok (.imul, 1) := dk_104 (dk_at dksX7_init_9 2 rfl rfl)
theorem dX7_init_211 : decode cX7_init 211 = .ok (.bipush 8, 2) := dk_16 8 (dk_at dksX7_init_9 3 rfl rfl)
theorem dX7_init_213 : decode cX7_init 213 = .ok (.iadd, 1) := dk_96 (dk_at dksX7_init_9 5 rfl rfl)
theorem dX7_init_214 : decode cX7_init 214 = .ok (.sipush 128, 3) := dk_17 0 128 (dk_at dksX7_init_9 6 rfl rfl)
theorem dX7_init_217 : decode cX7_init 217 = .ok (.iastore, 1) := dk_79 (dk_at dksX7_init_9 9 rfl rfl)
theorem dX7_init_218 : decode cX7_init 218 = .ok (.aload_n 0, 1) := dk_42 (dk_at dksX7_init_9 10 rfl rfl)
theorem dX7_init_219 : decode cX7_init 219 = .ok (.getfield 15, 3) := dk_180 0 15 (dk_at dksX7_init_9 11 rfl rfl)
theorem dX7_init_222 : decode cX7_init 222 = .ok (.iload_n 1, 1) := dk_27 (dk_at dksX7_init_9 14 rfl rfl)
theorem dX7_init_223 : decode cX7_init 223 = .ok (.bipush 12, 2) := dk_16 12 (dk_at dksX7_init_9 15 rfl rfl)
theorem dX7_init_225 : decode cX7_init 225 = .ok (.imul, 1) := dk_104 (dk_at dksX7_init_9 17 rfl rfl)
theorem dX7_init_226 : decode cX7_init 226 = .ok (.bipush 9, 2) := dk_16 9 (dk_at dksX7_init_9 18 rfl rfl)
theorem dX7_init_228 : decode cX7_init 228 = .ok (.iadd, 1) := dk_96 (dk_at dksX7_init_9 20 rfl rfl)
theorem dX7_init_229 : decode cX7_init 229 = .ok (.sipush 256, 3) := dk_17 1 0 (dk_at dksX7_init_9 21 rfl rfl)
theorem dX7_init_232 : decode cX7_init 232 = .ok (.iastore, 1) := dk_79 (dk_at dksX7_init_10 0 rfl rfl)
theorem dX7_init_233 : decode cX7_init 233 = .ok (.aload_n 0, 1) := dk_42 (dk_at dksX7_init_10 1 rfl rfl)
theorem dX7_init_234 : decode cX7_init 234 = .ok (.getfield 15, 3) := dk_180 0 15 (dk_at dksX7_init_10 2 rfl rfl)
theorem dX7_init_237 : decode cX7_init 237 = .ok (.iload_n 1, 1) := dk_27 (dk_at dksX7_init_10 5 rfl rfl)
theorem dX7_init_238 : decode cX7_init 238 = .ok (.bipush 12, 2) := dk_16 12 (dk_at dksX7_init_10 6 rfl rfl)
theorem dX7_init_240 : decode cX7_init 240 = .ok (.imul, 1) := dk_104 (dk_at dksX7_init_10 8 rfl rfl)
theorem dX7_init_241 : decode cX7_init 241 = .ok (.bipush 11, 2) := dk_16 11 (dk_at dksX7_init_10 9 rfl rfl)
theorem dX7_init_243 : decode cX7_init 243 = .ok (.iadd, 1) := dk_96 (dk_at dksX7_init_10 11 rfl rfl)
theorem dX7_init_244 : decode cX7_init 244 = .ok (.bipush 64, 2) := dk_16 64 (dk_at dksX7_init_10 12 rfl rfl)
theorem dX7_init_246 : decode cX7_init 246 = .ok (.iastore, 1) := dk_79 (dk_at dksX7_init_10 14 rfl rfl)
theorem dX7_init_247 : decode cX7_init 247 = .ok (.iinc 1 1, 3) := dk_132 1 1 (dk_at dksX7_init_10 15 rfl rfl)
theorem dX7_init_250 : decode cX7_init 250 = .ok (.goto (-107), 3) := dk_167 255 149 (dk_at dksX7_init_10 18 rfl rfl)
theorem dX7_init_253 : decode cX7_init 253 = .ok (.iconst 0, 1) := dk_3 (dk_at dksX7_init_10 21 rfl rfl)
theorem dX7_init_254 : decode cX7_init 254 = .ok (.istore_n 1, 1) := dk_60 (dk_at dksX7_init_10 22 rfl rfl)
theorem dX7_init_255 : decode cX7_init 255 = .ok (.iload_n 1, 1) := dk_27 (dk_at dksX7_init_10 23 rfl rfl)
theorem dX7_init_256 : decode cX7_init 256 = .ok (.iconst 4, 1) := dk_7 (dk_at dksX7_init_11 0 rfl rfl)
theorem dX7_init_257 : decode cX7_init 257 = .ok (.if_icmp .ge 16, 3) := dk_162 0 16 (dk_at dksX7_init_11 1 rfl rfl)
theorem dX7_init_260 : decode cX7_init 260 = .ok (.aload_n 0, 1) := dk_42 (dk_at dksX7_init_11 4 rfl rfl)
theorem dX7_init_261 : decode cX7_init 261 = .ok (.getfield 45, 3) := dk_180 0 45 (dk_at dksX7_init_11 5 rfl rfl)
theorem dX7_init_264 : decode cX7_init 264 = .ok (.iload_n 1, 1) := dk_27 (dk_at dksX7_init_11 8 rfl rfl)
theorem dX7_init_265 : decode cX7_init 265 = .ok (.iconst (-1), 1) := dk_2 (dk_at dksX7_init_11 9 rfl rfl)
theorem dX7_init_266 : decode cX7_init 266 = .ok (.iastore, 1) := dk_79 (dk_at dksX7_init_11 10 rfl rfl)
theorem dX7_init_267 : decode cX7_init 267 = .ok (.iinc 1 1, 3) := dk_132 1 1 (dk_at dksX7_init_11 11 rfl rfl)
theorem dX7_init_270 : decode cX7_init 270 = .ok (.goto (-15), 3) := dk_167 255 241 (dk_at dksX7_init_11 14 rfl rfl)
theorem dX7_init_273 : decode cX7_init 273 = .ok (.iconst 0, 1) := dk_3 (dk_at dksX7_init_11 17 rfl rfl)
theorem dX7_init_274 : decode cX7_init 274 = .ok (.istore_n 1, 1) := dk_60 (dk_at dksX7_init_11 18 rfl rfl)
theorem dX7_init_275 : decode cX7_init 275 = .ok (.iload_n 1, 1) := dk_27 (dk_at dksX7_init_11 19 rfl rfl)
theorem dX7_init_276 : decode cX7_init 276 = .ok (.aload_n 0, 1) := dk_42 (dk_at dksX7_init_11 20 rfl rfl)
theorem dX7_init_277 : decode cX7_init 277 = .ok (.getfield 61, 3) := dk_180 0 61 (dk_at dksX7_init_11 21 rfl rfl)
theorem dX7_init_280 : decode cX7_init 280 = .ok (.arraylength, 1) := dk_190 (dk_at dksX7_init_12 0 rfl rfl)
theorem dX7_init_281 : decode cX7_init 281 = .ok (.if_icmp .ge 16, 3) := dk_162 0 16 (dk_at dksX7_init_12 1 rfl rfl)
theorem dX7_init_284 : decode cX7_init 284 = .ok (.aload_n 0, 1) := dk_42 (dk_at dksX7_init_12 4 rfl rfl)
theorem dX7_init_285 : decode cX7_init 285 = .ok (.getfield 61, 3) := dk_180 0 61 (dk_at dksX7_init_12 5 rfl rfl)
theorem dX7_init_288 : decode cX7_init 288 = .ok (.iload_n 1, 1) := dk_27 (dk_at dksX7_init_12 8 rfl rfl)
theorem dX7_init_289 : decode cX7_init 289 = .ok (.iconst (-1), 1) := dk_2 (dk_at dksX7_init_12 9 rfl rfl)
theorem dX7_init_290 : decode cX7_init 290 = .ok (.iastore, 1) := dk_79 (dk_at dksX7_init_12 10 rfl rfl)
theorem dX7_init_291 : decode cX7_init 291 = .ok (.iinc 1 3, 3) := dk_132 1 3 (dk_at dksX7_init_12 11 rfl rfl)
theorem dX7_init_294 : decode cX7_init 294 = .ok (.goto (-19), 3) := dk_167 255 237 (dk_at dksX7_init_12 14 rfl rfl)
theorem dX7_init_297 : decode cX7_init 297 = .ok (.return_, 1) := dk_177 (dk_at dksX7_init_12 17 rfl rfl)
abbrev cX7_wave : ByteArray := prog_8_method_4_code
def yX7_wave : MethodName := ⟨RX7, "wave", "(II)I"⟩
def dkwX7_wave_1 : List UInt8 := [182, 0, 109, 54, 5, 21, 4, 21, 5, 21, 4, 100, 28, 17, 8, 0, 112, 104, 17, 8, 0, 108, 96, 172]
abbrev dktX7_wave_1 : List UInt8 := dkwX7_wave_1 ++ []
def dkwX7_wave_0 : List UInt8 := [28, 17, 8, 0, 108, 62, 42, 27, 29, 182, 0, 109, 54, 4, 42, 27, 29, 4, 96, 16, 32, 112]
abbrev dktX7_wave_0 : List UInt8 := dkwX7_wave_0 ++ dktX7_wave_1
theorem dksX7_wave_0 : cX7_wave.data.toList.drop 0 = dktX7_wave_0 := by decide +kernel
theorem dksX7_wave_1 : cX7_wave.data.toList.drop 22 = dktX7_wave_1 := dk_seg dksX7_wave_0 22 rfl rfl
theorem dX7_wave_0 : decode cX7_wave 0 = .ok (.iload_n 2, 1) := dk_28 (dk_at dksX7_wave_0 0 rfl rfl)
theorem dX7_wave_1 : decode cX7_wave 1 = .ok (.sipush 2048, 3) := dk_17 8 0 (dk_at dksX7_wave_0 1 rfl rfl)
theorem dX7_wave_4 : decode cX7_wave 4 = .ok (.idiv, 1) := dk_108 (dk_at dksX7_wave_0 4 rfl rfl)
theorem dX7_wave_5 : decode cX7_wave 5 = .ok (.istore_n 3, 1) := dk_62 (dk_at dksX7_wave_0 5 rfl rfl)
theorem dX7_wave_6 : decode cX7_wave 6 = .ok (.aload_n 0, 1) := dk_42 (dk_at dksX7_wave_0 6 rfl rfl)
theorem dX7_wave_7 : decode cX7_wave 7 = .ok (.iload_n 1, 1) := dk_27 (dk_at dksX7_wave_0 7 rfl rfl)
theorem dX7_wave_8 : decode cX7_wave 8 = .ok (.iload_n 3, 1) := dk_29 (dk_at dksX7_wave_0 8 rfl rfl)
theorem dX7_wave_9 : decode cX7_wave 9 = .ok (.invokevirtual 109, 3) := dk_182 0 109 (dk_at dksX7_wave_0 9 rfl rfl)
theorem dX7_wave_12 : decode cX7_wave 12 = .ok (.istore 4, 2) := dk_54 4 (dk_at dksX7_wave_0 12 rfl rfl)
theorem dX7_wave_14 : decode cX7_wave 14 = .ok (.aload_n 0, 1) := dk_42 (dk_at dksX7_wave_0 14 rfl rfl)
theorem dX7_wave_15 : decode cX7_wave 15 = .ok (.iload_n 1, 1) := dk_27 (dk_at dksX7_wave_0 15 rfl rfl)
theorem dX7_wave_16 : decode cX7_wave 16 = .ok (.iload_n 3, 1) := dk_29 (dk_at dksX7_wave_0 16 rfl rfl)
theorem dX7_wave_17 : decode cX7_wave 17 = .ok (.iconst 1, 1) := dk_4 (dk_at dksX7_wave_0 17 rfl rfl)
theorem dX7_wave_18 : decode cX7_wave 18 = .ok (.iadd, 1) := dk_96 (dk_at dksX7_wave_0 18 rfl rfl)
theorem dX7_wave_19 : decode cX7_wave 19 = .ok (.bipush 32, 2) := dk_16 32 (dk_at dksX7_wave_0 19 rfl rfl)
theorem dX7_wave_21 : decode cX7_wave 21 = .ok (.irem, 1) := dk_112 (dk_at dksX7_wave_0 21 rfl rfl)
theorem dX7_wave_22 : decode cX7_wave 22 = .ok (.invokevirtual 109, 3) := dk_182 0 109 (dk_at dksX7_wave_1 0 rfl rfl)
theorem dX7_wave_25 : decode cX7_wave 25 = .ok (.istore 5, 2) := dk_54 5 (dk_at dksX7_wave_1 3 rfl rfl)
theorem dX7_wave_27 : decode cX7_wave 27 = .ok (.iload 4, 2) := dk_21 4 (dk_at dksX7_wave_1 5 rfl rfl)
theorem dX7_wave_29 : decode cX7_wave 29 = .ok (.iload 5, 2) := dk_21 5 (dk_at dksX7_wave_1 7 rfl rfl)
theorem dX7_wave_31 : decode cX7_wave 31 = .ok (.iload 4, 2) := dk_21 4 (dk_at dksX7_wave_1 9 rfl rfl)
theorem dX7_wave_33 : decode cX7_wave 33 = .ok (.isub, 1) := dk_100 (dk_at dksX7_wave_1 11 rfl rfl)
theorem dX7_wave_34 : decode cX7_wave 34 = .ok (.iload_n 2, 1) := dk_28 (dk_at dksX7_wave_1 12 rfl rfl)
theorem dX7_wave_35 : decode cX7_wave 35 = .ok (.sipush 2048, 3) := dk_17 8 0 (dk_at dksX7_wave_1 13 rfl rfl)
theorem dX7_wave_38 : decode cX7_wave 38 = .ok (.irem, 1) := dk_112 (dk_at dksX7_wave_1 16 rfl rfl)
theorem dX7_wave_39 : decode cX7_wave 39 = .ok (.imul, 1) := dk_104 (dk_at dksX7_wave_1 17 rfl rfl)
theorem dX7_wave_40 : decode cX7_wave 40 = .ok (.sipush 2048, 3) := dk_17 8 0 (dk_at dksX7_wave_1 18 rfl rfl)
theorem dX7_wave_43 : decode cX7_wave 43 = .ok (.idiv, 1) := dk_108 (dk_at dksX7_wave_1 21 rfl rfl)
theorem dX7_wave_44 : decode cX7_wave 44 = .ok (.iadd, 1) := dk_96 (dk_at dksX7_wave_1 22 rfl rfl)
theorem dX7_wave_45 : decode cX7_wave 45 = .ok (.ireturn, 1) := dk_172 (dk_at dksX7_wave_1 23 rfl rfl)
abbrev cX7_value : ByteArray := prog_8_method_3_code
def yX7_value : MethodName := ⟨RX7, "value", "(II)I"⟩
def dkwX7_value_4 : List UInt8 := [16, 16, 100, 104, 100, 172, 42, 180, 0, 9, 28, 46, 172]
abbrev dktX7_value_4 : List UInt8 := dkwX7_value_4 ++ []
def dkwX7_value_3 : List UInt8 := [172, 28, 16, 16, 162, 0, 14, 17, 252, 24, 16, 125, 28, 104, 96, 167, 0, 14, 17, 3, 232, 16, 125, 28]
abbrev dktX7_value_3 : List UInt8 := dkwX7_value_3 ++ dktX7_value_4
def dkwX7_value_2 : List UInt8 := [17, 252, 32, 16, 64, 28, 104, 96, 172, 28, 16, 16, 162, 0, 9, 17, 3, 232, 167, 0, 6, 17, 252, 24]
abbrev dktX7_value_2 : List UInt8 := dkwX7_value_2 ++ dktX7_value_3
def dkwX7_value_1 : List UInt8 := [170, 0, 0, 0, 0, 0, 81, 0, 0, 0, 0, 0, 0, 0, 2, 0, 0, 0, 27, 0, 0, 0, 36, 0, 0, 0, 52]
abbrev dktX7_value_1 : List UInt8 := dkwX7_value_1 ++ dktX7_value_2
def dkwX7_value_0 : List UInt8 := [27]
abbrev dktX7_value_0 : List UInt8 := dkwX7_value_0 ++ dktX7_value_1
theorem dksX7_value_0 : cX7_value.data.toList.drop 0 = dktX7_value_0 := by decide +kernel
theorem dksX7_value_1 : cX7_value.data.toList.drop 1 = dktX7_value_1 := dk_seg dksX7_value_0 1 rfl rfl
theorem dksX7_value_2 : cX7_value.data.toList.drop 28 = dktX7_value_2 := dk_seg dksX7_value_1 27 rfl rfl
theorem dksX7_value_3 : cX7_value.data.toList.drop 52 = dktX7_value_3 := dk_seg dksX7_value_2 24 rfl rfl
theorem dksX7_value_4 : cX7_value.data.toList.drop 76 = dktX7_value_4 := dk_seg dksX7_value_3 24 rfl rfl
theorem dX7_value_0 : decode cX7_value 0 = .ok (.iload_n 1, 1) := dk_27 (dk_at dksX7_value_0 0 rfl rfl)
theorem dX7_value_1 : decode cX7_value 1 = .ok (.tableswitch 81 0 2 #[27, 36, 52], 27) := by decide +kernel
theorem dX7_value_28 : decode cX7_value 28 = .ok (.sipush (-992), 3) := dk_17 252 32 (dk_at dksX7_value_2 0 rfl rfl)
theorem dX7_value_31 : decode cX7_value 31 = .ok (.bipush 64, 2) := dk_16 64 (dk_at dksX7_value_2 3 rfl rfl)
theorem dX7_value_33 : decode cX7_value 33 = .ok (.iload_n 2, 1) := dk_28 (dk_at dksX7_value_2 5 rfl rfl)
theorem dX7_value_34 : decode cX7_value 34 = .ok (.imul, 1) := dk_104 (dk_at dksX7_value_2 6 rfl rfl)
theorem dX7_value_35 : decode cX7_value 35 = .ok (.iadd, 1) := dk_96 (dk_at dksX7_value_2 7 rfl rfl)
theorem dX7_value_36 : decode cX7_value 36 = .ok (.ireturn, 1) := dk_172 (dk_at dksX7_value_2 8 rfl rfl)
theorem dX7_value_37 : decode cX7_value 37 = .ok (.iload_n 2, 1) := dk_28 (dk_at dksX7_value_2 9 rfl rfl)
theorem dX7_value_38 : decode cX7_value 38 = .ok (.bipush 16, 2) := dk_16 16 (dk_at dksX7_value_2 10 rfl rfl)
theorem dX7_value_40 : decode cX7_value 40 = .ok (.if_icmp .ge 9, 3) := dk_162 0 9 (dk_at dksX7_value_2 12 rfl rfl)
theorem dX7_value_43 : decode cX7_value 43 = .ok (.sipush 1000, 3) := dk_17 3 232 (dk_at dksX7_value_2 15 rfl rfl)
theorem dX7_value_46 : decode cX7_value 46 = .ok (.goto 6, 3) := dk_167 0 6 (dk_at dksX7_value_2 18 rfl rfl)
theorem dX7_value_49 : decode cX7_value 49 = .ok (.sipush (-1000), 3) := dk_17 252 24 (dk_at dksX7_value_2 21 rfl rfl)
theorem dX7_value_52 : decode cX7_value 52 = .ok (.ireturn, 1) := dk_172 (dk_at dksX7_value_3 0 rfl rfl)
theorem dX7_value_53 : decode cX7_value 53 = .ok (.iload_n 2, 1) := dk_28 (dk_at dksX7_value_3 1 rfl rfl)
theorem dX7_value_54 : decode cX7_value 54 = .ok (.bipush 16, 2) := dk_16 16 (dk_at dksX7_value_3 2 rfl rfl)
theorem dX7_value_56 : decode cX7_value 56 = .ok (.if_icmp .ge 14, 3) := dk_162 0 14 (dk_at dksX7_value_3 4 rfl rfl)
theorem dX7_value_59 : decode cX7_value 59 = .ok (.sipush (-1000), 3) := dk_17 252 24 (dk_at dksX7_value_3 7 rfl rfl)
theorem dX7_value_62 : decode cX7_value 62 = .ok (.bipush 125, 2) := dk_16 125 (dk_at dksX7_value_3 10 rfl rfl)
theorem dX7_value_64 : decode cX7_value 64 = .ok (.iload_n 2, 1) := dk_28 (dk_at dksX7_value_3 12 rfl rfl)
theorem dX7_value_65 : decode cX7_value 65 = .ok (.imul, 1) := dk_104 (dk_at dksX7_value_3 13 rfl rfl)
theorem dX7_value_66 : decode cX7_value 66 = .ok (.iadd, 1) := dk_96 (dk_at dksX7_value_3 14 rfl rfl)
theorem dX7_value_67 : decode cX7_value 67 = .ok (.goto 14, 3) := dk_167 0 14 (dk_at dksX7_value_3 15 rfl rfl)
theorem dX7_value_70 : decode cX7_value 70 = .ok (.sipush 1000, 3) := dk_17 3 232 (dk_at dksX7_value_3 18 rfl rfl)
theorem dX7_value_73 : decode cX7_value 73 = .ok (.bipush 125, 2) := dk_16 125 (dk_at dksX7_value_3 21 rfl rfl)
theorem dX7_value_75 : decode cX7_value 75 = .ok (.iload_n 2, 1) := dk_28 (dk_at dksX7_value_3 23 rfl rfl)
theorem dX7_value_76 : decode cX7_value 76 = .ok (.bipush 16, 2) := dk_16 16 (dk_at dksX7_value_4 0 rfl rfl)
theorem dX7_value_78 : decode cX7_value 78 = .ok (.isub, 1) := dk_100 (dk_at dksX7_value_4 2 rfl rfl)
theorem dX7_value_79 : decode cX7_value 79 = .ok (.imul, 1) := dk_104 (dk_at dksX7_value_4 3 rfl rfl)
theorem dX7_value_80 : decode cX7_value 80 = .ok (.isub, 1) := dk_100 (dk_at dksX7_value_4 4 rfl rfl)
theorem dX7_value_81 : decode cX7_value 81 = .ok (.ireturn, 1) := dk_172 (dk_at dksX7_value_4 5 rfl rfl)
theorem dX7_value_82 : decode cX7_value 82 = .ok (.aload_n 0, 1) := dk_42 (dk_at dksX7_value_4 6 rfl rfl)
theorem dX7_value_83 : decode cX7_value 83 = .ok (.getfield 9, 3) := dk_180 0 9 (dk_at dksX7_value_4 7 rfl rfl)
theorem dX7_value_86 : decode cX7_value 86 = .ok (.iload_n 2, 1) := dk_28 (dk_at dksX7_value_4 10 rfl rfl)
theorem dX7_value_87 : decode cX7_value 87 = .ok (.iaload, 1) := dk_46 (dk_at dksX7_value_4 11 rfl rfl)
theorem dX7_value_88 : decode cX7_value 88 = .ok (.ireturn, 1) := dk_172 (dk_at dksX7_value_4 12 rfl rfl)
abbrev cX7_stride : ByteArray := prog_8_method_5_code
def yX7_stride : MethodName := ⟨RX7, "stride", "(I)I"⟩
def dkwX7_stride_3 : List UInt8 := [17, 1, 200, 79, 89, 16, 11, 17, 1, 227, 79, 76, 43, 26, 16, 12, 112, 46, 26, 16, 12, 108, 120, 172]
abbrev dktX7_stride_3 : List UInt8 := dkwX7_stride_3 ++ []
def dkwX7_stride_2 : List UInt8 := [16, 7, 17, 1, 128, 79, 89, 16, 8, 17, 1, 150, 79, 89, 16, 9, 17, 1, 175, 79, 89, 16, 10]
abbrev dktX7_stride_2 : List UInt8 := dkwX7_stride_2 ++ dktX7_stride_3
def dkwX7_stride_1 : List UInt8 := [17, 1, 48, 79, 89, 7, 17, 1, 67, 79, 89, 8, 17, 1, 86, 79, 89, 16, 6, 17, 1, 106, 79, 89]
abbrev dktX7_stride_1 : List UInt8 := dkwX7_stride_1 ++ dktX7_stride_2
def dkwX7_stride_0 : List UInt8 := [16, 12, 188, 10, 89, 3, 17, 1, 0, 79, 89, 4, 17, 1, 15, 79, 89, 5, 17, 1, 31, 79, 89, 6]
abbrev dktX7_stride_0 : List UInt8 := dkwX7_stride_0 ++ dktX7_stride_1
theorem dksX7_stride_0 : cX7_stride.data.toList.drop 0 = dktX7_stride_0 := by decide +kernel
theorem dksX7_stride_1 : cX7_stride.data.toList.drop 24 = dktX7_stride_1 := dk_seg dksX7_stride_0 24 rfl rfl
theorem dksX7_stride_2 : cX7_stride.data.toList.drop 48 = dktX7_stride_2 := dk_seg dksX7_stride_1 24 rfl rfl
theorem dksX7_stride_3 : cX7_stride.data.toList.drop 71 = dktX7_stride_3 := dk_seg dksX7_stride_2 23 rfl rfl
theorem dX7_stride_0 : decode cX7_stride 0 = .ok (.bipush 12, 2) := dk_16 12 (dk_at dksX7_stride_0 0 rfl rfl)
theorem dX7_stride_2 : decode cX7_stride 2 = .ok (.newarray .int, 2) := dk_188_10 (dk_at dksX7_stride_0 2 rfl rfl)
theorem dX7_stride_4 : decode cX7_stride 4 = .ok (.dup, 1) := dk_89 (dk_at dksX7_stride_0 4 rfl rfl)
theorem dX7_stride_5 : decode cX7_stride 5 = .ok (.iconst 0, 1) := dk_3 (dk_at dksX7_stride_0 5 rfl rfl)
theorem dX7_stride_6 : decode cX7_stride 6 = .ok (.sipush 256, 3) := dk_17 1 0 (dk_at dksX7_stride_0 6 rfl rfl)
theorem dX7_stride_9 : decode cX7_stride 9 = .ok (.iastore, 1) := dk_79 (dk_at dksX7_stride_0 9 rfl rfl)
theorem dX7_stride_10 : decode cX7_stride 10 = .ok (.dup, 1) := dk_89 (dk_at dksX7_stride_0 10 rfl rfl)
theorem dX7_stride_11 : decode cX7_stride 11 = .ok (.iconst 1, 1) := dk_4 (dk_at dksX7_stride_0 11 rfl rfl)
theorem dX7_stride_12 : decode cX7_stride 12 = .ok (.sipush 271, 3) := dk_17 1 15 (dk_at dksX7_stride_0 12 rfl rfl)
theorem dX7_stride_15 : decode cX7_stride 15 = .ok (.iastore, 1) := dk_79 (dk_at dksX7_stride_0 15 rfl rfl)
theorem dX7_stride_16 : decode cX7_stride 16 = .ok (.dup, 1) := dk_89 (dk_at dksX7_stride_0 16 rfl rfl)
theorem dX7_stride_17 : decode cX7_stride 17 = .ok (.iconst 2, 1) := dk_5 (dk_at dksX7_stride_0 17 rfl rfl)
theorem dX7_stride_18 : decode cX7_stride 18 = .ok (.sipush 287, 3) := dk_17 1 31 (dk_at dksX7_stride_0 18 rfl rfl)
theorem dX7_stride_21 : decode cX7_stride 21 = .ok (.iastore, 1) := dk_79 (dk_at dksX7_stride_0 21 rfl rfl)
theorem dX7_stride_22 : decode cX7_stride 22 = .ok (.dup, 1) := dk_89 (dk_at dksX7_stride_0 22 rfl rfl)
theorem dX7_stride_23 : decode cX7_stride 23 = .ok (.iconst 3, 1) := dk_6 (dk_at dksX7_stride_0 23 rfl rfl)
theorem dX7_stride_24 : decode cX7_stride 24 = .ok (.sipush 304, 3) := dk_17 1 48 (dk_at dksX7_stride_1 0 rfl rfl)
theorem dX7_stride_27 : decode cX7_stride 27 = .ok (.iastore, 1) := dk_79 (dk_at dksX7_stride_1 3 rfl rfl)
theorem dX7_stride_28 : decode cX7_stride 28 = .ok (.dup, 1) := dk_89 (dk_at dksX7_stride_1 4 rfl rfl)
theorem dX7_stride_29 : decode cX7_stride 29 = .ok (.iconst 4, 1) := dk_7 (dk_at dksX7_stride_1 5 rfl rfl)
theorem dX7_stride_30 : decode cX7_stride 30 = .ok (.sipush 323, 3) := dk_17 1 67 (dk_at dksX7_stride_1 6 rfl rfl)
theorem dX7_stride_33 : decode cX7_stride 33 = .ok (.iastore, 1) := dk_79 (dk_at dksX7_stride_1 9 rfl rfl)
theorem dX7_stride_34 : decode cX7_stride 34 = .ok (.dup, 1) := dk_89 (dk_at dksX7_stride_1 10 rfl rfl)
theorem dX7_stride_35 : decode cX7_stride 35 = .ok (.iconst 5, 1) := dk_8 (dk_at dksX7_stride_1 11 rfl rfl)
theorem dX7_stride_36 : decode cX7_stride 36 = .ok (.sipush 342, 3) := dk_17 1 86 (dk_at dksX7_stride_1 12 rfl rfl)
theorem dX7_stride_39 : decode cX7_stride 39 = .ok (.iastore, 1) := dk_79 (dk_at dksX7_stride_1 15 rfl rfl)
theorem dX7_stride_40 : decode cX7_stride 40 = .ok (.dup, 1) := dk_89 (dk_at dksX7_stride_1 16 rfl rfl)
theorem dX7_stride_41 : decode cX7_stride 41 = .ok (.bipush 6, 2) := dk_16 6 (dk_at dksX7_stride_1 17 rfl rfl)
theorem dX7_stride_43 : decode cX7_stride 43 = .ok (.sipush 362, 3) := dk_17 1 106 (dk_at dksX7_stride_1 19 rfl rfl)
theorem dX7_stride_46 : decode cX7_stride 46 = .ok (.iastore, 1) := dk_79 (dk_at dksX7_stride_1 22 rfl rfl)
theorem dX7_stride_47 : decode cX7_stride 47 = .ok (.dup, 1) := dk_89 (dk_at dksX7_stride_1 23 rfl rfl)
theorem dX7_stride_48 : decode cX7_stride 48 = .ok (.bipush 7, 2) := dk_16 7 (dk_at dksX7_stride_2 0 rfl rfl)
theorem dX7_stride_50 : decode cX7_stride 50 = .ok (.sipush 384, 3) := dk_17 1 128 (dk_at dksX7_stride_2 2 rfl rfl)
theorem dX7_stride_53 : decode cX7_stride 53 = .ok (.iastore, 1) := dk_79 (dk_at dksX7_stride_2 5 rfl rfl)
theorem dX7_stride_54 : decode cX7_stride 54 = .ok (.dup, 1) := dk_89 (dk_at dksX7_stride_2 6 rfl rfl)
theorem dX7_stride_55 : decode cX7_stride 55 = .ok (.bipush 8, 2) := dk_16 8 (dk_at dksX7_stride_2 7 rfl rfl)
theorem dX7_stride_57 : decode cX7_stride 57 = .ok (.sipush 406, 3) := dk_17 1 150 (dk_at dksX7_stride_2 9 rfl rfl)
theorem dX7_stride_60 : decode cX7_stride 60 = .ok (.iastore, 1) := dk_79 (dk_at dksX7_stride_2 12 rfl rfl)
theorem dX7_stride_61 : decode cX7_stride 61 = .ok (.dup, 1) := dk_89 (dk_at dksX7_stride_2 13 rfl rfl)
theorem dX7_stride_62 : decode cX7_stride 62 = .ok (.bipush 9, 2) := dk_16 9 (dk_at dksX7_stride_2 14 rfl rfl)
theorem dX7_stride_64 : decode cX7_stride 64 = .ok (.sipush 431, 3) := dk_17 1 175 (dk_at dksX7_stride_2 16 rfl rfl)
theorem dX7_stride_67 : decode cX7_stride 67 = .ok (.iastore, 1) := dk_79 (dk_at dksX7_stride_2 19 rfl rfl)
theorem dX7_stride_68 : decode cX7_stride 68 = .ok (.dup, 1) := dk_89 (dk_at dksX7_stride_2 20 rfl rfl)
theorem dX7_stride_69 : decode cX7_stride 69 = .ok (.bipush 10, 2) := dk_16 10 (dk_at dksX7_stride_2 21 rfl rfl)
theorem dX7_stride_71 : decode cX7_stride 71 = .ok (.sipush 456, 3) := dk_17 1 200 (dk_at dksX7_stride_3 0 rfl rfl)
theorem dX7_stride_74 : decode cX7_stride 74 = .ok (.iastore, 1) := dk_79 (dk_at dksX7_stride_3 3 rfl rfl)
theorem dX7_stride_75 : decode cX7_stride 75 = .ok (.dup, 1) := dk_89 (dk_at dksX7_stride_3 4 rfl rfl)
theorem dX7_stride_76 : decode cX7_stride 76 = .ok (.bipush 11, 2) := dk_16 11 (dk_at dksX7_stride_3 5 rfl rfl)
theorem dX7_stride_78 : decode cX7_stride 78 = .ok (.sipush 483, 3) := dk_17 1 227 (dk_at dksX7_stride_3 7 rfl rfl)
theorem dX7_stride_81 : decode cX7_stride 81 = .ok (.iastore, 1) := dk_79 (dk_at dksX7_stride_3 10 rfl rfl)
theorem dX7_stride_82 : decode cX7_stride 82 = .ok (.astore_n 1, 1) := dk_76 (dk_at dksX7_stride_3 11 rfl rfl)
theorem dX7_stride_83 : decode cX7_stride 83 = .ok (.aload_n 1, 1) := dk_43 (dk_at dksX7_stride_3 12 rfl rfl)
theorem dX7_stride_84 : decode cX7_stride 84 = .ok (.iload_n 0, 1) := dk_26 (dk_at dksX7_stride_3 13 rfl rfl)
theorem dX7_stride_85 : decode cX7_stride 85 = .ok (.bipush 12, 2) := dk_16 12 (dk_at dksX7_stride_3 14 rfl rfl)
theorem dX7_stride_87 : decode cX7_stride 87 = .ok (.irem, 1) := dk_112 (dk_at dksX7_stride_3 16 rfl rfl)
theorem dX7_stride_88 : decode cX7_stride 88 = .ok (.iaload, 1) := dk_46 (dk_at dksX7_stride_3 17 rfl rfl)
theorem dX7_stride_89 : decode cX7_stride 89 = .ok (.iload_n 0, 1) := dk_26 (dk_at dksX7_stride_3 18 rfl rfl)
theorem dX7_stride_90 : decode cX7_stride 90 = .ok (.bipush 12, 2) := dk_16 12 (dk_at dksX7_stride_3 19 rfl rfl)
theorem dX7_stride_92 : decode cX7_stride 92 = .ok (.idiv, 1) := dk_108 (dk_at dksX7_stride_3 21 rfl rfl)
theorem dX7_stride_93 : decode cX7_stride 93 = .ok (.ishl, 1) := dk_120 (dk_at dksX7_stride_3 22 rfl rfl)
theorem dX7_stride_94 : decode cX7_stride 94 = .ok (.ireturn, 1) := dk_172 (dk_at dksX7_stride_3 23 rfl rfl)
abbrev cX7_begin : ByteArray := prog_8_method_7_code
def yX7_begin : MethodName := ⟨RX7, "begin", "(IIII)I"⟩
def dkwX7_begin_5 : List UInt8 := [181, 0, 75, 79, 21, 5, 172]
abbrev dktX7_begin_5 : List UInt8 := dkwX7_begin_5 ++ []
def dkwX7_begin_4 : List UInt8 := [42, 180, 0, 45, 21, 5, 21, 4, 79, 42, 180, 0, 48, 21, 5, 42, 89, 180, 0, 75, 90, 4, 96]
abbrev dktX7_begin_4 : List UInt8 := dkwX7_begin_4 ++ dktX7_begin_5
def dkwX7_begin_3 : List UInt8 := [42, 180, 0, 36, 21, 5, 3, 79, 42, 180, 0, 39, 21, 5, 3, 79, 42, 180, 0, 42, 21, 5, 3, 79]
abbrev dktX7_begin_3 : List UInt8 := dkwX7_begin_3 ++ dktX7_begin_4
def dkwX7_begin_2 : List UInt8 := [42, 180, 0, 27, 21, 5, 28, 79, 42, 180, 0, 30, 21, 5, 29, 79, 42, 180, 0, 33, 21, 5, 3, 79]
abbrev dktX7_begin_2 : List UInt8 := dkwX7_begin_2 ++ dktX7_begin_3
def dkwX7_begin_1 : List UInt8 := [167, 0, 4, 4, 96, 181, 0, 78, 42, 180, 0, 18, 21, 5, 4, 79, 42, 180, 0, 24, 21, 5, 27, 79]
abbrev dktX7_begin_1 : List UInt8 := dkwX7_begin_1 ++ dktX7_begin_2
def dkwX7_begin_0 : List UInt8 := [42, 182, 0, 113, 54, 5, 42, 89, 180, 0, 78, 42, 180, 0, 18, 21, 5, 46, 154, 0, 7, 3]
abbrev dktX7_begin_0 : List UInt8 := dkwX7_begin_0 ++ dktX7_begin_1
theorem dksX7_begin_0 : cX7_begin.data.toList.drop 0 = dktX7_begin_0 := by decide +kernel
theorem dksX7_begin_1 : cX7_begin.data.toList.drop 22 = dktX7_begin_1 := dk_seg dksX7_begin_0 22 rfl rfl
theorem dksX7_begin_2 : cX7_begin.data.toList.drop 46 = dktX7_begin_2 := dk_seg dksX7_begin_1 24 rfl rfl
theorem dksX7_begin_3 : cX7_begin.data.toList.drop 70 = dktX7_begin_3 := dk_seg dksX7_begin_2 24 rfl rfl
theorem dksX7_begin_4 : cX7_begin.data.toList.drop 94 = dktX7_begin_4 := dk_seg dksX7_begin_3 24 rfl rfl
theorem dksX7_begin_5 : cX7_begin.data.toList.drop 117 = dktX7_begin_5 := dk_seg dksX7_begin_4 23 rfl rfl
theorem dX7_begin_0 : decode cX7_begin 0 = .ok (.aload_n 0, 1) := dk_42 (dk_at dksX7_begin_0 0 rfl rfl)
theorem dX7_begin_1 : decode cX7_begin 1 = .ok (.invokevirtual 113, 3) := dk_182 0 113 (dk_at dksX7_begin_0 1 rfl rfl)
theorem dX7_begin_4 : decode cX7_begin 4 = .ok (.istore 5, 2) := dk_54 5 (dk_at dksX7_begin_0 4 rfl rfl)
theorem dX7_begin_6 : decode cX7_begin 6 = .ok (.aload_n 0, 1) := dk_42 (dk_at dksX7_begin_0 6 rfl rfl)
theorem dX7_begin_7 : decode cX7_begin 7 = .ok (.dup, 1) := dk_89 (dk_at dksX7_begin_0 7 rfl rfl)
theorem dX7_begin_8 : decode cX7_begin 8 = .ok (.getfield 78, 3) := dk_180 0 78 (dk_at dksX7_begin_0 8 rfl rfl)
theorem dX7_begin_11 : decode cX7_begin 11 = .ok (.aload_n 0, 1) := dk_42 (dk_at dksX7_begin_0 11 rfl rfl)
theorem dX7_begin_12 : decode cX7_begin 12 = .ok (.getfield 18, 3) := dk_180 0 18 (dk_at dksX7_begin_0 12 rfl rfl)
theorem dX7_begin_15 : decode cX7_begin 15 = .ok (.iload 5, 2) := dk_21 5 (dk_at dksX7_begin_0 15 rfl rfl)
theorem dX7_begin_17 : decode cX7_begin 17 = .ok (.iaload, 1) := dk_46 (dk_at dksX7_begin_0 17 rfl rfl)
theorem dX7_begin_18 : decode cX7_begin 18 = .ok (.ifCond .ne 7, 3) := dk_154 0 7 (dk_at dksX7_begin_0 18 rfl rfl)
theorem dX7_begin_21 : decode cX7_begin 21 = .ok (.iconst 0, 1) := dk_3 (dk_at dksX7_begin_0 21 rfl rfl)
theorem dX7_begin_22 : decode cX7_begin 22 = .ok (.goto 4, 3) := dk_167 0 4 (dk_at dksX7_begin_1 0 rfl rfl)
theorem dX7_begin_25 : decode cX7_begin 25 = .ok (.iconst 1, 1) := dk_4 (dk_at dksX7_begin_1 3 rfl rfl)
theorem dX7_begin_26 : decode cX7_begin 26 = .ok (.iadd, 1) := dk_96 (dk_at dksX7_begin_1 4 rfl rfl)
theorem dX7_begin_27 : decode cX7_begin 27 = .ok (.putfield 78, 3) := dk_181 0 78 (dk_at dksX7_begin_1 5 rfl rfl)
theorem dX7_begin_30 : decode cX7_begin 30 = .ok (.aload_n 0, 1) := dk_42 (dk_at dksX7_begin_1 8 rfl rfl)
theorem dX7_begin_31 : decode cX7_begin 31 = .ok (.getfield 18, 3) := dk_180 0 18 (dk_at dksX7_begin_1 9 rfl rfl)
theorem dX7_begin_34 : decode cX7_begin 34 = .ok (.iload 5, 2) := dk_21 5 (dk_at dksX7_begin_1 12 rfl rfl)
theorem dX7_begin_36 : decode cX7_begin 36 = .ok (.iconst 1, 1) := dk_4 (dk_at dksX7_begin_1 14 rfl rfl)
theorem dX7_begin_37 : decode cX7_begin 37 = .ok (.iastore, 1) := dk_79 (dk_at dksX7_begin_1 15 rfl rfl)
theorem dX7_begin_38 : decode cX7_begin 38 = .ok (.aload_n 0, 1) := dk_42 (dk_at dksX7_begin_1 16 rfl rfl)
theorem dX7_begin_39 : decode cX7_begin 39 = .ok (.getfield 24, 3) := dk_180 0 24 (dk_at dksX7_begin_1 17 rfl rfl)
theorem dX7_begin_42 : decode cX7_begin 42 = .ok (.iload 5, 2) := dk_21 5 (dk_at dksX7_begin_1 20 rfl rfl)
theorem dX7_begin_44 : decode cX7_begin 44 = .ok (.iload_n 1, 1) := dk_27 (dk_at dksX7_begin_1 22 rfl rfl)
theorem dX7_begin_45 : decode cX7_begin 45 = .ok (.iastore, 1) := dk_79 (dk_at dksX7_begin_1 23 rfl rfl)
theorem dX7_begin_46 : decode cX7_begin 46 = .ok (.aload_n 0, 1) := dk_42 (dk_at dksX7_begin_2 0 rfl rfl)
theorem dX7_begin_47 : decode cX7_begin 47 = .ok (.getfield 27, 3) := dk_180 0 27 (dk_at dksX7_begin_2 1 rfl rfl)
theorem dX7_begin_50 : decode cX7_begin 50 = .ok (.iload 5, 2) := dk_21 5 (dk_at dksX7_begin_2 4 rfl rfl)
theorem dX7_begin_52 : decode cX7_begin 52 = .ok (.iload_n 2, 1) := dk_28 (dk_at dksX7_begin_2 6 rfl rfl)
theorem dX7_begin_53 : decode cX7_begin 53 = .ok (.iastore, 1) := dk_79 (dk_at dksX7_begin_2 7 rfl rfl)
theorem dX7_begin_54 : decode cX7_begin 54 = .ok (.aload_n 0, 1) := dk_42 (dk_at dksX7_begin_2 8 rfl rfl)
theorem dX7_begin_55 : decode cX7_begin 55 = .ok (.getfield 30, 3) := dk_180 0 30 (dk_at dksX7_begin_2 9 rfl rfl)
theorem dX7_begin_58 : decode cX7_begin 58 = .ok (.iload 5, 2) := dk_21 5 (dk_at dksX7_begin_2 12 rfl rfl)
theorem dX7_begin_60 : decode cX7_begin 60 = .ok (.iload_n 3, 1) := dk_29 (dk_at dksX7_begin_2 14 rfl rfl)
theorem dX7_begin_61 : decode cX7_begin 61 = .ok (.iastore, 1) := dk_79 (dk_at dksX7_begin_2 15 rfl rfl)
theorem dX7_begin_62 : decode cX7_begin 62 = .ok (.aload_n 0, 1) := dk_42 (dk_at dksX7_begin_2 16 rfl rfl)
theorem dX7_begin_63 : decode cX7_begin 63 = .ok (.getfield 33, 3) := dk_180 0 33 (dk_at dksX7_begin_2 17 rfl rfl)
theorem dX7_begin_66 : decode cX7_begin 66 = .ok (.iload 5, 2) := dk_21 5 (dk_at dksX7_begin_2 20 rfl rfl)
theorem dX7_begin_68 : decode cX7_begin 68 = .ok (.iconst 0, 1) := dk_3 (dk_at dksX7_begin_2 22 rfl rfl)
theorem dX7_begin_69 : decode cX7_begin 69 = .ok (.iastore, 1) := dk_79 (dk_at dksX7_begin_2 23 rfl rfl)
theorem dX7_begin_70 : decode cX7_begin 70 = .ok (.aload_n 0, 1) := dk_42 (dk_at dksX7_begin_3 0 rfl rfl)
theorem dX7_begin_71 : decode cX7_begin 71 = .ok (.getfield 36, 3) := dk_180 0 36 (dk_at dksX7_begin_3 1 rfl rfl)
theorem dX7_begin_74 : decode cX7_begin 74 = .ok (.iload 5, 2) := dk_21 5 (dk_at dksX7_begin_3 4 rfl rfl)
theorem dX7_begin_76 : decode cX7_begin 76 = .ok (.iconst 0, 1) := dk_3 (dk_at dksX7_begin_3 6 rfl rfl)
theorem dX7_begin_77 : decode cX7_begin 77 = .ok (.iastore, 1) := dk_79 (dk_at dksX7_begin_3 7 rfl rfl)
theorem dX7_begin_78 : decode cX7_begin 78 = .ok (.aload_n 0, 1) := dk_42 (dk_at dksX7_begin_3 8 rfl rfl)
theorem dX7_begin_79 : decode cX7_begin 79 = .ok (.getfield 39, 3) := dk_180 0 39 (dk_at dksX7_begin_3 9 rfl rfl)
theorem dX7_begin_82 : decode cX7_begin 82 = .ok (.iload 5, 2) := dk_21 5 (dk_at dksX7_begin_3 12 rfl rfl)
theorem dX7_begin_84 : decode cX7_begin 84 = .ok (.iconst 0, 1) := dk_3 (dk_at dksX7_begin_3 14 rfl rfl)
theorem dX7_begin_85 : decode cX7_begin 85 = .ok (.iastore, 1) := dk_79 (dk_at dksX7_begin_3 15 rfl rfl)
theorem dX7_begin_86 : decode cX7_begin 86 = .ok (.aload_n 0, 1) := dk_42 (dk_at dksX7_begin_3 16 rfl rfl)
theorem dX7_begin_87 : decode cX7_begin 87 = .ok (.getfield 42, 3) := dk_180 0 42 (dk_at dksX7_begin_3 17 rfl rfl)
theorem dX7_begin_90 : decode cX7_begin 90 = .ok (.iload 5, 2) := dk_21 5 (dk_at dksX7_begin_3 20 rfl rfl)
theorem dX7_begin_92 : decode cX7_begin 92 = .ok (.iconst 0, 1) := dk_3 (dk_at dksX7_begin_3 22 rfl rfl)
theorem dX7_begin_93 : decode cX7_begin 93 = .ok (.iastore, 1) := dk_79 (dk_at dksX7_begin_3 23 rfl rfl)
theorem dX7_begin_94 : decode cX7_begin 94 = .ok (.aload_n 0, 1) := dk_42 (dk_at dksX7_begin_4 0 rfl rfl)
theorem dX7_begin_95 : decode cX7_begin 95 = .ok (.getfield 45, 3) := dk_180 0 45 (dk_at dksX7_begin_4 1 rfl rfl)
theorem dX7_begin_98 : decode cX7_begin 98 = .ok (.iload 5, 2) := dk_21 5 (dk_at dksX7_begin_4 4 rfl rfl)
theorem dX7_begin_100 : decode cX7_begin 100 = .ok (.iload 4, 2) := dk_21 4 (dk_at dksX7_begin_4 6 rfl rfl)
theorem dX7_begin_102 : decode cX7_begin 102 = .ok (.iastore, 1) := dk_79 (dk_at dksX7_begin_4 8 rfl rfl)
theorem dX7_begin_103 : decode cX7_begin 103 = .ok (.aload_n 0, 1) := dk_42 (dk_at dksX7_begin_4 9 rfl rfl)
theorem dX7_begin_104 : decode cX7_begin 104 = .ok (.getfield 48, 3) := dk_180 0 48 (dk_at dksX7_begin_4 10 rfl rfl)
theorem dX7_begin_107 : decode cX7_begin 107 = .ok (.iload 5, 2) := dk_21 5 (dk_at dksX7_begin_4 13 rfl rfl)
theorem dX7_begin_109 : decode cX7_begin 109 = .ok (.aload_n 0, 1) := dk_42 (dk_at dksX7_begin_4 15 rfl rfl)
theorem dX7_begin_110 : decode cX7_begin 110 = .ok (.dup, 1) := dk_89 (dk_at dksX7_begin_4 16 rfl rfl)
theorem dX7_begin_111 : decode cX7_begin 111 = .ok (.getfield 75, 3) := dk_180 0 75 (dk_at dksX7_begin_4 17 rfl rfl)
theorem dX7_begin_114 : decode cX7_begin 114 = .ok (.dup_x1, 1) := dk_90 (dk_at dksX7_begin_4 20 rfl rfl)
theorem dX7_begin_115 : decode cX7_begin 115 = .ok (.iconst 1, 1) := dk_4 (dk_at dksX7_begin_4 21 rfl rfl)
theorem dX7_begin_116 : decode cX7_begin 116 = .ok (.iadd, 1) := dk_96 (dk_at dksX7_begin_4 22 rfl rfl)
theorem dX7_begin_117 : decode cX7_begin 117 = .ok (.putfield 75, 3) := dk_181 0 75 (dk_at dksX7_begin_5 0 rfl rfl)
theorem dX7_begin_120 : decode cX7_begin 120 = .ok (.iastore, 1) := dk_79 (dk_at dksX7_begin_5 3 rfl rfl)
theorem dX7_begin_121 : decode cX7_begin 121 = .ok (.iload 5, 2) := dk_21 5 (dk_at dksX7_begin_5 4 rfl rfl)
theorem dX7_begin_123 : decode cX7_begin 123 = .ok (.ireturn, 1) := dk_172 (dk_at dksX7_begin_5 6 rfl rfl)
abbrev cX7_nextVoice : ByteArray := prog_8_method_6_code
def yX7_nextVoice : MethodName := ⟨RX7, "nextVoice", "()I"⟩
def dkwX7_nextVoice_4 : List UInt8 := [180, 0, 48, 27, 46, 162, 0, 5, 28, 60, 132, 2, 1, 167, 255, 231, 27, 172]
abbrev dktX7_nextVoice_4 : List UInt8 := dkwX7_nextVoice_4 ++ []
def dkwX7_nextVoice_3 : List UInt8 := [2, 159, 0, 5, 27, 172, 3, 60, 4, 61, 28, 7, 162, 0, 26, 42, 180, 0, 48, 28, 46, 42]
abbrev dktX7_nextVoice_3 : List UInt8 := dkwX7_nextVoice_3 ++ dktX7_nextVoice_4
def dkwX7_nextVoice_2 : List UInt8 := [42, 180, 0, 21, 28, 46, 42, 180, 0, 21, 27, 46, 162, 0, 5, 28, 60, 132, 2, 1, 167, 255, 216, 27]
abbrev dktX7_nextVoice_2 : List UInt8 := dkwX7_nextVoice_2 ++ dktX7_nextVoice_3
def dkwX7_nextVoice_1 : List UInt8 := [2, 60, 3, 61, 28, 7, 162, 0, 41, 42, 180, 0, 18, 28, 46, 7, 160, 0, 25, 27, 2, 159, 0, 18]
abbrev dktX7_nextVoice_1 : List UInt8 := dkwX7_nextVoice_1 ++ dktX7_nextVoice_2
def dkwX7_nextVoice_0 : List UInt8 := [3, 60, 27, 7, 162, 0, 20, 42, 180, 0, 18, 27, 46, 154, 0, 5, 27, 172, 132, 1, 1, 167, 255, 237]
abbrev dktX7_nextVoice_0 : List UInt8 := dkwX7_nextVoice_0 ++ dktX7_nextVoice_1
theorem dksX7_nextVoice_0 : cX7_nextVoice.data.toList.drop 0 = dktX7_nextVoice_0 := by decide +kernel
theorem dksX7_nextVoice_1 : cX7_nextVoice.data.toList.drop 24 = dktX7_nextVoice_1 := dk_seg dksX7_nextVoice_0 24 rfl rfl
theorem dksX7_nextVoice_2 : cX7_nextVoice.data.toList.drop 48 = dktX7_nextVoice_2 := dk_seg dksX7_nextVoice_1 24 rfl rfl
theorem dksX7_nextVoice_3 : cX7_nextVoice.data.toList.drop 72 = dktX7_nextVoice_3 := dk_seg dksX7_nextVoice_2 24 rfl rfl
theorem dksX7_nextVoice_4 : cX7_nextVoice.data.toList.drop 94 = dktX7_nextVoice_4 := dk_seg dksX7_nextVoice_3 22 rfl rfl
theorem dX7_nextVoice_0 : decode cX7_nextVoice 0 = .ok (.iconst 0, 1) := dk_3 (dk_at dksX7_nextVoice_0 0 rfl rfl)
theorem dX7_nextVoice_1 : decode cX7_nextVoice 1 = .ok (.istore_n 1, 1) := dk_60 (dk_at dksX7_nextVoice_0 1 rfl rfl)
theorem dX7_nextVoice_2 : decode cX7_nextVoice 2 = .ok (.iload_n 1, 1) := dk_27 (dk_at dksX7_nextVoice_0 2 rfl rfl)
theorem dX7_nextVoice_3 : decode cX7_nextVoice 3 = .ok (.iconst 4, 1) := dk_7 (dk_at dksX7_nextVoice_0 3 rfl rfl)
theorem dX7_nextVoice_4 : decode cX7_nextVoice 4 = .ok (.if_icmp .ge 20, 3) := dk_162 0 20 (dk_at dksX7_nextVoice_0 4 rfl rfl)
theorem dX7_nextVoice_7 : decode cX7_nextVoice 7 = .ok (.aload_n 0, 1) := dk_42 (dk_at dksX7_nextVoice_0 7 rfl rfl)
theorem dX7_nextVoice_8 : decode cX7_nextVoice 8 = .ok (.getfield 18, 3) := dk_180 0 18 (dk_at dksX7_nextVoice_0 8 rfl rfl)
theorem dX7_nextVoice_11 : decode cX7_nextVoice 11 = .ok (.iload_n 1, 1) := dk_27 (dk_at dksX7_nextVoice_0 11 rfl rfl)
theorem dX7_nextVoice_12 : decode cX7_nextVoice 12 = .ok (.iaload, 1) := dk_46 (dk_at dksX7_nextVoice_0 12 rfl rfl)
theorem dX7_nextVoice_13 : decode cX7_nextVoice 13 = .ok (.ifCond .ne 5, 3) := dk_154 0 5 (dk_at dksX7_nextVoice_0 13 rfl rfl)
theorem dX7_nextVoice_16 : decode cX7_nextVoice 16 = .ok (.iload_n 1, 1) := dk_27 (dk_at dksX7_nextVoice_0 16 rfl rfl)
theorem dX7_nextVoice_17 : decode cX7_nextVoice 17 = .ok (.ireturn, 1) := dk_172 (dk_at dksX7_nextVoice_0 17 rfl rfl)
theorem dX7_nextVoice_18 : decode cX7_nextVoice 18 = .ok (.iinc 1 1, 3) := dk_132 1 1 (dk_at dksX7_nextVoice_0 18 rfl rfl)
theorem dX7_nextVoice_21 : decode cX7_nextVoice 21 = .ok (.goto (-19), 3) := dk_167 255 237 (dk_at dksX7_nextVoice_0 21 rfl rfl)
theorem dX7_nextVoice_24 : decode cX7_nextVoice 24 = .ok (.iconst (-1), 1) := dk_2 (dk_at dksX7_nextVoice_1 0 rfl rfl)
theorem dX7_nextVoice_25 : decode cX7_nextVoice 25 = .ok (.istore_n 1, 1) := dk_60 (dk_at dksX7_nextVoice_1 1 rfl rfl)
theorem dX7_nextVoice_26 : decode cX7_nextVoice 26 = .ok (.iconst 0, 1) := dk_3 (dk_at dksX7_nextVoice_1 2 rfl rfl)
theorem dX7_nextVoice_27 : decode cX7_nextVoice 27 = .ok (.istore_n 2, 1) := dk_61 (dk_at dksX7_nextVoice_1 3 rfl rfl)
theorem dX7_nextVoice_28 : decode cX7_nextVoice 28 = .ok (.iload_n 2, 1) := dk_28 (dk_at dksX7_nextVoice_1 4 rfl rfl)
theorem dX7_nextVoice_29 : decode cX7_nextVoice 29 = .ok (.iconst 4, 1) := dk_7 (dk_at dksX7_nextVoice_1 5 rfl rfl)
theorem dX7_nextVoice_30 : decode cX7_nextVoice 30 = .ok (.if_icmp .ge 41, 3) := dk_162 0 41 (dk_at dksX7_nextVoice_1 6 rfl rfl)
theorem dX7_nextVoice_33 : decode cX7_nextVoice 33 = .ok (.aload_n 0, 1) := dk_42 (dk_at dksX7_nextVoice_1 9 rfl rfl)
theorem dX7_nextVoice_34 : decode cX7_nextVoice 34 = .ok (.getfield 18, 3) := dk_180 0 18 (dk_at dksX7_nextVoice_1 10 rfl rfl)
theorem dX7_nextVoice_37 : decode cX7_nextVoice 37 = .ok (.iload_n 2, 1) := dk_28 (dk_at dksX7_nextVoice_1 13 rfl rfl)
theorem dX7_nextVoice_38 : decode cX7_nextVoice 38 = .ok (.iaload, 1) := dk_46 (dk_at dksX7_nextVoice_1 14 rfl rfl)
theorem dX7_nextVoice_39 : decode cX7_nextVoice 39 = .ok (.iconst 4, 1) := dk_7 (dk_at dksX7_nextVoice_1 15 rfl rfl)
theorem dX7_nextVoice_40 : decode cX7_nextVoice 40 = .ok (.if_icmp .ne 25, 3) := dk_160 0 25 (dk_at dksX7_nextVoice_1 16 rfl rfl)
theorem dX7_nextVoice_43 : decode cX7_nextVoice 43 = .ok (.iload_n 1, 1) := dk_27 (dk_at dksX7_nextVoice_1 19 rfl rfl)
theorem dX7_nextVoice_44 : decode cX7_nextVoice 44 = .ok (.iconst (-1), 1) := dk_2 (dk_at dksX7_nextVoice_1 20 rfl rfl)
theorem dX7_nextVoice_45 : decode cX7_nextVoice 45 = .ok (.if_icmp .eq 18, 3) := dk_159 0 18 (dk_at dksX7_nextVoice_1 21 rfl rfl)
theorem dX7_nextVoice_48 : decode cX7_nextVoice 48 = .ok (.aload_n 0, 1) := dk_42 (dk_at dksX7_nextVoice_2 0 rfl rfl)
theorem dX7_nextVoice_49 : decode cX7_nextVoice 49 = .ok (.getfield 21, 3) := dk_180 0 21 (dk_at dksX7_nextVoice_2 1 rfl rfl)
theorem dX7_nextVoice_52 : decode cX7_nextVoice 52 = .ok (.iload_n 2, 1) := dk_28 (dk_at dksX7_nextVoice_2 4 rfl rfl)
theorem dX7_nextVoice_53 : decode cX7_nextVoice 53 = .ok (.iaload, 1) := dk_46 (dk_at dksX7_nextVoice_2 5 rfl rfl)
theorem dX7_nextVoice_54 : decode cX7_nextVoice 54 = .ok (.aload_n 0, 1) := dk_42 (dk_at dksX7_nextVoice_2 6 rfl rfl)
theorem dX7_nextVoice_55 : decode cX7_nextVoice 55 = .ok (.getfield 21, 3) := dk_180 0 21 (dk_at dksX7_nextVoice_2 7 rfl rfl)
theorem dX7_nextVoice_58 : decode cX7_nextVoice 58 = .ok (.iload_n 1, 1) := dk_27 (dk_at dksX7_nextVoice_2 10 rfl rfl)
theorem dX7_nextVoice_59 : decode cX7_nextVoice 59 = .ok (.iaload, 1) := dk_46 (dk_at dksX7_nextVoice_2 11 rfl rfl)
theorem dX7_nextVoice_60 : decode cX7_nextVoice 60 = .ok (.if_icmp .ge 5, 3) := dk_162 0 5 (dk_at dksX7_nextVoice_2 12 rfl rfl)
theorem dX7_nextVoice_63 : decode cX7_nextVoice 63 = .ok (.iload_n 2, 1) := dk_28 (dk_at dksX7_nextVoice_2 15 rfl rfl)
theorem dX7_nextVoice_64 : decode cX7_nextVoice 64 = .ok (.istore_n 1, 1) := dk_60 (dk_at dksX7_nextVoice_2 16 rfl rfl)
theorem dX7_nextVoice_65 : decode cX7_nextVoice 65 = .ok (.iinc 2 1, 3) := dk_132 2 1 (dk_at dksX7_nextVoice_2 17 rfl rfl)
theorem dX7_nextVoice_68 : decode cX7_nextVoice 68 = .ok (.goto (-40), 3) := dk_167 255 216 (dk_at dksX7_nextVoice_2 20 rfl rfl)
theorem dX7_nextVoice_71 : decode cX7_nextVoice 71 = .ok (.iload_n 1, 1) := dk_27 (dk_at dksX7_nextVoice_2 23 rfl rfl)
theorem dX7_nextVoice_72 : decode cX7_nextVoice 72 = .ok (.iconst (-1), 1) := dk_2 (dk_at dksX7_nextVoice_3 0 rfl rfl)
theorem dX7_nextVoice_73 : decode cX7_nextVoice 73 = .ok (.if_icmp .eq 5, 3) := dk_159 0 5 (dk_at dksX7_nextVoice_3 1 rfl rfl)
theorem dX7_nextVoice_76 : decode cX7_nextVoice 76 = .ok (.iload_n 1, 1) := dk_27 (dk_at dksX7_nextVoice_3 4 rfl rfl)
theorem dX7_nextVoice_77 : decode cX7_nextVoice 77 = .ok (.ireturn, 1) := dk_172 (dk_at dksX7_nextVoice_3 5 rfl rfl)
theorem dX7_nextVoice_78 : decode cX7_nextVoice 78 = .ok (.iconst 0, 1) := dk_3 (dk_at dksX7_nextVoice_3 6 rfl rfl)
theorem dX7_nextVoice_79 : decode cX7_nextVoice 79 = .ok (.istore_n 1, 1) := dk_60 (dk_at dksX7_nextVoice_3 7 rfl rfl)
theorem dX7_nextVoice_80 : decode cX7_nextVoice 80 = .ok (.iconst 1, 1) := dk_4 (dk_at dksX7_nextVoice_3 8 rfl rfl)
theorem dX7_nextVoice_81 : decode cX7_nextVoice 81 = .ok (.istore_n 2, 1) := dk_61 (dk_at dksX7_nextVoice_3 9 rfl rfl)
theorem dX7_nextVoice_82 : decode cX7_nextVoice 82 = .ok (.iload_n 2, 1) := dk_28 (dk_at dksX7_nextVoice_3 10 rfl rfl)
theorem dX7_nextVoice_83 : decode cX7_nextVoice 83 = .ok (.iconst 4, 1) := dk_7 (dk_at dksX7_nextVoice_3 11 rfl rfl)
theorem dX7_nextVoice_84 : decode cX7_nextVoice 84 = .ok (.if_icmp .ge 26, 3) := dk_162 0 26 (dk_at dksX7_nextVoice_3 12 rfl rfl)
theorem dX7_nextVoice_87 : decode cX7_nextVoice 87 = .ok (.aload_n 0, 1) := dk_42 (dk_at dksX7_nextVoice_3 15 rfl rfl)
theorem dX7_nextVoice_88 : decode cX7_nextVoice 88 = .ok (.getfield 48, 3) := dk_180 0 48 (dk_at dksX7_nextVoice_3 16 rfl rfl)
theorem dX7_nextVoice_91 : decode cX7_nextVoice 91 = .ok (.iload_n 2, 1) := dk_28 (dk_at dksX7_nextVoice_3 19 rfl rfl)
theorem dX7_nextVoice_92 : decode cX7_nextVoice 92 = .ok (.iaload, 1) := dk_46 (dk_at dksX7_nextVoice_3 20 rfl rfl)
theorem dX7_nextVoice_93 : decode cX7_nextVoice 93 = .ok (.aload_n 0, 1) := dk_42 (dk_at dksX7_nextVoice_3 21 rfl rfl)
theorem dX7_nextVoice_94 : decode cX7_nextVoice 94 = .ok (.getfield 48, 3) := dk_180 0 48 (dk_at dksX7_nextVoice_4 0 rfl rfl)
theorem dX7_nextVoice_97 : decode cX7_nextVoice 97 = .ok (.iload_n 1, 1) := dk_27 (dk_at dksX7_nextVoice_4 3 rfl rfl)
theorem dX7_nextVoice_98 : decode cX7_nextVoice 98 = .ok (.iaload, 1) := dk_46 (dk_at dksX7_nextVoice_4 4 rfl rfl)
theorem dX7_nextVoice_99 : decode cX7_nextVoice 99 = .ok (.if_icmp .ge 5, 3) := dk_162 0 5 (dk_at dksX7_nextVoice_4 5 rfl rfl)
theorem dX7_nextVoice_102 : decode cX7_nextVoice 102 = .ok (.iload_n 2, 1) := dk_28 (dk_at dksX7_nextVoice_4 8 rfl rfl)
theorem dX7_nextVoice_103 : decode cX7_nextVoice 103 = .ok (.istore_n 1, 1) := dk_60 (dk_at dksX7_nextVoice_4 9 rfl rfl)
theorem dX7_nextVoice_104 : decode cX7_nextVoice 104 = .ok (.iinc 2 1, 3) := dk_132 2 1 (dk_at dksX7_nextVoice_4 10 rfl rfl)
theorem dX7_nextVoice_107 : decode cX7_nextVoice 107 = .ok (.goto (-25), 3) := dk_167 255 231 (dk_at dksX7_nextVoice_4 13 rfl rfl)
theorem dX7_nextVoice_110 : decode cX7_nextVoice 110 = .ok (.iload_n 1, 1) := dk_27 (dk_at dksX7_nextVoice_4 16 rfl rfl)
theorem dX7_nextVoice_111 : decode cX7_nextVoice 111 = .ok (.ireturn, 1) := dk_172 (dk_at dksX7_nextVoice_4 17 rfl rfl)
abbrev cX7_end : ByteArray := prog_8_method_8_code
def yX7_end : MethodName := ⟨RX7, "end", "(I)V"⟩
def dkwX7_end_0 : List UInt8 := [42, 180, 0, 18, 27, 46, 4, 6, 184, 0, 117, 153, 0, 10, 42, 180, 0, 18, 27, 7, 79, 177]
abbrev dktX7_end_0 : List UInt8 := dkwX7_end_0 ++ []
theorem dksX7_end_0 : cX7_end.data.toList.drop 0 = dktX7_end_0 := by decide +kernel
theorem dX7_end_0 : decode cX7_end 0 = .ok (.aload_n 0, 1) := dk_42 (dk_at dksX7_end_0 0 rfl rfl)
theorem dX7_end_1 : decode cX7_end 1 = .ok (.getfield 18, 3) := dk_180 0 18 (dk_at dksX7_end_0 1 rfl rfl)
theorem dX7_end_4 : decode cX7_end 4 = .ok (.iload_n 1, 1) := dk_27 (dk_at dksX7_end_0 4 rfl rfl)
theorem dX7_end_5 : decode cX7_end 5 = .ok (.iaload, 1) := dk_46 (dk_at dksX7_end_0 5 rfl rfl)
theorem dX7_end_6 : decode cX7_end 6 = .ok (.iconst 1, 1) := dk_4 (dk_at dksX7_end_0 6 rfl rfl)
theorem dX7_end_7 : decode cX7_end 7 = .ok (.iconst 3, 1) := dk_6 (dk_at dksX7_end_0 7 rfl rfl)
theorem dX7_end_8 : decode cX7_end 8 = .ok (.invokestatic 117, 3) := dk_184 0 117 (dk_at dksX7_end_0 8 rfl rfl)
theorem dX7_end_11 : decode cX7_end 11 = .ok (.ifCond .eq 10, 3) := dk_153 0 10 (dk_at dksX7_end_0 11 rfl rfl)
theorem dX7_end_14 : decode cX7_end 14 = .ok (.aload_n 0, 1) := dk_42 (dk_at dksX7_end_0 14 rfl rfl)
theorem dX7_end_15 : decode cX7_end 15 = .ok (.getfield 18, 3) := dk_180 0 18 (dk_at dksX7_end_0 15 rfl rfl)
theorem dX7_end_18 : decode cX7_end 18 = .ok (.iload_n 1, 1) := dk_27 (dk_at dksX7_end_0 18 rfl rfl)
theorem dX7_end_19 : decode cX7_end 19 = .ok (.iconst 4, 1) := dk_7 (dk_at dksX7_end_0 19 rfl rfl)
theorem dX7_end_20 : decode cX7_end 20 = .ok (.iastore, 1) := dk_79 (dk_at dksX7_end_0 20 rfl rfl)
theorem dX7_end_21 : decode cX7_end 21 = .ok (.return_, 1) := dk_177 (dk_at dksX7_end_0 21 rfl rfl)
abbrev cX7_sounding : ByteArray := prog_8_method_14_code
def yX7_sounding : MethodName := ⟨RX7, "sounding", "()I"⟩
def dkwX7_sounding_1 : List UInt8 := [96, 60, 132, 2, 1, 167, 255, 231, 27, 172]
abbrev dktX7_sounding_1 : List UInt8 := dkwX7_sounding_1 ++ []
def dkwX7_sounding_0 : List UInt8 := [3, 60, 3, 61, 28, 7, 162, 0, 26, 27, 42, 180, 0, 18, 28, 46, 154, 0, 7, 3, 167, 0, 4, 4]
abbrev dktX7_sounding_0 : List UInt8 := dkwX7_sounding_0 ++ dktX7_sounding_1
theorem dksX7_sounding_0 : cX7_sounding.data.toList.drop 0 = dktX7_sounding_0 := by decide +kernel
theorem dksX7_sounding_1 : cX7_sounding.data.toList.drop 24 = dktX7_sounding_1 := dk_seg dksX7_sounding_0 24 rfl rfl
theorem dX7_sounding_0 : decode cX7_sounding 0 = .ok (.iconst 0, 1) := dk_3 (dk_at dksX7_sounding_0 0 rfl rfl)
theorem dX7_sounding_1 : decode cX7_sounding 1 = .ok (.istore_n 1, 1) := dk_60 (dk_at dksX7_sounding_0 1 rfl rfl)
theorem dX7_sounding_2 : decode cX7_sounding 2 = .ok (.iconst 0, 1) := dk_3 (dk_at dksX7_sounding_0 2 rfl rfl)
theorem dX7_sounding_3 : decode cX7_sounding 3 = .ok (.istore_n 2, 1) := dk_61 (dk_at dksX7_sounding_0 3 rfl rfl)
theorem dX7_sounding_4 : decode cX7_sounding 4 = .ok (.iload_n 2, 1) := dk_28 (dk_at dksX7_sounding_0 4 rfl rfl)
theorem dX7_sounding_5 : decode cX7_sounding 5 = .ok (.iconst 4, 1) := dk_7 (dk_at dksX7_sounding_0 5 rfl rfl)
theorem dX7_sounding_6 : decode cX7_sounding 6 = .ok (.if_icmp .ge 26, 3) := dk_162 0 26 (dk_at dksX7_sounding_0 6 rfl rfl)
theorem dX7_sounding_9 : decode cX7_sounding 9 = .ok (.iload_n 1, 1) := dk_27 (dk_at dksX7_sounding_0 9 rfl rfl)
theorem dX7_sounding_10 : decode cX7_sounding 10 = .ok (.aload_n 0, 1) := dk_42 (dk_at dksX7_sounding_0 10 rfl rfl)
theorem dX7_sounding_11 : decode cX7_sounding 11 = .ok (.getfield 18, 3) := dk_180 0 18 (dk_at dksX7_sounding_0 11 rfl rfl)
theorem dX7_sounding_14 : decode cX7_sounding 14 = .ok (.iload_n 2, 1) := dk_28 (dk_at dksX7_sounding_0 14 rfl rfl)
theorem dX7_sounding_15 : decode cX7_sounding 15 = .ok (.iaload, 1) := dk_46 (dk_at dksX7_sounding_0 15 rfl rfl)
theorem dX7_sounding_16 : decode cX7_sounding 16 = .ok (.ifCond .ne 7, 3) := dk_154 0 7 (dk_at dksX7_sounding_0 16 rfl rfl)
theorem dX7_sounding_19 : decode cX7_sounding 19 = .ok (.iconst 0, 1) := dk_3 (dk_at dksX7_sounding_0 19 rfl rfl)
theorem dX7_sounding_20 : decode cX7_sounding 20 = .ok (.goto 4, 3) := dk_167 0 4 (dk_at dksX7_sounding_0 20 rfl rfl)
theorem dX7_sounding_23 : decode cX7_sounding 23 = .ok (.iconst 1, 1) := dk_4 (dk_at dksX7_sounding_0 23 rfl rfl)
theorem dX7_sounding_24 : decode cX7_sounding 24 = .ok (.iadd, 1) := dk_96 (dk_at dksX7_sounding_1 0 rfl rfl)
theorem dX7_sounding_25 : decode cX7_sounding 25 = .ok (.istore_n 1, 1) := dk_60 (dk_at dksX7_sounding_1 1 rfl rfl)
theorem dX7_sounding_26 : decode cX7_sounding 26 = .ok (.iinc 2 1, 3) := dk_132 2 1 (dk_at dksX7_sounding_1 2 rfl rfl)
theorem dX7_sounding_29 : decode cX7_sounding 29 = .ok (.goto (-25), 3) := dk_167 255 231 (dk_at dksX7_sounding_1 5 rfl rfl)
theorem dX7_sounding_32 : decode cX7_sounding 32 = .ok (.iload_n 1, 1) := dk_27 (dk_at dksX7_sounding_1 8 rfl rfl)
theorem dX7_sounding_33 : decode cX7_sounding 33 = .ok (.ireturn, 1) := dk_172 (dk_at dksX7_sounding_1 9 rfl rfl)
abbrev cX7_sample : ByteArray := prog_8_method_13_code
def yX7_sample : MethodName := ⟨RX7, "sample", "()I"⟩
def dkwX7_sample_13 : List UInt8 := [180, 0, 97, 4, 96, 16, 8, 112, 181, 0, 97, 29, 172]
abbrev dktX7_sample_13 : List UInt8 := dkwX7_sample_13 ++ []
def dkwX7_sample_12 : List UInt8 := [89, 180, 0, 100, 4, 96, 90, 181, 0, 100, 42, 180, 0, 103, 160, 0, 21, 42, 3, 181, 0, 100, 42, 42]
abbrev dktX7_sample_12 : List UInt8 := dkwX7_sample_12 ++ dktX7_sample_13
def dkwX7_sample_11 : List UInt8 := [180, 0, 45, 21, 4, 92, 46, 4, 100, 79, 132, 4, 1, 167, 255, 226, 42, 180, 0, 93, 153, 0, 39, 42]
abbrev dktX7_sample_11 : List UInt8 := dkwX7_sample_11 ++ dktX7_sample_12
def dkwX7_sample_10 : List UInt8 := [181, 0, 106, 3, 54, 4, 21, 4, 7, 162, 0, 30, 42, 180, 0, 45, 21, 4, 46, 158, 0, 14, 42]
abbrev dktX7_sample_10 : List UInt8 := dkwX7_sample_10 ++ dktX7_sample_11
def dkwX7_sample_9 : List UInt8 := [180, 0, 67, 4, 16, 63, 184, 0, 161, 42, 180, 0, 67, 3, 29, 79, 42, 89, 180, 0, 106, 4, 96]
abbrev dktX7_sample_9 : List UInt8 := dkwX7_sample_9 ++ dktX7_sample_10
def dkwX7_sample_8 : List UInt8 := [184, 0, 177, 133, 97, 181, 0, 180, 42, 89, 180, 0, 184, 4, 96, 181, 0, 184, 42, 180, 0, 67, 3, 42]
abbrev dktX7_sample_8 : List UInt8 := dkwX7_sample_8 ++ dktX7_sample_9
def dkwX7_sample_7 : List UInt8 := [181, 0, 171, 42, 42, 180, 0, 174, 29, 184, 0, 177, 184, 0, 138, 181, 0, 174, 42, 89, 180, 0, 180, 29]
abbrev dktX7_sample_7 : List UInt8 := dkwX7_sample_7 ++ dktX7_sample_8
def dkwX7_sample_6 : List UInt8 := [89, 180, 0, 171, 29, 158, 0, 16, 42, 180, 0, 67, 3, 46, 157, 0, 7, 4, 167, 0, 4, 3, 96]
abbrev dktX7_sample_6 : List UInt8 := dkwX7_sample_6 ++ dktX7_sample_7
def dkwX7_sample_5 : List UInt8 := [184, 0, 152, 62, 42, 89, 180, 0, 168, 29, 28, 160, 0, 7, 3, 167, 0, 4, 4, 96, 181, 0, 168, 42]
abbrev dktX7_sample_5 : List UInt8 := dkwX7_sample_5 ++ dktX7_sample_6
def dkwX7_sample_4 : List UInt8 := [96, 18, 167, 184, 0, 152, 79, 27, 29, 42, 180, 0, 84, 104, 17, 1, 0, 108, 96, 61, 28, 17, 127, 255]
abbrev dktX7_sample_4 : List UInt8 := dkwX7_sample_4 ++ dktX7_sample_5
def dkwX7_sample_3 : List UInt8 := [184, 0, 161, 42, 180, 0, 55, 42, 180, 0, 81, 4, 100, 27, 29, 42, 180, 0, 87, 104, 17, 1, 0, 108]
abbrev dktX7_sample_3 : List UInt8 := dkwX7_sample_3 ++ dktX7_sample_4
def dkwX7_sample_2 : List UInt8 := [180, 0, 55, 3, 46, 62, 42, 180, 0, 55, 4, 42, 180, 0, 55, 3, 42, 180, 0, 81, 4, 100]
abbrev dktX7_sample_2 : List UInt8 := dkwX7_sample_2 ++ dktX7_sample_3
def dkwX7_sample_1 : List UInt8 := [167, 255, 240, 27, 42, 180, 0, 51, 104, 16, 16, 108, 60, 27, 61, 42, 180, 0, 81, 158, 0, 70, 42]
abbrev dktX7_sample_1 : List UInt8 := dkwX7_sample_1 ++ dktX7_sample_2
def dkwX7_sample_0 : List UInt8 := [42, 182, 0, 155, 3, 60, 3, 61, 28, 7, 162, 0, 17, 27, 42, 28, 182, 0, 158, 96, 60, 132, 2, 1]
abbrev dktX7_sample_0 : List UInt8 := dkwX7_sample_0 ++ dktX7_sample_1
theorem dksX7_sample_0 : cX7_sample.data.toList.drop 0 = dktX7_sample_0 := by decide +kernel
theorem dksX7_sample_1 : cX7_sample.data.toList.drop 24 = dktX7_sample_1 := dk_seg dksX7_sample_0 24 rfl rfl
theorem dksX7_sample_2 : cX7_sample.data.toList.drop 47 = dktX7_sample_2 := dk_seg dksX7_sample_1 23 rfl rfl
theorem dksX7_sample_3 : cX7_sample.data.toList.drop 69 = dktX7_sample_3 := dk_seg dksX7_sample_2 22 rfl rfl
theorem dksX7_sample_4 : cX7_sample.data.toList.drop 93 = dktX7_sample_4 := dk_seg dksX7_sample_3 24 rfl rfl
theorem dksX7_sample_5 : cX7_sample.data.toList.drop 117 = dktX7_sample_5 := dk_seg dksX7_sample_4 24 rfl rfl
theorem dksX7_sample_6 : cX7_sample.data.toList.drop 141 = dktX7_sample_6 := dk_seg dksX7_sample_5 24 rfl rfl
theorem dksX7_sample_7 : cX7_sample.data.toList.drop 164 = dktX7_sample_7 := dk_seg dksX7_sample_6 23 rfl rfl
theorem dksX7_sample_8 : cX7_sample.data.toList.drop 188 = dktX7_sample_8 := dk_seg dksX7_sample_7 24 rfl rfl
theorem dksX7_sample_9 : cX7_sample.data.toList.drop 212 = dktX7_sample_9 := dk_seg dksX7_sample_8 24 rfl rfl
theorem dksX7_sample_10 : cX7_sample.data.toList.drop 235 = dktX7_sample_10 := dk_seg dksX7_sample_9 23 rfl rfl
theorem dksX7_sample_11 : cX7_sample.data.toList.drop 258 = dktX7_sample_11 := dk_seg dksX7_sample_10 23 rfl rfl
theorem dksX7_sample_12 : cX7_sample.data.toList.drop 282 = dktX7_sample_12 := dk_seg dksX7_sample_11 24 rfl rfl
theorem dksX7_sample_13 : cX7_sample.data.toList.drop 306 = dktX7_sample_13 := dk_seg dksX7_sample_12 24 rfl rfl
theorem dX7_sample_0 : decode cX7_sample 0 = .ok (.aload_n 0, 1) := dk_42 (dk_at dksX7_sample_0 0 rfl rfl)
theorem dX7_sample_1 : decode cX7_sample 1 = .ok (.invokevirtual 155, 3) := dk_182 0 155 (dk_at dksX7_sample_0 1 rfl rfl)
theorem dX7_sample_4 : decode cX7_sample 4 = .ok (.iconst 0, 1) := dk_3 (dk_at dksX7_sample_0 4 rfl rfl)
theorem dX7_sample_5 : decode cX7_sample 5 = .ok (.istore_n 1, 1) := dk_60 (dk_at dksX7_sample_0 5 rfl rfl)
theorem dX7_sample_6 : decode cX7_sample 6 = .ok (.iconst 0, 1) := dk_3 (dk_at dksX7_sample_0 6 rfl rfl)
theorem dX7_sample_7 : decode cX7_sample 7 = .ok (.istore_n 2, 1) := dk_61 (dk_at dksX7_sample_0 7 rfl rfl)
theorem dX7_sample_8 : decode cX7_sample 8 = .ok (.iload_n 2, 1) := dk_28 (dk_at dksX7_sample_0 8 rfl rfl)
theorem dX7_sample_9 : decode cX7_sample 9 = .ok (.iconst 4, 1) := dk_7 (dk_at dksX7_sample_0 9 rfl rfl)
theorem dX7_sample_10 : decode cX7_sample 10 = .ok (.if_icmp .ge 17, 3) := dk_162 0 17 (dk_at dksX7_sample_0 10 rfl rfl)
theorem dX7_sample_13 : decode cX7_sample 13 = .ok (.iload_n 1, 1) := dk_27 (dk_at dksX7_sample_0 13 rfl rfl)
theorem dX7_sample_14 : decode cX7_sample 14 = .ok (.aload_n 0, 1) := dk_42 (dk_at dksX7_sample_0 14 rfl rfl)
theorem dX7_sample_15 : decode cX7_sample 15 = .ok (.iload_n 2, 1) := dk_28 (dk_at dksX7_sample_0 15 rfl rfl)
theorem dX7_sample_16 : decode cX7_sample 16 = .ok (.invokevirtual 158, 3) := dk_182 0 158 (dk_at dksX7_sample_0 16 rfl rfl)
theorem dX7_sample_19 : decode cX7_sample 19 = .ok (.iadd, 1) := dk_96 (dk_at dksX7_sample_0 19 rfl rfl)
theorem dX7_sample_20 : decode cX7_sample 20 = .ok (.istore_n 1, 1) := dk_60 (dk_at dksX7_sample_0 20 rfl rfl)
theorem dX7_sample_21 : decode cX7_sample 21 = .ok (.iinc 2 1, 3) := dk_132 2 1 (dk_at dksX7_sample_0 21 rfl rfl)
theorem dX7_sample_24 : decode cX7_sample 24 = .ok (.goto (-16), 3) := dk_167 255 240 (dk_at dksX7_sample_1 0 rfl rfl)
theorem dX7_sample_27 : decode cX7_sample 27 = .ok (.iload_n 1, 1) := dk_27 (dk_at dksX7_sample_1 3 rfl rfl)
theorem dX7_sample_28 : decode cX7_sample 28 = .ok (.aload_n 0, 1) := dk_42 (dk_at dksX7_sample_1 4 rfl rfl)
theorem dX7_sample_29 : decode cX7_sample 29 = .ok (.getfield 51, 3) := dk_180 0 51 (dk_at dksX7_sample_1 5 rfl rfl)
theorem dX7_sample_32 : decode cX7_sample 32 = .ok (.imul, 1) := dk_104 (dk_at dksX7_sample_1 8 rfl rfl)
theorem dX7_sample_33 : decode cX7_sample 33 = .ok (.bipush 16, 2) := dk_16 16 (dk_at dksX7_sample_1 9 rfl rfl)
theorem dX7_sample_35 : decode cX7_sample 35 = .ok (.idiv, 1) := dk_108 (dk_at dksX7_sample_1 11 rfl rfl)
theorem dX7_sample_36 : decode cX7_sample 36 = .ok (.istore_n 1, 1) := dk_60 (dk_at dksX7_sample_1 12 rfl rfl)
theorem dX7_sample_37 : decode cX7_sample 37 = .ok (.iload_n 1, 1) := dk_27 (dk_at dksX7_sample_1 13 rfl rfl)
theorem dX7_sample_38 : decode cX7_sample 38 = .ok (.istore_n 2, 1) := dk_61 (dk_at dksX7_sample_1 14 rfl rfl)
theorem dX7_sample_39 : decode cX7_sample 39 = .ok (.aload_n 0, 1) := dk_42 (dk_at dksX7_sample_1 15 rfl rfl)
theorem dX7_sample_40 : decode cX7_sample 40 = .ok (.getfield 81, 3) := dk_180 0 81 (dk_at dksX7_sample_1 16 rfl rfl)
theorem dX7_sample_43 : decode cX7_sample 43 = .ok (.ifCond .le 70, 3) := dk_158 0 70 (dk_at dksX7_sample_1 19 rfl rfl)
theorem dX7_sample_46 : decode cX7_sample 46 = .ok (.aload_n 0, 1) := dk_42 (dk_at dksX7_sample_1 22 rfl rfl)
theorem dX7_sample_47 : decode cX7_sample 47 = .ok (.getfield 55, 3) := dk_180 0 55 (dk_at dksX7_sample_2 0 rfl rfl)
theorem dX7_sample_50 : decode cX7_sample 50 = .ok (.iconst 0, 1) := dk_3 (dk_at dksX7_sample_2 3 rfl rfl)
theorem dX7_sample_51 : decode cX7_sample 51 = .ok (.iaload, 1) := dk_46 (dk_at dksX7_sample_2 4 rfl rfl)
theorem dX7_sample_52 : decode cX7_sample 52 = .ok (.istore_n 3, 1) := dk_62 (dk_at dksX7_sample_2 5 rfl rfl)
theorem dX7_sample_53 : decode cX7_sample 53 = .ok (.aload_n 0, 1) := dk_42 (dk_at dksX7_sample_2 6 rfl rfl)
theorem dX7_sample_54 : decode cX7_sample 54 = .ok (.getfield 55, 3) := dk_180 0 55 (dk_at dksX7_sample_2 7 rfl rfl)
theorem dX7_sample_57 : decode cX7_sample 57 = .ok (.iconst 1, 1) := dk_4 (dk_at dksX7_sample_2 10 rfl rfl)
theorem dX7_sample_58 : decode cX7_sample 58 = .ok (.aload_n 0, 1) := dk_42 (dk_at dksX7_sample_2 11 rfl rfl)
theorem dX7_sample_59 : decode cX7_sample 59 = .ok (.getfield 55, 3) := dk_180 0 55 (dk_at dksX7_sample_2 12 rfl rfl)
theorem dX7_sample_62 : decode cX7_sample 62 = .ok (.iconst 0, 1) := dk_3 (dk_at dksX7_sample_2 15 rfl rfl)
theorem dX7_sample_63 : decode cX7_sample 63 = .ok (.aload_n 0, 1) := dk_42 (dk_at dksX7_sample_2 16 rfl rfl)
theorem dX7_sample_64 : decode cX7_sample 64 = .ok (.getfield 81, 3) := dk_180 0 81 (dk_at dksX7_sample_2 17 rfl rfl)
theorem dX7_sample_67 : decode cX7_sample 67 = .ok (.iconst 1, 1) := dk_4 (dk_at dksX7_sample_2 20 rfl rfl)
theorem dX7_sample_68 : decode cX7_sample 68 = .ok (.isub, 1) := dk_100 (dk_at dksX7_sample_2 21 rfl rfl)
theorem dX7_sample_69 : decode cX7_sample 69 = .ok (.invokestatic 161, 3) := dk_184 0 161 (dk_at dksX7_sample_3 0 rfl rfl)
theorem dX7_sample_72 : decode cX7_sample 72 = .ok (.aload_n 0, 1) := dk_42 (dk_at dksX7_sample_3 3 rfl rfl)
theorem dX7_sample_73 : decode cX7_sample 73 = .ok (.getfield 55, 3) := dk_180 0 55 (dk_at dksX7_sample_3 4 rfl rfl)
theorem dX7_sample_76 : decode cX7_sample 76 = .ok (.aload_n 0, 1) := dk_42 (dk_at dksX7_sample_3 7 rfl rfl)
theorem dX7_sample_77 : decode cX7_sample 77 = .ok (.getfield 81, 3) := dk_180 0 81 (dk_at dksX7_sample_3 8 rfl rfl)
theorem dX7_sample_80 : decode cX7_sample 80 = .ok (.iconst 1, 1) := dk_4 (dk_at dksX7_sample_3 11 rfl rfl)
theorem dX7_sample_81 : decode cX7_sample 81 = .ok (.isub, 1) := dk_100 (dk_at dksX7_sample_3 12 rfl rfl)
theorem dX7_sample_82 : decode cX7_sample 82 = .ok (.iload_n 1, 1) := dk_27 (dk_at dksX7_sample_3 13 rfl rfl)
theorem dX7_sample_83 : decode cX7_sample 83 = .ok (.iload_n 3, 1) := dk_29 (dk_at dksX7_sample_3 14 rfl rfl)
theorem dX7_sample_84 : decode cX7_sample 84 = .ok (.aload_n 0, 1) := dk_42 (dk_at dksX7_sample_3 15 rfl rfl)
theorem dX7_sample_85 : decode cX7_sample 85 = .ok (.getfield 87, 3) := dk_180 0 87 (dk_at dksX7_sample_3 16 rfl rfl)
theorem dX7_sample_88 : decode cX7_sample 88 = .ok (.imul, 1) := dk_104 (dk_at dksX7_sample_3 19 rfl rfl)
theorem dX7_sample_89 : decode cX7_sample 89 = .ok (.sipush 256, 3) := dk_17 1 0 (dk_at dksX7_sample_3 20 rfl rfl)
theorem dX7_sample_92 : decode cX7_sample 92 = .ok (.idiv, 1) := dk_108 (dk_at dksX7_sample_3 23 rfl rfl)
theorem dX7_sample_93 : decode cX7_sample 93 = .ok (.iadd, 1) := dk_96 (dk_at dksX7_sample_4 0 rfl rfl)
theorem dX7_sample_94 : decode cX7_sample 94 = .ok (.ldc 167, 2) := dk_18 167 (dk_at dksX7_sample_4 1 rfl rfl)
theorem dX7_sample_96 : decode cX7_sample 96 = .ok (.invokestatic 152, 3) := dk_184 0 152 (dk_at dksX7_sample_4 3 rfl rfl)
theorem dX7_sample_99 : decode cX7_sample 99 = .ok (.iastore, 1) := dk_79 (dk_at dksX7_sample_4 6 rfl rfl)
theorem dX7_sample_100 : decode cX7_sample 100 = .ok (.iload_n 1, 1) := dk_27 (dk_at dksX7_sample_4 7 rfl rfl)
theorem dX7_sample_101 : decode cX7_sample 101 = .ok (.iload_n 3, 1) := dk_29 (dk_at dksX7_sample_4 8 rfl rfl)
theorem dX7_sample_102 : decode cX7_sample 102 = .ok (.aload_n 0, 1) := dk_42 (dk_at dksX7_sample_4 9 rfl rfl)
theorem dX7_sample_103 : decode cX7_sample 103 = .ok (.getfield 84, 3) := dk_180 0 84 (dk_at dksX7_sample_4 10 rfl rfl)
theorem dX7_sample_106 : decode cX7_sample 106 = .ok (.imul, 1) := dk_104 (dk_at dksX7_sample_4 13 rfl rfl)
theorem dX7_sample_107 : decode cX7_sample 107 = .ok (.sipush 256, 3) := dk_17 1 0 (dk_at dksX7_sample_4 14 rfl rfl)
theorem dX7_sample_110 : decode cX7_sample 110 = .ok (.idiv, 1) := dk_108 (dk_at dksX7_sample_4 17 rfl rfl)
theorem dX7_sample_111 : decode cX7_sample 111 = .ok (.iadd, 1) := dk_96 (dk_at dksX7_sample_4 18 rfl rfl)
theorem dX7_sample_112 : decode cX7_sample 112 = .ok (.istore_n 2, 1) := dk_61 (dk_at dksX7_sample_4 19 rfl rfl)
theorem dX7_sample_113 : decode cX7_sample 113 = .ok (.iload_n 2, 1) := dk_28 (dk_at dksX7_sample_4 20 rfl rfl)
theorem dX7_sample_114 : decode cX7_sample 114 = .ok (.sipush 32767, 3) := dk_17 127 255 (dk_at dksX7_sample_4 21 rfl rfl)
theorem dX7_sample_117 : decode cX7_sample 117 = .ok (.invokestatic 152, 3) := dk_184 0 152 (dk_at dksX7_sample_5 0 rfl rfl)
theorem dX7_sample_120 : decode cX7_sample 120 = .ok (.istore_n 3, 1) := dk_62 (dk_at dksX7_sample_5 3 rfl rfl)
theorem dX7_sample_121 : decode cX7_sample 121 = .ok (.aload_n 0, 1) := dk_42 (dk_at dksX7_sample_5 4 rfl rfl)
theorem dX7_sample_122 : decode cX7_sample 122 = .ok (.dup, 1) := dk_89 (dk_at dksX7_sample_5 5 rfl rfl)
theorem dX7_sample_123 : decode cX7_sample 123 = .ok (.getfield 168, 3) := dk_180 0 168 (dk_at dksX7_sample_5 6 rfl rfl)
theorem dX7_sample_126 : decode cX7_sample 126 = .ok (.iload_n 3, 1) := dk_29 (dk_at dksX7_sample_5 9 rfl rfl)
theorem dX7_sample_127 : decode cX7_sample 127 = .ok (.iload_n 2, 1) := dk_28 (dk_at dksX7_sample_5 10 rfl rfl)
theorem dX7_sample_128 : decode cX7_sample 128 = .ok (.if_icmp .ne 7, 3) := dk_160 0 7 (dk_at dksX7_sample_5 11 rfl rfl)
theorem dX7_sample_131 : decode cX7_sample 131 = .ok (.iconst 0, 1) := dk_3 (dk_at dksX7_sample_5 14 rfl rfl)
theorem dX7_sample_132 : decode cX7_sample 132 = .ok (.goto 4, 3) := dk_167 0 4 (dk_at dksX7_sample_5 15 rfl rfl)
theorem dX7_sample_135 : decode cX7_sample 135 = .ok (.iconst 1, 1) := dk_4 (dk_at dksX7_sample_5 18 rfl rfl)
theorem dX7_sample_136 : decode cX7_sample 136 = .ok (.iadd, 1) := dk_96 (dk_at dksX7_sample_5 19 rfl rfl)
theorem dX7_sample_137 : decode cX7_sample 137 = .ok (.putfield 168, 3) := dk_181 0 168 (dk_at dksX7_sample_5 20 rfl rfl)
theorem dX7_sample_140 : decode cX7_sample 140 = .ok (.aload_n 0, 1) := dk_42 (dk_at dksX7_sample_5 23 rfl rfl)
theorem dX7_sample_141 : decode cX7_sample 141 = .ok (.dup, 1) := dk_89 (dk_at dksX7_sample_6 0 rfl rfl)
theorem dX7_sample_142 : decode cX7_sample 142 = .ok (.getfield 171, 3) := dk_180 0 171 (dk_at dksX7_sample_6 1 rfl rfl)
theorem dX7_sample_145 : decode cX7_sample 145 = .ok (.iload_n 3, 1) := dk_29 (dk_at dksX7_sample_6 4 rfl rfl)
theorem dX7_sample_146 : decode cX7_sample 146 = .ok (.ifCond .le 16, 3) := dk_158 0 16 (dk_at dksX7_sample_6 5 rfl rfl)
theorem dX7_sample_149 : decode cX7_sample 149 = .ok (.aload_n 0, 1) := dk_42 (dk_at dksX7_sample_6 8 rfl rfl)
theorem dX7_sample_150 : decode cX7_sample 150 = .ok (.getfield 67, 3) := dk_180 0 67 (dk_at dksX7_sample_6 9 rfl rfl)
theorem dX7_sample_153 : decode cX7_sample 153 = .ok (.iconst 0, 1) := dk_3 (dk_at dksX7_sample_6 12 rfl rfl)
theorem dX7_sample_154 : decode cX7_sample 154 = .ok (.iaload, 1) := dk_46 (dk_at dksX7_sample_6 13 rfl rfl)
theorem dX7_sample_155 : decode cX7_sample 155 = .ok (.ifCond .gt 7, 3) := dk_157 0 7 (dk_at dksX7_sample_6 14 rfl rfl)
theorem dX7_sample_158 : decode cX7_sample 158 = .ok (.iconst 1, 1) := dk_4 (dk_at dksX7_sample_6 17 rfl rfl)
theorem dX7_sample_159 : decode cX7_sample 159 = .ok (.goto 4, 3) := dk_167 0 4 (dk_at dksX7_sample_6 18 rfl rfl)
theorem dX7_sample_162 : decode cX7_sample 162 = .ok (.iconst 0, 1) := dk_3 (dk_at dksX7_sample_6 21 rfl rfl)
theorem dX7_sample_163 : decode cX7_sample 163 = .ok (.iadd, 1) := dk_96 (dk_at dksX7_sample_6 22 rfl rfl)
theorem dX7_sample_164 : decode cX7_sample 164 = .ok (.putfield 171, 3) := dk_181 0 171 (dk_at dksX7_sample_7 0 rfl rfl)
theorem dX7_sample_167 : decode cX7_sample 167 = .ok (.aload_n 0, 1) := dk_42 (dk_at dksX7_sample_7 3 rfl rfl)
theorem dX7_sample_168 : decode cX7_sample 168 = .ok (.aload_n 0, 1) := dk_42 (dk_at dksX7_sample_7 4 rfl rfl)
theorem dX7_sample_169 : decode cX7_sample 169 = .ok (.getfield 174, 3) := dk_180 0 174 (dk_at dksX7_sample_7 5 rfl rfl)
theorem dX7_sample_172 : decode cX7_sample 172 = .ok (.iload_n 3, 1) := dk_29 (dk_at dksX7_sample_7 8 rfl rfl)
theorem dX7_sample_173 : decode cX7_sample 173 = .ok (.invokestatic 177, 3) := dk_184 0 177 (dk_at dksX7_sample_7 9 rfl rfl)
theorem dX7_sample_176 : decode cX7_sample 176 = .ok (.invokestatic 138, 3) := dk_184 0 138 (dk_at dksX7_sample_7 12 rfl rfl)
theorem dX7_sample_179 : decode cX7_sample 179 = .ok (.putfield 174, 3) := dk_181 0 174 (dk_at dksX7_sample_7 15 rfl rfl)
theorem dX7_sample_182 : decode cX7_sample 182 = .ok (.aload_n 0, 1) := dk_42 (dk_at dksX7_sample_7 18 rfl rfl)
theorem dX7_sample_183 : decode cX7_sample 183 = .ok (.dup, 1) := dk_89 (dk_at dksX7_sample_7 19 rfl rfl)
theorem dX7_sample_184 : decode cX7_sample 184 = .ok (.getfield 180, 3) := dk_180 0 180 (dk_at dksX7_sample_7 20 rfl rfl)
theorem dX7_sample_187 : decode cX7_sample 187 = .ok (.iload_n 3, 1) := dk_29 (dk_at dksX7_sample_7 23 rfl rfl)
theorem dX7_sample_188 : decode cX7_sample 188 = .ok (.invokestatic 177, 3) := dk_184 0 177 (dk_at dksX7_sample_8 0 rfl rfl)
theorem dX7_sample_191 : decode cX7_sample 191 = .ok (.i2l, 1) := dk_133 (dk_at dksX7_sample_8 3 rfl rfl)
theorem dX7_sample_192 : decode cX7_sample 192 = .ok (.ladd, 1) := dk_97 (dk_at dksX7_sample_8 4 rfl rfl)
theorem dX7_sample_193 : decode cX7_sample 193 = .ok (.putfield 180, 3) := dk_181 0 180 (dk_at dksX7_sample_8 5 rfl rfl)
theorem dX7_sample_196 : decode cX7_sample 196 = .ok (.aload_n 0, 1) := dk_42 (dk_at dksX7_sample_8 8 rfl rfl)
theorem dX7_sample_197 : decode cX7_sample 197 = .ok (.dup, 1) := dk_89 (dk_at dksX7_sample_8 9 rfl rfl)
theorem dX7_sample_198 : decode cX7_sample 198 = .ok (.getfield 184, 3) := dk_180 0 184 (dk_at dksX7_sample_8 10 rfl rfl)
theorem dX7_sample_201 : decode cX7_sample 201 = .ok (.iconst 1, 1) := dk_4 (dk_at dksX7_sample_8 13 rfl rfl)
theorem dX7_sample_202 : decode cX7_sample 202 = .ok (.iadd, 1) := dk_96 (dk_at dksX7_sample_8 14 rfl rfl)
theorem dX7_sample_203 : decode cX7_sample 203 = .ok (.putfield 184, 3) := dk_181 0 184 (dk_at dksX7_sample_8 15 rfl rfl)
theorem dX7_sample_206 : decode cX7_sample 206 = .ok (.aload_n 0, 1) := dk_42 (dk_at dksX7_sample_8 18 rfl rfl)
theorem dX7_sample_207 : decode cX7_sample 207 = .ok (.getfield 67, 3) := dk_180 0 67 (dk_at dksX7_sample_8 19 rfl rfl)
theorem dX7_sample_210 : decode cX7_sample 210 = .ok (.iconst 0, 1) := dk_3 (dk_at dksX7_sample_8 22 rfl rfl)
theorem dX7_sample_211 : decode cX7_sample 211 = .ok (.aload_n 0, 1) := dk_42 (dk_at dksX7_sample_8 23 rfl rfl)
theorem dX7_sample_212 : decode cX7_sample 212 = .ok (.getfield 67, 3) := dk_180 0 67 (dk_at dksX7_sample_9 0 rfl rfl)
theorem dX7_sample_215 : decode cX7_sample 215 = .ok (.iconst 1, 1) := dk_4 (dk_at dksX7_sample_9 3 rfl rfl)
theorem dX7_sample_216 : decode cX7_sample 216 = .ok (.bipush 63, 2) := dk_16 63 (dk_at dksX7_sample_9 4 rfl rfl)
theorem dX7_sample_218 : decode cX7_sample 218 = .ok (.invokestatic 161, 3) := dk_184 0 161 (dk_at dksX7_sample_9 6 rfl rfl)
theorem dX7_sample_221 : decode cX7_sample 221 = .ok (.aload_n 0, 1) := dk_42 (dk_at dksX7_sample_9 9 rfl rfl)
theorem dX7_sample_222 : decode cX7_sample 222 = .ok (.getfield 67, 3) := dk_180 0 67 (dk_at dksX7_sample_9 10 rfl rfl)
theorem dX7_sample_225 : decode cX7_sample 225 = .ok (.iconst 0, 1) := dk_3 (dk_at dksX7_sample_9 13 rfl rfl)
theorem dX7_sample_226 : decode cX7_sample 226 = .ok (.iload_n 3, 1) := dk_29 (dk_at dksX7_sample_9 14 rfl rfl)
theorem dX7_sample_227 : decode cX7_sample 227 = .ok (.iastore, 1) := dk_79 (dk_at dksX7_sample_9 15 rfl rfl)
theorem dX7_sample_228 : decode cX7_sample 228 = .ok (.aload_n 0, 1) := dk_42 (dk_at dksX7_sample_9 16 rfl rfl)
theorem dX7_sample_229 : decode cX7_sample 229 = .ok (.dup, 1) := dk_89 (dk_at dksX7_sample_9 17 rfl rfl)
theorem dX7_sample_230 : decode cX7_sample 230 = .ok (.getfield 106, 3) := dk_180 0 106 (dk_at dksX7_sample_9 18 rfl rfl)
theorem dX7_sample_233 : decode cX7_sample 233 = .ok (.iconst 1, 1) := dk_4 (dk_at dksX7_sample_9 21 rfl rfl)
theorem dX7_sample_234 : decode cX7_sample 234 = .ok (.iadd, 1) := dk_96 (dk_at dksX7_sample_9 22 rfl rfl)
theorem dX7_sample_235 : decode cX7_sample 235 = .ok (.putfield 106, 3) := dk_181 0 106 (dk_at dksX7_sample_10 0 rfl rfl)
theorem dX7_sample_238 : decode cX7_sample 238 = .ok (.iconst 0, 1) := dk_3 (dk_at dksX7_sample_10 3 rfl rfl)
theorem dX7_sample_239 : decode cX7_sample 239 = .ok (.istore 4, 2) := dk_54 4 (dk_at dksX7_sample_10 4 rfl rfl)
theorem dX7_sample_241 : decode cX7_sample 241 = .ok (.iload 4, 2) := dk_21 4 (dk_at dksX7_sample_10 6 rfl rfl)
theorem dX7_sample_243 : decode cX7_sample 243 = .ok (.iconst 4, 1) := dk_7 (dk_at dksX7_sample_10 8 rfl rfl)
theorem dX7_sample_244 : decode cX7_sample 244 = .ok (.if_icmp .ge 30, 3) := dk_162 0 30 (dk_at dksX7_sample_10 9 rfl rfl)
theorem dX7_sample_247 : decode cX7_sample 247 = .ok (.aload_n 0, 1) := dk_42 (dk_at dksX7_sample_10 12 rfl rfl)
theorem dX7_sample_248 : decode cX7_sample 248 = .ok (.getfield 45, 3) := dk_180 0 45 (dk_at dksX7_sample_10 13 rfl rfl)
theorem dX7_sample_251 : decode cX7_sample 251 = .ok (.iload 4, 2) := dk_21 4 (dk_at dksX7_sample_10 16 rfl rfl)
theorem dX7_sample_253 : decode cX7_sample 253 = .ok (.iaload, 1) := dk_46 (dk_at dksX7_sample_10 18 rfl rfl)
theorem dX7_sample_254 : decode cX7_sample 254 = .ok (.ifCond .le 14, 3) := dk_158 0 14 (dk_at dksX7_sample_10 19 rfl rfl)
theorem dX7_sample_257 : decode cX7_sample 257 = .ok (.aload_n 0, 1) := dk_42 (dk_at dksX7_sample_10 22 rfl rfl)
theorem dX7_sample_258 : decode cX7_sample 258 = .ok (.getfield 45, 3) := dk_180 0 45 (dk_at dksX7_sample_11 0 rfl rfl)
theorem dX7_sample_261 : decode cX7_sample 261 = .ok (.iload 4, 2) := dk_21 4 (dk_at dksX7_sample_11 3 rfl rfl)
theorem dX7_sample_263 : decode cX7_sample 263 = .ok (.dup2, 1) := dk_92 (dk_at dksX7_sample_11 5 rfl rfl)
theorem dX7_sample_264 : decode cX7_sample 264 = .ok (.iaload, 1) := dk_46 (dk_at dksX7_sample_11 6 rfl rfl)
theorem dX7_sample_265 : decode cX7_sample 265 = .ok (.iconst 1, 1) := dk_4 (dk_at dksX7_sample_11 7 rfl rfl)
theorem dX7_sample_266 : decode cX7_sample 266 = .ok (.isub, 1) := dk_100 (dk_at dksX7_sample_11 8 rfl rfl)
theorem dX7_sample_267 : decode cX7_sample 267 = .ok (.iastore, 1) := dk_79 (dk_at dksX7_sample_11 9 rfl rfl)
theorem dX7_sample_268 : decode cX7_sample 268 = .ok (.iinc 4 1, 3) := dk_132 4 1 (dk_at dksX7_sample_11 10 rfl rfl)
theorem dX7_sample_271 : decode cX7_sample 271 = .ok (.goto (-30), 3) := dk_167 255 226 (dk_at dksX7_sample_11 13 rfl rfl)
theorem dX7_sample_274 : decode cX7_sample 274 = .ok (.aload_n 0, 1) := dk_42 (dk_at dksX7_sample_11 16 rfl rfl)
theorem dX7_sample_275 : decode cX7_sample 275 = .ok (.getfield 93, 3) := dk_180 0 93 (dk_at dksX7_sample_11 17 rfl rfl)
theorem dX7_sample_278 : decode cX7_sample 278 = .ok (.ifCond .eq 39, 3) := dk_153 0 39 (dk_at dksX7_sample_11 20 rfl rfl)
theorem dX7_sample_281 : decode cX7_sample 281 = .ok (.aload_n 0, 1) := dk_42 (dk_at dksX7_sample_11 23 rfl rfl)
theorem dX7_sample_282 : decode cX7_sample 282 = .ok (.dup, 1) := dk_89 (dk_at dksX7_sample_12 0 rfl rfl)
theorem dX7_sample_283 : decode cX7_sample 283 = .ok (.getfield 100, 3) := dk_180 0 100 (dk_at dksX7_sample_12 1 rfl rfl)
theorem dX7_sample_286 : decode cX7_sample 286 = .ok (.iconst 1, 1) := dk_4 (dk_at dksX7_sample_12 4 rfl rfl)
theorem dX7_sample_287 : decode cX7_sample 287 = .ok (.iadd, 1) := dk_96 (dk_at dksX7_sample_12 5 rfl rfl)
theorem dX7_sample_288 : decode cX7_sample 288 = .ok (.dup_x1, 1) := dk_90 (dk_at dksX7_sample_12 6 rfl rfl)
theorem dX7_sample_289 : decode cX7_sample 289 = .ok (.putfield 100, 3) := dk_181 0 100 (dk_at dksX7_sample_12 7 rfl rfl)
theorem dX7_sample_292 : decode cX7_sample 292 = .ok (.aload_n 0, 1) := dk_42 (dk_at dksX7_sample_12 10 rfl rfl)
theorem dX7_sample_293 : decode cX7_sample 293 = .ok (.getfield 103, 3) := dk_180 0 103 (dk_at dksX7_sample_12 11 rfl rfl)
theorem dX7_sample_296 : decode cX7_sample 296 = .ok (.if_icmp .ne 21, 3) := dk_160 0 21 (dk_at dksX7_sample_12 14 rfl rfl)
theorem dX7_sample_299 : decode cX7_sample 299 = .ok (.aload_n 0, 1) := dk_42 (dk_at dksX7_sample_12 17 rfl rfl)
theorem dX7_sample_300 : decode cX7_sample 300 = .ok (.iconst 0, 1) := dk_3 (dk_at dksX7_sample_12 18 rfl rfl)
theorem dX7_sample_301 : decode cX7_sample 301 = .ok (.putfield 100, 3) := dk_181 0 100 (dk_at dksX7_sample_12 19 rfl rfl)
theorem dX7_sample_304 : decode cX7_sample 304 = .ok (.aload_n 0, 1) := dk_42 (dk_at dksX7_sample_12 22 rfl rfl)
theorem dX7_sample_305 : decode cX7_sample 305 = .ok (.aload_n 0, 1) := dk_42 (dk_at dksX7_sample_12 23 rfl rfl)
theorem dX7_sample_306 : decode cX7_sample 306 = .ok (.getfield 97, 3) := dk_180 0 97 (dk_at dksX7_sample_13 0 rfl rfl)
theorem dX7_sample_309 : decode cX7_sample 309 = .ok (.iconst 1, 1) := dk_4 (dk_at dksX7_sample_13 3 rfl rfl)
theorem dX7_sample_310 : decode cX7_sample 310 = .ok (.iadd, 1) := dk_96 (dk_at dksX7_sample_13 4 rfl rfl)
theorem dX7_sample_311 : decode cX7_sample 311 = .ok (.bipush 8, 2) := dk_16 8 (dk_at dksX7_sample_13 5 rfl rfl)
theorem dX7_sample_313 : decode cX7_sample 313 = .ok (.irem, 1) := dk_112 (dk_at dksX7_sample_13 7 rfl rfl)
theorem dX7_sample_314 : decode cX7_sample 314 = .ok (.putfield 97, 3) := dk_181 0 97 (dk_at dksX7_sample_13 8 rfl rfl)
theorem dX7_sample_317 : decode cX7_sample 317 = .ok (.iload_n 3, 1) := dk_29 (dk_at dksX7_sample_13 11 rfl rfl)
theorem dX7_sample_318 : decode cX7_sample 318 = .ok (.ireturn, 1) := dk_172 (dk_at dksX7_sample_13 12 rfl rfl)
abbrev cX7_goOnTracks : ByteArray := prog_8_method_9_code
def yX7_goOnTracks : MethodName := ⟨RX7, "goOnTracks", "()V"⟩
def dkwX7_goOnTracks_6 : List UInt8 := [5, 96, 46, 182, 0, 125, 87, 132, 1, 1, 167, 255, 193, 177]
abbrev dktX7_goOnTracks_6 : List UInt8 := dkwX7_goOnTracks_6 ++ []
def dkwX7_goOnTracks_5 : List UInt8 := [180, 0, 58, 27, 46, 42, 180, 0, 61, 28, 46, 42, 180, 0, 61, 28, 4, 96, 46, 42, 180, 0, 61, 28]
abbrev dktX7_goOnTracks_5 : List UInt8 := dkwX7_goOnTracks_5 ++ dktX7_goOnTracks_6
def dkwX7_goOnTracks_4 : List UInt8 := [16, 8, 104, 42, 180, 0, 97, 96, 6, 104, 61, 42, 180, 0, 61, 28, 46, 2, 159, 0, 36, 42, 42]
abbrev dktX7_goOnTracks_4 : List UInt8 := dkwX7_goOnTracks_4 ++ dktX7_goOnTracks_5
def dkwX7_goOnTracks_3 : List UInt8 := [167, 0, 12, 42, 180, 0, 64, 42, 180, 0, 90, 100, 181, 0, 103, 3, 60, 27, 6, 162, 0, 64, 27]
abbrev dktX7_goOnTracks_3 : List UInt8 := dkwX7_goOnTracks_3 ++ dktX7_goOnTracks_4
def dkwX7_goOnTracks_2 : List UInt8 := [158, 0, 4, 177, 42, 42, 180, 0, 97, 5, 112, 154, 0, 15, 42, 180, 0, 64, 42, 180, 0, 90, 96]
abbrev dktX7_goOnTracks_2 : List UInt8 := dkwX7_goOnTracks_2 ++ dktX7_goOnTracks_3
def dkwX7_goOnTracks_1 : List UInt8 := [2, 79, 42, 27, 182, 0, 121, 132, 1, 1, 167, 255, 224, 42, 180, 0, 93, 153, 0, 10, 42, 180, 0, 100]
abbrev dktX7_goOnTracks_1 : List UInt8 := dkwX7_goOnTracks_1 ++ dktX7_goOnTracks_2
def dkwX7_goOnTracks_0 : List UInt8 := [3, 60, 27, 7, 162, 0, 33, 42, 180, 0, 45, 27, 46, 153, 0, 6, 167, 0, 15, 42, 180, 0, 45, 27]
abbrev dktX7_goOnTracks_0 : List UInt8 := dkwX7_goOnTracks_0 ++ dktX7_goOnTracks_1
theorem dksX7_goOnTracks_0 : cX7_goOnTracks.data.toList.drop 0 = dktX7_goOnTracks_0 := by decide +kernel
theorem dksX7_goOnTracks_1 : cX7_goOnTracks.data.toList.drop 24 = dktX7_goOnTracks_1 := dk_seg dksX7_goOnTracks_0 24 rfl rfl
theorem dksX7_goOnTracks_2 : cX7_goOnTracks.data.toList.drop 48 = dktX7_goOnTracks_2 := dk_seg dksX7_goOnTracks_1 24 rfl rfl
theorem dksX7_goOnTracks_3 : cX7_goOnTracks.data.toList.drop 71 = dktX7_goOnTracks_3 := dk_seg dksX7_goOnTracks_2 23 rfl rfl
theorem dksX7_goOnTracks_4 : cX7_goOnTracks.data.toList.drop 94 = dktX7_goOnTracks_4 := dk_seg dksX7_goOnTracks_3 23 rfl rfl
theorem dksX7_goOnTracks_5 : cX7_goOnTracks.data.toList.drop 117 = dktX7_goOnTracks_5 := dk_seg dksX7_goOnTracks_4 23 rfl rfl
theorem dksX7_goOnTracks_6 : cX7_goOnTracks.data.toList.drop 141 = dktX7_goOnTracks_6 := dk_seg dksX7_goOnTracks_5 24 rfl rfl
theorem dX7_goOnTracks_0 : decode cX7_goOnTracks 0 = .ok (.iconst 0, 1) := dk_3 (dk_at dksX7_goOnTracks_0 0 rfl rfl)
theorem dX7_goOnTracks_1 : decode cX7_goOnTracks 1 = .ok (.istore_n 1, 1) := dk_60 (dk_at dksX7_goOnTracks_0 1 rfl rfl)
theorem dX7_goOnTracks_2 : decode cX7_goOnTracks 2 = .ok (.iload_n 1, 1) := dk_27 (dk_at dksX7_goOnTracks_0 2 rfl rfl)
theorem dX7_goOnTracks_3 : decode cX7_goOnTracks 3 = .ok (.iconst 4, 1) := dk_7 (dk_at dksX7_goOnTracks_0 3 rfl rfl)
theorem dX7_goOnTracks_4 : decode cX7_goOnTracks 4 = .ok (.if_icmp .ge 33, 3) := dk_162 0 33 (dk_at dksX7_goOnTracks_0 4 rfl rfl)
theorem dX7_goOnTracks_7 : decode cX7_goOnTracks 7 = .ok (.aload_n 0, 1) := dk_42 (dk_at dksX7_goOnTracks_0 7 rfl rfl)
theorem dX7_goOnTracks_8 : decode cX7_goOnTracks 8 = .ok (.getfield 45, 3) := dk_180 0 45 (dk_at dksX7_goOnTracks_0 8 rfl rfl)
theorem dX7_goOnTracks_11 : decode cX7_goOnTracks 11 = .ok (.iload_n 1, 1) := dk_27 (dk_at dksX7_goOnTracks_0 11 rfl rfl)
theorem dX7_goOnTracks_12 : decode cX7_goOnTracks 12 = .ok (.iaload, 1) := dk_46 (dk_at dksX7_goOnTracks_0 12 rfl rfl)
theorem dX7_goOnTracks_13 : decode cX7_goOnTracks 13 = .ok (.ifCond .eq 6, 3) := dk_153 0 6 (dk_at dksX7_goOnTracks_0 13 rfl rfl)
theorem dX7_goOnTracks_16 : decode cX7_goOnTracks 16 = .ok (.goto 15, 3) := dk_167 0 15 (dk_at dksX7_goOnTracks_0 16 rfl rfl)
theorem dX7_goOnTracks_19 : decode cX7_goOnTracks 19 = .ok (.aload_n 0, 1) := dk_42 (dk_at dksX7_goOnTracks_0 19 rfl rfl)
theorem dX7_goOnTracks_20 : decode cX7_goOnTracks 20 = .ok (.getfield 45, 3) := dk_180 0 45 (dk_at dksX7_goOnTracks_0 20 rfl rfl)
theorem dX7_goOnTracks_23 : decode cX7_goOnTracks 23 = .ok (.iload_n 1, 1) := dk_27 (dk_at dksX7_goOnTracks_0 23 rfl rfl)
theorem dX7_goOnTracks_24 : decode cX7_goOnTracks 24 = .ok (.iconst (-1), 1) := dk_2 (dk_at dksX7_goOnTracks_1 0 rfl rfl)
theorem dX7_goOnTracks_25 : decode cX7_goOnTracks 25 = .ok (.iastore, 1) := dk_79 (dk_at dksX7_goOnTracks_1 1 rfl rfl)
theorem dX7_goOnTracks_26 : decode cX7_goOnTracks 26 = .ok (.aload_n 0, 1) := dk_42 (dk_at dksX7_goOnTracks_1 2 rfl rfl)
theorem dX7_goOnTracks_27 : decode cX7_goOnTracks 27 = .ok (.iload_n 1, 1) := dk_27 (dk_at dksX7_goOnTracks_1 3 rfl rfl)
theorem dX7_goOnTracks_28 : decode cX7_goOnTracks 28 = .ok (.invokevirtual 121, 3) := dk_182 0 121 (dk_at dksX7_goOnTracks_1 4 rfl rfl)
theorem dX7_goOnTracks_31 : decode cX7_goOnTracks 31 = .ok (.iinc 1 1, 3) := dk_132 1 1 (dk_at dksX7_goOnTracks_1 7 rfl rfl)
theorem dX7_goOnTracks_34 : decode cX7_goOnTracks 34 = .ok (.goto (-32), 3) := dk_167 255 224 (dk_at dksX7_goOnTracks_1 10 rfl rfl)
theorem dX7_goOnTracks_37 : decode cX7_goOnTracks 37 = .ok (.aload_n 0, 1) := dk_42 (dk_at dksX7_goOnTracks_1 13 rfl rfl)
theorem dX7_goOnTracks_38 : decode cX7_goOnTracks 38 = .ok (.getfield 93, 3) := dk_180 0 93 (dk_at dksX7_goOnTracks_1 14 rfl rfl)
theorem dX7_goOnTracks_41 : decode cX7_goOnTracks 41 = .ok (.ifCond .eq 10, 3) := dk_153 0 10 (dk_at dksX7_goOnTracks_1 17 rfl rfl)
theorem dX7_goOnTracks_44 : decode cX7_goOnTracks 44 = .ok (.aload_n 0, 1) := dk_42 (dk_at dksX7_goOnTracks_1 20 rfl rfl)
theorem dX7_goOnTracks_45 : decode cX7_goOnTracks 45 = .ok (.getfield 100, 3) := dk_180 0 100 (dk_at dksX7_goOnTracks_1 21 rfl rfl)
theorem dX7_goOnTracks_48 : decode cX7_goOnTracks 48 = .ok (.ifCond .le 4, 3) := dk_158 0 4 (dk_at dksX7_goOnTracks_2 0 rfl rfl)
theorem dX7_goOnTracks_51 : decode cX7_goOnTracks 51 = .ok (.return_, 1) := dk_177 (dk_at dksX7_goOnTracks_2 3 rfl rfl)
theorem dX7_goOnTracks_52 : decode cX7_goOnTracks 52 = .ok (.aload_n 0, 1) := dk_42 (dk_at dksX7_goOnTracks_2 4 rfl rfl)
theorem dX7_goOnTracks_53 : decode cX7_goOnTracks 53 = .ok (.aload_n 0, 1) := dk_42 (dk_at dksX7_goOnTracks_2 5 rfl rfl)
theorem dX7_goOnTracks_54 : decode cX7_goOnTracks 54 = .ok (.getfield 97, 3) := dk_180 0 97 (dk_at dksX7_goOnTracks_2 6 rfl rfl)
theorem dX7_goOnTracks_57 : decode cX7_goOnTracks 57 = .ok (.iconst 2, 1) := dk_5 (dk_at dksX7_goOnTracks_2 9 rfl rfl)
theorem dX7_goOnTracks_58 : decode cX7_goOnTracks 58 = .ok (.irem, 1) := dk_112 (dk_at dksX7_goOnTracks_2 10 rfl rfl)
theorem dX7_goOnTracks_59 : decode cX7_goOnTracks 59 = .ok (.ifCond .ne 15, 3) := dk_154 0 15 (dk_at dksX7_goOnTracks_2 11 rfl rfl)
theorem dX7_goOnTracks_62 : decode cX7_goOnTracks 62 = .ok (.aload_n 0, 1) := dk_42 (dk_at dksX7_goOnTracks_2 14 rfl rfl)
theorem dX7_goOnTracks_63 : decode cX7_goOnTracks 63 = .ok (.getfield 64, 3) := dk_180 0 64 (dk_at dksX7_goOnTracks_2 15 rfl rfl)
theorem dX7_goOnTracks_66 : decode cX7_goOnTracks 66 = .ok (.aload_n 0, 1) := dk_42 (dk_at dksX7_goOnTracks_2 18 rfl rfl)
theorem dX7_goOnTracks_67 : decode cX7_goOnTracks 67 = .ok (.getfield 90, 3) := dk_180 0 90 (dk_at dksX7_goOnTracks_2 19 rfl rfl)
theorem dX7_goOnTracks_70 : decode cX7_goOnTracks 70 = .ok (.iadd, 1) := dk_96 (dk_at dksX7_goOnTracks_2 22 rfl rfl)
theorem dX7_goOnTracks_71 : decode cX7_goOnTracks 71 = .ok (.goto 12, 3) := dk_167 0 12 (dk_at dksX7_goOnTracks_3 0 rfl rfl)
theorem dX7_goOnTracks_74 : decode cX7_goOnTracks 74 = .ok (.aload_n 0, 1) := dk_42 (dk_at dksX7_goOnTracks_3 3 rfl rfl)
theorem dX7_goOnTracks_75 : decode cX7_goOnTracks 75 = .ok (.getfield 64, 3) := dk_180 0 64 (dk_at dksX7_goOnTracks_3 4 rfl rfl)
theorem dX7_goOnTracks_78 : decode cX7_goOnTracks 78 = .ok (.aload_n 0, 1) := dk_42 (dk_at dksX7_goOnTracks_3 7 rfl rfl)
theorem dX7_goOnTracks_79 : decode cX7_goOnTracks 79 = .ok (.getfield 90, 3) := dk_180 0 90 (dk_at dksX7_goOnTracks_3 8 rfl rfl)
theorem dX7_goOnTracks_82 : decode cX7_goOnTracks 82 = .ok (.isub, 1) := dk_100 (dk_at dksX7_goOnTracks_3 11 rfl rfl)
theorem dX7_goOnTracks_83 : decode cX7_goOnTracks 83 = .ok (.putfield 103, 3) := dk_181 0 103 (dk_at dksX7_goOnTracks_3 12 rfl rfl)
theorem dX7_goOnTracks_86 : decode cX7_goOnTracks 86 = .ok (.iconst 0, 1) := dk_3 (dk_at dksX7_goOnTracks_3 15 rfl rfl)
theorem dX7_goOnTracks_87 : decode cX7_goOnTracks 87 = .ok (.istore_n 1, 1) := dk_60 (dk_at dksX7_goOnTracks_3 16 rfl rfl)
theorem dX7_goOnTracks_88 : decode cX7_goOnTracks 88 = .ok (.iload_n 1, 1) := dk_27 (dk_at dksX7_goOnTracks_3 17 rfl rfl)
theorem dX7_goOnTracks_89 : decode cX7_goOnTracks 89 = .ok (.iconst 3, 1) := dk_6 (dk_at dksX7_goOnTracks_3 18 rfl rfl)
theorem dX7_goOnTracks_90 : decode cX7_goOnTracks 90 = .ok (.if_icmp .ge 64, 3) := dk_162 0 64 (dk_at dksX7_goOnTracks_3 19 rfl rfl)
theorem dX7_goOnTracks_93 : decode cX7_goOnTracks 93 = .ok (.iload_n 1, 1) := dk_27 (dk_at dksX7_goOnTracks_3 22 rfl rfl)
theorem dX7_goOnTracks_94 : decode cX7_goOnTracks 94 = .ok (.bipush 8, 2) := dk_16 8 (dk_at dksX7_goOnTracks_4 0 rfl rfl)
theorem dX7_goOnTracks_96 : decode cX7_goOnTracks 96 = .ok (.imul, 1) := dk_104 (dk_at dksX7_goOnTracks_4 2 rfl rfl)
theorem dX7_goOnTracks_97 : decode cX7_goOnTracks 97 = .ok (.aload_n 0, 1) := dk_42 (dk_at dksX7_goOnTracks_4 3 rfl rfl)
theorem dX7_goOnTracks_98 : decode cX7_goOnTracks 98 = .ok (.getfield 97, 3) := dk_180 0 97 (dk_at dksX7_goOnTracks_4 4 rfl rfl)
theorem dX7_goOnTracks_101 : decode cX7_goOnTracks 101 = .ok (.iadd, 1) := dk_96 (dk_at dksX7_goOnTracks_4 7 rfl rfl)
theorem dX7_goOnTracks_102 : decode cX7_goOnTracks 102 = .ok (.iconst 3, 1) := dk_6 (dk_at dksX7_goOnTracks_4 8 rfl rfl)
theorem dX7_goOnTracks_103 : decode cX7_goOnTracks 103 = .ok (.imul, 1) := dk_104 (dk_at dksX7_goOnTracks_4 9 rfl rfl)
theorem dX7_goOnTracks_104 : decode cX7_goOnTracks 104 = .ok (.istore_n 2, 1) := dk_61 (dk_at dksX7_goOnTracks_4 10 rfl rfl)
theorem dX7_goOnTracks_105 : decode cX7_goOnTracks 105 = .ok (.aload_n 0, 1) := dk_42 (dk_at dksX7_goOnTracks_4 11 rfl rfl)
theorem dX7_goOnTracks_106 : decode cX7_goOnTracks 106 = .ok (.getfield 61, 3) := dk_180 0 61 (dk_at dksX7_goOnTracks_4 12 rfl rfl)
theorem dX7_goOnTracks_109 : decode cX7_goOnTracks 109 = .ok (.iload_n 2, 1) := dk_28 (dk_at dksX7_goOnTracks_4 15 rfl rfl)
theorem dX7_goOnTracks_110 : decode cX7_goOnTracks 110 = .ok (.iaload, 1) := dk_46 (dk_at dksX7_goOnTracks_4 16 rfl rfl)
theorem dX7_goOnTracks_111 : decode cX7_goOnTracks 111 = .ok (.iconst (-1), 1) := dk_2 (dk_at dksX7_goOnTracks_4 17 rfl rfl)
theorem dX7_goOnTracks_112 : decode cX7_goOnTracks 112 = .ok (.if_icmp .eq 36, 3) := dk_159 0 36 (dk_at dksX7_goOnTracks_4 18 rfl rfl)
theorem dX7_goOnTracks_115 : decode cX7_goOnTracks 115 = .ok (.aload_n 0, 1) := dk_42 (dk_at dksX7_goOnTracks_4 21 rfl rfl)
theorem dX7_goOnTracks_116 : decode cX7_goOnTracks 116 = .ok (.aload_n 0, 1) := dk_42 (dk_at dksX7_goOnTracks_4 22 rfl rfl)
theorem dX7_goOnTracks_117 : decode cX7_goOnTracks 117 = .ok (.getfield 58, 3) := dk_180 0 58 (dk_at dksX7_goOnTracks_5 0 rfl rfl)
theorem dX7_goOnTracks_120 : decode cX7_goOnTracks 120 = .ok (.iload_n 1, 1) := dk_27 (dk_at dksX7_goOnTracks_5 3 rfl rfl)
theorem dX7_goOnTracks_121 : decode cX7_goOnTracks 121 = .ok (.iaload, 1) := dk_46 (dk_at dksX7_goOnTracks_5 4 rfl rfl)
theorem dX7_goOnTracks_122 : decode cX7_goOnTracks 122 = .ok (.aload_n 0, 1) := dk_42 (dk_at dksX7_goOnTracks_5 5 rfl rfl)
theorem dX7_goOnTracks_123 : decode cX7_goOnTracks 123 = .ok (.getfield 61, 3) := dk_180 0 61 (dk_at dksX7_goOnTracks_5 6 rfl rfl)
theorem dX7_goOnTracks_126 : decode cX7_goOnTracks 126 = .ok (.iload_n 2, 1) := dk_28 (dk_at dksX7_goOnTracks_5 9 rfl rfl)
theorem dX7_goOnTracks_127 : decode cX7_goOnTracks 127 = .ok (.iaload, 1) := dk_46 (dk_at dksX7_goOnTracks_5 10 rfl rfl)
theorem dX7_goOnTracks_128 : decode cX7_goOnTracks 128 = .ok (.aload_n 0, 1) := dk_42 (dk_at dksX7_goOnTracks_5 11 rfl rfl)
theorem dX7_goOnTracks_129 : decode cX7_goOnTracks 129 = .ok (.getfield 61, 3) := dk_180 0 61 (dk_at dksX7_goOnTracks_5 12 rfl rfl)
theorem dX7_goOnTracks_132 : decode cX7_goOnTracks 132 = .ok (.iload_n 2, 1) := dk_28 (dk_at dksX7_goOnTracks_5 15 rfl rfl)
theorem dX7_goOnTracks_133 : decode cX7_goOnTracks 133 = .ok (.iconst 1, 1) := dk_4 (dk_at dksX7_goOnTracks_5 16 rfl rfl)
theorem dX7_goOnTracks_134 : decode cX7_goOnTracks 134 = .ok (.iadd, 1) := dk_96 (dk_at dksX7_goOnTracks_5 17 rfl rfl)
theorem dX7_goOnTracks_135 : decode cX7_goOnTracks 135 = .ok (.iaload, 1) := dk_46 (dk_at dksX7_goOnTracks_5 18 rfl rfl)
theorem dX7_goOnTracks_136 : decode cX7_goOnTracks 136 = .ok (.aload_n 0, 1) := dk_42 (dk_at dksX7_goOnTracks_5 19 rfl rfl)
theorem dX7_goOnTracks_137 : decode cX7_goOnTracks 137 = .ok (.getfield 61, 3) := dk_180 0 61 (dk_at dksX7_goOnTracks_5 20 rfl rfl)
theorem dX7_goOnTracks_140 : decode cX7_goOnTracks 140 = .ok (.iload_n 2, 1) := dk_28 (dk_at dksX7_goOnTracks_5 23 rfl rfl)
theorem dX7_goOnTracks_141 : decode cX7_goOnTracks 141 = .ok (.iconst 2, 1) := dk_5 (dk_at dksX7_goOnTracks_6 0 rfl rfl)
theorem dX7_goOnTracks_142 : decode cX7_goOnTracks 142 = .ok (.iadd, 1) := dk_96 (dk_at dksX7_goOnTracks_6 1 rfl rfl)
theorem dX7_goOnTracks_143 : decode cX7_goOnTracks 143 = .ok (.iaload, 1) := dk_46 (dk_at dksX7_goOnTracks_6 2 rfl rfl)
theorem dX7_goOnTracks_144 : decode cX7_goOnTracks 144 = .ok (.invokevirtual 125, 3) := dk_182 0 125 (dk_at dksX7_goOnTracks_6 3 rfl rfl)
theorem dX7_goOnTracks_147 : decode cX7_goOnTracks 147 = .ok (.pop, 1) := dk_87 (dk_at dksX7_goOnTracks_6 6 rfl rfl)
theorem dX7_goOnTracks_148 : decode cX7_goOnTracks 148 = .ok (.iinc 1 1, 3) := dk_132 1 1 (dk_at dksX7_goOnTracks_6 7 rfl rfl)
theorem dX7_goOnTracks_151 : decode cX7_goOnTracks 151 = .ok (.goto (-63), 3) := dk_167 255 193 (dk_at dksX7_goOnTracks_6 10 rfl rfl)
theorem dX7_goOnTracks_154 : decode cX7_goOnTracks 154 = .ok (.return_, 1) := dk_177 (dk_at dksX7_goOnTracks_6 13 rfl rfl)
abbrev cX7_gives : ByteArray := prog_8_method_12_code
def yX7_gives : MethodName := ⟨RX7, "gives", "(I)I"⟩
def dkwX7_gives_13 : List UInt8 := [108, 104, 17, 3, 232, 108, 172]
abbrev dktX7_gives_13 : List UInt8 := dkwX7_gives_13 ++ []
def dkwX7_gives_12 : List UInt8 := [180, 0, 39, 27, 46, 42, 180, 0, 30, 27, 46, 104, 16, 127, 108, 42, 180, 0, 21, 27, 46, 17, 3, 232]
abbrev dktX7_gives_12 : List UInt8 := dkwX7_gives_12 ++ dktX7_gives_13
def dkwX7_gives_11 : List UInt8 := [46, 42, 27, 16, 8, 182, 0, 129, 21, 6, 104, 17, 1, 0, 108, 96, 17, 15, 160, 184, 0, 152, 79, 42]
abbrev dktX7_gives_11 : List UInt8 := dkwX7_gives_11 ++ dktX7_gives_12
def dkwX7_gives_10 : List UInt8 := [42, 180, 0, 42, 27, 46, 104, 17, 1, 0, 108, 100, 54, 6, 42, 180, 0, 42, 27, 42, 180, 0, 42, 27]
abbrev dktX7_gives_10 : List UInt8 := dkwX7_gives_10 ++ dktX7_gives_11
def dkwX7_gives_9 : List UInt8 := [96, 17, 15, 160, 184, 0, 152, 79, 21, 4, 42, 180, 0, 39, 27, 46, 100, 42, 27, 16, 9, 182, 0, 129]
abbrev dktX7_gives_9 : List UInt8 := dkwX7_gives_9 ++ dktX7_gives_10
def dkwX7_gives_8 : List UInt8 := [42, 180, 0, 39, 27, 46, 42, 27, 16, 8, 182, 0, 129, 42, 180, 0, 42, 27, 46, 104, 17, 1, 0, 108]
abbrev dktX7_gives_8 : List UInt8 := dkwX7_gives_8 ++ dktX7_gives_9
def dkwX7_gives_7 : List UInt8 := [21, 5, 96, 29, 96, 42, 27, 5, 182, 0, 129, 96, 18, 144, 96, 18, 144, 112, 79, 42, 180, 0, 39, 27]
abbrev dktX7_gives_7 : List UInt8 := dkwX7_gives_7 ++ dktX7_gives_8
def dkwX7_gives_6 : List UInt8 := [46, 21, 5, 96, 29, 96, 18, 144, 96, 18, 144, 112, 79, 42, 180, 0, 36, 27, 42, 180, 0, 36, 27, 46]
abbrev dktX7_gives_6 : List UInt8 := dkwX7_gives_6 ++ dktX7_gives_7
def dkwX7_gives_5 : List UInt8 := [108, 54, 4, 42, 180, 0, 27, 27, 46, 184, 0, 148, 54, 5, 42, 180, 0, 33, 27, 42, 180, 0, 33, 27]
abbrev dktX7_gives_5 : List UInt8 := dkwX7_gives_5 ++ dktX7_gives_6
def dkwX7_gives_4 : List UInt8 := [27, 4, 182, 0, 129, 42, 180, 0, 36, 27, 46, 182, 0, 145, 42, 27, 6, 182, 0, 129, 104, 96, 16, 100]
abbrev dktX7_gives_4 : List UInt8 := dkwX7_gives_4 ++ dktX7_gives_5
def dkwX7_gives_3 : List UInt8 := [182, 0, 129, 42, 180, 0, 33, 27, 46, 182, 0, 145, 16, 100, 42, 27, 6, 182, 0, 129, 100, 104, 42, 42]
abbrev dktX7_gives_3 : List UInt8 := dkwX7_gives_3 ++ dktX7_gives_4
def dkwX7_gives_2 : List UInt8 := [180, 0, 106, 28, 112, 18, 144, 104, 28, 108, 182, 0, 145, 104, 17, 3, 232, 108, 62, 42, 42, 27, 3]
abbrev dktX7_gives_2 : List UInt8 := dkwX7_gives_2 ++ dktX7_gives_3
def dkwX7_gives_1 : List UInt8 := [154, 0, 5, 3, 172, 42, 27, 16, 11, 182, 0, 129, 61, 42, 27, 16, 10, 182, 0, 129, 42, 5, 42]
abbrev dktX7_gives_1 : List UInt8 := dkwX7_gives_1 ++ dktX7_gives_2
def dkwX7_gives_0 : List UInt8 := [42, 180, 0, 18, 27, 46, 154, 0, 5, 3, 172, 42, 27, 182, 0, 141, 42, 180, 0, 18, 27, 46]
abbrev dktX7_gives_0 : List UInt8 := dkwX7_gives_0 ++ dktX7_gives_1
theorem dksX7_gives_0 : cX7_gives.data.toList.drop 0 = dktX7_gives_0 := by decide +kernel
theorem dksX7_gives_1 : cX7_gives.data.toList.drop 22 = dktX7_gives_1 := dk_seg dksX7_gives_0 22 rfl rfl
theorem dksX7_gives_2 : cX7_gives.data.toList.drop 45 = dktX7_gives_2 := dk_seg dksX7_gives_1 23 rfl rfl
theorem dksX7_gives_3 : cX7_gives.data.toList.drop 68 = dktX7_gives_3 := dk_seg dksX7_gives_2 23 rfl rfl
theorem dksX7_gives_4 : cX7_gives.data.toList.drop 92 = dktX7_gives_4 := dk_seg dksX7_gives_3 24 rfl rfl
theorem dksX7_gives_5 : cX7_gives.data.toList.drop 116 = dktX7_gives_5 := dk_seg dksX7_gives_4 24 rfl rfl
theorem dksX7_gives_6 : cX7_gives.data.toList.drop 140 = dktX7_gives_6 := dk_seg dksX7_gives_5 24 rfl rfl
theorem dksX7_gives_7 : cX7_gives.data.toList.drop 164 = dktX7_gives_7 := dk_seg dksX7_gives_6 24 rfl rfl
theorem dksX7_gives_8 : cX7_gives.data.toList.drop 188 = dktX7_gives_8 := dk_seg dksX7_gives_7 24 rfl rfl
theorem dksX7_gives_9 : cX7_gives.data.toList.drop 212 = dktX7_gives_9 := dk_seg dksX7_gives_8 24 rfl rfl
theorem dksX7_gives_10 : cX7_gives.data.toList.drop 236 = dktX7_gives_10 := dk_seg dksX7_gives_9 24 rfl rfl
theorem dksX7_gives_11 : cX7_gives.data.toList.drop 260 = dktX7_gives_11 := dk_seg dksX7_gives_10 24 rfl rfl
theorem dksX7_gives_12 : cX7_gives.data.toList.drop 284 = dktX7_gives_12 := dk_seg dksX7_gives_11 24 rfl rfl
theorem dksX7_gives_13 : cX7_gives.data.toList.drop 308 = dktX7_gives_13 := dk_seg dksX7_gives_12 24 rfl rfl
theorem dX7_gives_0 : decode cX7_gives 0 = .ok (.aload_n 0, 1) := dk_42 (dk_at dksX7_gives_0 0 rfl rfl)
theorem dX7_gives_1 : decode cX7_gives 1 = .ok (.getfield 18, 3) := dk_180 0 18 (dk_at dksX7_gives_0 1 rfl rfl)
theorem dX7_gives_4 : decode cX7_gives 4 = .ok (.iload_n 1, 1) := dk_27 (dk_at dksX7_gives_0 4 rfl rfl)
theorem dX7_gives_5 : decode cX7_gives 5 = .ok (.iaload, 1) := dk_46 (dk_at dksX7_gives_0 5 rfl rfl)
theorem dX7_gives_6 : decode cX7_gives 6 = .ok (.ifCond .ne 5, 3) := dk_154 0 5 (dk_at dksX7_gives_0 6 rfl rfl)
theorem dX7_gives_9 : decode cX7_gives 9 = .ok (.iconst 0, 1) := dk_3 (dk_at dksX7_gives_0 9 rfl rfl)
theorem dX7_gives_10 : decode cX7_gives 10 = .ok (.ireturn, 1) := dk_172 (dk_at dksX7_gives_0 10 rfl rfl)
theorem dX7_gives_11 : decode cX7_gives 11 = .ok (.aload_n 0, 1) := dk_42 (dk_at dksX7_gives_0 11 rfl rfl)
theorem dX7_gives_12 : decode cX7_gives 12 = .ok (.iload_n 1, 1) := dk_27 (dk_at dksX7_gives_0 12 rfl rfl)
theorem dX7_gives_13 : decode cX7_gives 13 = .ok (.invokevirtual 141, 3) := dk_182 0 141 (dk_at dksX7_gives_0 13 rfl rfl)
theorem dX7_gives_16 : decode cX7_gives 16 = .ok (.aload_n 0, 1) := dk_42 (dk_at dksX7_gives_0 16 rfl rfl)
theorem dX7_gives_17 : decode cX7_gives 17 = .ok (.getfield 18, 3) := dk_180 0 18 (dk_at dksX7_gives_0 17 rfl rfl)
theorem dX7_gives_20 : decode cX7_gives 20 = .ok (.iload_n 1, 1) := dk_27 (dk_at dksX7_gives_0 20 rfl rfl)
theorem dX7_gives_21 : decode cX7_gives 21 = .ok (.iaload, 1) := dk_46 (dk_at dksX7_gives_0 21 rfl rfl)
theorem dX7_gives_22 : decode cX7_gives 22 = .ok (.ifCond .ne 5, 3) := dk_154 0 5 (dk_at dksX7_gives_1 0 rfl rfl)
theorem dX7_gives_25 : decode cX7_gives 25 = .ok (.iconst 0, 1) := dk_3 (dk_at dksX7_gives_1 3 rfl rfl)
theorem dX7_gives_26 : decode cX7_gives 26 = .ok (.ireturn, 1) := dk_172 (dk_at dksX7_gives_1 4 rfl rfl)
theorem dX7_gives_27 : decode cX7_gives 27 = .ok (.aload_n 0, 1) := dk_42 (dk_at dksX7_gives_1 5 rfl rfl)
theorem dX7_gives_28 : decode cX7_gives 28 = .ok (.iload_n 1, 1) := dk_27 (dk_at dksX7_gives_1 6 rfl rfl)
theorem dX7_gives_29 : decode cX7_gives 29 = .ok (.bipush 11, 2) := dk_16 11 (dk_at dksX7_gives_1 7 rfl rfl)
theorem dX7_gives_31 : decode cX7_gives 31 = .ok (.invokevirtual 129, 3) := dk_182 0 129 (dk_at dksX7_gives_1 9 rfl rfl)
theorem dX7_gives_34 : decode cX7_gives 34 = .ok (.istore_n 2, 1) := dk_61 (dk_at dksX7_gives_1 12 rfl rfl)
theorem dX7_gives_35 : decode cX7_gives 35 = .ok (.aload_n 0, 1) := dk_42 (dk_at dksX7_gives_1 13 rfl rfl)
theorem dX7_gives_36 : decode cX7_gives 36 = .ok (.iload_n 1, 1) := dk_27 (dk_at dksX7_gives_1 14 rfl rfl)
theorem dX7_gives_37 : decode cX7_gives 37 = .ok (.bipush 10, 2) := dk_16 10 (dk_at dksX7_gives_1 15 rfl rfl)
theorem dX7_gives_39 : decode cX7_gives 39 = .ok (.invokevirtual 129, 3) := dk_182 0 129 (dk_at dksX7_gives_1 17 rfl rfl)
theorem dX7_gives_42 : decode cX7_gives 42 = .ok (.aload_n 0, 1) := dk_42 (dk_at dksX7_gives_1 20 rfl rfl)
theorem dX7_gives_43 : decode cX7_gives 43 = .ok (.iconst 2, 1) := dk_5 (dk_at dksX7_gives_1 21 rfl rfl)
theorem dX7_gives_44 : decode cX7_gives 44 = .ok (.aload_n 0, 1) := dk_42 (dk_at dksX7_gives_1 22 rfl rfl)
theorem dX7_gives_45 : decode cX7_gives 45 = .ok (.getfield 106, 3) := dk_180 0 106 (dk_at dksX7_gives_2 0 rfl rfl)
theorem dX7_gives_48 : decode cX7_gives 48 = .ok (.iload_n 2, 1) := dk_28 (dk_at dksX7_gives_2 3 rfl rfl)
theorem dX7_gives_49 : decode cX7_gives 49 = .ok (.irem, 1) := dk_112 (dk_at dksX7_gives_2 4 rfl rfl)
theorem dX7_gives_50 : decode cX7_gives 50 = .ok (.ldc 144, 2) := dk_18 144 (dk_at dksX7_gives_2 5 rfl rfl)
theorem dX7_gives_52 : decode cX7_gives 52 = .ok (.imul, 1) := dk_104 (dk_at dksX7_gives_2 7 rfl rfl)
theorem dX7_gives_53 : decode cX7_gives 53 = .ok (.iload_n 2, 1) := dk_28 (dk_at dksX7_gives_2 8 rfl rfl)
theorem dX7_gives_54 : decode cX7_gives 54 = .ok (.idiv, 1) := dk_108 (dk_at dksX7_gives_2 9 rfl rfl)
theorem dX7_gives_55 : decode cX7_gives 55 = .ok (.invokevirtual 145, 3) := dk_182 0 145 (dk_at dksX7_gives_2 10 rfl rfl)
theorem dX7_gives_58 : decode cX7_gives 58 = .ok (.imul, 1) := dk_104 (dk_at dksX7_gives_2 13 rfl rfl)
theorem dX7_gives_59 : decode cX7_gives 59 = .ok (.sipush 1000, 3) := dk_17 3 232 (dk_at dksX7_gives_2 14 rfl rfl)
theorem dX7_gives_62 : decode cX7_gives 62 = .ok (.idiv, 1) := dk_108 (dk_at dksX7_gives_2 17 rfl rfl)
theorem dX7_gives_63 : decode cX7_gives 63 = .ok (.istore_n 3, 1) := dk_62 (dk_at dksX7_gives_2 18 rfl rfl)
theorem dX7_gives_64 : decode cX7_gives 64 = .ok (.aload_n 0, 1) := dk_42 (dk_at dksX7_gives_2 19 rfl rfl)
theorem dX7_gives_65 : decode cX7_gives 65 = .ok (.aload_n 0, 1) := dk_42 (dk_at dksX7_gives_2 20 rfl rfl)
theorem dX7_gives_66 : decode cX7_gives 66 = .ok (.iload_n 1, 1) := dk_27 (dk_at dksX7_gives_2 21 rfl rfl)
theorem dX7_gives_67 : decode cX7_gives 67 = .ok (.iconst 0, 1) := dk_3 (dk_at dksX7_gives_2 22 rfl rfl)
theorem dX7_gives_68 : decode cX7_gives 68 = .ok (.invokevirtual 129, 3) := dk_182 0 129 (dk_at dksX7_gives_3 0 rfl rfl)
theorem dX7_gives_71 : decode cX7_gives 71 = .ok (.aload_n 0, 1) := dk_42 (dk_at dksX7_gives_3 3 rfl rfl)
theorem dX7_gives_72 : decode cX7_gives 72 = .ok (.getfield 33, 3) := dk_180 0 33 (dk_at dksX7_gives_3 4 rfl rfl)
theorem dX7_gives_75 : decode cX7_gives 75 = .ok (.iload_n 1, 1) := dk_27 (dk_at dksX7_gives_3 7 rfl rfl)
theorem dX7_gives_76 : decode cX7_gives 76 = .ok (.iaload, 1) := dk_46 (dk_at dksX7_gives_3 8 rfl rfl)
theorem dX7_gives_77 : decode cX7_gives 77 = .ok (.invokevirtual 145, 3) := dk_182 0 145 (dk_at dksX7_gives_3 9 rfl rfl)
theorem dX7_gives_80 : decode cX7_gives 80 = .ok (.bipush 100, 2) := dk_16 100 (dk_at dksX7_gives_3 12 rfl rfl)
theorem dX7_gives_82 : decode cX7_gives 82 = .ok (.aload_n 0, 1) := dk_42 (dk_at dksX7_gives_3 14 rfl rfl)
theorem dX7_gives_83 : decode cX7_gives 83 = .ok (.iload_n 1, 1) := dk_27 (dk_at dksX7_gives_3 15 rfl rfl)
theorem dX7_gives_84 : decode cX7_gives 84 = .ok (.iconst 3, 1) := dk_6 (dk_at dksX7_gives_3 16 rfl rfl)
theorem dX7_gives_85 : decode cX7_gives 85 = .ok (.invokevirtual 129, 3) := dk_182 0 129 (dk_at dksX7_gives_3 17 rfl rfl)
theorem dX7_gives_88 : decode cX7_gives 88 = .ok (.isub, 1) := dk_100 (dk_at dksX7_gives_3 20 rfl rfl)
theorem dX7_gives_89 : decode cX7_gives 89 = .ok (.imul, 1) := dk_104 (dk_at dksX7_gives_3 21 rfl rfl)
theorem dX7_gives_90 : decode cX7_gives 90 = .ok (.aload_n 0, 1) := dk_42 (dk_at dksX7_gives_3 22 rfl rfl)
theorem dX7_gives_91 : decode cX7_gives 91 = .ok (.aload_n 0, 1) := dk_42 (dk_at dksX7_gives_3 23 rfl rfl)
theorem dX7_gives_92 : decode cX7_gives 92 = .ok (.iload_n 1, 1) := dk_27 (dk_at dksX7_gives_4 0 rfl rfl)
theorem dX7_gives_93 : decode cX7_gives 93 = .ok (.iconst 1, 1) := dk_4 (dk_at dksX7_gives_4 1 rfl rfl)
theorem dX7_gives_94 : decode cX7_gives 94 = .ok (.invokevirtual 129, 3) := dk_182 0 129 (dk_at dksX7_gives_4 2 rfl rfl)
theorem dX7_gives_97 : decode cX7_gives 97 = .ok (.aload_n 0, 1) := dk_42 (dk_at dksX7_gives_4 5 rfl rfl)
theorem dX7_gives_98 : decode cX7_gives 98 = .ok (.getfield 36, 3) := dk_180 0 36 (dk_at dksX7_gives_4 6 rfl rfl)
theorem dX7_gives_101 : decode cX7_gives 101 = .ok (.iload_n 1, 1) := dk_27 (dk_at dksX7_gives_4 9 rfl rfl)
theorem dX7_gives_102 : decode cX7_gives 102 = .ok (.iaload, 1) := dk_46 (dk_at dksX7_gives_4 10 rfl rfl)
theorem dX7_gives_103 : decode cX7_gives 103 = .ok (.invokevirtual 145, 3) := dk_182 0 145 (dk_at dksX7_gives_4 11 rfl rfl)
theorem dX7_gives_106 : decode cX7_gives 106 = .ok (.aload_n 0, 1) := dk_42 (dk_at dksX7_gives_4 14 rfl rfl)
theorem dX7_gives_107 : decode cX7_gives 107 = .ok (.iload_n 1, 1) := dk_27 (dk_at dksX7_gives_4 15 rfl rfl)
theorem dX7_gives_108 : decode cX7_gives 108 = .ok (.iconst 3, 1) := dk_6 (dk_at dksX7_gives_4 16 rfl rfl)
theorem dX7_gives_109 : decode cX7_gives 109 = .ok (.invokevirtual 129, 3) := dk_182 0 129 (dk_at dksX7_gives_4 17 rfl rfl)
theorem dX7_gives_112 : decode cX7_gives 112 = .ok (.imul, 1) := dk_104 (dk_at dksX7_gives_4 20 rfl rfl)
theorem dX7_gives_113 : decode cX7_gives 113 = .ok (.iadd, 1) := dk_96 (dk_at dksX7_gives_4 21 rfl rfl)
theorem dX7_gives_114 : decode cX7_gives 114 = .ok (.bipush 100, 2) := dk_16 100 (dk_at dksX7_gives_4 22 rfl rfl)
theorem dX7_gives_116 : decode cX7_gives 116 = .ok (.idiv, 1) := dk_108 (dk_at dksX7_gives_5 0 rfl rfl)
theorem dX7_gives_117 : decode cX7_gives 117 = .ok (.istore 4, 2) := dk_54 4 (dk_at dksX7_gives_5 1 rfl rfl)
theorem dX7_gives_119 : decode cX7_gives 119 = .ok (.aload_n 0, 1) := dk_42 (dk_at dksX7_gives_5 3 rfl rfl)
theorem dX7_gives_120 : decode cX7_gives 120 = .ok (.getfield 27, 3) := dk_180 0 27 (dk_at dksX7_gives_5 4 rfl rfl)
theorem dX7_gives_123 : decode cX7_gives 123 = .ok (.iload_n 1, 1) := dk_27 (dk_at dksX7_gives_5 7 rfl rfl)
theorem dX7_gives_124 : decode cX7_gives 124 = .ok (.iaload, 1) := dk_46 (dk_at dksX7_gives_5 8 rfl rfl)
theorem dX7_gives_125 : decode cX7_gives 125 = .ok (.invokestatic 148, 3) := dk_184 0 148 (dk_at dksX7_gives_5 9 rfl rfl)
theorem dX7_gives_128 : decode cX7_gives 128 = .ok (.istore 5, 2) := dk_54 5 (dk_at dksX7_gives_5 12 rfl rfl)
theorem dX7_gives_130 : decode cX7_gives 130 = .ok (.aload_n 0, 1) := dk_42 (dk_at dksX7_gives_5 14 rfl rfl)
theorem dX7_gives_131 : decode cX7_gives 131 = .ok (.getfield 33, 3) := dk_180 0 33 (dk_at dksX7_gives_5 15 rfl rfl)
theorem dX7_gives_134 : decode cX7_gives 134 = .ok (.iload_n 1, 1) := dk_27 (dk_at dksX7_gives_5 18 rfl rfl)
theorem dX7_gives_135 : decode cX7_gives 135 = .ok (.aload_n 0, 1) := dk_42 (dk_at dksX7_gives_5 19 rfl rfl)
theorem dX7_gives_136 : decode cX7_gives 136 = .ok (.getfield 33, 3) := dk_180 0 33 (dk_at dksX7_gives_5 20 rfl rfl)
theorem dX7_gives_139 : decode cX7_gives 139 = .ok (.iload_n 1, 1) := dk_27 (dk_at dksX7_gives_5 23 rfl rfl)
theorem dX7_gives_140 : decode cX7_gives 140 = .ok (.iaload, 1) := dk_46 (dk_at dksX7_gives_6 0 rfl rfl)
theorem dX7_gives_141 : decode cX7_gives 141 = .ok (.iload 5, 2) := dk_21 5 (dk_at dksX7_gives_6 1 rfl rfl)
theorem dX7_gives_143 : decode cX7_gives 143 = .ok (.iadd, 1) := dk_96 (dk_at dksX7_gives_6 3 rfl rfl)
theorem dX7_gives_144 : decode cX7_gives 144 = .ok (.iload_n 3, 1) := dk_29 (dk_at dksX7_gives_6 4 rfl rfl)
theorem dX7_gives_145 : decode cX7_gives 145 = .ok (.iadd, 1) := dk_96 (dk_at dksX7_gives_6 5 rfl rfl)
theorem dX7_gives_146 : decode cX7_gives 146 = .ok (.ldc 144, 2) := dk_18 144 (dk_at dksX7_gives_6 6 rfl rfl)
theorem dX7_gives_148 : decode cX7_gives 148 = .ok (.iadd, 1) := dk_96 (dk_at dksX7_gives_6 8 rfl rfl)
theorem dX7_gives_149 : decode cX7_gives 149 = .ok (.ldc 144, 2) := dk_18 144 (dk_at dksX7_gives_6 9 rfl rfl)
theorem dX7_gives_151 : decode cX7_gives 151 = .ok (.irem, 1) := dk_112 (dk_at dksX7_gives_6 11 rfl rfl)
theorem dX7_gives_152 : decode cX7_gives 152 = .ok (.iastore, 1) := dk_79 (dk_at dksX7_gives_6 12 rfl rfl)
theorem dX7_gives_153 : decode cX7_gives 153 = .ok (.aload_n 0, 1) := dk_42 (dk_at dksX7_gives_6 13 rfl rfl)
theorem dX7_gives_154 : decode cX7_gives 154 = .ok (.getfield 36, 3) := dk_180 0 36 (dk_at dksX7_gives_6 14 rfl rfl)
theorem dX7_gives_157 : decode cX7_gives 157 = .ok (.iload_n 1, 1) := dk_27 (dk_at dksX7_gives_6 17 rfl rfl)
theorem dX7_gives_158 : decode cX7_gives 158 = .ok (.aload_n 0, 1) := dk_42 (dk_at dksX7_gives_6 18 rfl rfl)
theorem dX7_gives_159 : decode cX7_gives 159 = .ok (.getfield 36, 3) := dk_180 0 36 (dk_at dksX7_gives_6 19 rfl rfl)
theorem dX7_gives_162 : decode cX7_gives 162 = .ok (.iload_n 1, 1) := dk_27 (dk_at dksX7_gives_6 22 rfl rfl)
theorem dX7_gives_163 : decode cX7_gives 163 = .ok (.iaload, 1) := dk_46 (dk_at dksX7_gives_6 23 rfl rfl)
theorem dX7_gives_164 : decode cX7_gives 164 = .ok (.iload 5, 2) := dk_21 5 (dk_at dksX7_gives_7 0 rfl rfl)
theorem dX7_gives_166 : decode cX7_gives 166 = .ok (.iadd, 1) := dk_96 (dk_at dksX7_gives_7 2 rfl rfl)
theorem dX7_gives_167 : decode cX7_gives 167 = .ok (.iload_n 3, 1) := dk_29 (dk_at dksX7_gives_7 3 rfl rfl)
theorem dX7_gives_168 : decode cX7_gives 168 = .ok (.iadd, 1) := dk_96 (dk_at dksX7_gives_7 4 rfl rfl)
theorem dX7_gives_169 : decode cX7_gives 169 = .ok (.aload_n 0, 1) := dk_42 (dk_at dksX7_gives_7 5 rfl rfl)
theorem dX7_gives_170 : decode cX7_gives 170 = .ok (.iload_n 1, 1) := dk_27 (dk_at dksX7_gives_7 6 rfl rfl)
theorem dX7_gives_171 : decode cX7_gives 171 = .ok (.iconst 2, 1) := dk_5 (dk_at dksX7_gives_7 7 rfl rfl)
theorem dX7_gives_172 : decode cX7_gives 172 = .ok (.invokevirtual 129, 3) := dk_182 0 129 (dk_at dksX7_gives_7 8 rfl rfl)
theorem dX7_gives_175 : decode cX7_gives 175 = .ok (.iadd, 1) := dk_96 (dk_at dksX7_gives_7 11 rfl rfl)
theorem dX7_gives_176 : decode cX7_gives 176 = .ok (.ldc 144, 2) := dk_18 144 (dk_at dksX7_gives_7 12 rfl rfl)
theorem dX7_gives_178 : decode cX7_gives 178 = .ok (.iadd, 1) := dk_96 (dk_at dksX7_gives_7 14 rfl rfl)
theorem dX7_gives_179 : decode cX7_gives 179 = .ok (.ldc 144, 2) := dk_18 144 (dk_at dksX7_gives_7 15 rfl rfl)
theorem dX7_gives_181 : decode cX7_gives 181 = .ok (.irem, 1) := dk_112 (dk_at dksX7_gives_7 17 rfl rfl)
theorem dX7_gives_182 : decode cX7_gives 182 = .ok (.iastore, 1) := dk_79 (dk_at dksX7_gives_7 18 rfl rfl)
theorem dX7_gives_183 : decode cX7_gives 183 = .ok (.aload_n 0, 1) := dk_42 (dk_at dksX7_gives_7 19 rfl rfl)
theorem dX7_gives_184 : decode cX7_gives 184 = .ok (.getfield 39, 3) := dk_180 0 39 (dk_at dksX7_gives_7 20 rfl rfl)
theorem dX7_gives_187 : decode cX7_gives 187 = .ok (.iload_n 1, 1) := dk_27 (dk_at dksX7_gives_7 23 rfl rfl)
theorem dX7_gives_188 : decode cX7_gives 188 = .ok (.aload_n 0, 1) := dk_42 (dk_at dksX7_gives_8 0 rfl rfl)
theorem dX7_gives_189 : decode cX7_gives 189 = .ok (.getfield 39, 3) := dk_180 0 39 (dk_at dksX7_gives_8 1 rfl rfl)
theorem dX7_gives_192 : decode cX7_gives 192 = .ok (.iload_n 1, 1) := dk_27 (dk_at dksX7_gives_8 4 rfl rfl)
theorem dX7_gives_193 : decode cX7_gives 193 = .ok (.iaload, 1) := dk_46 (dk_at dksX7_gives_8 5 rfl rfl)
theorem dX7_gives_194 : decode cX7_gives 194 = .ok (.aload_n 0, 1) := dk_42 (dk_at dksX7_gives_8 6 rfl rfl)
theorem dX7_gives_195 : decode cX7_gives 195 = .ok (.iload_n 1, 1) := dk_27 (dk_at dksX7_gives_8 7 rfl rfl)
theorem dX7_gives_196 : decode cX7_gives 196 = .ok (.bipush 8, 2) := dk_16 8 (dk_at dksX7_gives_8 8 rfl rfl)
theorem dX7_gives_198 : decode cX7_gives 198 = .ok (.invokevirtual 129, 3) := dk_182 0 129 (dk_at dksX7_gives_8 10 rfl rfl)
theorem dX7_gives_201 : decode cX7_gives 201 = .ok (.aload_n 0, 1) := dk_42 (dk_at dksX7_gives_8 13 rfl rfl)
theorem dX7_gives_202 : decode cX7_gives 202 = .ok (.getfield 42, 3) := dk_180 0 42 (dk_at dksX7_gives_8 14 rfl rfl)
theorem dX7_gives_205 : decode cX7_gives 205 = .ok (.iload_n 1, 1) := dk_27 (dk_at dksX7_gives_8 17 rfl rfl)
theorem dX7_gives_206 : decode cX7_gives 206 = .ok (.iaload, 1) := dk_46 (dk_at dksX7_gives_8 18 rfl rfl)
theorem dX7_gives_207 : decode cX7_gives 207 = .ok (.imul, 1) := dk_104 (dk_at dksX7_gives_8 19 rfl rfl)
theorem dX7_gives_208 : decode cX7_gives 208 = .ok (.sipush 256, 3) := dk_17 1 0 (dk_at dksX7_gives_8 20 rfl rfl)
theorem dX7_gives_211 : decode cX7_gives 211 = .ok (.idiv, 1) := dk_108 (dk_at dksX7_gives_8 23 rfl rfl)
theorem dX7_gives_212 : decode cX7_gives 212 = .ok (.iadd, 1) := dk_96 (dk_at dksX7_gives_9 0 rfl rfl)
theorem dX7_gives_213 : decode cX7_gives 213 = .ok (.sipush 4000, 3) := dk_17 15 160 (dk_at dksX7_gives_9 1 rfl rfl)
theorem dX7_gives_216 : decode cX7_gives 216 = .ok (.invokestatic 152, 3) := dk_184 0 152 (dk_at dksX7_gives_9 4 rfl rfl)
theorem dX7_gives_219 : decode cX7_gives 219 = .ok (.iastore, 1) := dk_79 (dk_at dksX7_gives_9 7 rfl rfl)
theorem dX7_gives_220 : decode cX7_gives 220 = .ok (.iload 4, 2) := dk_21 4 (dk_at dksX7_gives_9 8 rfl rfl)
theorem dX7_gives_222 : decode cX7_gives 222 = .ok (.aload_n 0, 1) := dk_42 (dk_at dksX7_gives_9 10 rfl rfl)
theorem dX7_gives_223 : decode cX7_gives 223 = .ok (.getfield 39, 3) := dk_180 0 39 (dk_at dksX7_gives_9 11 rfl rfl)
theorem dX7_gives_226 : decode cX7_gives 226 = .ok (.iload_n 1, 1) := dk_27 (dk_at dksX7_gives_9 14 rfl rfl)
theorem dX7_gives_227 : decode cX7_gives 227 = .ok (.iaload, 1) := dk_46 (dk_at dksX7_gives_9 15 rfl rfl)
theorem dX7_gives_228 : decode cX7_gives 228 = .ok (.isub, 1) := dk_100 (dk_at dksX7_gives_9 16 rfl rfl)
theorem dX7_gives_229 : decode cX7_gives 229 = .ok (.aload_n 0, 1) := dk_42 (dk_at dksX7_gives_9 17 rfl rfl)
theorem dX7_gives_230 : decode cX7_gives 230 = .ok (.iload_n 1, 1) := dk_27 (dk_at dksX7_gives_9 18 rfl rfl)
theorem dX7_gives_231 : decode cX7_gives 231 = .ok (.bipush 9, 2) := dk_16 9 (dk_at dksX7_gives_9 19 rfl rfl)
theorem dX7_gives_233 : decode cX7_gives 233 = .ok (.invokevirtual 129, 3) := dk_182 0 129 (dk_at dksX7_gives_9 21 rfl rfl)
theorem dX7_gives_236 : decode cX7_gives 236 = .ok (.aload_n 0, 1) := dk_42 (dk_at dksX7_gives_10 0 rfl rfl)
theorem dX7_gives_237 : decode cX7_gives 237 = .ok (.getfield 42, 3) := dk_180 0 42 (dk_at dksX7_gives_10 1 rfl rfl)
theorem dX7_gives_240 : decode cX7_gives 240 = .ok (.iload_n 1, 1) := dk_27 (dk_at dksX7_gives_10 4 rfl rfl)
theorem dX7_gives_241 : decode cX7_gives 241 = .ok (.iaload, 1) := dk_46 (dk_at dksX7_gives_10 5 rfl rfl)
theorem dX7_gives_242 : decode cX7_gives 242 = .ok (.imul, 1) := dk_104 (dk_at dksX7_gives_10 6 rfl rfl)
theorem dX7_gives_243 : decode cX7_gives 243 = .ok (.sipush 256, 3) := dk_17 1 0 (dk_at dksX7_gives_10 7 rfl rfl)
theorem dX7_gives_246 : decode cX7_gives 246 = .ok (.idiv, 1) := dk_108 (dk_at dksX7_gives_10 10 rfl rfl)
theorem dX7_gives_247 : decode cX7_gives 247 = .ok (.isub, 1) := dk_100 (dk_at dksX7_gives_10 11 rfl rfl)
theorem dX7_gives_248 : decode cX7_gives 248 = .ok (.istore 6, 2) := dk_54 6 (dk_at dksX7_gives_10 12 rfl rfl)
theorem dX7_gives_250 : decode cX7_gives 250 = .ok (.aload_n 0, 1) := dk_42 (dk_at dksX7_gives_10 14 rfl rfl)
theorem dX7_gives_251 : decode cX7_gives 251 = .ok (.getfield 42, 3) := dk_180 0 42 (dk_at dksX7_gives_10 15 rfl rfl)
theorem dX7_gives_254 : decode cX7_gives 254 = .ok (.iload_n 1, 1) := dk_27 (dk_at dksX7_gives_10 18 rfl rfl)
theorem dX7_gives_255 : decode cX7_gives 255 = .ok (.aload_n 0, 1) := dk_42 (dk_at dksX7_gives_10 19 rfl rfl)
theorem dX7_gives_256 : decode cX7_gives 256 = .ok (.getfield 42, 3) := dk_180 0 42 (dk_at dksX7_gives_10 20 rfl rfl)
theorem dX7_gives_259 : decode cX7_gives 259 = .ok (.iload_n 1, 1) := dk_27 (dk_at dksX7_gives_10 23 rfl rfl)
theorem dX7_gives_260 : decode cX7_gives 260 = .ok (.iaload, 1) := dk_46 (dk_at dksX7_gives_11 0 rfl rfl)
theorem dX7_gives_261 : decode cX7_gives 261 = .ok (.aload_n 0, 1) := dk_42 (dk_at dksX7_gives_11 1 rfl rfl)
theorem dX7_gives_262 : decode cX7_gives 262 = .ok (.iload_n 1, 1) := dk_27 (dk_at dksX7_gives_11 2 rfl rfl)
theorem dX7_gives_263 : decode cX7_gives 263 = .ok (.bipush 8, 2) := dk_16 8 (dk_at dksX7_gives_11 3 rfl rfl)
theorem dX7_gives_265 : decode cX7_gives 265 = .ok (.invokevirtual 129, 3) := dk_182 0 129 (dk_at dksX7_gives_11 5 rfl rfl)
theorem dX7_gives_268 : decode cX7_gives 268 = .ok (.iload 6, 2) := dk_21 6 (dk_at dksX7_gives_11 8 rfl rfl)
theorem dX7_gives_270 : decode cX7_gives 270 = .ok (.imul, 1) := dk_104 (dk_at dksX7_gives_11 10 rfl rfl)
theorem dX7_gives_271 : decode cX7_gives 271 = .ok (.sipush 256, 3) := dk_17 1 0 (dk_at dksX7_gives_11 11 rfl rfl)
theorem dX7_gives_274 : decode cX7_gives 274 = .ok (.idiv, 1) := dk_108 (dk_at dksX7_gives_11 14 rfl rfl)
theorem dX7_gives_275 : decode cX7_gives 275 = .ok (.iadd, 1) := dk_96 (dk_at dksX7_gives_11 15 rfl rfl)
theorem dX7_gives_276 : decode cX7_gives 276 = .ok (.sipush 4000, 3) := dk_17 15 160 (dk_at dksX7_gives_11 16 rfl rfl)
theorem dX7_gives_279 : decode cX7_gives 279 = .ok (.invokestatic 152, 3) := dk_184 0 152 (dk_at dksX7_gives_11 19 rfl rfl)
theorem dX7_gives_282 : decode cX7_gives 282 = .ok (.iastore, 1) := dk_79 (dk_at dksX7_gives_11 22 rfl rfl)
theorem dX7_gives_283 : decode cX7_gives 283 = .ok (.aload_n 0, 1) := dk_42 (dk_at dksX7_gives_11 23 rfl rfl)
theorem dX7_gives_284 : decode cX7_gives 284 = .ok (.getfield 39, 3) := dk_180 0 39 (dk_at dksX7_gives_12 0 rfl rfl)
theorem dX7_gives_287 : decode cX7_gives 287 = .ok (.iload_n 1, 1) := dk_27 (dk_at dksX7_gives_12 3 rfl rfl)
theorem dX7_gives_288 : decode cX7_gives 288 = .ok (.iaload, 1) := dk_46 (dk_at dksX7_gives_12 4 rfl rfl)
theorem dX7_gives_289 : decode cX7_gives 289 = .ok (.aload_n 0, 1) := dk_42 (dk_at dksX7_gives_12 5 rfl rfl)
theorem dX7_gives_290 : decode cX7_gives 290 = .ok (.getfield 30, 3) := dk_180 0 30 (dk_at dksX7_gives_12 6 rfl rfl)
theorem dX7_gives_293 : decode cX7_gives 293 = .ok (.iload_n 1, 1) := dk_27 (dk_at dksX7_gives_12 9 rfl rfl)
theorem dX7_gives_294 : decode cX7_gives 294 = .ok (.iaload, 1) := dk_46 (dk_at dksX7_gives_12 10 rfl rfl)
theorem dX7_gives_295 : decode cX7_gives 295 = .ok (.imul, 1) := dk_104 (dk_at dksX7_gives_12 11 rfl rfl)
theorem dX7_gives_296 : decode cX7_gives 296 = .ok (.bipush 127, 2) := dk_16 127 (dk_at dksX7_gives_12 12 rfl rfl)
theorem dX7_gives_298 : decode cX7_gives 298 = .ok (.idiv, 1) := dk_108 (dk_at dksX7_gives_12 14 rfl rfl)
theorem dX7_gives_299 : decode cX7_gives 299 = .ok (.aload_n 0, 1) := dk_42 (dk_at dksX7_gives_12 15 rfl rfl)
theorem dX7_gives_300 : decode cX7_gives 300 = .ok (.getfield 21, 3) := dk_180 0 21 (dk_at dksX7_gives_12 16 rfl rfl)
theorem dX7_gives_303 : decode cX7_gives 303 = .ok (.iload_n 1, 1) := dk_27 (dk_at dksX7_gives_12 19 rfl rfl)
theorem dX7_gives_304 : decode cX7_gives 304 = .ok (.iaload, 1) := dk_46 (dk_at dksX7_gives_12 20 rfl rfl)
theorem dX7_gives_305 : decode cX7_gives 305 = .ok (.sipush 1000, 3) := dk_17 3 232 (dk_at dksX7_gives_12 21 rfl rfl)
theorem dX7_gives_308 : decode cX7_gives 308 = .ok (.idiv, 1) := dk_108 (dk_at dksX7_gives_13 0 rfl rfl)
theorem dX7_gives_309 : decode cX7_gives 309 = .ok (.imul, 1) := dk_104 (dk_at dksX7_gives_13 1 rfl rfl)
theorem dX7_gives_310 : decode cX7_gives 310 = .ok (.sipush 1000, 3) := dk_17 3 232 (dk_at dksX7_gives_13 2 rfl rfl)
theorem dX7_gives_313 : decode cX7_gives 313 = .ok (.idiv, 1) := dk_108 (dk_at dksX7_gives_13 5 rfl rfl)
theorem dX7_gives_314 : decode cX7_gives 314 = .ok (.ireturn, 1) := dk_172 (dk_at dksX7_gives_13 6 rfl rfl)
abbrev cX7_goOnLevel : ByteArray := prog_8_method_11_code
def yX7_goOnLevel : MethodName := ⟨RX7, "goOnLevel", "(I)V"⟩
def dkwX7_goOnLevel_8 : List UInt8 := [180, 0, 21, 27, 46, 154, 0, 10, 42, 180, 0, 18, 27, 3, 79, 177]
abbrev dktX7_goOnLevel_8 : List UInt8 := dkwX7_goOnLevel_8 ++ []
def dkwX7_goOnLevel_7 : List UInt8 := [3, 42, 180, 0, 21, 27, 46, 18, 132, 42, 27, 16, 7, 182, 0, 129, 108, 100, 184, 0, 138, 79, 42]
abbrev dktX7_goOnLevel_7 : List UInt8 := dkwX7_goOnLevel_7 ++ dktX7_goOnLevel_8
def dkwX7_goOnLevel_6 : List UInt8 := [180, 0, 18, 27, 6, 79, 167, 0, 56, 42, 180, 0, 21, 27, 28, 79, 167, 0, 46, 42, 180, 0, 21, 27]
abbrev dktX7_goOnLevel_6 : List UInt8 := dkwX7_goOnLevel_6 ++ dktX7_goOnLevel_7
def dkwX7_goOnLevel_5 : List UInt8 := [182, 0, 129, 108, 100, 4, 100, 184, 0, 138, 79, 42, 180, 0, 21, 27, 46, 28, 160, 0, 66, 42]
abbrev dktX7_goOnLevel_5 : List UInt8 := dkwX7_goOnLevel_5 ++ dktX7_goOnLevel_6
def dkwX7_goOnLevel_4 : List UInt8 := [167, 0, 106, 42, 180, 0, 21, 27, 28, 42, 180, 0, 21, 27, 46, 18, 132, 28, 100, 42, 27, 8]
abbrev dktX7_goOnLevel_4 : List UInt8 := dkwX7_goOnLevel_4 ++ dktX7_goOnLevel_5
def dkwX7_goOnLevel_3 : List UInt8 := [184, 0, 133, 79, 42, 180, 0, 21, 27, 46, 18, 132, 160, 0, 116, 42, 180, 0, 18, 27, 5, 79]
abbrev dktX7_goOnLevel_3 : List UInt8 := dkwX7_goOnLevel_3 ++ dktX7_goOnLevel_4
def dkwX7_goOnLevel_2 : List UInt8 := [42, 180, 0, 21, 27, 18, 132, 42, 180, 0, 21, 27, 46, 18, 132, 42, 27, 7, 182, 0, 129, 108, 96]
abbrev dktX7_goOnLevel_2 : List UInt8 := dkwX7_goOnLevel_2 ++ dktX7_goOnLevel_3
def dkwX7_goOnLevel_1 : List UInt8 := [170, 0, 0, 0, 0, 134, 0, 0, 0, 1, 0, 0, 0, 3, 0, 0, 0, 26, 0, 0, 0, 74, 0, 0, 0, 124]
abbrev dktX7_goOnLevel_1 : List UInt8 := dkwX7_goOnLevel_1 ++ dktX7_goOnLevel_2
def dkwX7_goOnLevel_0 : List UInt8 := [17, 3, 232, 42, 27, 16, 6, 182, 0, 129, 104, 61, 42, 180, 0, 18, 27, 46]
abbrev dktX7_goOnLevel_0 : List UInt8 := dkwX7_goOnLevel_0 ++ dktX7_goOnLevel_1
theorem dksX7_goOnLevel_0 : cX7_goOnLevel.data.toList.drop 0 = dktX7_goOnLevel_0 := by decide +kernel
theorem dksX7_goOnLevel_1 : cX7_goOnLevel.data.toList.drop 18 = dktX7_goOnLevel_1 := dk_seg dksX7_goOnLevel_0 18 rfl rfl
theorem dksX7_goOnLevel_2 : cX7_goOnLevel.data.toList.drop 44 = dktX7_goOnLevel_2 := dk_seg dksX7_goOnLevel_1 26 rfl rfl
theorem dksX7_goOnLevel_3 : cX7_goOnLevel.data.toList.drop 67 = dktX7_goOnLevel_3 := dk_seg dksX7_goOnLevel_2 23 rfl rfl
theorem dksX7_goOnLevel_4 : cX7_goOnLevel.data.toList.drop 89 = dktX7_goOnLevel_4 := dk_seg dksX7_goOnLevel_3 22 rfl rfl
theorem dksX7_goOnLevel_5 : cX7_goOnLevel.data.toList.drop 111 = dktX7_goOnLevel_5 := dk_seg dksX7_goOnLevel_4 22 rfl rfl
theorem dksX7_goOnLevel_6 : cX7_goOnLevel.data.toList.drop 133 = dktX7_goOnLevel_6 := dk_seg dksX7_goOnLevel_5 22 rfl rfl
theorem dksX7_goOnLevel_7 : cX7_goOnLevel.data.toList.drop 157 = dktX7_goOnLevel_7 := dk_seg dksX7_goOnLevel_6 24 rfl rfl
theorem dksX7_goOnLevel_8 : cX7_goOnLevel.data.toList.drop 180 = dktX7_goOnLevel_8 := dk_seg dksX7_goOnLevel_7 23 rfl rfl
theorem dX7_goOnLevel_0 : decode cX7_goOnLevel 0 = .ok (.sipush 1000, 3) := dk_17 3 232 (dk_at dksX7_goOnLevel_0 0 rfl rfl)
theorem dX7_goOnLevel_3 : decode cX7_goOnLevel 3 = .ok (.aload_n 0, 1) := dk_42 (dk_at dksX7_goOnLevel_0 3 rfl rfl)
theorem dX7_goOnLevel_4 : decode cX7_goOnLevel 4 = .ok (.iload_n 1, 1) := dk_27 (dk_at dksX7_goOnLevel_0 4 rfl rfl)
theorem dX7_goOnLevel_5 : decode cX7_goOnLevel 5 = .ok (.bipush 6, 2) := dk_16 6 (dk_at dksX7_goOnLevel_0 5 rfl rfl)
theorem dX7_goOnLevel_7 : decode cX7_goOnLevel 7 = .ok (.invokevirtual 129, 3) := dk_182 0 129 (dk_at dksX7_goOnLevel_0 7 rfl rfl)
theorem dX7_goOnLevel_10 : decode cX7_goOnLevel 10 = .ok (.imul, 1) := dk_104 (dk_at dksX7_goOnLevel_0 10 rfl rfl)
theorem dX7_goOnLevel_11 : decode cX7_goOnLevel 11 = .ok (.istore_n 2, 1) := dk_61 (dk_at dksX7_goOnLevel_0 11 rfl rfl)
theorem dX7_goOnLevel_12 : decode cX7_goOnLevel 12 = .ok (.aload_n 0, 1) := dk_42 (dk_at dksX7_goOnLevel_0 12 rfl rfl)
theorem dX7_goOnLevel_13 : decode cX7_goOnLevel 13 = .ok (.getfield 18, 3) := dk_180 0 18 (dk_at dksX7_goOnLevel_0 13 rfl rfl)
theorem dX7_goOnLevel_16 : decode cX7_goOnLevel 16 = .ok (.iload_n 1, 1) := dk_27 (dk_at dksX7_goOnLevel_0 16 rfl rfl)
theorem dX7_goOnLevel_17 : decode cX7_goOnLevel 17 = .ok (.iaload, 1) := dk_46 (dk_at dksX7_goOnLevel_0 17 rfl rfl)
theorem dX7_goOnLevel_18 : decode cX7_goOnLevel 18 = .ok (.tableswitch 134 1 3 #[26, 74, 124], 26) := by decide +kernel
theorem dX7_goOnLevel_44 : decode cX7_goOnLevel 44 = .ok (.aload_n 0, 1) := dk_42 (dk_at dksX7_goOnLevel_2 0 rfl rfl)
theorem dX7_goOnLevel_45 : decode cX7_goOnLevel 45 = .ok (.getfield 21, 3) := dk_180 0 21 (dk_at dksX7_goOnLevel_2 1 rfl rfl)
theorem dX7_goOnLevel_48 : decode cX7_goOnLevel 48 = .ok (.iload_n 1, 1) := dk_27 (dk_at dksX7_goOnLevel_2 4 rfl rfl)
theorem dX7_goOnLevel_49 : decode cX7_goOnLevel 49 = .ok (.ldc 132, 2) := dk_18 132 (dk_at dksX7_goOnLevel_2 5 rfl rfl)
theorem dX7_goOnLevel_51 : decode cX7_goOnLevel 51 = .ok (.aload_n 0, 1) := dk_42 (dk_at dksX7_goOnLevel_2 7 rfl rfl)
theorem dX7_goOnLevel_52 : decode cX7_goOnLevel 52 = .ok (.getfield 21, 3) := dk_180 0 21 (dk_at dksX7_goOnLevel_2 8 rfl rfl)
theorem dX7_goOnLevel_55 : decode cX7_goOnLevel 55 = .ok (.iload_n 1, 1) := dk_27 (dk_at dksX7_goOnLevel_2 11 rfl rfl)
theorem dX7_goOnLevel_56 : decode cX7_goOnLevel 56 = .ok (.iaload, 1) := dk_46 (dk_at dksX7_goOnLevel_2 12 rfl rfl)
theorem dX7_goOnLevel_57 : decode cX7_goOnLevel 57 = .ok (.ldc 132, 2) := dk_18 132 (dk_at dksX7_goOnLevel_2 13 rfl rfl)
theorem dX7_goOnLevel_59 : decode cX7_goOnLevel 59 = .ok (.aload_n 0, 1) := dk_42 (dk_at dksX7_goOnLevel_2 15 rfl rfl)
theorem dX7_goOnLevel_60 : decode cX7_goOnLevel 60 = .ok (.iload_n 1, 1) := dk_27 (dk_at dksX7_goOnLevel_2 16 rfl rfl)
theorem dX7_goOnLevel_61 : decode cX7_goOnLevel 61 = .ok (.iconst 4, 1) := dk_7 (dk_at dksX7_goOnLevel_2 17 rfl rfl)
theorem dX7_goOnLevel_62 : decode cX7_goOnLevel 62 = .ok (.invokevirtual 129, 3) := dk_182 0 129 (dk_at dksX7_goOnLevel_2 18 rfl rfl)
theorem dX7_goOnLevel_65 : decode cX7_goOnLevel 65 = .ok (.idiv, 1) := dk_108 (dk_at dksX7_goOnLevel_2 21 rfl rfl)
theorem dX7_goOnLevel_66 : decode cX7_goOnLevel 66 = .ok (.iadd, 1) := dk_96 (dk_at dksX7_goOnLevel_2 22 rfl rfl)
theorem dX7_goOnLevel_67 : decode cX7_goOnLevel 67 = .ok (.invokestatic 133, 3) := dk_184 0 133 (dk_at dksX7_goOnLevel_3 0 rfl rfl)
theorem dX7_goOnLevel_70 : decode cX7_goOnLevel 70 = .ok (.iastore, 1) := dk_79 (dk_at dksX7_goOnLevel_3 3 rfl rfl)
theorem dX7_goOnLevel_71 : decode cX7_goOnLevel 71 = .ok (.aload_n 0, 1) := dk_42 (dk_at dksX7_goOnLevel_3 4 rfl rfl)
theorem dX7_goOnLevel_72 : decode cX7_goOnLevel 72 = .ok (.getfield 21, 3) := dk_180 0 21 (dk_at dksX7_goOnLevel_3 5 rfl rfl)
theorem dX7_goOnLevel_75 : decode cX7_goOnLevel 75 = .ok (.iload_n 1, 1) := dk_27 (dk_at dksX7_goOnLevel_3 8 rfl rfl)
theorem dX7_goOnLevel_76 : decode cX7_goOnLevel 76 = .ok (.iaload, 1) := dk_46 (dk_at dksX7_goOnLevel_3 9 rfl rfl)
theorem dX7_goOnLevel_77 : decode cX7_goOnLevel 77 = .ok (.ldc 132, 2) := dk_18 132 (dk_at dksX7_goOnLevel_3 10 rfl rfl)
theorem dX7_goOnLevel_79 : decode cX7_goOnLevel 79 = .ok (.if_icmp .ne 116, 3) := dk_160 0 116 (dk_at dksX7_goOnLevel_3 12 rfl rfl)
theorem dX7_goOnLevel_82 : decode cX7_goOnLevel 82 = .ok (.aload_n 0, 1) := dk_42 (dk_at dksX7_goOnLevel_3 15 rfl rfl)
theorem dX7_goOnLevel_83 : decode cX7_goOnLevel 83 = .ok (.getfield 18, 3) := dk_180 0 18 (dk_at dksX7_goOnLevel_3 16 rfl rfl)
theorem dX7_goOnLevel_86 : decode cX7_goOnLevel 86 = .ok (.iload_n 1, 1) := dk_27 (dk_at dksX7_goOnLevel_3 19 rfl rfl)
theorem dX7_goOnLevel_87 : decode cX7_goOnLevel 87 = .ok (.iconst 2, 1) := dk_5 (dk_at dksX7_goOnLevel_3 20 rfl rfl)
theorem dX7_goOnLevel_88 : decode cX7_goOnLevel 88 = .ok (.iastore, 1) := dk_79 (dk_at dksX7_goOnLevel_3 21 rfl rfl)
theorem dX7_goOnLevel_89 : decode cX7_goOnLevel 89 = .ok (.goto 106, 3) := dk_167 0 106 (dk_at dksX7_goOnLevel_4 0 rfl rfl)
theorem dX7_goOnLevel_92 : decode cX7_goOnLevel 92 = .ok (.aload_n 0, 1) := dk_42 (dk_at dksX7_goOnLevel_4 3 rfl rfl)
theorem dX7_goOnLevel_93 : decode cX7_goOnLevel 93 = .ok (.getfield 21, 3) := dk_180 0 21 (dk_at dksX7_goOnLevel_4 4 rfl rfl)
theorem dX7_goOnLevel_96 : decode cX7_goOnLevel 96 = .ok (.iload_n 1, 1) := dk_27 (dk_at dksX7_goOnLevel_4 7 rfl rfl)
theorem dX7_goOnLevel_97 : decode cX7_goOnLevel 97 = .ok (.iload_n 2, 1) := dk_28 (dk_at dksX7_goOnLevel_4 8 rfl rfl)
theorem dX7_goOnLevel_98 : decode cX7_goOnLevel 98 = .ok (.aload_n 0, 1) := dk_42 (dk_at dksX7_goOnLevel_4 9 rfl rfl)
theorem dX7_goOnLevel_99 : decode cX7_goOnLevel 99 = .ok (.getfield 21, 3) := dk_180 0 21 (dk_at dksX7_goOnLevel_4 10 rfl rfl)
theorem dX7_goOnLevel_102 : decode cX7_goOnLevel 102 = .ok (.iload_n 1, 1) := dk_27 (dk_at dksX7_goOnLevel_4 13 rfl rfl)
theorem dX7_goOnLevel_103 : decode cX7_goOnLevel 103 = .ok (.iaload, 1) := dk_46 (dk_at dksX7_goOnLevel_4 14 rfl rfl)
theorem dX7_goOnLevel_104 : decode cX7_goOnLevel 104 = .ok (.ldc 132, 2) := dk_18 132 (dk_at dksX7_goOnLevel_4 15 rfl rfl)
theorem dX7_goOnLevel_106 : decode cX7_goOnLevel 106 = .ok (.iload_n 2, 1) := dk_28 (dk_at dksX7_goOnLevel_4 17 rfl rfl)
theorem dX7_goOnLevel_107 : decode cX7_goOnLevel 107 = .ok (.isub, 1) := dk_100 (dk_at dksX7_goOnLevel_4 18 rfl rfl)
theorem dX7_goOnLevel_108 : decode cX7_goOnLevel 108 = .ok (.aload_n 0, 1) := dk_42 (dk_at dksX7_goOnLevel_4 19 rfl rfl)
theorem dX7_goOnLevel_109 : decode cX7_goOnLevel 109 = .ok (.iload_n 1, 1) := dk_27 (dk_at dksX7_goOnLevel_4 20 rfl rfl)
theorem dX7_goOnLevel_110 : decode cX7_goOnLevel 110 = .ok (.iconst 5, 1) := dk_8 (dk_at dksX7_goOnLevel_4 21 rfl rfl)
theorem dX7_goOnLevel_111 : decode cX7_goOnLevel 111 = .ok (.invokevirtual 129, 3) := dk_182 0 129 (dk_at dksX7_goOnLevel_5 0 rfl rfl)
theorem dX7_goOnLevel_114 : decode cX7_goOnLevel 114 = .ok (.idiv, 1) := dk_108 (dk_at dksX7_goOnLevel_5 3 rfl rfl)
theorem dX7_goOnLevel_115 : decode cX7_goOnLevel 115 = .ok (.isub, 1) := dk_100 (dk_at dksX7_goOnLevel_5 4 rfl rfl)
theorem dX7_goOnLevel_116 : decode cX7_goOnLevel 116 = .ok (.iconst 1, 1) := dk_4 (dk_at dksX7_goOnLevel_5 5 rfl rfl)
theorem dX7_goOnLevel_117 : decode cX7_goOnLevel 117 = .ok (.isub, 1) := dk_100 (dk_at dksX7_goOnLevel_5 6 rfl rfl)
theorem dX7_goOnLevel_118 : decode cX7_goOnLevel 118 = .ok (.invokestatic 138, 3) := dk_184 0 138 (dk_at dksX7_goOnLevel_5 7 rfl rfl)
theorem dX7_goOnLevel_121 : decode cX7_goOnLevel 121 = .ok (.iastore, 1) := dk_79 (dk_at dksX7_goOnLevel_5 10 rfl rfl)
theorem dX7_goOnLevel_122 : decode cX7_goOnLevel 122 = .ok (.aload_n 0, 1) := dk_42 (dk_at dksX7_goOnLevel_5 11 rfl rfl)
theorem dX7_goOnLevel_123 : decode cX7_goOnLevel 123 = .ok (.getfield 21, 3) := dk_180 0 21 (dk_at dksX7_goOnLevel_5 12 rfl rfl)
theorem dX7_goOnLevel_126 : decode cX7_goOnLevel 126 = .ok (.iload_n 1, 1) := dk_27 (dk_at dksX7_goOnLevel_5 15 rfl rfl)
theorem dX7_goOnLevel_127 : decode cX7_goOnLevel 127 = .ok (.iaload, 1) := dk_46 (dk_at dksX7_goOnLevel_5 16 rfl rfl)
theorem dX7_goOnLevel_128 : decode cX7_goOnLevel 128 = .ok (.iload_n 2, 1) := dk_28 (dk_at dksX7_goOnLevel_5 17 rfl rfl)
theorem dX7_goOnLevel_129 : decode cX7_goOnLevel 129 = .ok (.if_icmp .ne 66, 3) := dk_160 0 66 (dk_at dksX7_goOnLevel_5 18 rfl rfl)
theorem dX7_goOnLevel_132 : decode cX7_goOnLevel 132 = .ok (.aload_n 0, 1) := dk_42 (dk_at dksX7_goOnLevel_5 21 rfl rfl)
theorem dX7_goOnLevel_133 : decode cX7_goOnLevel 133 = .ok (.getfield 18, 3) := dk_180 0 18 (dk_at dksX7_goOnLevel_6 0 rfl rfl)
theorem dX7_goOnLevel_136 : decode cX7_goOnLevel 136 = .ok (.iload_n 1, 1) := dk_27 (dk_at dksX7_goOnLevel_6 3 rfl rfl)
theorem dX7_goOnLevel_137 : decode cX7_goOnLevel 137 = .ok (.iconst 3, 1) := dk_6 (dk_at dksX7_goOnLevel_6 4 rfl rfl)
theorem dX7_goOnLevel_138 : decode cX7_goOnLevel 138 = .ok (.iastore, 1) := dk_79 (dk_at dksX7_goOnLevel_6 5 rfl rfl)
theorem dX7_goOnLevel_139 : decode cX7_goOnLevel 139 = .ok (.goto 56, 3) := dk_167 0 56 (dk_at dksX7_goOnLevel_6 6 rfl rfl)
theorem dX7_goOnLevel_142 : decode cX7_goOnLevel 142 = .ok (.aload_n 0, 1) := dk_42 (dk_at dksX7_goOnLevel_6 9 rfl rfl)
theorem dX7_goOnLevel_143 : decode cX7_goOnLevel 143 = .ok (.getfield 21, 3) := dk_180 0 21 (dk_at dksX7_goOnLevel_6 10 rfl rfl)
theorem dX7_goOnLevel_146 : decode cX7_goOnLevel 146 = .ok (.iload_n 1, 1) := dk_27 (dk_at dksX7_goOnLevel_6 13 rfl rfl)
theorem dX7_goOnLevel_147 : decode cX7_goOnLevel 147 = .ok (.iload_n 2, 1) := dk_28 (dk_at dksX7_goOnLevel_6 14 rfl rfl)
theorem dX7_goOnLevel_148 : decode cX7_goOnLevel 148 = .ok (.iastore, 1) := dk_79 (dk_at dksX7_goOnLevel_6 15 rfl rfl)
theorem dX7_goOnLevel_149 : decode cX7_goOnLevel 149 = .ok (.goto 46, 3) := dk_167 0 46 (dk_at dksX7_goOnLevel_6 16 rfl rfl)
theorem dX7_goOnLevel_152 : decode cX7_goOnLevel 152 = .ok (.aload_n 0, 1) := dk_42 (dk_at dksX7_goOnLevel_6 19 rfl rfl)
theorem dX7_goOnLevel_153 : decode cX7_goOnLevel 153 = .ok (.getfield 21, 3) := dk_180 0 21 (dk_at dksX7_goOnLevel_6 20 rfl rfl)
theorem dX7_goOnLevel_156 : decode cX7_goOnLevel 156 = .ok (.iload_n 1, 1) := dk_27 (dk_at dksX7_goOnLevel_6 23 rfl rfl)
theorem dX7_goOnLevel_157 : decode cX7_goOnLevel 157 = .ok (.iconst 0, 1) := dk_3 (dk_at dksX7_goOnLevel_7 0 rfl rfl)
theorem dX7_goOnLevel_158 : decode cX7_goOnLevel 158 = .ok (.aload_n 0, 1) := dk_42 (dk_at dksX7_goOnLevel_7 1 rfl rfl)
theorem dX7_goOnLevel_159 : decode cX7_goOnLevel 159 = .ok (.getfield 21, 3) := dk_180 0 21 (dk_at dksX7_goOnLevel_7 2 rfl rfl)
theorem dX7_goOnLevel_162 : decode cX7_goOnLevel 162 = .ok (.iload_n 1, 1) := dk_27 (dk_at dksX7_goOnLevel_7 5 rfl rfl)
theorem dX7_goOnLevel_163 : decode cX7_goOnLevel 163 = .ok (.iaload, 1) := dk_46 (dk_at dksX7_goOnLevel_7 6 rfl rfl)
theorem dX7_goOnLevel_164 : decode cX7_goOnLevel 164 = .ok (.ldc 132, 2) := dk_18 132 (dk_at dksX7_goOnLevel_7 7 rfl rfl)
theorem dX7_goOnLevel_166 : decode cX7_goOnLevel 166 = .ok (.aload_n 0, 1) := dk_42 (dk_at dksX7_goOnLevel_7 9 rfl rfl)
theorem dX7_goOnLevel_167 : decode cX7_goOnLevel 167 = .ok (.iload_n 1, 1) := dk_27 (dk_at dksX7_goOnLevel_7 10 rfl rfl)
theorem dX7_goOnLevel_168 : decode cX7_goOnLevel 168 = .ok (.bipush 7, 2) := dk_16 7 (dk_at dksX7_goOnLevel_7 11 rfl rfl)
theorem dX7_goOnLevel_170 : decode cX7_goOnLevel 170 = .ok (.invokevirtual 129, 3) := dk_182 0 129 (dk_at dksX7_goOnLevel_7 13 rfl rfl)
theorem dX7_goOnLevel_173 : decode cX7_goOnLevel 173 = .ok (.idiv, 1) := dk_108 (dk_at dksX7_goOnLevel_7 16 rfl rfl)
theorem dX7_goOnLevel_174 : decode cX7_goOnLevel 174 = .ok (.isub, 1) := dk_100 (dk_at dksX7_goOnLevel_7 17 rfl rfl)
theorem dX7_goOnLevel_175 : decode cX7_goOnLevel 175 = .ok (.invokestatic 138, 3) := dk_184 0 138 (dk_at dksX7_goOnLevel_7 18 rfl rfl)
theorem dX7_goOnLevel_178 : decode cX7_goOnLevel 178 = .ok (.iastore, 1) := dk_79 (dk_at dksX7_goOnLevel_7 21 rfl rfl)
theorem dX7_goOnLevel_179 : decode cX7_goOnLevel 179 = .ok (.aload_n 0, 1) := dk_42 (dk_at dksX7_goOnLevel_7 22 rfl rfl)
theorem dX7_goOnLevel_180 : decode cX7_goOnLevel 180 = .ok (.getfield 21, 3) := dk_180 0 21 (dk_at dksX7_goOnLevel_8 0 rfl rfl)
theorem dX7_goOnLevel_183 : decode cX7_goOnLevel 183 = .ok (.iload_n 1, 1) := dk_27 (dk_at dksX7_goOnLevel_8 3 rfl rfl)
theorem dX7_goOnLevel_184 : decode cX7_goOnLevel 184 = .ok (.iaload, 1) := dk_46 (dk_at dksX7_goOnLevel_8 4 rfl rfl)
theorem dX7_goOnLevel_185 : decode cX7_goOnLevel 185 = .ok (.ifCond .ne 10, 3) := dk_154 0 10 (dk_at dksX7_goOnLevel_8 5 rfl rfl)
theorem dX7_goOnLevel_188 : decode cX7_goOnLevel 188 = .ok (.aload_n 0, 1) := dk_42 (dk_at dksX7_goOnLevel_8 8 rfl rfl)
theorem dX7_goOnLevel_189 : decode cX7_goOnLevel 189 = .ok (.getfield 18, 3) := dk_180 0 18 (dk_at dksX7_goOnLevel_8 9 rfl rfl)
theorem dX7_goOnLevel_192 : decode cX7_goOnLevel 192 = .ok (.iload_n 1, 1) := dk_27 (dk_at dksX7_goOnLevel_8 12 rfl rfl)
theorem dX7_goOnLevel_193 : decode cX7_goOnLevel 193 = .ok (.iconst 0, 1) := dk_3 (dk_at dksX7_goOnLevel_8 13 rfl rfl)
theorem dX7_goOnLevel_194 : decode cX7_goOnLevel 194 = .ok (.iastore, 1) := dk_79 (dk_at dksX7_goOnLevel_8 14 rfl rfl)
theorem dX7_goOnLevel_195 : decode cX7_goOnLevel 195 = .ok (.return_, 1) := dk_177 (dk_at dksX7_goOnLevel_8 15 rfl rfl)
abbrev cX7_told : ByteArray := prog_8_method_10_code
def yX7_told : MethodName := ⟨RX7, "told", "(II)I"⟩
def dkwX7_told_0 : List UInt8 := [42, 180, 0, 15, 42, 180, 0, 24, 27, 46, 16, 12, 104, 28, 96, 46, 172]
abbrev dktX7_told_0 : List UInt8 := dkwX7_told_0 ++ []
theorem dksX7_told_0 : cX7_told.data.toList.drop 0 = dktX7_told_0 := by decide +kernel
theorem dX7_told_0 : decode cX7_told 0 = .ok (.aload_n 0, 1) := dk_42 (dk_at dksX7_told_0 0 rfl rfl)
theorem dX7_told_1 : decode cX7_told 1 = .ok (.getfield 15, 3) := dk_180 0 15 (dk_at dksX7_told_0 1 rfl rfl)
theorem dX7_told_4 : decode cX7_told 4 = .ok (.aload_n 0, 1) := dk_42 (dk_at dksX7_told_0 4 rfl rfl)
theorem dX7_told_5 : decode cX7_told 5 = .ok (.getfield 24, 3) := dk_180 0 24 (dk_at dksX7_told_0 5 rfl rfl)
theorem dX7_told_8 : decode cX7_told 8 = .ok (.iload_n 1, 1) := dk_27 (dk_at dksX7_told_0 8 rfl rfl)
theorem dX7_told_9 : decode cX7_told 9 = .ok (.iaload, 1) := dk_46 (dk_at dksX7_told_0 9 rfl rfl)
theorem dX7_told_10 : decode cX7_told 10 = .ok (.bipush 12, 2) := dk_16 12 (dk_at dksX7_told_0 10 rfl rfl)
theorem dX7_told_12 : decode cX7_told 12 = .ok (.imul, 1) := dk_104 (dk_at dksX7_told_0 12 rfl rfl)
theorem dX7_told_13 : decode cX7_told 13 = .ok (.iload_n 2, 1) := dk_28 (dk_at dksX7_told_0 13 rfl rfl)
theorem dX7_told_14 : decode cX7_told 14 = .ok (.iadd, 1) := dk_96 (dk_at dksX7_told_0 14 rfl rfl)
theorem dX7_told_15 : decode cX7_told 15 = .ok (.iaload, 1) := dk_46 (dk_at dksX7_told_0 15 rfl rfl)
theorem dX7_told_16 : decode cX7_told 16 = .ok (.ireturn, 1) := dk_172 (dk_at dksX7_told_0 16 rfl rfl)
abbrev cX7_copy : ByteArray := prog_8_method_2_code
def yX7_copy : MethodName := ⟨RX7, "copy", "()LMelodeonModel$Desk;"⟩
def dkwX7_copy_13 : List UInt8 := [181, 0, 106, 43, 176]
abbrev dktX7_copy_13 : List UInt8 := dkwX7_copy_13 ++ []
def dkwX7_copy_12 : List UInt8 := [181, 0, 97, 43, 42, 180, 0, 100, 181, 0, 100, 43, 42, 180, 0, 103, 181, 0, 103, 43, 42, 180, 0, 106]
abbrev dktX7_copy_12 : List UInt8 := dkwX7_copy_12 ++ dktX7_copy_13
def dkwX7_copy_11 : List UInt8 := [181, 0, 64, 43, 42, 180, 0, 90, 181, 0, 90, 43, 42, 180, 0, 93, 181, 0, 93, 43, 42, 180, 0, 97]
abbrev dktX7_copy_11 : List UInt8 := dkwX7_copy_11 ++ dktX7_copy_12
def dkwX7_copy_10 : List UInt8 := [181, 0, 81, 43, 42, 180, 0, 84, 181, 0, 84, 43, 42, 180, 0, 87, 181, 0, 87, 43, 42, 180, 0, 64]
abbrev dktX7_copy_10 : List UInt8 := dkwX7_copy_10 ++ dktX7_copy_11
def dkwX7_copy_9 : List UInt8 := [181, 0, 75, 43, 42, 180, 0, 78, 181, 0, 78, 43, 42, 180, 0, 51, 181, 0, 51, 43, 42, 180, 0, 81]
abbrev dktX7_copy_9 : List UInt8 := dkwX7_copy_9 ++ dktX7_copy_10
def dkwX7_copy_8 : List UInt8 := [180, 0, 61, 184, 0, 71, 42, 180, 0, 67, 43, 180, 0, 67, 184, 0, 71, 43, 42, 180, 0, 75]
abbrev dktX7_copy_8 : List UInt8 := dkwX7_copy_8 ++ dktX7_copy_9
def dkwX7_copy_7 : List UInt8 := [180, 0, 55, 184, 0, 71, 42, 180, 0, 58, 43, 180, 0, 58, 184, 0, 71, 42, 180, 0, 61, 43]
abbrev dktX7_copy_7 : List UInt8 := dkwX7_copy_7 ++ dktX7_copy_8
def dkwX7_copy_6 : List UInt8 := [180, 0, 45, 184, 0, 71, 42, 180, 0, 48, 43, 180, 0, 48, 184, 0, 71, 42, 180, 0, 55, 43]
abbrev dktX7_copy_6 : List UInt8 := dkwX7_copy_6 ++ dktX7_copy_7
def dkwX7_copy_5 : List UInt8 := [180, 0, 39, 184, 0, 71, 42, 180, 0, 42, 43, 180, 0, 42, 184, 0, 71, 42, 180, 0, 45, 43]
abbrev dktX7_copy_5 : List UInt8 := dkwX7_copy_5 ++ dktX7_copy_6
def dkwX7_copy_4 : List UInt8 := [180, 0, 33, 184, 0, 71, 42, 180, 0, 36, 43, 180, 0, 36, 184, 0, 71, 42, 180, 0, 39, 43]
abbrev dktX7_copy_4 : List UInt8 := dkwX7_copy_4 ++ dktX7_copy_5
def dkwX7_copy_3 : List UInt8 := [180, 0, 27, 184, 0, 71, 42, 180, 0, 30, 43, 180, 0, 30, 184, 0, 71, 42, 180, 0, 33, 43]
abbrev dktX7_copy_3 : List UInt8 := dkwX7_copy_3 ++ dktX7_copy_4
def dkwX7_copy_2 : List UInt8 := [180, 0, 21, 184, 0, 71, 42, 180, 0, 24, 43, 180, 0, 24, 184, 0, 71, 42, 180, 0, 27, 43]
abbrev dktX7_copy_2 : List UInt8 := dkwX7_copy_2 ++ dktX7_copy_3
def dkwX7_copy_1 : List UInt8 := [180, 0, 15, 184, 0, 71, 42, 180, 0, 18, 43, 180, 0, 18, 184, 0, 71, 42, 180, 0, 21, 43]
abbrev dktX7_copy_1 : List UInt8 := dkwX7_copy_1 ++ dktX7_copy_2
def dkwX7_copy_0 : List UInt8 := [187, 0, 10, 89, 183, 0, 70, 76, 42, 180, 0, 9, 43, 180, 0, 9, 184, 0, 71, 42, 180, 0, 15, 43]
abbrev dktX7_copy_0 : List UInt8 := dkwX7_copy_0 ++ dktX7_copy_1
theorem dksX7_copy_0 : cX7_copy.data.toList.drop 0 = dktX7_copy_0 := by decide +kernel
theorem dksX7_copy_1 : cX7_copy.data.toList.drop 24 = dktX7_copy_1 := dk_seg dksX7_copy_0 24 rfl rfl
theorem dksX7_copy_2 : cX7_copy.data.toList.drop 46 = dktX7_copy_2 := dk_seg dksX7_copy_1 22 rfl rfl
theorem dksX7_copy_3 : cX7_copy.data.toList.drop 68 = dktX7_copy_3 := dk_seg dksX7_copy_2 22 rfl rfl
theorem dksX7_copy_4 : cX7_copy.data.toList.drop 90 = dktX7_copy_4 := dk_seg dksX7_copy_3 22 rfl rfl
theorem dksX7_copy_5 : cX7_copy.data.toList.drop 112 = dktX7_copy_5 := dk_seg dksX7_copy_4 22 rfl rfl
theorem dksX7_copy_6 : cX7_copy.data.toList.drop 134 = dktX7_copy_6 := dk_seg dksX7_copy_5 22 rfl rfl
theorem dksX7_copy_7 : cX7_copy.data.toList.drop 156 = dktX7_copy_7 := dk_seg dksX7_copy_6 22 rfl rfl
theorem dksX7_copy_8 : cX7_copy.data.toList.drop 178 = dktX7_copy_8 := dk_seg dksX7_copy_7 22 rfl rfl
theorem dksX7_copy_9 : cX7_copy.data.toList.drop 200 = dktX7_copy_9 := dk_seg dksX7_copy_8 22 rfl rfl
theorem dksX7_copy_10 : cX7_copy.data.toList.drop 224 = dktX7_copy_10 := dk_seg dksX7_copy_9 24 rfl rfl
theorem dksX7_copy_11 : cX7_copy.data.toList.drop 248 = dktX7_copy_11 := dk_seg dksX7_copy_10 24 rfl rfl
theorem dksX7_copy_12 : cX7_copy.data.toList.drop 272 = dktX7_copy_12 := dk_seg dksX7_copy_11 24 rfl rfl
theorem dksX7_copy_13 : cX7_copy.data.toList.drop 296 = dktX7_copy_13 := dk_seg dksX7_copy_12 24 rfl rfl
theorem dX7_copy_0 : decode cX7_copy 0 = .ok (.new 10, 3) := dk_187 0 10 (dk_at dksX7_copy_0 0 rfl rfl)
theorem dX7_copy_3 : decode cX7_copy 3 = .ok (.dup, 1) := dk_89 (dk_at dksX7_copy_0 3 rfl rfl)
theorem dX7_copy_4 : decode cX7_copy 4 = .ok (.invokespecial 70, 3) := dk_183 0 70 (dk_at dksX7_copy_0 4 rfl rfl)
theorem dX7_copy_7 : decode cX7_copy 7 = .ok (.astore_n 1, 1) := dk_76 (dk_at dksX7_copy_0 7 rfl rfl)
theorem dX7_copy_8 : decode cX7_copy 8 = .ok (.aload_n 0, 1) := dk_42 (dk_at dksX7_copy_0 8 rfl rfl)
theorem dX7_copy_9 : decode cX7_copy 9 = .ok (.getfield 9, 3) := dk_180 0 9 (dk_at dksX7_copy_0 9 rfl rfl)
theorem dX7_copy_12 : decode cX7_copy 12 = .ok (.aload_n 1, 1) := dk_43 (dk_at dksX7_copy_0 12 rfl rfl)
theorem dX7_copy_13 : decode cX7_copy 13 = .ok (.getfield 9, 3) := dk_180 0 9 (dk_at dksX7_copy_0 13 rfl rfl)
theorem dX7_copy_16 : decode cX7_copy 16 = .ok (.invokestatic 71, 3) := dk_184 0 71 (dk_at dksX7_copy_0 16 rfl rfl)
theorem dX7_copy_19 : decode cX7_copy 19 = .ok (.aload_n 0, 1) := dk_42 (dk_at dksX7_copy_0 19 rfl rfl)
theorem dX7_copy_20 : decode cX7_copy 20 = .ok (.getfield 15, 3) := dk_180 0 15 (dk_at dksX7_copy_0 20 rfl rfl)
theorem dX7_copy_23 : decode cX7_copy 23 = .ok (.aload_n 1, 1) := dk_43 (dk_at dksX7_copy_0 23 rfl rfl)
theorem dX7_copy_24 : decode cX7_copy 24 = .ok (.getfield 15, 3) := dk_180 0 15 (dk_at dksX7_copy_1 0 rfl rfl)
theorem dX7_copy_27 : decode cX7_copy 27 = .ok (.invokestatic 71, 3) := dk_184 0 71 (dk_at dksX7_copy_1 3 rfl rfl)
theorem dX7_copy_30 : decode cX7_copy 30 = .ok (.aload_n 0, 1) := dk_42 (dk_at dksX7_copy_1 6 rfl rfl)
theorem dX7_copy_31 : decode cX7_copy 31 = .ok (.getfield 18, 3) := dk_180 0 18 (dk_at dksX7_copy_1 7 rfl rfl)
theorem dX7_copy_34 : decode cX7_copy 34 = .ok (.aload_n 1, 1) := dk_43 (dk_at dksX7_copy_1 10 rfl rfl)
theorem dX7_copy_35 : decode cX7_copy 35 = .ok (.getfield 18, 3) := dk_180 0 18 (dk_at dksX7_copy_1 11 rfl rfl)
theorem dX7_copy_38 : decode cX7_copy 38 = .ok (.invokestatic 71, 3) := dk_184 0 71 (dk_at dksX7_copy_1 14 rfl rfl)
theorem dX7_copy_41 : decode cX7_copy 41 = .ok (.aload_n 0, 1) := dk_42 (dk_at dksX7_copy_1 17 rfl rfl)
theorem dX7_copy_42 : decode cX7_copy 42 = .ok (.getfield 21, 3) := dk_180 0 21 (dk_at dksX7_copy_1 18 rfl rfl)
theorem dX7_copy_45 : decode cX7_copy 45 = .ok (.aload_n 1, 1) := dk_43 (dk_at dksX7_copy_1 21 rfl rfl)
theorem dX7_copy_46 : decode cX7_copy 46 = .ok (.getfield 21, 3) := dk_180 0 21 (dk_at dksX7_copy_2 0 rfl rfl)
theorem dX7_copy_49 : decode cX7_copy 49 = .ok (.invokestatic 71, 3) := dk_184 0 71 (dk_at dksX7_copy_2 3 rfl rfl)
theorem dX7_copy_52 : decode cX7_copy 52 = .ok (.aload_n 0, 1) := dk_42 (dk_at dksX7_copy_2 6 rfl rfl)
theorem dX7_copy_53 : decode cX7_copy 53 = .ok (.getfield 24, 3) := dk_180 0 24 (dk_at dksX7_copy_2 7 rfl rfl)
theorem dX7_copy_56 : decode cX7_copy 56 = .ok (.aload_n 1, 1) := dk_43 (dk_at dksX7_copy_2 10 rfl rfl)
theorem dX7_copy_57 : decode cX7_copy 57 = .ok (.getfield 24, 3) := dk_180 0 24 (dk_at dksX7_copy_2 11 rfl rfl)
theorem dX7_copy_60 : decode cX7_copy 60 = .ok (.invokestatic 71, 3) := dk_184 0 71 (dk_at dksX7_copy_2 14 rfl rfl)
theorem dX7_copy_63 : decode cX7_copy 63 = .ok (.aload_n 0, 1) := dk_42 (dk_at dksX7_copy_2 17 rfl rfl)
theorem dX7_copy_64 : decode cX7_copy 64 = .ok (.getfield 27, 3) := dk_180 0 27 (dk_at dksX7_copy_2 18 rfl rfl)
theorem dX7_copy_67 : decode cX7_copy 67 = .ok (.aload_n 1, 1) := dk_43 (dk_at dksX7_copy_2 21 rfl rfl)
theorem dX7_copy_68 : decode cX7_copy 68 = .ok (.getfield 27, 3) := dk_180 0 27 (dk_at dksX7_copy_3 0 rfl rfl)
theorem dX7_copy_71 : decode cX7_copy 71 = .ok (.invokestatic 71, 3) := dk_184 0 71 (dk_at dksX7_copy_3 3 rfl rfl)
theorem dX7_copy_74 : decode cX7_copy 74 = .ok (.aload_n 0, 1) := dk_42 (dk_at dksX7_copy_3 6 rfl rfl)
theorem dX7_copy_75 : decode cX7_copy 75 = .ok (.getfield 30, 3) := dk_180 0 30 (dk_at dksX7_copy_3 7 rfl rfl)
theorem dX7_copy_78 : decode cX7_copy 78 = .ok (.aload_n 1, 1) := dk_43 (dk_at dksX7_copy_3 10 rfl rfl)
theorem dX7_copy_79 : decode cX7_copy 79 = .ok (.getfield 30, 3) := dk_180 0 30 (dk_at dksX7_copy_3 11 rfl rfl)
theorem dX7_copy_82 : decode cX7_copy 82 = .ok (.invokestatic 71, 3) := dk_184 0 71 (dk_at dksX7_copy_3 14 rfl rfl)
theorem dX7_copy_85 : decode cX7_copy 85 = .ok (.aload_n 0, 1) := dk_42 (dk_at dksX7_copy_3 17 rfl rfl)
theorem dX7_copy_86 : decode cX7_copy 86 = .ok (.getfield 33, 3) := dk_180 0 33 (dk_at dksX7_copy_3 18 rfl rfl)
theorem dX7_copy_89 : decode cX7_copy 89 = .ok (.aload_n 1, 1) := dk_43 (dk_at dksX7_copy_3 21 rfl rfl)
theorem dX7_copy_90 : decode cX7_copy 90 = .ok (.getfield 33, 3) := dk_180 0 33 (dk_at dksX7_copy_4 0 rfl rfl)
theorem dX7_copy_93 : decode cX7_copy 93 = .ok (.invokestatic 71, 3) := dk_184 0 71 (dk_at dksX7_copy_4 3 rfl rfl)
theorem dX7_copy_96 : decode cX7_copy 96 = .ok (.aload_n 0, 1) := dk_42 (dk_at dksX7_copy_4 6 rfl rfl)
theorem dX7_copy_97 : decode cX7_copy 97 = .ok (.getfield 36, 3) := dk_180 0 36 (dk_at dksX7_copy_4 7 rfl rfl)
theorem dX7_copy_100 : decode cX7_copy 100 = .ok (.aload_n 1, 1) := dk_43 (dk_at dksX7_copy_4 10 rfl rfl)
theorem dX7_copy_101 : decode cX7_copy 101 = .ok (.getfield 36, 3) := dk_180 0 36 (dk_at dksX7_copy_4 11 rfl rfl)
theorem dX7_copy_104 : decode cX7_copy 104 = .ok (.invokestatic 71, 3) := dk_184 0 71 (dk_at dksX7_copy_4 14 rfl rfl)
theorem dX7_copy_107 : decode cX7_copy 107 = .ok (.aload_n 0, 1) := dk_42 (dk_at dksX7_copy_4 17 rfl rfl)
theorem dX7_copy_108 : decode cX7_copy 108 = .ok (.getfield 39, 3) := dk_180 0 39 (dk_at dksX7_copy_4 18 rfl rfl)
theorem dX7_copy_111 : decode cX7_copy 111 = .ok (.aload_n 1, 1) := dk_43 (dk_at dksX7_copy_4 21 rfl rfl)
theorem dX7_copy_112 : decode cX7_copy 112 = .ok (.getfield 39, 3) := dk_180 0 39 (dk_at dksX7_copy_5 0 rfl rfl)
theorem dX7_copy_115 : decode cX7_copy 115 = .ok (.invokestatic 71, 3) := dk_184 0 71 (dk_at dksX7_copy_5 3 rfl rfl)
theorem dX7_copy_118 : decode cX7_copy 118 = .ok (.aload_n 0, 1) := dk_42 (dk_at dksX7_copy_5 6 rfl rfl)
theorem dX7_copy_119 : decode cX7_copy 119 = .ok (.getfield 42, 3) := dk_180 0 42 (dk_at dksX7_copy_5 7 rfl rfl)
theorem dX7_copy_122 : decode cX7_copy 122 = .ok (.aload_n 1, 1) := dk_43 (dk_at dksX7_copy_5 10 rfl rfl)
theorem dX7_copy_123 : decode cX7_copy 123 = .ok (.getfield 42, 3) := dk_180 0 42 (dk_at dksX7_copy_5 11 rfl rfl)
theorem dX7_copy_126 : decode cX7_copy 126 = .ok (.invokestatic 71, 3) := dk_184 0 71 (dk_at dksX7_copy_5 14 rfl rfl)
theorem dX7_copy_129 : decode cX7_copy 129 = .ok (.aload_n 0, 1) := dk_42 (dk_at dksX7_copy_5 17 rfl rfl)
theorem dX7_copy_130 : decode cX7_copy 130 = .ok (.getfield 45, 3) := dk_180 0 45 (dk_at dksX7_copy_5 18 rfl rfl)
theorem dX7_copy_133 : decode cX7_copy 133 = .ok (.aload_n 1, 1) := dk_43 (dk_at dksX7_copy_5 21 rfl rfl)
theorem dX7_copy_134 : decode cX7_copy 134 = .ok (.getfield 45, 3) := dk_180 0 45 (dk_at dksX7_copy_6 0 rfl rfl)
theorem dX7_copy_137 : decode cX7_copy 137 = .ok (.invokestatic 71, 3) := dk_184 0 71 (dk_at dksX7_copy_6 3 rfl rfl)
theorem dX7_copy_140 : decode cX7_copy 140 = .ok (.aload_n 0, 1) := dk_42 (dk_at dksX7_copy_6 6 rfl rfl)
theorem dX7_copy_141 : decode cX7_copy 141 = .ok (.getfield 48, 3) := dk_180 0 48 (dk_at dksX7_copy_6 7 rfl rfl)
theorem dX7_copy_144 : decode cX7_copy 144 = .ok (.aload_n 1, 1) := dk_43 (dk_at dksX7_copy_6 10 rfl rfl)
theorem dX7_copy_145 : decode cX7_copy 145 = .ok (.getfield 48, 3) := dk_180 0 48 (dk_at dksX7_copy_6 11 rfl rfl)
theorem dX7_copy_148 : decode cX7_copy 148 = .ok (.invokestatic 71, 3) := dk_184 0 71 (dk_at dksX7_copy_6 14 rfl rfl)
theorem dX7_copy_151 : decode cX7_copy 151 = .ok (.aload_n 0, 1) := dk_42 (dk_at dksX7_copy_6 17 rfl rfl)
theorem dX7_copy_152 : decode cX7_copy 152 = .ok (.getfield 55, 3) := dk_180 0 55 (dk_at dksX7_copy_6 18 rfl rfl)
theorem dX7_copy_155 : decode cX7_copy 155 = .ok (.aload_n 1, 1) := dk_43 (dk_at dksX7_copy_6 21 rfl rfl)
theorem dX7_copy_156 : decode cX7_copy 156 = .ok (.getfield 55, 3) := dk_180 0 55 (dk_at dksX7_copy_7 0 rfl rfl)
theorem dX7_copy_159 : decode cX7_copy 159 = .ok (.invokestatic 71, 3) := dk_184 0 71 (dk_at dksX7_copy_7 3 rfl rfl)
theorem dX7_copy_162 : decode cX7_copy 162 = .ok (.aload_n 0, 1) := dk_42 (dk_at dksX7_copy_7 6 rfl rfl)
theorem dX7_copy_163 : decode cX7_copy 163 = .ok (.getfield 58, 3) := dk_180 0 58 (dk_at dksX7_copy_7 7 rfl rfl)
theorem dX7_copy_166 : decode cX7_copy 166 = .ok (.aload_n 1, 1) := dk_43 (dk_at dksX7_copy_7 10 rfl rfl)
theorem dX7_copy_167 : decode cX7_copy 167 = .ok (.getfield 58, 3) := dk_180 0 58 (dk_at dksX7_copy_7 11 rfl rfl)
theorem dX7_copy_170 : decode cX7_copy 170 = .ok (.invokestatic 71, 3) := dk_184 0 71 (dk_at dksX7_copy_7 14 rfl rfl)
theorem dX7_copy_173 : decode cX7_copy 173 = .ok (.aload_n 0, 1) := dk_42 (dk_at dksX7_copy_7 17 rfl rfl)
theorem dX7_copy_174 : decode cX7_copy 174 = .ok (.getfield 61, 3) := dk_180 0 61 (dk_at dksX7_copy_7 18 rfl rfl)
theorem dX7_copy_177 : decode cX7_copy 177 = .ok (.aload_n 1, 1) := dk_43 (dk_at dksX7_copy_7 21 rfl rfl)
theorem dX7_copy_178 : decode cX7_copy 178 = .ok (.getfield 61, 3) := dk_180 0 61 (dk_at dksX7_copy_8 0 rfl rfl)
theorem dX7_copy_181 : decode cX7_copy 181 = .ok (.invokestatic 71, 3) := dk_184 0 71 (dk_at dksX7_copy_8 3 rfl rfl)
theorem dX7_copy_184 : decode cX7_copy 184 = .ok (.aload_n 0, 1) := dk_42 (dk_at dksX7_copy_8 6 rfl rfl)
theorem dX7_copy_185 : decode cX7_copy 185 = .ok (.getfield 67, 3) := dk_180 0 67 (dk_at dksX7_copy_8 7 rfl rfl)
theorem dX7_copy_188 : decode cX7_copy 188 = .ok (.aload_n 1, 1) := dk_43 (dk_at dksX7_copy_8 10 rfl rfl)
theorem dX7_copy_189 : decode cX7_copy 189 = .ok (.getfield 67, 3) := dk_180 0 67 (dk_at dksX7_copy_8 11 rfl rfl)
theorem dX7_copy_192 : decode cX7_copy 192 = .ok (.invokestatic 71, 3) := dk_184 0 71 (dk_at dksX7_copy_8 14 rfl rfl)
theorem dX7_copy_195 : decode cX7_copy 195 = .ok (.aload_n 1, 1) := dk_43 (dk_at dksX7_copy_8 17 rfl rfl)
theorem dX7_copy_196 : decode cX7_copy 196 = .ok (.aload_n 0, 1) := dk_42 (dk_at dksX7_copy_8 18 rfl rfl)
theorem dX7_copy_197 : decode cX7_copy 197 = .ok (.getfield 75, 3) := dk_180 0 75 (dk_at dksX7_copy_8 19 rfl rfl)
theorem dX7_copy_200 : decode cX7_copy 200 = .ok (.putfield 75, 3) := dk_181 0 75 (dk_at dksX7_copy_9 0 rfl rfl)
theorem dX7_copy_203 : decode cX7_copy 203 = .ok (.aload_n 1, 1) := dk_43 (dk_at dksX7_copy_9 3 rfl rfl)
theorem dX7_copy_204 : decode cX7_copy 204 = .ok (.aload_n 0, 1) := dk_42 (dk_at dksX7_copy_9 4 rfl rfl)
theorem dX7_copy_205 : decode cX7_copy 205 = .ok (.getfield 78, 3) := dk_180 0 78 (dk_at dksX7_copy_9 5 rfl rfl)
theorem dX7_copy_208 : decode cX7_copy 208 = .ok (.putfield 78, 3) := dk_181 0 78 (dk_at dksX7_copy_9 8 rfl rfl)
theorem dX7_copy_211 : decode cX7_copy 211 = .ok (.aload_n 1, 1) := dk_43 (dk_at dksX7_copy_9 11 rfl rfl)
theorem dX7_copy_212 : decode cX7_copy 212 = .ok (.aload_n 0, 1) := dk_42 (dk_at dksX7_copy_9 12 rfl rfl)
theorem dX7_copy_213 : decode cX7_copy 213 = .ok (.getfield 51, 3) := dk_180 0 51 (dk_at dksX7_copy_9 13 rfl rfl)
theorem dX7_copy_216 : decode cX7_copy 216 = .ok (.putfield 51, 3) := dk_181 0 51 (dk_at dksX7_copy_9 16 rfl rfl)
theorem dX7_copy_219 : decode cX7_copy 219 = .ok (.aload_n 1, 1) := dk_43 (dk_at dksX7_copy_9 19 rfl rfl)
theorem dX7_copy_220 : decode cX7_copy 220 = .ok (.aload_n 0, 1) := dk_42 (dk_at dksX7_copy_9 20 rfl rfl)
theorem dX7_copy_221 : decode cX7_copy 221 = .ok (.getfield 81, 3) := dk_180 0 81 (dk_at dksX7_copy_9 21 rfl rfl)
theorem dX7_copy_224 : decode cX7_copy 224 = .ok (.putfield 81, 3) := dk_181 0 81 (dk_at dksX7_copy_10 0 rfl rfl)
theorem dX7_copy_227 : decode cX7_copy 227 = .ok (.aload_n 1, 1) := dk_43 (dk_at dksX7_copy_10 3 rfl rfl)
theorem dX7_copy_228 : decode cX7_copy 228 = .ok (.aload_n 0, 1) := dk_42 (dk_at dksX7_copy_10 4 rfl rfl)
theorem dX7_copy_229 : decode cX7_copy 229 = .ok (.getfield 84, 3) := dk_180 0 84 (dk_at dksX7_copy_10 5 rfl rfl)
theorem dX7_copy_232 : decode cX7_copy 232 = .ok (.putfield 84, 3) := dk_181 0 84 (dk_at dksX7_copy_10 8 rfl rfl)
theorem dX7_copy_235 : decode cX7_copy 235 = .ok (.aload_n 1, 1) := dk_43 (dk_at dksX7_copy_10 11 rfl rfl)
theorem dX7_copy_236 : decode cX7_copy 236 = .ok (.aload_n 0, 1) := dk_42 (dk_at dksX7_copy_10 12 rfl rfl)
theorem dX7_copy_237 : decode cX7_copy 237 = .ok (.getfield 87, 3) := dk_180 0 87 (dk_at dksX7_copy_10 13 rfl rfl)
theorem dX7_copy_240 : decode cX7_copy 240 = .ok (.putfield 87, 3) := dk_181 0 87 (dk_at dksX7_copy_10 16 rfl rfl)
theorem dX7_copy_243 : decode cX7_copy 243 = .ok (.aload_n 1, 1) := dk_43 (dk_at dksX7_copy_10 19 rfl rfl)
theorem dX7_copy_244 : decode cX7_copy 244 = .ok (.aload_n 0, 1) := dk_42 (dk_at dksX7_copy_10 20 rfl rfl)
theorem dX7_copy_245 : decode cX7_copy 245 = .ok (.getfield 64, 3) := dk_180 0 64 (dk_at dksX7_copy_10 21 rfl rfl)
theorem dX7_copy_248 : decode cX7_copy 248 = .ok (.putfield 64, 3) := dk_181 0 64 (dk_at dksX7_copy_11 0 rfl rfl)
theorem dX7_copy_251 : decode cX7_copy 251 = .ok (.aload_n 1, 1) := dk_43 (dk_at dksX7_copy_11 3 rfl rfl)
theorem dX7_copy_252 : decode cX7_copy 252 = .ok (.aload_n 0, 1) := dk_42 (dk_at dksX7_copy_11 4 rfl rfl)
theorem dX7_copy_253 : decode cX7_copy 253 = .ok (.getfield 90, 3) := dk_180 0 90 (dk_at dksX7_copy_11 5 rfl rfl)
theorem dX7_copy_256 : decode cX7_copy 256 = .ok (.putfield 90, 3) := dk_181 0 90 (dk_at dksX7_copy_11 8 rfl rfl)
theorem dX7_copy_259 : decode cX7_copy 259 = .ok (.aload_n 1, 1) := dk_43 (dk_at dksX7_copy_11 11 rfl rfl)
theorem dX7_copy_260 : decode cX7_copy 260 = .ok (.aload_n 0, 1) := dk_42 (dk_at dksX7_copy_11 12 rfl rfl)
theorem dX7_copy_261 : decode cX7_copy 261 = .ok (.getfield 93, 3) := dk_180 0 93 (dk_at dksX7_copy_11 13 rfl rfl)
theorem dX7_copy_264 : decode cX7_copy 264 = .ok (.putfield 93, 3) := dk_181 0 93 (dk_at dksX7_copy_11 16 rfl rfl)
theorem dX7_copy_267 : decode cX7_copy 267 = .ok (.aload_n 1, 1) := dk_43 (dk_at dksX7_copy_11 19 rfl rfl)
theorem dX7_copy_268 : decode cX7_copy 268 = .ok (.aload_n 0, 1) := dk_42 (dk_at dksX7_copy_11 20 rfl rfl)
theorem dX7_copy_269 : decode cX7_copy 269 = .ok (.getfield 97, 3) := dk_180 0 97 (dk_at dksX7_copy_11 21 rfl rfl)
theorem dX7_copy_272 : decode cX7_copy 272 = .ok (.putfield 97, 3) := dk_181 0 97 (dk_at dksX7_copy_12 0 rfl rfl)
theorem dX7_copy_275 : decode cX7_copy 275 = .ok (.aload_n 1, 1) := dk_43 (dk_at dksX7_copy_12 3 rfl rfl)
theorem dX7_copy_276 : decode cX7_copy 276 = .ok (.aload_n 0, 1) := dk_42 (dk_at dksX7_copy_12 4 rfl rfl)
theorem dX7_copy_277 : decode cX7_copy 277 = .ok (.getfield 100, 3) := dk_180 0 100 (dk_at dksX7_copy_12 5 rfl rfl)
theorem dX7_copy_280 : decode cX7_copy 280 = .ok (.putfield 100, 3) := dk_181 0 100 (dk_at dksX7_copy_12 8 rfl rfl)
theorem dX7_copy_283 : decode cX7_copy 283 = .ok (.aload_n 1, 1) := dk_43 (dk_at dksX7_copy_12 11 rfl rfl)
theorem dX7_copy_284 : decode cX7_copy 284 = .ok (.aload_n 0, 1) := dk_42 (dk_at dksX7_copy_12 12 rfl rfl)
theorem dX7_copy_285 : decode cX7_copy 285 = .ok (.getfield 103, 3) := dk_180 0 103 (dk_at dksX7_copy_12 13 rfl rfl)
theorem dX7_copy_288 : decode cX7_copy 288 = .ok (.putfield 103, 3) := dk_181 0 103 (dk_at dksX7_copy_12 16 rfl rfl)
theorem dX7_copy_291 : decode cX7_copy 291 = .ok (.aload_n 1, 1) := dk_43 (dk_at dksX7_copy_12 19 rfl rfl)
theorem dX7_copy_292 : decode cX7_copy 292 = .ok (.aload_n 0, 1) := dk_42 (dk_at dksX7_copy_12 20 rfl rfl)
theorem dX7_copy_293 : decode cX7_copy 293 = .ok (.getfield 106, 3) := dk_180 0 106 (dk_at dksX7_copy_12 21 rfl rfl)
theorem dX7_copy_296 : decode cX7_copy 296 = .ok (.putfield 106, 3) := dk_181 0 106 (dk_at dksX7_copy_13 0 rfl rfl)
theorem dX7_copy_299 : decode cX7_copy 299 = .ok (.aload_n 1, 1) := dk_43 (dk_at dksX7_copy_13 3 rfl rfl)
theorem dX7_copy_300 : decode cX7_copy 300 = .ok (.areturn, 1) := dk_176 (dk_at dksX7_copy_13 4 rfl rfl)
theorem q39 : (Jvm.Cond.initialized "MelodeonModel$Desk") ∈ lw_all := lw_g (lw_at lw_m1 14 rfl) rfl
theorem q238 : (Jvm.Cond.selects "MelodeonModel$Desk" ({ cls := "java/lang/Object", name := "getClass", desc := "()Ljava/lang/Class;" } : Jvm.MethodName) ({ cls := "java/lang/Object", name := "getClass", desc := "()Ljava/lang/Class;" } : Jvm.MethodName)) ∈ lw_all := lw_g (lw_at lw_m1 213 rfl) rfl
theorem q905 : (Jvm.Cond.instantiable "MelodeonModel$Desk" (35 : Nat)) ∈ lw_all := lw_g (lw_at lw_m4 160 rfl) rfl
theorem q907 : (Jvm.Cond.instanceMethod ({ cls := "MelodeonModel$Desk", name := "<init>", desc := "()V" } : Jvm.MethodName)) ∈ lw_all := lw_g (lw_at lw_m4 162 rfl) rfl
theorem q908 : (Jvm.Cond.code ({ cls := "MelodeonModel$Desk", name := "<init>", desc := "()V" } : Jvm.MethodName) prog_8_method_1_code (2 : Nat) (Option.none : Option Jvm.ClassFile.FieldType)) ∈ lw_all := lw_g (lw_at lw_m4 163 rfl) rfl
theorem q909 : (Jvm.Cond.methodLink "MelodeonModel$Desk" (3 : Nat) ({ cls := "java/lang/Object", name := "<init>", desc := "()V" } : Jvm.MethodName)) ∈ lw_all := lw_g (lw_at lw_m4 164 rfl) rfl
theorem q910 : (Jvm.Cond.fieldLink "MelodeonModel$Desk" (9 : Nat) "MelodeonModel$Desk" "drawn" "[I") ∈ lw_all := lw_g (lw_at lw_m4 165 rfl) rfl
theorem q912 : (Jvm.Cond.fieldLink "MelodeonModel$Desk" (15 : Nat) "MelodeonModel$Desk" "instrument" "[I") ∈ lw_all := lw_g (lw_at lw_m4 167 rfl) rfl
theorem q914 : (Jvm.Cond.fieldLink "MelodeonModel$Desk" (18 : Nat) "MelodeonModel$Desk" "state" "[I") ∈ lw_all := lw_g (lw_at lw_m4 169 rfl) rfl
theorem q916 : (Jvm.Cond.fieldLink "MelodeonModel$Desk" (21 : Nat) "MelodeonModel$Desk" "level" "[I") ∈ lw_all := lw_g (lw_at lw_m4 171 rfl) rfl
theorem q918 : (Jvm.Cond.fieldLink "MelodeonModel$Desk" (24 : Nat) "MelodeonModel$Desk" "of" "[I") ∈ lw_all := lw_g (lw_at lw_m4 173 rfl) rfl
theorem q920 : (Jvm.Cond.fieldLink "MelodeonModel$Desk" (27 : Nat) "MelodeonModel$Desk" "pitch" "[I") ∈ lw_all := lw_g (lw_at lw_m4 175 rfl) rfl
theorem q922 : (Jvm.Cond.fieldLink "MelodeonModel$Desk" (30 : Nat) "MelodeonModel$Desk" "force" "[I") ∈ lw_all := lw_g (lw_at lw_m4 177 rfl) rfl
theorem q924 : (Jvm.Cond.fieldLink "MelodeonModel$Desk" (33 : Nat) "MelodeonModel$Desk" "one" "[I") ∈ lw_all := lw_g (lw_at lw_m4 179 rfl) rfl
theorem q926 : (Jvm.Cond.fieldLink "MelodeonModel$Desk" (36 : Nat) "MelodeonModel$Desk" "other" "[I") ∈ lw_all := lw_g (lw_at lw_m4 181 rfl) rfl
theorem q928 : (Jvm.Cond.fieldLink "MelodeonModel$Desk" (39 : Nat) "MelodeonModel$Desk" "low" "[I") ∈ lw_all := lw_g (lw_at lw_m4 183 rfl) rfl
theorem q930 : (Jvm.Cond.fieldLink "MelodeonModel$Desk" (42 : Nat) "MelodeonModel$Desk" "band" "[I") ∈ lw_all := lw_g (lw_at lw_m4 185 rfl) rfl
theorem q932 : (Jvm.Cond.fieldLink "MelodeonModel$Desk" (45 : Nat) "MelodeonModel$Desk" "gate" "[I") ∈ lw_all := lw_g (lw_at lw_m4 187 rfl) rfl
theorem q934 : (Jvm.Cond.fieldLink "MelodeonModel$Desk" (48 : Nat) "MelodeonModel$Desk" "began" "[I") ∈ lw_all := lw_g (lw_at lw_m4 189 rfl) rfl
theorem q935 : (Jvm.Cond.fieldLink "MelodeonModel$Desk" (75 : Nat) "MelodeonModel$Desk" "begins" "I") ∈ lw_all := lw_g (lw_at lw_m4 190 rfl) rfl
theorem q936 : (Jvm.Cond.fieldLink "MelodeonModel$Desk" (78 : Nat) "MelodeonModel$Desk" "taken" "I") ∈ lw_all := lw_g (lw_at lw_m4 191 rfl) rfl
theorem q938 : (Jvm.Cond.fieldLink "MelodeonModel$Desk" (51 : Nat) "MelodeonModel$Desk" "gain" "I") ∈ lw_all := lw_g (lw_at lw_m4 193 rfl) rfl
theorem q940 : (Jvm.Cond.fieldLink "MelodeonModel$Desk" (81 : Nat) "MelodeonModel$Desk" "length" "I") ∈ lw_all := lw_g (lw_at lw_m4 195 rfl) rfl
theorem q942 : (Jvm.Cond.fieldLink "MelodeonModel$Desk" (84 : Nat) "MelodeonModel$Desk" "wet" "I") ∈ lw_all := lw_g (lw_at lw_m4 197 rfl) rfl
theorem q944 : (Jvm.Cond.fieldLink "MelodeonModel$Desk" (87 : Nat) "MelodeonModel$Desk" "back" "I") ∈ lw_all := lw_g (lw_at lw_m4 199 rfl) rfl
theorem q946 : (Jvm.Cond.fieldLink "MelodeonModel$Desk" (55 : Nat) "MelodeonModel$Desk" "delay" "[I") ∈ lw_all := lw_g (lw_at lw_m4 201 rfl) rfl
theorem q948 : (Jvm.Cond.fieldLink "MelodeonModel$Desk" (58 : Nat) "MelodeonModel$Desk" "track" "[I") ∈ lw_all := lw_g (lw_at lw_m4 203 rfl) rfl
theorem q950 : (Jvm.Cond.fieldLink "MelodeonModel$Desk" (61 : Nat) "MelodeonModel$Desk" "written" "[I") ∈ lw_all := lw_g (lw_at lw_m4 205 rfl) rfl
theorem q952 : (Jvm.Cond.fieldLink "MelodeonModel$Desk" (64 : Nat) "MelodeonModel$Desk" "tempo" "I") ∈ lw_all := lw_g (lw_at lw_m4 207 rfl) rfl
theorem q954 : (Jvm.Cond.fieldLink "MelodeonModel$Desk" (90 : Nat) "MelodeonModel$Desk" "swing" "I") ∈ lw_all := lw_g (lw_at lw_m4 209 rfl) rfl
theorem q956 : (Jvm.Cond.fieldLink "MelodeonModel$Desk" (93 : Nat) "MelodeonModel$Desk" "isPlaying" "Z") ∈ lw_all := lw_g (lw_at lw_m4 211 rfl) rfl
theorem q958 : (Jvm.Cond.fieldLink "MelodeonModel$Desk" (97 : Nat) "MelodeonModel$Desk" "step" "I") ∈ lw_all := lw_g (lw_at lw_m4 213 rfl) rfl
theorem q960 : (Jvm.Cond.fieldLink "MelodeonModel$Desk" (100 : Nat) "MelodeonModel$Desk" "passed" "I") ∈ lw_all := lw_g (lw_at lw_m4 215 rfl) rfl
theorem q962 : (Jvm.Cond.fieldLink "MelodeonModel$Desk" (103 : Nat) "MelodeonModel$Desk" "steps" "I") ∈ lw_all := lw_g (lw_at lw_m4 217 rfl) rfl
theorem q963 : (Jvm.Cond.fieldLink "MelodeonModel$Desk" (106 : Nat) "MelodeonModel$Desk" "clock" "I") ∈ lw_all := lw_g (lw_at lw_m4 218 rfl) rfl
theorem q965 : (Jvm.Cond.fieldLink "MelodeonModel$Desk" (67 : Nat) "MelodeonModel$Desk" "heard" "[I") ∈ lw_all := lw_g (lw_at lw_m4 220 rfl) rfl
theorem q967 : (Jvm.Cond.fieldLink "MelodeonModel$Desk" (184 : Nat) "MelodeonModel$Desk" "counted" "I") ∈ lw_all := lw_g (lw_at lw_m4 222 rfl) rfl
theorem q969 : (Jvm.Cond.fieldLink "MelodeonModel$Desk" (174 : Nat) "MelodeonModel$Desk" "peak" "I") ∈ lw_all := lw_g (lw_at lw_m4 224 rfl) rfl
theorem q971 : (Jvm.Cond.fieldLink "MelodeonModel$Desk" (168 : Nat) "MelodeonModel$Desk" "clipped" "I") ∈ lw_all := lw_g (lw_at lw_m4 226 rfl) rfl
theorem q973 : (Jvm.Cond.fieldLink "MelodeonModel$Desk" (171 : Nat) "MelodeonModel$Desk" "crossings" "I") ∈ lw_all := lw_g (lw_at lw_m4 228 rfl) rfl
theorem q975 : (Jvm.Cond.fieldLink "MelodeonModel$Desk" (180 : Nat) "MelodeonModel$Desk" "sum" "J") ∈ lw_all := lw_g (lw_at lw_m4 230 rfl) rfl
theorem q977 : (Jvm.Cond.laysFinal "MelodeonModel$Desk" "MelodeonModel$Desk" "drawn" "[I") ∈ lw_all := lw_g (lw_at lw_m4 232 rfl) rfl
theorem q978 : (Jvm.Cond.soleField "MelodeonModel$Desk" "drawn") ∈ lw_all := lw_g (lw_at lw_m4 233 rfl) rfl
theorem q979 : (Jvm.Cond.laysFinal "MelodeonModel$Desk" "MelodeonModel$Desk" "instrument" "[I") ∈ lw_all := lw_g (lw_at lw_m4 234 rfl) rfl
theorem q980 : (Jvm.Cond.soleField "MelodeonModel$Desk" "instrument") ∈ lw_all := lw_g (lw_at lw_m4 235 rfl) rfl
theorem q981 : (Jvm.Cond.laysFinal "MelodeonModel$Desk" "MelodeonModel$Desk" "state" "[I") ∈ lw_all := lw_g (lw_at lw_m4 236 rfl) rfl
theorem q982 : (Jvm.Cond.soleField "MelodeonModel$Desk" "state") ∈ lw_all := lw_g (lw_at lw_m4 237 rfl) rfl
theorem q983 : (Jvm.Cond.laysFinal "MelodeonModel$Desk" "MelodeonModel$Desk" "level" "[I") ∈ lw_all := lw_g (lw_at lw_m4 238 rfl) rfl
theorem q984 : (Jvm.Cond.soleField "MelodeonModel$Desk" "level") ∈ lw_all := lw_g (lw_at lw_m4 239 rfl) rfl
theorem q985 : (Jvm.Cond.laysFinal "MelodeonModel$Desk" "MelodeonModel$Desk" "of" "[I") ∈ lw_all := lw_g (lw_at lw_m5 0 rfl) rfl
theorem q986 : (Jvm.Cond.soleField "MelodeonModel$Desk" "of") ∈ lw_all := lw_g (lw_at lw_m5 1 rfl) rfl
theorem q987 : (Jvm.Cond.laysFinal "MelodeonModel$Desk" "MelodeonModel$Desk" "pitch" "[I") ∈ lw_all := lw_g (lw_at lw_m5 2 rfl) rfl
theorem q988 : (Jvm.Cond.soleField "MelodeonModel$Desk" "pitch") ∈ lw_all := lw_g (lw_at lw_m5 3 rfl) rfl
theorem q989 : (Jvm.Cond.laysFinal "MelodeonModel$Desk" "MelodeonModel$Desk" "force" "[I") ∈ lw_all := lw_g (lw_at lw_m5 4 rfl) rfl
theorem q990 : (Jvm.Cond.soleField "MelodeonModel$Desk" "force") ∈ lw_all := lw_g (lw_at lw_m5 5 rfl) rfl
theorem q991 : (Jvm.Cond.laysFinal "MelodeonModel$Desk" "MelodeonModel$Desk" "one" "[I") ∈ lw_all := lw_g (lw_at lw_m5 6 rfl) rfl
theorem q992 : (Jvm.Cond.soleField "MelodeonModel$Desk" "one") ∈ lw_all := lw_g (lw_at lw_m5 7 rfl) rfl
theorem q993 : (Jvm.Cond.laysFinal "MelodeonModel$Desk" "MelodeonModel$Desk" "other" "[I") ∈ lw_all := lw_g (lw_at lw_m5 8 rfl) rfl
theorem q994 : (Jvm.Cond.soleField "MelodeonModel$Desk" "other") ∈ lw_all := lw_g (lw_at lw_m5 9 rfl) rfl
theorem q995 : (Jvm.Cond.laysFinal "MelodeonModel$Desk" "MelodeonModel$Desk" "low" "[I") ∈ lw_all := lw_g (lw_at lw_m5 10 rfl) rfl
theorem q996 : (Jvm.Cond.soleField "MelodeonModel$Desk" "low") ∈ lw_all := lw_g (lw_at lw_m5 11 rfl) rfl
theorem q997 : (Jvm.Cond.laysFinal "MelodeonModel$Desk" "MelodeonModel$Desk" "band" "[I") ∈ lw_all := lw_g (lw_at lw_m5 12 rfl) rfl
theorem q998 : (Jvm.Cond.soleField "MelodeonModel$Desk" "band") ∈ lw_all := lw_g (lw_at lw_m5 13 rfl) rfl
theorem q999 : (Jvm.Cond.laysFinal "MelodeonModel$Desk" "MelodeonModel$Desk" "gate" "[I") ∈ lw_all := lw_g (lw_at lw_m5 14 rfl) rfl
theorem q1000 : (Jvm.Cond.soleField "MelodeonModel$Desk" "gate") ∈ lw_all := lw_g (lw_at lw_m5 15 rfl) rfl
theorem q1001 : (Jvm.Cond.laysFinal "MelodeonModel$Desk" "MelodeonModel$Desk" "began" "[I") ∈ lw_all := lw_g (lw_at lw_m5 16 rfl) rfl
theorem q1002 : (Jvm.Cond.soleField "MelodeonModel$Desk" "began") ∈ lw_all := lw_g (lw_at lw_m5 17 rfl) rfl
theorem q1003 : (Jvm.Cond.lays "MelodeonModel$Desk" "MelodeonModel$Desk" "begins" "I") ∈ lw_all := lw_g (lw_at lw_m5 18 rfl) rfl
theorem q1004 : (Jvm.Cond.soleField "MelodeonModel$Desk" "begins") ∈ lw_all := lw_g (lw_at lw_m5 19 rfl) rfl
theorem q1005 : (Jvm.Cond.lays "MelodeonModel$Desk" "MelodeonModel$Desk" "taken" "I") ∈ lw_all := lw_g (lw_at lw_m5 20 rfl) rfl
theorem q1006 : (Jvm.Cond.soleField "MelodeonModel$Desk" "taken") ∈ lw_all := lw_g (lw_at lw_m5 21 rfl) rfl
theorem q1007 : (Jvm.Cond.lays "MelodeonModel$Desk" "MelodeonModel$Desk" "gain" "I") ∈ lw_all := lw_g (lw_at lw_m5 22 rfl) rfl
theorem q1008 : (Jvm.Cond.soleField "MelodeonModel$Desk" "gain") ∈ lw_all := lw_g (lw_at lw_m5 23 rfl) rfl
theorem q1009 : (Jvm.Cond.lays "MelodeonModel$Desk" "MelodeonModel$Desk" "length" "I") ∈ lw_all := lw_g (lw_at lw_m5 24 rfl) rfl
theorem q1010 : (Jvm.Cond.soleField "MelodeonModel$Desk" "length") ∈ lw_all := lw_g (lw_at lw_m5 25 rfl) rfl
theorem q1011 : (Jvm.Cond.lays "MelodeonModel$Desk" "MelodeonModel$Desk" "wet" "I") ∈ lw_all := lw_g (lw_at lw_m5 26 rfl) rfl
theorem q1012 : (Jvm.Cond.soleField "MelodeonModel$Desk" "wet") ∈ lw_all := lw_g (lw_at lw_m5 27 rfl) rfl
theorem q1013 : (Jvm.Cond.lays "MelodeonModel$Desk" "MelodeonModel$Desk" "back" "I") ∈ lw_all := lw_g (lw_at lw_m5 28 rfl) rfl
theorem q1014 : (Jvm.Cond.soleField "MelodeonModel$Desk" "back") ∈ lw_all := lw_g (lw_at lw_m5 29 rfl) rfl
theorem q1015 : (Jvm.Cond.laysFinal "MelodeonModel$Desk" "MelodeonModel$Desk" "delay" "[I") ∈ lw_all := lw_g (lw_at lw_m5 30 rfl) rfl
theorem q1016 : (Jvm.Cond.soleField "MelodeonModel$Desk" "delay") ∈ lw_all := lw_g (lw_at lw_m5 31 rfl) rfl
theorem q1017 : (Jvm.Cond.laysFinal "MelodeonModel$Desk" "MelodeonModel$Desk" "track" "[I") ∈ lw_all := lw_g (lw_at lw_m5 32 rfl) rfl
theorem q1018 : (Jvm.Cond.soleField "MelodeonModel$Desk" "track") ∈ lw_all := lw_g (lw_at lw_m5 33 rfl) rfl
theorem q1019 : (Jvm.Cond.laysFinal "MelodeonModel$Desk" "MelodeonModel$Desk" "written" "[I") ∈ lw_all := lw_g (lw_at lw_m5 34 rfl) rfl
theorem q1020 : (Jvm.Cond.soleField "MelodeonModel$Desk" "written") ∈ lw_all := lw_g (lw_at lw_m5 35 rfl) rfl
theorem q1021 : (Jvm.Cond.lays "MelodeonModel$Desk" "MelodeonModel$Desk" "tempo" "I") ∈ lw_all := lw_g (lw_at lw_m5 36 rfl) rfl
theorem q1022 : (Jvm.Cond.soleField "MelodeonModel$Desk" "tempo") ∈ lw_all := lw_g (lw_at lw_m5 37 rfl) rfl
theorem q1023 : (Jvm.Cond.lays "MelodeonModel$Desk" "MelodeonModel$Desk" "swing" "I") ∈ lw_all := lw_g (lw_at lw_m5 38 rfl) rfl
theorem q1024 : (Jvm.Cond.soleField "MelodeonModel$Desk" "swing") ∈ lw_all := lw_g (lw_at lw_m5 39 rfl) rfl
theorem q1025 : (Jvm.Cond.lays "MelodeonModel$Desk" "MelodeonModel$Desk" "isPlaying" "Z") ∈ lw_all := lw_g (lw_at lw_m5 40 rfl) rfl
theorem q1026 : (Jvm.Cond.soleField "MelodeonModel$Desk" "isPlaying") ∈ lw_all := lw_g (lw_at lw_m5 41 rfl) rfl
theorem q1027 : (Jvm.Cond.lays "MelodeonModel$Desk" "MelodeonModel$Desk" "step" "I") ∈ lw_all := lw_g (lw_at lw_m5 42 rfl) rfl
theorem q1028 : (Jvm.Cond.soleField "MelodeonModel$Desk" "step") ∈ lw_all := lw_g (lw_at lw_m5 43 rfl) rfl
theorem q1029 : (Jvm.Cond.lays "MelodeonModel$Desk" "MelodeonModel$Desk" "passed" "I") ∈ lw_all := lw_g (lw_at lw_m5 44 rfl) rfl
theorem q1030 : (Jvm.Cond.soleField "MelodeonModel$Desk" "passed") ∈ lw_all := lw_g (lw_at lw_m5 45 rfl) rfl
theorem q1031 : (Jvm.Cond.lays "MelodeonModel$Desk" "MelodeonModel$Desk" "steps" "I") ∈ lw_all := lw_g (lw_at lw_m5 46 rfl) rfl
theorem q1032 : (Jvm.Cond.soleField "MelodeonModel$Desk" "steps") ∈ lw_all := lw_g (lw_at lw_m5 47 rfl) rfl
theorem q1033 : (Jvm.Cond.lays "MelodeonModel$Desk" "MelodeonModel$Desk" "clock" "I") ∈ lw_all := lw_g (lw_at lw_m5 48 rfl) rfl
theorem q1034 : (Jvm.Cond.soleField "MelodeonModel$Desk" "clock") ∈ lw_all := lw_g (lw_at lw_m5 49 rfl) rfl
theorem q1035 : (Jvm.Cond.laysFinal "MelodeonModel$Desk" "MelodeonModel$Desk" "heard" "[I") ∈ lw_all := lw_g (lw_at lw_m5 50 rfl) rfl
theorem q1036 : (Jvm.Cond.soleField "MelodeonModel$Desk" "heard") ∈ lw_all := lw_g (lw_at lw_m5 51 rfl) rfl
theorem q1037 : (Jvm.Cond.lays "MelodeonModel$Desk" "MelodeonModel$Desk" "counted" "I") ∈ lw_all := lw_g (lw_at lw_m5 52 rfl) rfl
theorem q1038 : (Jvm.Cond.soleField "MelodeonModel$Desk" "counted") ∈ lw_all := lw_g (lw_at lw_m5 53 rfl) rfl
theorem q1039 : (Jvm.Cond.lays "MelodeonModel$Desk" "MelodeonModel$Desk" "peak" "I") ∈ lw_all := lw_g (lw_at lw_m5 54 rfl) rfl
theorem q1040 : (Jvm.Cond.soleField "MelodeonModel$Desk" "peak") ∈ lw_all := lw_g (lw_at lw_m5 55 rfl) rfl
theorem q1041 : (Jvm.Cond.lays "MelodeonModel$Desk" "MelodeonModel$Desk" "clipped" "I") ∈ lw_all := lw_g (lw_at lw_m5 56 rfl) rfl
theorem q1042 : (Jvm.Cond.soleField "MelodeonModel$Desk" "clipped") ∈ lw_all := lw_g (lw_at lw_m5 57 rfl) rfl
theorem q1043 : (Jvm.Cond.lays "MelodeonModel$Desk" "MelodeonModel$Desk" "crossings" "I") ∈ lw_all := lw_g (lw_at lw_m5 58 rfl) rfl
theorem q1044 : (Jvm.Cond.soleField "MelodeonModel$Desk" "crossings") ∈ lw_all := lw_g (lw_at lw_m5 59 rfl) rfl
theorem q1045 : (Jvm.Cond.lays "MelodeonModel$Desk" "MelodeonModel$Desk" "sum" "J") ∈ lw_all := lw_g (lw_at lw_m5 60 rfl) rfl
theorem q1046 : (Jvm.Cond.soleField "MelodeonModel$Desk" "sum") ∈ lw_all := lw_g (lw_at lw_m5 61 rfl) rfl
theorem q1047 : (Jvm.Cond.superclass "MelodeonModel$Desk" "java/lang/Object") ∈ lw_all := lw_g (lw_at lw_m5 62 rfl) rfl
theorem q1079 : (Jvm.Cond.instanceMethod ({ cls := "MelodeonModel$Desk", name := "wave", desc := "(II)I" } : Jvm.MethodName)) ∈ lw_all := lw_g (lw_at lw_m5 94 rfl) rfl
theorem q1080 : (Jvm.Cond.selects "MelodeonModel$Desk" ({ cls := "MelodeonModel$Desk", name := "wave", desc := "(II)I" } : Jvm.MethodName) ({ cls := "MelodeonModel$Desk", name := "wave", desc := "(II)I" } : Jvm.MethodName)) ∈ lw_all := lw_g (lw_at lw_m5 95 rfl) rfl
theorem q1081 : (Jvm.Cond.code ({ cls := "MelodeonModel$Desk", name := "wave", desc := "(II)I" } : Jvm.MethodName) prog_8_method_4_code (6 : Nat) (Option.some Jvm.ClassFile.FieldType.int)) ∈ lw_all := lw_g (lw_at lw_m5 96 rfl) rfl
theorem q1082 : (Jvm.Cond.methodLink "MelodeonModel$Desk" (109 : Nat) ({ cls := "MelodeonModel$Desk", name := "value", desc := "(II)I" } : Jvm.MethodName)) ∈ lw_all := lw_g (lw_at lw_m5 97 rfl) rfl
theorem q1083 : (Jvm.Cond.privateMethod ({ cls := "MelodeonModel$Desk", name := "value", desc := "(II)I" } : Jvm.MethodName)) ∈ lw_tbl := lw_at lw_m5 98 rfl
theorem q1084 : (Jvm.Cond.instanceMethod ({ cls := "MelodeonModel$Desk", name := "value", desc := "(II)I" } : Jvm.MethodName)) ∈ lw_all := lw_g (lw_at lw_m5 99 rfl) rfl
theorem q1085 : (Jvm.Cond.code ({ cls := "MelodeonModel$Desk", name := "value", desc := "(II)I" } : Jvm.MethodName) prog_8_method_3_code (3 : Nat) (Option.some Jvm.ClassFile.FieldType.int)) ∈ lw_all := lw_g (lw_at lw_m5 100 rfl) rfl
theorem q1091 : (Jvm.Cond.static ({ cls := "MelodeonModel$Desk", name := "stride", desc := "(I)I" } : Jvm.MethodName)) ∈ lw_all := lw_g (lw_at lw_m5 106 rfl) rfl
theorem q1092 : (Jvm.Cond.code ({ cls := "MelodeonModel$Desk", name := "stride", desc := "(I)I" } : Jvm.MethodName) prog_8_method_5_code (2 : Nat) (Option.some Jvm.ClassFile.FieldType.int)) ∈ lw_all := lw_g (lw_at lw_m5 107 rfl) rfl
theorem q1130 : (Jvm.Cond.instanceMethod ({ cls := "MelodeonModel$Desk", name := "begin", desc := "(IIII)I" } : Jvm.MethodName)) ∈ lw_all := lw_g (lw_at lw_m5 145 rfl) rfl
theorem q1131 : (Jvm.Cond.selects "MelodeonModel$Desk" ({ cls := "MelodeonModel$Desk", name := "begin", desc := "(IIII)I" } : Jvm.MethodName) ({ cls := "MelodeonModel$Desk", name := "begin", desc := "(IIII)I" } : Jvm.MethodName)) ∈ lw_all := lw_g (lw_at lw_m5 146 rfl) rfl
theorem q1132 : (Jvm.Cond.code ({ cls := "MelodeonModel$Desk", name := "begin", desc := "(IIII)I" } : Jvm.MethodName) prog_8_method_7_code (6 : Nat) (Option.some Jvm.ClassFile.FieldType.int)) ∈ lw_all := lw_g (lw_at lw_m5 147 rfl) rfl
theorem q1133 : (Jvm.Cond.methodLink "MelodeonModel$Desk" (113 : Nat) ({ cls := "MelodeonModel$Desk", name := "nextVoice", desc := "()I" } : Jvm.MethodName)) ∈ lw_all := lw_g (lw_at lw_m5 148 rfl) rfl
theorem q1134 : (Jvm.Cond.instanceMethod ({ cls := "MelodeonModel$Desk", name := "nextVoice", desc := "()I" } : Jvm.MethodName)) ∈ lw_all := lw_g (lw_at lw_m5 149 rfl) rfl
theorem q1135 : (Jvm.Cond.selects "MelodeonModel$Desk" ({ cls := "MelodeonModel$Desk", name := "nextVoice", desc := "()I" } : Jvm.MethodName) ({ cls := "MelodeonModel$Desk", name := "nextVoice", desc := "()I" } : Jvm.MethodName)) ∈ lw_all := lw_g (lw_at lw_m5 150 rfl) rfl
theorem q1136 : (Jvm.Cond.code ({ cls := "MelodeonModel$Desk", name := "nextVoice", desc := "()I" } : Jvm.MethodName) prog_8_method_6_code (3 : Nat) (Option.some Jvm.ClassFile.FieldType.int)) ∈ lw_all := lw_g (lw_at lw_m5 151 rfl) rfl
theorem q1145 : (Jvm.Cond.instanceMethod ({ cls := "MelodeonModel$Desk", name := "end", desc := "(I)V" } : Jvm.MethodName)) ∈ lw_all := lw_g (lw_at lw_m5 160 rfl) rfl
theorem q1146 : (Jvm.Cond.selects "MelodeonModel$Desk" ({ cls := "MelodeonModel$Desk", name := "end", desc := "(I)V" } : Jvm.MethodName) ({ cls := "MelodeonModel$Desk", name := "end", desc := "(I)V" } : Jvm.MethodName)) ∈ lw_all := lw_g (lw_at lw_m5 161 rfl) rfl
theorem q1147 : (Jvm.Cond.code ({ cls := "MelodeonModel$Desk", name := "end", desc := "(I)V" } : Jvm.MethodName) prog_8_method_8_code (2 : Nat) (Option.none : Option Jvm.ClassFile.FieldType)) ∈ lw_all := lw_g (lw_at lw_m5 162 rfl) rfl
theorem q1148 : (Jvm.Cond.methodLinkNest "MelodeonModel$Desk" (117 : Nat) ({ cls := "MelodeonModel", name := "isIn", desc := "(III)Z" } : Jvm.MethodName) "MelodeonModel") ∈ lw_tbl := lw_at lw_m5 163 rfl
theorem q1154 : (Jvm.Cond.instanceMethod ({ cls := "MelodeonModel$Desk", name := "sounding", desc := "()I" } : Jvm.MethodName)) ∈ lw_all := lw_g (lw_at lw_m5 169 rfl) rfl
theorem q1155 : (Jvm.Cond.selects "MelodeonModel$Desk" ({ cls := "MelodeonModel$Desk", name := "sounding", desc := "()I" } : Jvm.MethodName) ({ cls := "MelodeonModel$Desk", name := "sounding", desc := "()I" } : Jvm.MethodName)) ∈ lw_all := lw_g (lw_at lw_m5 170 rfl) rfl
theorem q1156 : (Jvm.Cond.code ({ cls := "MelodeonModel$Desk", name := "sounding", desc := "()I" } : Jvm.MethodName) prog_8_method_14_code (3 : Nat) (Option.some Jvm.ClassFile.FieldType.int)) ∈ lw_all := lw_g (lw_at lw_m5 171 rfl) rfl
theorem q1189 : (Jvm.Cond.instanceMethod ({ cls := "MelodeonModel$Desk", name := "sample", desc := "()I" } : Jvm.MethodName)) ∈ lw_all := lw_g (lw_at lw_m5 204 rfl) rfl
theorem q1190 : (Jvm.Cond.selects "MelodeonModel$Desk" ({ cls := "MelodeonModel$Desk", name := "sample", desc := "()I" } : Jvm.MethodName) ({ cls := "MelodeonModel$Desk", name := "sample", desc := "()I" } : Jvm.MethodName)) ∈ lw_all := lw_g (lw_at lw_m5 205 rfl) rfl
theorem q1191 : (Jvm.Cond.code ({ cls := "MelodeonModel$Desk", name := "sample", desc := "()I" } : Jvm.MethodName) prog_8_method_13_code (5 : Nat) (Option.some Jvm.ClassFile.FieldType.int)) ∈ lw_all := lw_g (lw_at lw_m5 206 rfl) rfl
theorem q1192 : (Jvm.Cond.methodLink "MelodeonModel$Desk" (155 : Nat) ({ cls := "MelodeonModel$Desk", name := "goOnTracks", desc := "()V" } : Jvm.MethodName)) ∈ lw_all := lw_g (lw_at lw_m5 207 rfl) rfl
theorem q1193 : (Jvm.Cond.privateMethod ({ cls := "MelodeonModel$Desk", name := "goOnTracks", desc := "()V" } : Jvm.MethodName)) ∈ lw_tbl := lw_at lw_m5 208 rfl
theorem q1194 : (Jvm.Cond.instanceMethod ({ cls := "MelodeonModel$Desk", name := "goOnTracks", desc := "()V" } : Jvm.MethodName)) ∈ lw_all := lw_g (lw_at lw_m5 209 rfl) rfl
theorem q1195 : (Jvm.Cond.code ({ cls := "MelodeonModel$Desk", name := "goOnTracks", desc := "()V" } : Jvm.MethodName) prog_8_method_9_code (3 : Nat) (Option.none : Option Jvm.ClassFile.FieldType)) ∈ lw_all := lw_g (lw_at lw_m5 210 rfl) rfl
theorem q1196 : (Jvm.Cond.methodLink "MelodeonModel$Desk" (121 : Nat) ({ cls := "MelodeonModel$Desk", name := "end", desc := "(I)V" } : Jvm.MethodName)) ∈ lw_all := lw_g (lw_at lw_m5 211 rfl) rfl
theorem q1197 : (Jvm.Cond.methodLink "MelodeonModel$Desk" (125 : Nat) ({ cls := "MelodeonModel$Desk", name := "begin", desc := "(IIII)I" } : Jvm.MethodName)) ∈ lw_all := lw_g (lw_at lw_m5 212 rfl) rfl
theorem q1198 : (Jvm.Cond.methodLink "MelodeonModel$Desk" (158 : Nat) ({ cls := "MelodeonModel$Desk", name := "gives", desc := "(I)I" } : Jvm.MethodName)) ∈ lw_all := lw_g (lw_at lw_m5 213 rfl) rfl
theorem q1199 : (Jvm.Cond.privateMethod ({ cls := "MelodeonModel$Desk", name := "gives", desc := "(I)I" } : Jvm.MethodName)) ∈ lw_tbl := lw_at lw_m5 214 rfl
theorem q1200 : (Jvm.Cond.instanceMethod ({ cls := "MelodeonModel$Desk", name := "gives", desc := "(I)I" } : Jvm.MethodName)) ∈ lw_all := lw_g (lw_at lw_m5 215 rfl) rfl
theorem q1201 : (Jvm.Cond.code ({ cls := "MelodeonModel$Desk", name := "gives", desc := "(I)I" } : Jvm.MethodName) prog_8_method_12_code (7 : Nat) (Option.some Jvm.ClassFile.FieldType.int)) ∈ lw_all := lw_g (lw_at lw_m5 216 rfl) rfl
theorem q1202 : (Jvm.Cond.methodLink "MelodeonModel$Desk" (141 : Nat) ({ cls := "MelodeonModel$Desk", name := "goOnLevel", desc := "(I)V" } : Jvm.MethodName)) ∈ lw_all := lw_g (lw_at lw_m5 217 rfl) rfl
theorem q1203 : (Jvm.Cond.privateMethod ({ cls := "MelodeonModel$Desk", name := "goOnLevel", desc := "(I)V" } : Jvm.MethodName)) ∈ lw_tbl := lw_at lw_m5 218 rfl
theorem q1204 : (Jvm.Cond.instanceMethod ({ cls := "MelodeonModel$Desk", name := "goOnLevel", desc := "(I)V" } : Jvm.MethodName)) ∈ lw_all := lw_g (lw_at lw_m5 219 rfl) rfl
theorem q1205 : (Jvm.Cond.code ({ cls := "MelodeonModel$Desk", name := "goOnLevel", desc := "(I)V" } : Jvm.MethodName) prog_8_method_11_code (3 : Nat) (Option.none : Option Jvm.ClassFile.FieldType)) ∈ lw_all := lw_g (lw_at lw_m5 220 rfl) rfl
theorem q1206 : (Jvm.Cond.methodLink "MelodeonModel$Desk" (129 : Nat) ({ cls := "MelodeonModel$Desk", name := "told", desc := "(II)I" } : Jvm.MethodName)) ∈ lw_all := lw_g (lw_at lw_m5 221 rfl) rfl
theorem q1207 : (Jvm.Cond.privateMethod ({ cls := "MelodeonModel$Desk", name := "told", desc := "(II)I" } : Jvm.MethodName)) ∈ lw_tbl := lw_at lw_m5 222 rfl
theorem q1208 : (Jvm.Cond.instanceMethod ({ cls := "MelodeonModel$Desk", name := "told", desc := "(II)I" } : Jvm.MethodName)) ∈ lw_all := lw_g (lw_at lw_m5 223 rfl) rfl
theorem q1209 : (Jvm.Cond.code ({ cls := "MelodeonModel$Desk", name := "told", desc := "(II)I" } : Jvm.MethodName) prog_8_method_10_code (3 : Nat) (Option.some Jvm.ClassFile.FieldType.int)) ∈ lw_all := lw_g (lw_at lw_m5 224 rfl) rfl
theorem q1210 : (Jvm.Cond.constant "MelodeonModel$Desk" (132 : Nat) (1000000 : Int32)) ∈ lw_all := lw_g (lw_at lw_m5 225 rfl) rfl
theorem q1211 : (Jvm.Cond.methodLink "MelodeonModel$Desk" (133 : Nat) ({ cls := "java/lang/Math", name := "min", desc := "(II)I" } : Jvm.MethodName)) ∈ lw_all := lw_g (lw_at lw_m5 226 rfl) rfl
theorem q1212 : (Jvm.Cond.methodLink "MelodeonModel$Desk" (138 : Nat) ({ cls := "java/lang/Math", name := "max", desc := "(II)I" } : Jvm.MethodName)) ∈ lw_all := lw_g (lw_at lw_m5 227 rfl) rfl
theorem q1213 : (Jvm.Cond.constant "MelodeonModel$Desk" (144 : Nat) (65536 : Int32)) ∈ lw_all := lw_g (lw_at lw_m5 228 rfl) rfl
theorem q1214 : (Jvm.Cond.methodLink "MelodeonModel$Desk" (145 : Nat) ({ cls := "MelodeonModel$Desk", name := "wave", desc := "(II)I" } : Jvm.MethodName)) ∈ lw_all := lw_g (lw_at lw_m5 229 rfl) rfl
theorem q1215 : (Jvm.Cond.methodLink "MelodeonModel$Desk" (148 : Nat) ({ cls := "MelodeonModel$Desk", name := "stride", desc := "(I)I" } : Jvm.MethodName)) ∈ lw_all := lw_g (lw_at lw_m5 230 rfl) rfl
theorem q1216 : (Jvm.Cond.methodLinkNest "MelodeonModel$Desk" (152 : Nat) ({ cls := "MelodeonModel", name := "keep", desc := "(II)I" } : Jvm.MethodName) "MelodeonModel") ∈ lw_tbl := lw_at lw_m5 231 rfl
theorem q1221 : (Jvm.Cond.methodLink "MelodeonModel$Desk" (161 : Nat) ({ cls := "java/lang/System", name := "arraycopy", desc := "(Ljava/lang/Object;ILjava/lang/Object;II)V" } : Jvm.MethodName)) ∈ lw_all := lw_g (lw_at lw_m5 236 rfl) rfl
theorem q1222 : (Jvm.Cond.constant "MelodeonModel$Desk" (167 : Nat) (100000 : Int32)) ∈ lw_all := lw_g (lw_at lw_m5 237 rfl) rfl
theorem q1223 : (Jvm.Cond.methodLink "MelodeonModel$Desk" (177 : Nat) ({ cls := "java/lang/Math", name := "abs", desc := "(I)I" } : Jvm.MethodName)) ∈ lw_all := lw_g (lw_at lw_m5 238 rfl) rfl
theorem q1297 : (Jvm.Cond.instanceMethod ({ cls := "MelodeonModel$Desk", name := "copy", desc := "()LMelodeonModel$Desk;" } : Jvm.MethodName)) ∈ lw_all := lw_g (lw_at lw_m6 72 rfl) rfl
theorem q1298 : (Jvm.Cond.selects "MelodeonModel$Desk" ({ cls := "MelodeonModel$Desk", name := "copy", desc := "()LMelodeonModel$Desk;" } : Jvm.MethodName) ({ cls := "MelodeonModel$Desk", name := "copy", desc := "()LMelodeonModel$Desk;" } : Jvm.MethodName)) ∈ lw_all := lw_g (lw_at lw_m6 73 rfl) rfl
theorem q1299 : (Jvm.Cond.code ({ cls := "MelodeonModel$Desk", name := "copy", desc := "()LMelodeonModel$Desk;" } : Jvm.MethodName) prog_8_method_2_code (2 : Nat) (Option.some (Jvm.ClassFile.FieldType.object "MelodeonModel$Desk"))) ∈ lw_all := lw_g (lw_at lw_m6 74 rfl) rfl
theorem q1300 : (Jvm.Cond.classLink "MelodeonModel$Desk" (10 : Nat) "MelodeonModel$Desk") ∈ lw_all := lw_g (lw_at lw_m6 75 rfl) rfl
theorem q1301 : (Jvm.Cond.methodLink "MelodeonModel$Desk" (70 : Nat) ({ cls := "MelodeonModel$Desk", name := "<init>", desc := "()V" } : Jvm.MethodName)) ∈ lw_all := lw_g (lw_at lw_m6 76 rfl) rfl
theorem q1302 : (Jvm.Cond.methodLinkNest "MelodeonModel$Desk" (71 : Nat) ({ cls := "MelodeonModel", name := "put", desc := "([I[I)V" } : Jvm.MethodName) "MelodeonModel") ∈ lw_tbl := lw_at lw_m6 77 rfl
theorem q1332 : (Jvm.Cond.castable "MelodeonModel$Desk" "java/lang/Object") ∈ lw_tbl := lw_at lw_m6 107 rfl
theorem in_X7 : ∀ w ∈ wsX70, w ∈ lw_all := lw_in wsX70 [977, 979, 981, 983, 985, 987, 989, 991, 993, 995, 997, 999, 1001, 1003, 1005, 1007, 1009, 1011, 1013, 1015, 1017, 1019, 1021, 1023, 1025, 1027, 1029, 1031, 1033, 1035, 1037, 1039, 1041, 1043, 1045] (by decide +kernel) (by decide +kernel)
