/-! Melodeon$Instrument -/
set_option maxRecDepth 100000
def RX3 : String := "Melodeon$Instrument"
def TX3 : u_T := fun k => match k with
  | 0 => ("Melodeon$Instrument", "one", "I", false)
  | 1 => ("Melodeon$Instrument", "other", "I", false)
  | 2 => ("Melodeon$Instrument", "detune", "I", false)
  | 3 => ("Melodeon$Instrument", "mix", "I", false)
  | 4 => ("Melodeon$Instrument", "attack", "I", false)
  | 5 => ("Melodeon$Instrument", "decay", "I", false)
  | 6 => ("Melodeon$Instrument", "sustain", "I", false)
  | 7 => ("Melodeon$Instrument", "release", "I", false)
  | 8 => ("Melodeon$Instrument", "cutoff", "I", false)
  | 9 => ("Melodeon$Instrument", "damping", "I", false)
  | 10 => ("Melodeon$Instrument", "depth", "I", false)
  | _ => ("Melodeon$Instrument", "period", "I", false)
def tyX3 : Nat → FieldType := fun k => match k with
  | 0 => .int
  | 1 => .int
  | 2 => .int
  | 3 => .int
  | 4 => .int
  | 5 => .int
  | 6 => .int
  | 7 => .int
  | 8 => .int
  | 9 => .int
  | 10 => .int
  | _ => .int
abbrev wsX30 : List Cond := u_ws RX3 TX3 12
theorem nmX3 : ∀ a, a < 12 → ∀ b, b < 12 → a ≠ b → (TX3 a).2.1 ≠ (TX3 b).2.1 := by decide +kernel
theorem tyX3_ok : ∀ k, k < 12 → parseFieldDescriptor (TX3 k).2.2.1 = some (tyX3 k) := by decide +kernel
abbrev cX3_init : ByteArray := prog_3_method_1_code
def yX3_init : MethodName := ⟨RX3, "<init>", "()V"⟩
def dkwX3_init_2 : List UInt8 := [181, 0, 30, 177]
abbrev dktX3_init_2 : List UInt8 := dkwX3_init_2 ++ []
def dkwX3_init_1 : List UInt8 := [16, 10, 181, 0, 21, 42, 17, 0, 128, 181, 0, 24, 42, 17, 1, 0, 181, 0, 27, 42, 16, 64]
abbrev dktX3_init_1 : List UInt8 := dkwX3_init_1 ++ dktX3_init_2
def dkwX3_init_0 : List UInt8 := [42, 183, 0, 3, 42, 16, 10, 181, 0, 9, 42, 16, 10, 181, 0, 15, 42, 17, 3, 232, 181, 0, 18, 42]
abbrev dktX3_init_0 : List UInt8 := dkwX3_init_0 ++ dktX3_init_1
theorem dksX3_init_0 : cX3_init.data.toList.drop 0 = dktX3_init_0 := by decide +kernel
theorem dksX3_init_1 : cX3_init.data.toList.drop 24 = dktX3_init_1 := dk_seg dksX3_init_0 24 rfl rfl
theorem dksX3_init_2 : cX3_init.data.toList.drop 46 = dktX3_init_2 := dk_seg dksX3_init_1 22 rfl rfl
theorem dX3_init_0 : decode cX3_init 0 = .ok (.aload_n 0, 1) := dk_42 (dk_at dksX3_init_0 0 rfl rfl)
theorem dX3_init_1 : decode cX3_init 1 = .ok (.invokespecial 3, 3) := dk_183 0 3 (dk_at dksX3_init_0 1 rfl rfl)
theorem dX3_init_4 : decode cX3_init 4 = .ok (.aload_n 0, 1) := dk_42 (dk_at dksX3_init_0 4 rfl rfl)
theorem dX3_init_5 : decode cX3_init 5 = .ok (.bipush 10, 2) := dk_16 10 (dk_at dksX3_init_0 5 rfl rfl)
theorem dX3_init_7 : decode cX3_init 7 = .ok (.putfield 9, 3) := dk_181 0 9 (dk_at dksX3_init_0 7 rfl rfl)
theorem dX3_init_10 : decode cX3_init 10 = .ok (.aload_n 0, 1) := dk_42 (dk_at dksX3_init_0 10 rfl rfl)
theorem dX3_init_11 : decode cX3_init 11 = .ok (.bipush 10, 2) := dk_16 10 (dk_at dksX3_init_0 11 rfl rfl)
theorem dX3_init_13 : decode cX3_init 13 = .ok (.putfield 15, 3) := dk_181 0 15 (dk_at dksX3_init_0 13 rfl rfl)
theorem dX3_init_16 : decode cX3_init 16 = .ok (.aload_n 0, 1) := dk_42 (dk_at dksX3_init_0 16 rfl rfl)
theorem dX3_init_17 : decode cX3_init 17 = .ok (.sipush 1000, 3) := dk_17 3 232 (dk_at dksX3_init_0 17 rfl rfl)
theorem dX3_init_20 : decode cX3_init 20 = .ok (.putfield 18, 3) := dk_181 0 18 (dk_at dksX3_init_0 20 rfl rfl)
theorem dX3_init_23 : decode cX3_init 23 = .ok (.aload_n 0, 1) := dk_42 (dk_at dksX3_init_0 23 rfl rfl)
theorem dX3_init_24 : decode cX3_init 24 = .ok (.bipush 10, 2) := dk_16 10 (dk_at dksX3_init_1 0 rfl rfl)
theorem dX3_init_26 : decode cX3_init 26 = .ok (.putfield 21, 3) := dk_181 0 21 (dk_at dksX3_init_1 2 rfl rfl)
theorem dX3_init_29 : decode cX3_init 29 = .ok (.aload_n 0, 1) := dk_42 (dk_at dksX3_init_1 5 rfl rfl)
theorem dX3_init_30 : decode cX3_init 30 = .ok (.sipush 128, 3) := dk_17 0 128 (dk_at dksX3_init_1 6 rfl rfl)
theorem dX3_init_33 : decode cX3_init 33 = .ok (.putfield 24, 3) := dk_181 0 24 (dk_at dksX3_init_1 9 rfl rfl)
theorem dX3_init_36 : decode cX3_init 36 = .ok (.aload_n 0, 1) := dk_42 (dk_at dksX3_init_1 12 rfl rfl)
theorem dX3_init_37 : decode cX3_init 37 = .ok (.sipush 256, 3) := dk_17 1 0 (dk_at dksX3_init_1 13 rfl rfl)
theorem dX3_init_40 : decode cX3_init 40 = .ok (.putfield 27, 3) := dk_181 0 27 (dk_at dksX3_init_1 16 rfl rfl)
theorem dX3_init_43 : decode cX3_init 43 = .ok (.aload_n 0, 1) := dk_42 (dk_at dksX3_init_1 19 rfl rfl)
theorem dX3_init_44 : decode cX3_init 44 = .ok (.bipush 64, 2) := dk_16 64 (dk_at dksX3_init_1 20 rfl rfl)
theorem dX3_init_46 : decode cX3_init 46 = .ok (.putfield 30, 3) := dk_181 0 30 (dk_at dksX3_init_2 0 rfl rfl)
theorem dX3_init_49 : decode cX3_init 49 = .ok (.return_, 1) := dk_177 (dk_at dksX3_init_2 3 rfl rfl)
theorem q31 : (Jvm.Cond.initialized "Melodeon$Instrument") ∈ lw_all := lw_g (lw_at lw_m1 6 rfl) rfl
theorem q139 : (Jvm.Cond.instantiable "Melodeon$Instrument" (12 : Nat)) ∈ lw_all := lw_g (lw_at lw_m1 114 rfl) rfl
theorem q141 : (Jvm.Cond.instanceMethod ({ cls := "Melodeon$Instrument", name := "<init>", desc := "()V" } : Jvm.MethodName)) ∈ lw_all := lw_g (lw_at lw_m1 116 rfl) rfl
theorem q142 : (Jvm.Cond.code ({ cls := "Melodeon$Instrument", name := "<init>", desc := "()V" } : Jvm.MethodName) prog_3_method_1_code (1 : Nat) (Option.none : Option Jvm.ClassFile.FieldType)) ∈ lw_all := lw_g (lw_at lw_m1 117 rfl) rfl
theorem q143 : (Jvm.Cond.methodLink "Melodeon$Instrument" (3 : Nat) ({ cls := "java/lang/Object", name := "<init>", desc := "()V" } : Jvm.MethodName)) ∈ lw_all := lw_g (lw_at lw_m1 118 rfl) rfl
theorem q152 : (Jvm.Cond.fieldLink "Melodeon$Instrument" (9 : Nat) "Melodeon$Instrument" "attack" "I") ∈ lw_all := lw_g (lw_at lw_m1 127 rfl) rfl
theorem q155 : (Jvm.Cond.fieldLink "Melodeon$Instrument" (15 : Nat) "Melodeon$Instrument" "decay" "I") ∈ lw_all := lw_g (lw_at lw_m1 130 rfl) rfl
theorem q158 : (Jvm.Cond.fieldLink "Melodeon$Instrument" (18 : Nat) "Melodeon$Instrument" "sustain" "I") ∈ lw_all := lw_g (lw_at lw_m1 133 rfl) rfl
theorem q161 : (Jvm.Cond.fieldLink "Melodeon$Instrument" (21 : Nat) "Melodeon$Instrument" "release" "I") ∈ lw_all := lw_g (lw_at lw_m1 136 rfl) rfl
theorem q164 : (Jvm.Cond.fieldLink "Melodeon$Instrument" (24 : Nat) "Melodeon$Instrument" "cutoff" "I") ∈ lw_all := lw_g (lw_at lw_m1 139 rfl) rfl
theorem q167 : (Jvm.Cond.fieldLink "Melodeon$Instrument" (27 : Nat) "Melodeon$Instrument" "damping" "I") ∈ lw_all := lw_g (lw_at lw_m1 142 rfl) rfl
theorem q172 : (Jvm.Cond.fieldLink "Melodeon$Instrument" (30 : Nat) "Melodeon$Instrument" "period" "I") ∈ lw_all := lw_g (lw_at lw_m1 147 rfl) rfl
theorem q175 : (Jvm.Cond.lays "Melodeon$Instrument" "Melodeon$Instrument" "one" "I") ∈ lw_all := lw_g (lw_at lw_m1 150 rfl) rfl
theorem q176 : (Jvm.Cond.soleField "Melodeon$Instrument" "one") ∈ lw_all := lw_g (lw_at lw_m1 151 rfl) rfl
theorem q177 : (Jvm.Cond.lays "Melodeon$Instrument" "Melodeon$Instrument" "other" "I") ∈ lw_all := lw_g (lw_at lw_m1 152 rfl) rfl
theorem q178 : (Jvm.Cond.soleField "Melodeon$Instrument" "other") ∈ lw_all := lw_g (lw_at lw_m1 153 rfl) rfl
theorem q179 : (Jvm.Cond.lays "Melodeon$Instrument" "Melodeon$Instrument" "detune" "I") ∈ lw_all := lw_g (lw_at lw_m1 154 rfl) rfl
theorem q180 : (Jvm.Cond.soleField "Melodeon$Instrument" "detune") ∈ lw_all := lw_g (lw_at lw_m1 155 rfl) rfl
theorem q181 : (Jvm.Cond.lays "Melodeon$Instrument" "Melodeon$Instrument" "mix" "I") ∈ lw_all := lw_g (lw_at lw_m1 156 rfl) rfl
theorem q182 : (Jvm.Cond.soleField "Melodeon$Instrument" "mix") ∈ lw_all := lw_g (lw_at lw_m1 157 rfl) rfl
theorem q183 : (Jvm.Cond.lays "Melodeon$Instrument" "Melodeon$Instrument" "attack" "I") ∈ lw_all := lw_g (lw_at lw_m1 158 rfl) rfl
theorem q184 : (Jvm.Cond.soleField "Melodeon$Instrument" "attack") ∈ lw_all := lw_g (lw_at lw_m1 159 rfl) rfl
theorem q185 : (Jvm.Cond.lays "Melodeon$Instrument" "Melodeon$Instrument" "decay" "I") ∈ lw_all := lw_g (lw_at lw_m1 160 rfl) rfl
theorem q186 : (Jvm.Cond.soleField "Melodeon$Instrument" "decay") ∈ lw_all := lw_g (lw_at lw_m1 161 rfl) rfl
theorem q187 : (Jvm.Cond.lays "Melodeon$Instrument" "Melodeon$Instrument" "sustain" "I") ∈ lw_all := lw_g (lw_at lw_m1 162 rfl) rfl
theorem q188 : (Jvm.Cond.soleField "Melodeon$Instrument" "sustain") ∈ lw_all := lw_g (lw_at lw_m1 163 rfl) rfl
theorem q189 : (Jvm.Cond.lays "Melodeon$Instrument" "Melodeon$Instrument" "release" "I") ∈ lw_all := lw_g (lw_at lw_m1 164 rfl) rfl
theorem q190 : (Jvm.Cond.soleField "Melodeon$Instrument" "release") ∈ lw_all := lw_g (lw_at lw_m1 165 rfl) rfl
theorem q191 : (Jvm.Cond.lays "Melodeon$Instrument" "Melodeon$Instrument" "cutoff" "I") ∈ lw_all := lw_g (lw_at lw_m1 166 rfl) rfl
theorem q192 : (Jvm.Cond.soleField "Melodeon$Instrument" "cutoff") ∈ lw_all := lw_g (lw_at lw_m1 167 rfl) rfl
theorem q193 : (Jvm.Cond.lays "Melodeon$Instrument" "Melodeon$Instrument" "damping" "I") ∈ lw_all := lw_g (lw_at lw_m1 168 rfl) rfl
theorem q194 : (Jvm.Cond.soleField "Melodeon$Instrument" "damping") ∈ lw_all := lw_g (lw_at lw_m1 169 rfl) rfl
theorem q195 : (Jvm.Cond.lays "Melodeon$Instrument" "Melodeon$Instrument" "depth" "I") ∈ lw_all := lw_g (lw_at lw_m1 170 rfl) rfl
theorem q196 : (Jvm.Cond.soleField "Melodeon$Instrument" "depth") ∈ lw_all := lw_g (lw_at lw_m1 171 rfl) rfl
theorem q197 : (Jvm.Cond.lays "Melodeon$Instrument" "Melodeon$Instrument" "period" "I") ∈ lw_all := lw_g (lw_at lw_m1 172 rfl) rfl
theorem q198 : (Jvm.Cond.soleField "Melodeon$Instrument" "period") ∈ lw_all := lw_g (lw_at lw_m1 173 rfl) rfl
theorem q199 : (Jvm.Cond.superclass "Melodeon$Instrument" "java/lang/Object") ∈ lw_all := lw_g (lw_at lw_m1 174 rfl) rfl
theorem q234 : (Jvm.Cond.selects "Melodeon$Instrument" ({ cls := "java/lang/Object", name := "getClass", desc := "()Ljava/lang/Class;" } : Jvm.MethodName) ({ cls := "java/lang/Object", name := "getClass", desc := "()Ljava/lang/Class;" } : Jvm.MethodName)) ∈ lw_all := lw_g (lw_at lw_m1 209 rfl) rfl
theorem q1328 : (Jvm.Cond.castable "Melodeon$Instrument" "java/lang/Object") ∈ lw_tbl := lw_at lw_m6 103 rfl
theorem in_X3 : ∀ w ∈ wsX30, w ∈ lw_all := lw_in wsX30 [175, 177, 179, 181, 183, 185, 187, 189, 191, 193, 195, 197] (by decide +kernel) (by decide +kernel)

/-! Melodeon$Track -/
set_option maxRecDepth 100000
def RX4 : String := "Melodeon$Track"
def TX4 : u_T := fun k => match k with
  | 0 => ("Melodeon$Track", "instrument", "I", false)
  | 1 => ("Melodeon$Track", "pitch", "[I", true)
  | 2 => ("Melodeon$Track", "force", "[I", true)
  | _ => ("Melodeon$Track", "gate", "[I", true)
def tyX4 : Nat → FieldType := fun k => match k with
  | 0 => .int
  | 1 => .array .int
  | 2 => .array .int
  | _ => .array .int
abbrev wsX40 : List Cond := u_ws RX4 TX4 4
theorem nmX4 : ∀ a, a < 4 → ∀ b, b < 4 → a ≠ b → (TX4 a).2.1 ≠ (TX4 b).2.1 := by decide +kernel
theorem tyX4_ok : ∀ k, k < 4 → parseFieldDescriptor (TX4 k).2.2.1 = some (tyX4 k) := by decide +kernel
abbrev cX4_init : ByteArray := prog_4_method_1_code
def yX4_init : MethodName := ⟨RX4, "<init>", "()V"⟩
def dkwX4_init_2 : List UInt8 := [167, 255, 240, 177]
abbrev dktX4_init_2 : List UInt8 := dkwX4_init_2 ++ []
def dkwX4_init_1 : List UInt8 := [188, 10, 181, 0, 18, 3, 60, 27, 16, 8, 162, 0, 16, 42, 180, 0, 9, 27, 2, 79, 132, 1, 1]
abbrev dktX4_init_1 : List UInt8 := dkwX4_init_1 ++ dktX4_init_2
def dkwX4_init_0 : List UInt8 := [42, 183, 0, 3, 42, 16, 8, 188, 10, 181, 0, 9, 42, 16, 8, 188, 10, 181, 0, 15, 42, 16, 8]
abbrev dktX4_init_0 : List UInt8 := dkwX4_init_0 ++ dktX4_init_1
theorem dksX4_init_0 : cX4_init.data.toList.drop 0 = dktX4_init_0 := by decide +kernel
theorem dksX4_init_1 : cX4_init.data.toList.drop 23 = dktX4_init_1 := dk_seg dksX4_init_0 23 rfl rfl
theorem dksX4_init_2 : cX4_init.data.toList.drop 46 = dktX4_init_2 := dk_seg dksX4_init_1 23 rfl rfl
theorem dX4_init_0 : decode cX4_init 0 = .ok (.aload_n 0, 1) := dk_42 (dk_at dksX4_init_0 0 rfl rfl)
theorem dX4_init_1 : decode cX4_init 1 = .ok (.invokespecial 3, 3) := dk_183 0 3 (dk_at dksX4_init_0 1 rfl rfl)
theorem dX4_init_4 : decode cX4_init 4 = .ok (.aload_n 0, 1) := dk_42 (dk_at dksX4_init_0 4 rfl rfl)
theorem dX4_init_5 : decode cX4_init 5 = .ok (.bipush 8, 2) := dk_16 8 (dk_at dksX4_init_0 5 rfl rfl)
theorem dX4_init_7 : decode cX4_init 7 = .ok (.newarray .int, 2) := dk_188_10 (dk_at dksX4_init_0 7 rfl rfl)
theorem dX4_init_9 : decode cX4_init 9 = .ok (.putfield 9, 3) := dk_181 0 9 (dk_at dksX4_init_0 9 rfl rfl)
theorem dX4_init_12 : decode cX4_init 12 = .ok (.aload_n 0, 1) := dk_42 (dk_at dksX4_init_0 12 rfl rfl)
theorem dX4_init_13 : decode cX4_init 13 = .ok (.bipush 8, 2) := dk_16 8 (dk_at dksX4_init_0 13 rfl rfl)
theorem dX4_init_15 : decode cX4_init 15 = .ok (.newarray .int, 2) := dk_188_10 (dk_at dksX4_init_0 15 rfl rfl)
theorem dX4_init_17 : decode cX4_init 17 = .ok (.putfield 15, 3) := dk_181 0 15 (dk_at dksX4_init_0 17 rfl rfl)
theorem dX4_init_20 : decode cX4_init 20 = .ok (.aload_n 0, 1) := dk_42 (dk_at dksX4_init_0 20 rfl rfl)
theorem dX4_init_21 : decode cX4_init 21 = .ok (.bipush 8, 2) := dk_16 8 (dk_at dksX4_init_0 21 rfl rfl)
theorem dX4_init_23 : decode cX4_init 23 = .ok (.newarray .int, 2) := dk_188_10 (dk_at dksX4_init_1 0 rfl rfl)
theorem dX4_init_25 : decode cX4_init 25 = .ok (.putfield 18, 3) := dk_181 0 18 (dk_at dksX4_init_1 2 rfl rfl)
theorem dX4_init_28 : decode cX4_init 28 = .ok (.iconst 0, 1) := dk_3 (dk_at dksX4_init_1 5 rfl rfl)
theorem dX4_init_29 : decode cX4_init 29 = .ok (.istore_n 1, 1) := dk_60 (dk_at dksX4_init_1 6 rfl rfl)
theorem dX4_init_30 : decode cX4_init 30 = .ok (.iload_n 1, 1) := dk_27 (dk_at dksX4_init_1 7 rfl rfl)
theorem dX4_init_31 : decode cX4_init 31 = .ok (.bipush 8, 2) := dk_16 8 (dk_at dksX4_init_1 8 rfl rfl)
theorem dX4_init_33 : decode cX4_init 33 = .ok (.if_icmp .ge 16, 3) := dk_162 0 16 (dk_at dksX4_init_1 10 rfl rfl)
theorem dX4_init_36 : decode cX4_init 36 = .ok (.aload_n 0, 1) := dk_42 (dk_at dksX4_init_1 13 rfl rfl)
theorem dX4_init_37 : decode cX4_init 37 = .ok (.getfield 9, 3) := dk_180 0 9 (dk_at dksX4_init_1 14 rfl rfl)
theorem dX4_init_40 : decode cX4_init 40 = .ok (.iload_n 1, 1) := dk_27 (dk_at dksX4_init_1 17 rfl rfl)
theorem dX4_init_41 : decode cX4_init 41 = .ok (.iconst (-1), 1) := dk_2 (dk_at dksX4_init_1 18 rfl rfl)
theorem dX4_init_42 : decode cX4_init 42 = .ok (.iastore, 1) := dk_79 (dk_at dksX4_init_1 19 rfl rfl)
theorem dX4_init_43 : decode cX4_init 43 = .ok (.iinc 1 1, 3) := dk_132 1 1 (dk_at dksX4_init_1 20 rfl rfl)
theorem dX4_init_46 : decode cX4_init 46 = .ok (.goto (-16), 3) := dk_167 255 240 (dk_at dksX4_init_2 0 rfl rfl)
theorem dX4_init_49 : decode cX4_init 49 = .ok (.return_, 1) := dk_177 (dk_at dksX4_init_2 3 rfl rfl)
theorem q36 : (Jvm.Cond.initialized "Melodeon$Track") ∈ lw_all := lw_g (lw_at lw_m1 11 rfl) rfl
theorem q235 : (Jvm.Cond.selects "Melodeon$Track" ({ cls := "java/lang/Object", name := "getClass", desc := "()Ljava/lang/Class;" } : Jvm.MethodName) ({ cls := "java/lang/Object", name := "getClass", desc := "()Ljava/lang/Class;" } : Jvm.MethodName)) ∈ lw_all := lw_g (lw_at lw_m1 210 rfl) rfl
theorem q259 : (Jvm.Cond.instantiable "Melodeon$Track" (4 : Nat)) ∈ lw_all := lw_g (lw_at lw_m1 234 rfl) rfl
theorem q261 : (Jvm.Cond.instanceMethod ({ cls := "Melodeon$Track", name := "<init>", desc := "()V" } : Jvm.MethodName)) ∈ lw_all := lw_g (lw_at lw_m1 236 rfl) rfl
theorem q262 : (Jvm.Cond.code ({ cls := "Melodeon$Track", name := "<init>", desc := "()V" } : Jvm.MethodName) prog_4_method_1_code (2 : Nat) (Option.none : Option Jvm.ClassFile.FieldType)) ∈ lw_all := lw_g (lw_at lw_m1 237 rfl) rfl
theorem q263 : (Jvm.Cond.methodLink "Melodeon$Track" (3 : Nat) ({ cls := "java/lang/Object", name := "<init>", desc := "()V" } : Jvm.MethodName)) ∈ lw_all := lw_g (lw_at lw_m1 238 rfl) rfl
theorem q266 : (Jvm.Cond.fieldLink "Melodeon$Track" (9 : Nat) "Melodeon$Track" "pitch" "[I") ∈ lw_all := lw_g (lw_at lw_m2 1 rfl) rfl
theorem q269 : (Jvm.Cond.fieldLink "Melodeon$Track" (15 : Nat) "Melodeon$Track" "force" "[I") ∈ lw_all := lw_g (lw_at lw_m2 4 rfl) rfl
theorem q272 : (Jvm.Cond.fieldLink "Melodeon$Track" (18 : Nat) "Melodeon$Track" "gate" "[I") ∈ lw_all := lw_g (lw_at lw_m2 7 rfl) rfl
theorem q275 : (Jvm.Cond.lays "Melodeon$Track" "Melodeon$Track" "instrument" "I") ∈ lw_all := lw_g (lw_at lw_m2 10 rfl) rfl
theorem q276 : (Jvm.Cond.soleField "Melodeon$Track" "instrument") ∈ lw_all := lw_g (lw_at lw_m2 11 rfl) rfl
theorem q277 : (Jvm.Cond.laysFinal "Melodeon$Track" "Melodeon$Track" "pitch" "[I") ∈ lw_all := lw_g (lw_at lw_m2 12 rfl) rfl
theorem q278 : (Jvm.Cond.soleField "Melodeon$Track" "pitch") ∈ lw_all := lw_g (lw_at lw_m2 13 rfl) rfl
theorem q279 : (Jvm.Cond.laysFinal "Melodeon$Track" "Melodeon$Track" "force" "[I") ∈ lw_all := lw_g (lw_at lw_m2 14 rfl) rfl
theorem q280 : (Jvm.Cond.soleField "Melodeon$Track" "force") ∈ lw_all := lw_g (lw_at lw_m2 15 rfl) rfl
theorem q281 : (Jvm.Cond.laysFinal "Melodeon$Track" "Melodeon$Track" "gate" "[I") ∈ lw_all := lw_g (lw_at lw_m2 16 rfl) rfl
theorem q282 : (Jvm.Cond.soleField "Melodeon$Track" "gate") ∈ lw_all := lw_g (lw_at lw_m2 17 rfl) rfl
theorem q283 : (Jvm.Cond.superclass "Melodeon$Track" "java/lang/Object") ∈ lw_all := lw_g (lw_at lw_m2 18 rfl) rfl
theorem q1329 : (Jvm.Cond.castable "Melodeon$Track" "java/lang/Object") ∈ lw_tbl := lw_at lw_m6 104 rfl
theorem in_X4 : ∀ w ∈ wsX40, w ∈ lw_all := lw_in wsX40 [275, 277, 279, 281] (by decide +kernel) (by decide +kernel)

/-! Melodeon$Voice -/
set_option maxRecDepth 100000
def RX5 : String := "Melodeon$Voice"
def TX5 : u_T := fun k => match k with
  | 0 => ("Melodeon$Voice", "state", "I", false)
  | 1 => ("Melodeon$Voice", "level", "I", false)
  | 2 => ("Melodeon$Voice", "instrument", "I", false)
  | 3 => ("Melodeon$Voice", "pitch", "I", false)
  | 4 => ("Melodeon$Voice", "force", "I", false)
  | 5 => ("Melodeon$Voice", "began", "I", false)
  | 6 => ("Melodeon$Voice", "first", "I", false)
  | 7 => ("Melodeon$Voice", "second", "I", false)
  | 8 => ("Melodeon$Voice", "low", "I", false)
  | 9 => ("Melodeon$Voice", "band", "I", false)
  | _ => ("Melodeon$Voice", "gate", "I", false)
def tyX5 : Nat → FieldType := fun k => match k with
  | 0 => .int
  | 1 => .int
  | 2 => .int
  | 3 => .int
  | 4 => .int
  | 5 => .int
  | 6 => .int
  | 7 => .int
  | 8 => .int
  | 9 => .int
  | _ => .int
abbrev wsX50 : List Cond := u_ws RX5 TX5 11
theorem nmX5 : ∀ a, a < 11 → ∀ b, b < 11 → a ≠ b → (TX5 a).2.1 ≠ (TX5 b).2.1 := by decide +kernel
theorem tyX5_ok : ∀ k, k < 11 → parseFieldDescriptor (TX5 k).2.2.1 = some (tyX5 k) := by decide +kernel
abbrev cX5_init : ByteArray := prog_5_method_1_code
def yX5_init : MethodName := ⟨RX5, "<init>", "()V"⟩
def dkwX5_init_0 : List UInt8 := [42, 183, 0, 3, 42, 2, 181, 0, 9, 177]
abbrev dktX5_init_0 : List UInt8 := dkwX5_init_0 ++ []
theorem dksX5_init_0 : cX5_init.data.toList.drop 0 = dktX5_init_0 := by decide +kernel
theorem dX5_init_0 : decode cX5_init 0 = .ok (.aload_n 0, 1) := dk_42 (dk_at dksX5_init_0 0 rfl rfl)
theorem dX5_init_1 : decode cX5_init 1 = .ok (.invokespecial 3, 3) := dk_183 0 3 (dk_at dksX5_init_0 1 rfl rfl)
theorem dX5_init_4 : decode cX5_init 4 = .ok (.aload_n 0, 1) := dk_42 (dk_at dksX5_init_0 4 rfl rfl)
theorem dX5_init_5 : decode cX5_init 5 = .ok (.iconst (-1), 1) := dk_2 (dk_at dksX5_init_0 5 rfl rfl)
theorem dX5_init_6 : decode cX5_init 6 = .ok (.putfield 9, 3) := dk_181 0 9 (dk_at dksX5_init_0 6 rfl rfl)
theorem dX5_init_9 : decode cX5_init 9 = .ok (.return_, 1) := dk_177 (dk_at dksX5_init_0 9 rfl rfl)
abbrev cX5_isFree : ByteArray := prog_5_method_3_code
def yX5_isFree : MethodName := ⟨RX5, "isFree", "()Z"⟩
def dkwX5_isFree_0 : List UInt8 := [42, 180, 0, 16, 154, 0, 7, 4, 167, 0, 4, 3, 172]
abbrev dktX5_isFree_0 : List UInt8 := dkwX5_isFree_0 ++ []
theorem dksX5_isFree_0 : cX5_isFree.data.toList.drop 0 = dktX5_isFree_0 := by decide +kernel
theorem dX5_isFree_0 : decode cX5_isFree 0 = .ok (.aload_n 0, 1) := dk_42 (dk_at dksX5_isFree_0 0 rfl rfl)
theorem dX5_isFree_1 : decode cX5_isFree 1 = .ok (.getfield 16, 3) := dk_180 0 16 (dk_at dksX5_isFree_0 1 rfl rfl)
theorem dX5_isFree_4 : decode cX5_isFree 4 = .ok (.ifCond .ne 7, 3) := dk_154 0 7 (dk_at dksX5_isFree_0 4 rfl rfl)
theorem dX5_isFree_7 : decode cX5_isFree 7 = .ok (.iconst 1, 1) := dk_4 (dk_at dksX5_isFree_0 7 rfl rfl)
theorem dX5_isFree_8 : decode cX5_isFree 8 = .ok (.goto 4, 3) := dk_167 0 4 (dk_at dksX5_isFree_0 8 rfl rfl)
theorem dX5_isFree_11 : decode cX5_isFree 11 = .ok (.iconst 0, 1) := dk_3 (dk_at dksX5_isFree_0 11 rfl rfl)
theorem dX5_isFree_12 : decode cX5_isFree 12 = .ok (.ireturn, 1) := dk_172 (dk_at dksX5_isFree_0 12 rfl rfl)
abbrev cX5_end : ByteArray := prog_5_method_4_code
def yX5_end : MethodName := ⟨RX5, "end", "()V"⟩
def dkwX5_end_0 : List UInt8 := [42, 180, 0, 16, 153, 0, 8, 42, 7, 181, 0, 16, 177]
abbrev dktX5_end_0 : List UInt8 := dkwX5_end_0 ++ []
theorem dksX5_end_0 : cX5_end.data.toList.drop 0 = dktX5_end_0 := by decide +kernel
theorem dX5_end_0 : decode cX5_end 0 = .ok (.aload_n 0, 1) := dk_42 (dk_at dksX5_end_0 0 rfl rfl)
theorem dX5_end_1 : decode cX5_end 1 = .ok (.getfield 16, 3) := dk_180 0 16 (dk_at dksX5_end_0 1 rfl rfl)
theorem dX5_end_4 : decode cX5_end 4 = .ok (.ifCond .eq 8, 3) := dk_153 0 8 (dk_at dksX5_end_0 4 rfl rfl)
theorem dX5_end_7 : decode cX5_end 7 = .ok (.aload_n 0, 1) := dk_42 (dk_at dksX5_end_0 7 rfl rfl)
theorem dX5_end_8 : decode cX5_end 8 = .ok (.iconst 4, 1) := dk_7 (dk_at dksX5_end_0 8 rfl rfl)
theorem dX5_end_9 : decode cX5_end 9 = .ok (.putfield 16, 3) := dk_181 0 16 (dk_at dksX5_end_0 9 rfl rfl)
theorem dX5_end_12 : decode cX5_end 12 = .ok (.return_, 1) := dk_177 (dk_at dksX5_end_0 12 rfl rfl)
abbrev cX5_begin : ByteArray := prog_5_method_5_code
def yX5_begin : MethodName := ⟨RX5, "begin", "(IIIII)V"⟩
def dkwX5_begin_2 : List UInt8 := [42, 3, 181, 0, 43, 177]
abbrev dktX5_begin_2 : List UInt8 := dkwX5_begin_2 ++ []
def dkwX5_begin_1 : List UInt8 := [181, 0, 9, 42, 21, 5, 181, 0, 31, 42, 3, 181, 0, 34, 42, 3, 181, 0, 37, 42, 3, 181, 0, 40]
abbrev dktX5_begin_1 : List UInt8 := dkwX5_begin_1 ++ dktX5_begin_2
def dkwX5_begin_0 : List UInt8 := [42, 4, 181, 0, 16, 42, 27, 181, 0, 22, 42, 28, 181, 0, 25, 42, 29, 181, 0, 28, 42, 21, 4]
abbrev dktX5_begin_0 : List UInt8 := dkwX5_begin_0 ++ dktX5_begin_1
theorem dksX5_begin_0 : cX5_begin.data.toList.drop 0 = dktX5_begin_0 := by decide +kernel
theorem dksX5_begin_1 : cX5_begin.data.toList.drop 23 = dktX5_begin_1 := dk_seg dksX5_begin_0 23 rfl rfl
theorem dksX5_begin_2 : cX5_begin.data.toList.drop 47 = dktX5_begin_2 := dk_seg dksX5_begin_1 24 rfl rfl
theorem dX5_begin_0 : decode cX5_begin 0 = .ok (.aload_n 0, 1) := dk_42 (dk_at dksX5_begin_0 0 rfl rfl)
theorem dX5_begin_1 : decode cX5_begin 1 = .ok (.iconst 1, 1) := dk_4 (dk_at dksX5_begin_0 1 rfl rfl)
theorem dX5_begin_2 : decode cX5_begin 2 = .ok (.putfield 16, 3) := dk_181 0 16 (dk_at dksX5_begin_0 2 rfl rfl)
theorem dX5_begin_5 : decode cX5_begin 5 = .ok (.aload_n 0, 1) := dk_42 (dk_at dksX5_begin_0 5 rfl rfl)
theorem dX5_begin_6 : decode cX5_begin 6 = .ok (.iload_n 1, 1) := dk_27 (dk_at dksX5_begin_0 6 rfl rfl)
theorem dX5_begin_7 : decode cX5_begin 7 = .ok (.putfield 22, 3) := dk_181 0 22 (dk_at dksX5_begin_0 7 rfl rfl)
theorem dX5_begin_10 : decode cX5_begin 10 = .ok (.aload_n 0, 1) := dk_42 (dk_at dksX5_begin_0 10 rfl rfl)
theorem dX5_begin_11 : decode cX5_begin 11 = .ok (.iload_n 2, 1) := dk_28 (dk_at dksX5_begin_0 11 rfl rfl)
theorem dX5_begin_12 : decode cX5_begin 12 = .ok (.putfield 25, 3) := dk_181 0 25 (dk_at dksX5_begin_0 12 rfl rfl)
theorem dX5_begin_15 : decode cX5_begin 15 = .ok (.aload_n 0, 1) := dk_42 (dk_at dksX5_begin_0 15 rfl rfl)
theorem dX5_begin_16 : decode cX5_begin 16 = .ok (.iload_n 3, 1) := dk_29 (dk_at dksX5_begin_0 16 rfl rfl)
theorem dX5_begin_17 : decode cX5_begin 17 = .ok (.putfield 28, 3) := dk_181 0 28 (dk_at dksX5_begin_0 17 rfl rfl)
theorem dX5_begin_20 : decode cX5_begin 20 = .ok (.aload_n 0, 1) := dk_42 (dk_at dksX5_begin_0 20 rfl rfl)
theorem dX5_begin_21 : decode cX5_begin 21 = .ok (.iload 4, 2) := dk_21 4 (dk_at dksX5_begin_0 21 rfl rfl)
theorem dX5_begin_23 : decode cX5_begin 23 = .ok (.putfield 9, 3) := dk_181 0 9 (dk_at dksX5_begin_1 0 rfl rfl)
theorem dX5_begin_26 : decode cX5_begin 26 = .ok (.aload_n 0, 1) := dk_42 (dk_at dksX5_begin_1 3 rfl rfl)
theorem dX5_begin_27 : decode cX5_begin 27 = .ok (.iload 5, 2) := dk_21 5 (dk_at dksX5_begin_1 4 rfl rfl)
theorem dX5_begin_29 : decode cX5_begin 29 = .ok (.putfield 31, 3) := dk_181 0 31 (dk_at dksX5_begin_1 6 rfl rfl)
theorem dX5_begin_32 : decode cX5_begin 32 = .ok (.aload_n 0, 1) := dk_42 (dk_at dksX5_begin_1 9 rfl rfl)
theorem dX5_begin_33 : decode cX5_begin 33 = .ok (.iconst 0, 1) := dk_3 (dk_at dksX5_begin_1 10 rfl rfl)
theorem dX5_begin_34 : decode cX5_begin 34 = .ok (.putfield 34, 3) := dk_181 0 34 (dk_at dksX5_begin_1 11 rfl rfl)
theorem dX5_begin_37 : decode cX5_begin 37 = .ok (.aload_n 0, 1) := dk_42 (dk_at dksX5_begin_1 14 rfl rfl)
theorem dX5_begin_38 : decode cX5_begin 38 = .ok (.iconst 0, 1) := dk_3 (dk_at dksX5_begin_1 15 rfl rfl)
theorem dX5_begin_39 : decode cX5_begin 39 = .ok (.putfield 37, 3) := dk_181 0 37 (dk_at dksX5_begin_1 16 rfl rfl)
theorem dX5_begin_42 : decode cX5_begin 42 = .ok (.aload_n 0, 1) := dk_42 (dk_at dksX5_begin_1 19 rfl rfl)
theorem dX5_begin_43 : decode cX5_begin 43 = .ok (.iconst 0, 1) := dk_3 (dk_at dksX5_begin_1 20 rfl rfl)
theorem dX5_begin_44 : decode cX5_begin 44 = .ok (.putfield 40, 3) := dk_181 0 40 (dk_at dksX5_begin_1 21 rfl rfl)
theorem dX5_begin_47 : decode cX5_begin 47 = .ok (.aload_n 0, 1) := dk_42 (dk_at dksX5_begin_2 0 rfl rfl)
theorem dX5_begin_48 : decode cX5_begin 48 = .ok (.iconst 0, 1) := dk_3 (dk_at dksX5_begin_2 1 rfl rfl)
theorem dX5_begin_49 : decode cX5_begin 49 = .ok (.putfield 43, 3) := dk_181 0 43 (dk_at dksX5_begin_2 2 rfl rfl)
theorem dX5_begin_52 : decode cX5_begin 52 = .ok (.return_, 1) := dk_177 (dk_at dksX5_begin_2 5 rfl rfl)
abbrev cX5_grow : ByteArray := prog_5_method_6_code
def yX5_grow : MethodName := ⟨RX5, "grow", "(LMelodeon$Instrument;)V"⟩
def dkwX5_grow_7 : List UInt8 := [177]
abbrev dktX5_grow_7 : List UInt8 := dkwX5_grow_7 ++ []
def dkwX5_grow_6 : List UInt8 := [43, 180, 0, 67, 108, 100, 184, 0, 64, 181, 0, 19, 42, 180, 0, 19, 154, 0, 8, 42, 3, 181, 0, 16]
abbrev dktX5_grow_6 : List UInt8 := dkwX5_grow_6 ++ dktX5_grow_7
def dkwX5_grow_5 : List UInt8 := [42, 6, 181, 0, 16, 167, 0, 43, 42, 28, 181, 0, 19, 167, 0, 35, 42, 3, 42, 180, 0, 19, 18, 51]
abbrev dktX5_grow_5 : List UInt8 := dkwX5_grow_5 ++ dktX5_grow_6
def dkwX5_grow_4 : List UInt8 := [28, 100, 43, 180, 0, 61, 108, 100, 4, 100, 184, 0, 64, 181, 0, 19, 42, 180, 0, 19, 28, 160, 0, 51]
abbrev dktX5_grow_4 : List UInt8 := dkwX5_grow_4 ++ dktX5_grow_5
def dkwX5_grow_3 : List UInt8 := [180, 0, 19, 18, 51, 160, 0, 91, 42, 5, 181, 0, 16, 167, 0, 83, 42, 28, 42, 180, 0, 19, 18, 51]
abbrev dktX5_grow_3 : List UInt8 := dkwX5_grow_3 ++ dktX5_grow_4
def dkwX5_grow_2 : List UInt8 := [42, 18, 51, 42, 180, 0, 19, 18, 51, 43, 180, 0, 52, 108, 96, 184, 0, 55, 181, 0, 19, 42]
abbrev dktX5_grow_2 : List UInt8 := dkwX5_grow_2 ++ dktX5_grow_3
def dkwX5_grow_1 : List UInt8 := [170, 0, 0, 0, 0, 0, 113, 0, 0, 0, 1, 0, 0, 0, 3, 0, 0, 0, 27, 0, 0, 0, 65, 0, 0, 0, 105]
abbrev dktX5_grow_1 : List UInt8 := dkwX5_grow_1 ++ dktX5_grow_2
def dkwX5_grow_0 : List UInt8 := [17, 3, 232, 43, 180, 0, 46, 104, 61, 42, 180, 0, 16]
abbrev dktX5_grow_0 : List UInt8 := dkwX5_grow_0 ++ dktX5_grow_1
theorem dksX5_grow_0 : cX5_grow.data.toList.drop 0 = dktX5_grow_0 := by decide +kernel
theorem dksX5_grow_1 : cX5_grow.data.toList.drop 13 = dktX5_grow_1 := dk_seg dksX5_grow_0 13 rfl rfl
theorem dksX5_grow_2 : cX5_grow.data.toList.drop 40 = dktX5_grow_2 := dk_seg dksX5_grow_1 27 rfl rfl
theorem dksX5_grow_3 : cX5_grow.data.toList.drop 62 = dktX5_grow_3 := dk_seg dksX5_grow_2 22 rfl rfl
theorem dksX5_grow_4 : cX5_grow.data.toList.drop 86 = dktX5_grow_4 := dk_seg dksX5_grow_3 24 rfl rfl
theorem dksX5_grow_5 : cX5_grow.data.toList.drop 110 = dktX5_grow_5 := dk_seg dksX5_grow_4 24 rfl rfl
theorem dksX5_grow_6 : cX5_grow.data.toList.drop 134 = dktX5_grow_6 := dk_seg dksX5_grow_5 24 rfl rfl
theorem dksX5_grow_7 : cX5_grow.data.toList.drop 158 = dktX5_grow_7 := dk_seg dksX5_grow_6 24 rfl rfl
theorem dX5_grow_0 : decode cX5_grow 0 = .ok (.sipush 1000, 3) := dk_17 3 232 (dk_at dksX5_grow_0 0 rfl rfl)
theorem dX5_grow_3 : decode cX5_grow 3 = .ok (.aload_n 1, 1) := dk_43 (dk_at dksX5_grow_0 3 rfl rfl)
theorem dX5_grow_4 : decode cX5_grow 4 = .ok (.getfield 46, 3) := dk_180 0 46 (dk_at dksX5_grow_0 4 rfl rfl)
theorem dX5_grow_7 : decode cX5_grow 7 = .ok (.imul, 1) := dk_104 (dk_at dksX5_grow_0 7 rfl rfl)
theorem dX5_grow_8 : decode cX5_grow 8 = .ok (.istore_n 2, 1) := dk_61 (dk_at dksX5_grow_0 8 rfl rfl)
theorem dX5_grow_9 : decode cX5_grow 9 = .ok (.aload_n 0, 1) := dk_42 (dk_at dksX5_grow_0 9 rfl rfl)
theorem dX5_grow_10 : decode cX5_grow 10 = .ok (.getfield 16, 3) := dk_180 0 16 (dk_at dksX5_grow_0 10 rfl rfl)
theorem dX5_grow_13 : decode cX5_grow 13 = .ok (.tableswitch 113 1 3 #[27, 65, 105], 27) := by decide +kernel
theorem dX5_grow_40 : decode cX5_grow 40 = .ok (.aload_n 0, 1) := dk_42 (dk_at dksX5_grow_2 0 rfl rfl)
theorem dX5_grow_41 : decode cX5_grow 41 = .ok (.ldc 51, 2) := dk_18 51 (dk_at dksX5_grow_2 1 rfl rfl)
theorem dX5_grow_43 : decode cX5_grow 43 = .ok (.aload_n 0, 1) := dk_42 (dk_at dksX5_grow_2 3 rfl rfl)
theorem dX5_grow_44 : decode cX5_grow 44 = .ok (.getfield 19, 3) := dk_180 0 19 (dk_at dksX5_grow_2 4 rfl rfl)
theorem dX5_grow_47 : decode cX5_grow 47 = .ok (.ldc 51, 2) := dk_18 51 (dk_at dksX5_grow_2 7 rfl rfl)
theorem dX5_grow_49 : decode cX5_grow 49 = .ok (.aload_n 1, 1) := dk_43 (dk_at dksX5_grow_2 9 rfl rfl)
theorem dX5_grow_50 : decode cX5_grow 50 = .ok (.getfield 52, 3) := dk_180 0 52 (dk_at dksX5_grow_2 10 rfl rfl)
theorem dX5_grow_53 : decode cX5_grow 53 = .ok (.idiv, 1) := dk_108 (dk_at dksX5_grow_2 13 rfl rfl)
theorem dX5_grow_54 : decode cX5_grow 54 = .ok (.iadd, 1) := dk_96 (dk_at dksX5_grow_2 14 rfl rfl)
theorem dX5_grow_55 : decode cX5_grow 55 = .ok (.invokestatic 55, 3) := dk_184 0 55 (dk_at dksX5_grow_2 15 rfl rfl)
theorem dX5_grow_58 : decode cX5_grow 58 = .ok (.putfield 19, 3) := dk_181 0 19 (dk_at dksX5_grow_2 18 rfl rfl)
theorem dX5_grow_61 : decode cX5_grow 61 = .ok (.aload_n 0, 1) := dk_42 (dk_at dksX5_grow_2 21 rfl rfl)
theorem dX5_grow_62 : decode cX5_grow 62 = .ok (.getfield 19, 3) := dk_180 0 19 (dk_at dksX5_grow_3 0 rfl rfl)
theorem dX5_grow_65 : decode cX5_grow 65 = .ok (.ldc 51, 2) := dk_18 51 (dk_at dksX5_grow_3 3 rfl rfl)
theorem dX5_grow_67 : decode cX5_grow 67 = .ok (.if_icmp .ne 91, 3) := dk_160 0 91 (dk_at dksX5_grow_3 5 rfl rfl)
theorem dX5_grow_70 : decode cX5_grow 70 = .ok (.aload_n 0, 1) := dk_42 (dk_at dksX5_grow_3 8 rfl rfl)
theorem dX5_grow_71 : decode cX5_grow 71 = .ok (.iconst 2, 1) := dk_5 (dk_at dksX5_grow_3 9 rfl rfl)
theorem dX5_grow_72 : decode cX5_grow 72 = .ok (.putfield 16, 3) := dk_181 0 16 (dk_at dksX5_grow_3 10 rfl rfl)
theorem dX5_grow_75 : decode cX5_grow 75 = .ok (.goto 83, 3) := dk_167 0 83 (dk_at dksX5_grow_3 13 rfl rfl)
theorem dX5_grow_78 : decode cX5_grow 78 = .ok (.aload_n 0, 1) := dk_42 (dk_at dksX5_grow_3 16 rfl rfl)
theorem dX5_grow_79 : decode cX5_grow 79 = .ok (.iload_n 2, 1) := dk_28 (dk_at dksX5_grow_3 17 rfl rfl)
theorem dX5_grow_80 : decode cX5_grow 80 = .ok (.aload_n 0, 1) := dk_42 (dk_at dksX5_grow_3 18 rfl rfl)
theorem dX5_grow_81 : decode cX5_grow 81 = .ok (.getfield 19, 3) := dk_180 0 19 (dk_at dksX5_grow_3 19 rfl rfl)
theorem dX5_grow_84 : decode cX5_grow 84 = .ok (.ldc 51, 2) := dk_18 51 (dk_at dksX5_grow_3 22 rfl rfl)
theorem dX5_grow_86 : decode cX5_grow 86 = .ok (.iload_n 2, 1) := dk_28 (dk_at dksX5_grow_4 0 rfl rfl)
theorem dX5_grow_87 : decode cX5_grow 87 = .ok (.isub, 1) := dk_100 (dk_at dksX5_grow_4 1 rfl rfl)
theorem dX5_grow_88 : decode cX5_grow 88 = .ok (.aload_n 1, 1) := dk_43 (dk_at dksX5_grow_4 2 rfl rfl)
theorem dX5_grow_89 : decode cX5_grow 89 = .ok (.getfield 61, 3) := dk_180 0 61 (dk_at dksX5_grow_4 3 rfl rfl)
theorem dX5_grow_92 : decode cX5_grow 92 = .ok (.idiv, 1) := dk_108 (dk_at dksX5_grow_4 6 rfl rfl)
theorem dX5_grow_93 : decode cX5_grow 93 = .ok (.isub, 1) := dk_100 (dk_at dksX5_grow_4 7 rfl rfl)
theorem dX5_grow_94 : decode cX5_grow 94 = .ok (.iconst 1, 1) := dk_4 (dk_at dksX5_grow_4 8 rfl rfl)
theorem dX5_grow_95 : decode cX5_grow 95 = .ok (.isub, 1) := dk_100 (dk_at dksX5_grow_4 9 rfl rfl)
theorem dX5_grow_96 : decode cX5_grow 96 = .ok (.invokestatic 64, 3) := dk_184 0 64 (dk_at dksX5_grow_4 10 rfl rfl)
theorem dX5_grow_99 : decode cX5_grow 99 = .ok (.putfield 19, 3) := dk_181 0 19 (dk_at dksX5_grow_4 13 rfl rfl)
theorem dX5_grow_102 : decode cX5_grow 102 = .ok (.aload_n 0, 1) := dk_42 (dk_at dksX5_grow_4 16 rfl rfl)
theorem dX5_grow_103 : decode cX5_grow 103 = .ok (.getfield 19, 3) := dk_180 0 19 (dk_at dksX5_grow_4 17 rfl rfl)
theorem dX5_grow_106 : decode cX5_grow 106 = .ok (.iload_n 2, 1) := dk_28 (dk_at dksX5_grow_4 20 rfl rfl)
theorem dX5_grow_107 : decode cX5_grow 107 = .ok (.if_icmp .ne 51, 3) := dk_160 0 51 (dk_at dksX5_grow_4 21 rfl rfl)
theorem dX5_grow_110 : decode cX5_grow 110 = .ok (.aload_n 0, 1) := dk_42 (dk_at dksX5_grow_5 0 rfl rfl)
theorem dX5_grow_111 : decode cX5_grow 111 = .ok (.iconst 3, 1) := dk_6 (dk_at dksX5_grow_5 1 rfl rfl)
theorem dX5_grow_112 : decode cX5_grow 112 = .ok (.putfield 16, 3) := dk_181 0 16 (dk_at dksX5_grow_5 2 rfl rfl)
theorem dX5_grow_115 : decode cX5_grow 115 = .ok (.goto 43, 3) := dk_167 0 43 (dk_at dksX5_grow_5 5 rfl rfl)
theorem dX5_grow_118 : decode cX5_grow 118 = .ok (.aload_n 0, 1) := dk_42 (dk_at dksX5_grow_5 8 rfl rfl)
theorem dX5_grow_119 : decode cX5_grow 119 = .ok (.iload_n 2, 1) := dk_28 (dk_at dksX5_grow_5 9 rfl rfl)
theorem dX5_grow_120 : decode cX5_grow 120 = .ok (.putfield 19, 3) := dk_181 0 19 (dk_at dksX5_grow_5 10 rfl rfl)
theorem dX5_grow_123 : decode cX5_grow 123 = .ok (.goto 35, 3) := dk_167 0 35 (dk_at dksX5_grow_5 13 rfl rfl)
theorem dX5_grow_126 : decode cX5_grow 126 = .ok (.aload_n 0, 1) := dk_42 (dk_at dksX5_grow_5 16 rfl rfl)
theorem dX5_grow_127 : decode cX5_grow 127 = .ok (.iconst 0, 1) := dk_3 (dk_at dksX5_grow_5 17 rfl rfl)
theorem dX5_grow_128 : decode cX5_grow 128 = .ok (.aload_n 0, 1) := dk_42 (dk_at dksX5_grow_5 18 rfl rfl)
theorem dX5_grow_129 : decode cX5_grow 129 = .ok (.getfield 19, 3) := dk_180 0 19 (dk_at dksX5_grow_5 19 rfl rfl)
theorem dX5_grow_132 : decode cX5_grow 132 = .ok (.ldc 51, 2) := dk_18 51 (dk_at dksX5_grow_5 22 rfl rfl)
theorem dX5_grow_134 : decode cX5_grow 134 = .ok (.aload_n 1, 1) := dk_43 (dk_at dksX5_grow_6 0 rfl rfl)
theorem dX5_grow_135 : decode cX5_grow 135 = .ok (.getfield 67, 3) := dk_180 0 67 (dk_at dksX5_grow_6 1 rfl rfl)
theorem dX5_grow_138 : decode cX5_grow 138 = .ok (.idiv, 1) := dk_108 (dk_at dksX5_grow_6 4 rfl rfl)
theorem dX5_grow_139 : decode cX5_grow 139 = .ok (.isub, 1) := dk_100 (dk_at dksX5_grow_6 5 rfl rfl)
theorem dX5_grow_140 : decode cX5_grow 140 = .ok (.invokestatic 64, 3) := dk_184 0 64 (dk_at dksX5_grow_6 6 rfl rfl)
theorem dX5_grow_143 : decode cX5_grow 143 = .ok (.putfield 19, 3) := dk_181 0 19 (dk_at dksX5_grow_6 9 rfl rfl)
theorem dX5_grow_146 : decode cX5_grow 146 = .ok (.aload_n 0, 1) := dk_42 (dk_at dksX5_grow_6 12 rfl rfl)
theorem dX5_grow_147 : decode cX5_grow 147 = .ok (.getfield 19, 3) := dk_180 0 19 (dk_at dksX5_grow_6 13 rfl rfl)
theorem dX5_grow_150 : decode cX5_grow 150 = .ok (.ifCond .ne 8, 3) := dk_154 0 8 (dk_at dksX5_grow_6 16 rfl rfl)
theorem dX5_grow_153 : decode cX5_grow 153 = .ok (.aload_n 0, 1) := dk_42 (dk_at dksX5_grow_6 19 rfl rfl)
theorem dX5_grow_154 : decode cX5_grow 154 = .ok (.iconst 0, 1) := dk_3 (dk_at dksX5_grow_6 20 rfl rfl)
theorem dX5_grow_155 : decode cX5_grow 155 = .ok (.putfield 16, 3) := dk_181 0 16 (dk_at dksX5_grow_6 21 rfl rfl)
theorem dX5_grow_158 : decode cX5_grow 158 = .ok (.return_, 1) := dk_177 (dk_at dksX5_grow_7 0 rfl rfl)
abbrev cX5_filtered : ByteArray := prog_5_method_7_code
def yX5_filtered : MethodName := ⟨RX5, "filtered", "(ILMelodeon$Instrument;)I"⟩
def dkwX5_filtered_4 : List UInt8 := [17, 3, 232, 108, 104, 17, 3, 232, 108, 172]
abbrev dktX5_filtered_4 : List UInt8 := dkwX5_filtered_4 ++ []
def dkwX5_filtered_3 : List UInt8 := [184, 0, 73, 181, 0, 43, 42, 180, 0, 40, 42, 180, 0, 28, 104, 16, 127, 108, 42, 180, 0, 19]
abbrev dktX5_filtered_3 : List UInt8 := dkwX5_filtered_3 ++ dktX5_filtered_4
def dkwX5_filtered_2 : List UInt8 := [108, 100, 62, 42, 42, 180, 0, 43, 44, 180, 0, 70, 29, 104, 17, 1, 0, 108, 96, 17, 15, 160]
abbrev dktX5_filtered_2 : List UInt8 := dkwX5_filtered_2 ++ dktX5_filtered_3
def dkwX5_filtered_1 : List UInt8 := [184, 0, 73, 181, 0, 40, 27, 42, 180, 0, 40, 100, 44, 180, 0, 76, 42, 180, 0, 43, 104, 17, 1, 0]
abbrev dktX5_filtered_1 : List UInt8 := dkwX5_filtered_1 ++ dktX5_filtered_2
def dkwX5_filtered_0 : List UInt8 := [42, 42, 180, 0, 40, 44, 180, 0, 70, 42, 180, 0, 43, 104, 17, 1, 0, 108, 96, 17, 15, 160]
abbrev dktX5_filtered_0 : List UInt8 := dkwX5_filtered_0 ++ dktX5_filtered_1
theorem dksX5_filtered_0 : cX5_filtered.data.toList.drop 0 = dktX5_filtered_0 := by decide +kernel
theorem dksX5_filtered_1 : cX5_filtered.data.toList.drop 22 = dktX5_filtered_1 := dk_seg dksX5_filtered_0 22 rfl rfl
theorem dksX5_filtered_2 : cX5_filtered.data.toList.drop 46 = dktX5_filtered_2 := dk_seg dksX5_filtered_1 24 rfl rfl
theorem dksX5_filtered_3 : cX5_filtered.data.toList.drop 68 = dktX5_filtered_3 := dk_seg dksX5_filtered_2 22 rfl rfl
theorem dksX5_filtered_4 : cX5_filtered.data.toList.drop 90 = dktX5_filtered_4 := dk_seg dksX5_filtered_3 22 rfl rfl
theorem dX5_filtered_0 : decode cX5_filtered 0 = .ok (.aload_n 0, 1) := dk_42 (dk_at dksX5_filtered_0 0 rfl rfl)
theorem dX5_filtered_1 : decode cX5_filtered 1 = .ok (.aload_n 0, 1) := dk_42 (dk_at dksX5_filtered_0 1 rfl rfl)
theorem dX5_filtered_2 : decode cX5_filtered 2 = .ok (.getfield 40, 3) := dk_180 0 40 (dk_at dksX5_filtered_0 2 rfl rfl)
theorem dX5_filtered_5 : decode cX5_filtered 5 = .ok (.aload_n 2, 1) := dk_44 (dk_at dksX5_filtered_0 5 rfl rfl)
theorem dX5_filtered_6 : decode cX5_filtered 6 = .ok (.getfield 70, 3) := dk_180 0 70 (dk_at dksX5_filtered_0 6 rfl rfl)
theorem dX5_filtered_9 : decode cX5_filtered 9 = .ok (.aload_n 0, 1) := dk_42 (dk_at dksX5_filtered_0 9 rfl rfl)
theorem dX5_filtered_10 : decode cX5_filtered 10 = .ok (.getfield 43, 3) := dk_180 0 43 (dk_at dksX5_filtered_0 10 rfl rfl)
theorem dX5_filtered_13 : decode cX5_filtered 13 = .ok (.imul, 1) := dk_104 (dk_at dksX5_filtered_0 13 rfl rfl)
theorem dX5_filtered_14 : decode cX5_filtered 14 = .ok (.sipush 256, 3) := dk_17 1 0 (dk_at dksX5_filtered_0 14 rfl rfl)
theorem dX5_filtered_17 : decode cX5_filtered 17 = .ok (.idiv, 1) := dk_108 (dk_at dksX5_filtered_0 17 rfl rfl)
theorem dX5_filtered_18 : decode cX5_filtered 18 = .ok (.iadd, 1) := dk_96 (dk_at dksX5_filtered_0 18 rfl rfl)
theorem dX5_filtered_19 : decode cX5_filtered 19 = .ok (.sipush 4000, 3) := dk_17 15 160 (dk_at dksX5_filtered_0 19 rfl rfl)
theorem dX5_filtered_22 : decode cX5_filtered 22 = .ok (.invokestatic 73, 3) := dk_184 0 73 (dk_at dksX5_filtered_1 0 rfl rfl)
theorem dX5_filtered_25 : decode cX5_filtered 25 = .ok (.putfield 40, 3) := dk_181 0 40 (dk_at dksX5_filtered_1 3 rfl rfl)
theorem dX5_filtered_28 : decode cX5_filtered 28 = .ok (.iload_n 1, 1) := dk_27 (dk_at dksX5_filtered_1 6 rfl rfl)
theorem dX5_filtered_29 : decode cX5_filtered 29 = .ok (.aload_n 0, 1) := dk_42 (dk_at dksX5_filtered_1 7 rfl rfl)
theorem dX5_filtered_30 : decode cX5_filtered 30 = .ok (.getfield 40, 3) := dk_180 0 40 (dk_at dksX5_filtered_1 8 rfl rfl)
theorem dX5_filtered_33 : decode cX5_filtered 33 = .ok (.isub, 1) := dk_100 (dk_at dksX5_filtered_1 11 rfl rfl)
theorem dX5_filtered_34 : decode cX5_filtered 34 = .ok (.aload_n 2, 1) := dk_44 (dk_at dksX5_filtered_1 12 rfl rfl)
theorem dX5_filtered_35 : decode cX5_filtered 35 = .ok (.getfield 76, 3) := dk_180 0 76 (dk_at dksX5_filtered_1 13 rfl rfl)
theorem dX5_filtered_38 : decode cX5_filtered 38 = .ok (.aload_n 0, 1) := dk_42 (dk_at dksX5_filtered_1 16 rfl rfl)
theorem dX5_filtered_39 : decode cX5_filtered 39 = .ok (.getfield 43, 3) := dk_180 0 43 (dk_at dksX5_filtered_1 17 rfl rfl)
theorem dX5_filtered_42 : decode cX5_filtered 42 = .ok (.imul, 1) := dk_104 (dk_at dksX5_filtered_1 20 rfl rfl)
theorem dX5_filtered_43 : decode cX5_filtered 43 = .ok (.sipush 256, 3) := dk_17 1 0 (dk_at dksX5_filtered_1 21 rfl rfl)
theorem dX5_filtered_46 : decode cX5_filtered 46 = .ok (.idiv, 1) := dk_108 (dk_at dksX5_filtered_2 0 rfl rfl)
theorem dX5_filtered_47 : decode cX5_filtered 47 = .ok (.isub, 1) := dk_100 (dk_at dksX5_filtered_2 1 rfl rfl)
theorem dX5_filtered_48 : decode cX5_filtered 48 = .ok (.istore_n 3, 1) := dk_62 (dk_at dksX5_filtered_2 2 rfl rfl)
theorem dX5_filtered_49 : decode cX5_filtered 49 = .ok (.aload_n 0, 1) := dk_42 (dk_at dksX5_filtered_2 3 rfl rfl)
theorem dX5_filtered_50 : decode cX5_filtered 50 = .ok (.aload_n 0, 1) := dk_42 (dk_at dksX5_filtered_2 4 rfl rfl)
theorem dX5_filtered_51 : decode cX5_filtered 51 = .ok (.getfield 43, 3) := dk_180 0 43 (dk_at dksX5_filtered_2 5 rfl rfl)
theorem dX5_filtered_54 : decode cX5_filtered 54 = .ok (.aload_n 2, 1) := dk_44 (dk_at dksX5_filtered_2 8 rfl rfl)
theorem dX5_filtered_55 : decode cX5_filtered 55 = .ok (.getfield 70, 3) := dk_180 0 70 (dk_at dksX5_filtered_2 9 rfl rfl)
theorem dX5_filtered_58 : decode cX5_filtered 58 = .ok (.iload_n 3, 1) := dk_29 (dk_at dksX5_filtered_2 12 rfl rfl)
theorem dX5_filtered_59 : decode cX5_filtered 59 = .ok (.imul, 1) := dk_104 (dk_at dksX5_filtered_2 13 rfl rfl)
theorem dX5_filtered_60 : decode cX5_filtered 60 = .ok (.sipush 256, 3) := dk_17 1 0 (dk_at dksX5_filtered_2 14 rfl rfl)
theorem dX5_filtered_63 : decode cX5_filtered 63 = .ok (.idiv, 1) := dk_108 (dk_at dksX5_filtered_2 17 rfl rfl)
theorem dX5_filtered_64 : decode cX5_filtered 64 = .ok (.iadd, 1) := dk_96 (dk_at dksX5_filtered_2 18 rfl rfl)
theorem dX5_filtered_65 : decode cX5_filtered 65 = .ok (.sipush 4000, 3) := dk_17 15 160 (dk_at dksX5_filtered_2 19 rfl rfl)
theorem dX5_filtered_68 : decode cX5_filtered 68 = .ok (.invokestatic 73, 3) := dk_184 0 73 (dk_at dksX5_filtered_3 0 rfl rfl)
theorem dX5_filtered_71 : decode cX5_filtered 71 = .ok (.putfield 43, 3) := dk_181 0 43 (dk_at dksX5_filtered_3 3 rfl rfl)
theorem dX5_filtered_74 : decode cX5_filtered 74 = .ok (.aload_n 0, 1) := dk_42 (dk_at dksX5_filtered_3 6 rfl rfl)
theorem dX5_filtered_75 : decode cX5_filtered 75 = .ok (.getfield 40, 3) := dk_180 0 40 (dk_at dksX5_filtered_3 7 rfl rfl)
theorem dX5_filtered_78 : decode cX5_filtered 78 = .ok (.aload_n 0, 1) := dk_42 (dk_at dksX5_filtered_3 10 rfl rfl)
theorem dX5_filtered_79 : decode cX5_filtered 79 = .ok (.getfield 28, 3) := dk_180 0 28 (dk_at dksX5_filtered_3 11 rfl rfl)
theorem dX5_filtered_82 : decode cX5_filtered 82 = .ok (.imul, 1) := dk_104 (dk_at dksX5_filtered_3 14 rfl rfl)
theorem dX5_filtered_83 : decode cX5_filtered 83 = .ok (.bipush 127, 2) := dk_16 127 (dk_at dksX5_filtered_3 15 rfl rfl)
theorem dX5_filtered_85 : decode cX5_filtered 85 = .ok (.idiv, 1) := dk_108 (dk_at dksX5_filtered_3 17 rfl rfl)
theorem dX5_filtered_86 : decode cX5_filtered 86 = .ok (.aload_n 0, 1) := dk_42 (dk_at dksX5_filtered_3 18 rfl rfl)
theorem dX5_filtered_87 : decode cX5_filtered 87 = .ok (.getfield 19, 3) := dk_180 0 19 (dk_at dksX5_filtered_3 19 rfl rfl)
theorem dX5_filtered_90 : decode cX5_filtered 90 = .ok (.sipush 1000, 3) := dk_17 3 232 (dk_at dksX5_filtered_4 0 rfl rfl)
theorem dX5_filtered_93 : decode cX5_filtered 93 = .ok (.idiv, 1) := dk_108 (dk_at dksX5_filtered_4 3 rfl rfl)
theorem dX5_filtered_94 : decode cX5_filtered 94 = .ok (.imul, 1) := dk_104 (dk_at dksX5_filtered_4 4 rfl rfl)
theorem dX5_filtered_95 : decode cX5_filtered 95 = .ok (.sipush 1000, 3) := dk_17 3 232 (dk_at dksX5_filtered_4 5 rfl rfl)
theorem dX5_filtered_98 : decode cX5_filtered 98 = .ok (.idiv, 1) := dk_108 (dk_at dksX5_filtered_4 8 rfl rfl)
theorem dX5_filtered_99 : decode cX5_filtered 99 = .ok (.ireturn, 1) := dk_172 (dk_at dksX5_filtered_4 9 rfl rfl)
abbrev cX5_copy : ByteArray := prog_5_method_2_code
def yX5_copy : MethodName := ⟨RX5, "copy", "()LMelodeon$Voice;"⟩
def dkwX5_copy_4 : List UInt8 := [43, 176]
abbrev dktX5_copy_4 : List UInt8 := dkwX5_copy_4 ++ []
def dkwX5_copy_3 : List UInt8 := [43, 42, 180, 0, 40, 181, 0, 40, 43, 42, 180, 0, 43, 181, 0, 43, 43, 42, 180, 0, 9, 181, 0, 9]
abbrev dktX5_copy_3 : List UInt8 := dkwX5_copy_3 ++ dktX5_copy_4
def dkwX5_copy_2 : List UInt8 := [43, 42, 180, 0, 31, 181, 0, 31, 43, 42, 180, 0, 34, 181, 0, 34, 43, 42, 180, 0, 37, 181, 0, 37]
abbrev dktX5_copy_2 : List UInt8 := dkwX5_copy_2 ++ dktX5_copy_3
def dkwX5_copy_1 : List UInt8 := [43, 42, 180, 0, 22, 181, 0, 22, 43, 42, 180, 0, 25, 181, 0, 25, 43, 42, 180, 0, 28, 181, 0, 28]
abbrev dktX5_copy_1 : List UInt8 := dkwX5_copy_1 ++ dktX5_copy_2
def dkwX5_copy_0 : List UInt8 := [187, 0, 10, 89, 183, 0, 15, 76, 43, 42, 180, 0, 16, 181, 0, 16, 43, 42, 180, 0, 19, 181, 0, 19]
abbrev dktX5_copy_0 : List UInt8 := dkwX5_copy_0 ++ dktX5_copy_1
theorem dksX5_copy_0 : cX5_copy.data.toList.drop 0 = dktX5_copy_0 := by decide +kernel
theorem dksX5_copy_1 : cX5_copy.data.toList.drop 24 = dktX5_copy_1 := dk_seg dksX5_copy_0 24 rfl rfl
theorem dksX5_copy_2 : cX5_copy.data.toList.drop 48 = dktX5_copy_2 := dk_seg dksX5_copy_1 24 rfl rfl
theorem dksX5_copy_3 : cX5_copy.data.toList.drop 72 = dktX5_copy_3 := dk_seg dksX5_copy_2 24 rfl rfl
theorem dksX5_copy_4 : cX5_copy.data.toList.drop 96 = dktX5_copy_4 := dk_seg dksX5_copy_3 24 rfl rfl
theorem dX5_copy_0 : decode cX5_copy 0 = .ok (.new 10, 3) := dk_187 0 10 (dk_at dksX5_copy_0 0 rfl rfl)
theorem dX5_copy_3 : decode cX5_copy 3 = .ok (.dup, 1) := dk_89 (dk_at dksX5_copy_0 3 rfl rfl)
theorem dX5_copy_4 : decode cX5_copy 4 = .ok (.invokespecial 15, 3) := dk_183 0 15 (dk_at dksX5_copy_0 4 rfl rfl)
theorem dX5_copy_7 : decode cX5_copy 7 = .ok (.astore_n 1, 1) := dk_76 (dk_at dksX5_copy_0 7 rfl rfl)
theorem dX5_copy_8 : decode cX5_copy 8 = .ok (.aload_n 1, 1) := dk_43 (dk_at dksX5_copy_0 8 rfl rfl)
theorem dX5_copy_9 : decode cX5_copy 9 = .ok (.aload_n 0, 1) := dk_42 (dk_at dksX5_copy_0 9 rfl rfl)
theorem dX5_copy_10 : decode cX5_copy 10 = .ok (.getfield 16, 3) := dk_180 0 16 (dk_at dksX5_copy_0 10 rfl rfl)
theorem dX5_copy_13 : decode cX5_copy 13 = .ok (.putfield 16, 3) := dk_181 0 16 (dk_at dksX5_copy_0 13 rfl rfl)
theorem dX5_copy_16 : decode cX5_copy 16 = .ok (.aload_n 1, 1) := dk_43 (dk_at dksX5_copy_0 16 rfl rfl)
theorem dX5_copy_17 : decode cX5_copy 17 = .ok (.aload_n 0, 1) := dk_42 (dk_at dksX5_copy_0 17 rfl rfl)
theorem dX5_copy_18 : decode cX5_copy 18 = .ok (.getfield 19, 3) := dk_180 0 19 (dk_at dksX5_copy_0 18 rfl rfl)
theorem dX5_copy_21 : decode cX5_copy 21 = .ok (.putfield 19, 3) := dk_181 0 19 (dk_at dksX5_copy_0 21 rfl rfl)
theorem dX5_copy_24 : decode cX5_copy 24 = .ok (.aload_n 1, 1) := dk_43 (dk_at dksX5_copy_1 0 rfl rfl)
theorem dX5_copy_25 : decode cX5_copy 25 = .ok (.aload_n 0, 1) := dk_42 (dk_at dksX5_copy_1 1 rfl rfl)
theorem dX5_copy_26 : decode cX5_copy 26 = .ok (.getfield 22, 3) := dk_180 0 22 (dk_at dksX5_copy_1 2 rfl rfl)
theorem dX5_copy_29 : decode cX5_copy 29 = .ok (.putfield 22, 3) := dk_181 0 22 (dk_at dksX5_copy_1 5 rfl rfl)
theorem dX5_copy_32 : decode cX5_copy 32 = .ok (.aload_n 1, 1) := dk_43 (dk_at dksX5_copy_1 8 rfl rfl)
theorem dX5_copy_33 : decode cX5_copy 33 = .ok (.aload_n 0, 1) := dk_42 (dk_at dksX5_copy_1 9 rfl rfl)
theorem dX5_copy_34 : decode cX5_copy 34 = .ok (.getfield 25, 3) := dk_180 0 25 (dk_at dksX5_copy_1 10 rfl rfl)
theorem dX5_copy_37 : decode cX5_copy 37 = .ok (.putfield 25, 3) := dk_181 0 25 (dk_at dksX5_copy_1 13 rfl rfl)
theorem dX5_copy_40 : decode cX5_copy 40 = .ok (.aload_n 1, 1) := dk_43 (dk_at dksX5_copy_1 16 rfl rfl)
theorem dX5_copy_41 : decode cX5_copy 41 = .ok (.aload_n 0, 1) := dk_42 (dk_at dksX5_copy_1 17 rfl rfl)
theorem dX5_copy_42 : decode cX5_copy 42 = .ok (.getfield 28, 3) := dk_180 0 28 (dk_at dksX5_copy_1 18 rfl rfl)
theorem dX5_copy_45 : decode cX5_copy 45 = .ok (.putfield 28, 3) := dk_181 0 28 (dk_at dksX5_copy_1 21 rfl rfl)
theorem dX5_copy_48 : decode cX5_copy 48 = .ok (.aload_n 1, 1) := dk_43 (dk_at dksX5_copy_2 0 rfl rfl)
theorem dX5_copy_49 : decode cX5_copy 49 = .ok (.aload_n 0, 1) := dk_42 (dk_at dksX5_copy_2 1 rfl rfl)
theorem dX5_copy_50 : decode cX5_copy 50 = .ok (.getfield 31, 3) := dk_180 0 31 (dk_at dksX5_copy_2 2 rfl rfl)
theorem dX5_copy_53 : decode cX5_copy 53 = .ok (.putfield 31, 3) := dk_181 0 31 (dk_at dksX5_copy_2 5 rfl rfl)
theorem dX5_copy_56 : decode cX5_copy 56 = .ok (.aload_n 1, 1) := dk_43 (dk_at dksX5_copy_2 8 rfl rfl)
theorem dX5_copy_57 : decode cX5_copy 57 = .ok (.aload_n 0, 1) := dk_42 (dk_at dksX5_copy_2 9 rfl rfl)
theorem dX5_copy_58 : decode cX5_copy 58 = .ok (.getfield 34, 3) := dk_180 0 34 (dk_at dksX5_copy_2 10 rfl rfl)
theorem dX5_copy_61 : decode cX5_copy 61 = .ok (.putfield 34, 3) := dk_181 0 34 (dk_at dksX5_copy_2 13 rfl rfl)
theorem dX5_copy_64 : decode cX5_copy 64 = .ok (.aload_n 1, 1) := dk_43 (dk_at dksX5_copy_2 16 rfl rfl)
theorem dX5_copy_65 : decode cX5_copy 65 = .ok (.aload_n 0, 1) := dk_42 (dk_at dksX5_copy_2 17 rfl rfl)
theorem dX5_copy_66 : decode cX5_copy 66 = .ok (.getfield 37, 3) := dk_180 0 37 (dk_at dksX5_copy_2 18 rfl rfl)
theorem dX5_copy_69 : decode cX5_copy 69 = .ok (.putfield 37, 3) := dk_181 0 37 (dk_at dksX5_copy_2 21 rfl rfl)
theorem dX5_copy_72 : decode cX5_copy 72 = .ok (.aload_n 1, 1) := dk_43 (dk_at dksX5_copy_3 0 rfl rfl)
theorem dX5_copy_73 : decode cX5_copy 73 = .ok (.aload_n 0, 1) := dk_42 (dk_at dksX5_copy_3 1 rfl rfl)
theorem dX5_copy_74 : decode cX5_copy 74 = .ok (.getfield 40, 3) := dk_180 0 40 (dk_at dksX5_copy_3 2 rfl rfl)
theorem dX5_copy_77 : decode cX5_copy 77 = .ok (.putfield 40, 3) := dk_181 0 40 (dk_at dksX5_copy_3 5 rfl rfl)
theorem dX5_copy_80 : decode cX5_copy 80 = .ok (.aload_n 1, 1) := dk_43 (dk_at dksX5_copy_3 8 rfl rfl)
theorem dX5_copy_81 : decode cX5_copy 81 = .ok (.aload_n 0, 1) := dk_42 (dk_at dksX5_copy_3 9 rfl rfl)
theorem dX5_copy_82 : decode cX5_copy 82 = .ok (.getfield 43, 3) := dk_180 0 43 (dk_at dksX5_copy_3 10 rfl rfl)
theorem dX5_copy_85 : decode cX5_copy 85 = .ok (.putfield 43, 3) := dk_181 0 43 (dk_at dksX5_copy_3 13 rfl rfl)
theorem dX5_copy_88 : decode cX5_copy 88 = .ok (.aload_n 1, 1) := dk_43 (dk_at dksX5_copy_3 16 rfl rfl)
theorem dX5_copy_89 : decode cX5_copy 89 = .ok (.aload_n 0, 1) := dk_42 (dk_at dksX5_copy_3 17 rfl rfl)
theorem dX5_copy_90 : decode cX5_copy 90 = .ok (.getfield 9, 3) := dk_180 0 9 (dk_at dksX5_copy_3 18 rfl rfl)
theorem dX5_copy_93 : decode cX5_copy 93 = .ok (.putfield 9, 3) := dk_181 0 9 (dk_at dksX5_copy_3 21 rfl rfl)
theorem dX5_copy_96 : decode cX5_copy 96 = .ok (.aload_n 1, 1) := dk_43 (dk_at dksX5_copy_4 0 rfl rfl)
theorem dX5_copy_97 : decode cX5_copy 97 = .ok (.areturn, 1) := dk_176 (dk_at dksX5_copy_4 1 rfl rfl)
theorem q37 : (Jvm.Cond.initialized "Melodeon$Voice") ∈ lw_all := lw_g (lw_at lw_m1 12 rfl) rfl
theorem q153 : (Jvm.Cond.fieldLinkNest "Melodeon$Voice" (52 : Nat) "Melodeon$Instrument" "attack" "I" "Melodeon") ∈ lw_tbl := lw_at lw_m1 128 rfl
theorem q156 : (Jvm.Cond.fieldLinkNest "Melodeon$Voice" (61 : Nat) "Melodeon$Instrument" "decay" "I" "Melodeon") ∈ lw_tbl := lw_at lw_m1 131 rfl
theorem q159 : (Jvm.Cond.fieldLinkNest "Melodeon$Voice" (46 : Nat) "Melodeon$Instrument" "sustain" "I" "Melodeon") ∈ lw_tbl := lw_at lw_m1 134 rfl
theorem q162 : (Jvm.Cond.fieldLinkNest "Melodeon$Voice" (67 : Nat) "Melodeon$Instrument" "release" "I" "Melodeon") ∈ lw_tbl := lw_at lw_m1 137 rfl
theorem q165 : (Jvm.Cond.fieldLinkNest "Melodeon$Voice" (70 : Nat) "Melodeon$Instrument" "cutoff" "I" "Melodeon") ∈ lw_tbl := lw_at lw_m1 140 rfl
theorem q168 : (Jvm.Cond.fieldLinkNest "Melodeon$Voice" (76 : Nat) "Melodeon$Instrument" "damping" "I" "Melodeon") ∈ lw_tbl := lw_at lw_m1 143 rfl
theorem q236 : (Jvm.Cond.selects "Melodeon$Voice" ({ cls := "java/lang/Object", name := "getClass", desc := "()Ljava/lang/Class;" } : Jvm.MethodName) ({ cls := "java/lang/Object", name := "getClass", desc := "()Ljava/lang/Class;" } : Jvm.MethodName)) ∈ lw_all := lw_g (lw_at lw_m1 211 rfl) rfl
theorem q285 : (Jvm.Cond.instantiable "Melodeon$Voice" (11 : Nat)) ∈ lw_all := lw_g (lw_at lw_m2 20 rfl) rfl
theorem q287 : (Jvm.Cond.instanceMethod ({ cls := "Melodeon$Voice", name := "<init>", desc := "()V" } : Jvm.MethodName)) ∈ lw_all := lw_g (lw_at lw_m2 22 rfl) rfl
theorem q288 : (Jvm.Cond.code ({ cls := "Melodeon$Voice", name := "<init>", desc := "()V" } : Jvm.MethodName) prog_5_method_1_code (1 : Nat) (Option.none : Option Jvm.ClassFile.FieldType)) ∈ lw_all := lw_g (lw_at lw_m2 23 rfl) rfl
theorem q289 : (Jvm.Cond.methodLink "Melodeon$Voice" (3 : Nat) ({ cls := "java/lang/Object", name := "<init>", desc := "()V" } : Jvm.MethodName)) ∈ lw_all := lw_g (lw_at lw_m2 24 rfl) rfl
theorem q290 : (Jvm.Cond.fieldLink "Melodeon$Voice" (16 : Nat) "Melodeon$Voice" "state" "I") ∈ lw_all := lw_g (lw_at lw_m2 25 rfl) rfl
theorem q293 : (Jvm.Cond.fieldLink "Melodeon$Voice" (19 : Nat) "Melodeon$Voice" "level" "I") ∈ lw_all := lw_g (lw_at lw_m2 28 rfl) rfl
theorem q296 : (Jvm.Cond.fieldLink "Melodeon$Voice" (22 : Nat) "Melodeon$Voice" "instrument" "I") ∈ lw_all := lw_g (lw_at lw_m2 31 rfl) rfl
theorem q299 : (Jvm.Cond.fieldLink "Melodeon$Voice" (25 : Nat) "Melodeon$Voice" "pitch" "I") ∈ lw_all := lw_g (lw_at lw_m2 34 rfl) rfl
theorem q302 : (Jvm.Cond.fieldLink "Melodeon$Voice" (28 : Nat) "Melodeon$Voice" "force" "I") ∈ lw_all := lw_g (lw_at lw_m2 37 rfl) rfl
theorem q304 : (Jvm.Cond.fieldLink "Melodeon$Voice" (31 : Nat) "Melodeon$Voice" "began" "I") ∈ lw_all := lw_g (lw_at lw_m2 39 rfl) rfl
theorem q306 : (Jvm.Cond.fieldLink "Melodeon$Voice" (34 : Nat) "Melodeon$Voice" "first" "I") ∈ lw_all := lw_g (lw_at lw_m2 41 rfl) rfl
theorem q309 : (Jvm.Cond.fieldLink "Melodeon$Voice" (37 : Nat) "Melodeon$Voice" "second" "I") ∈ lw_all := lw_g (lw_at lw_m2 44 rfl) rfl
theorem q312 : (Jvm.Cond.fieldLink "Melodeon$Voice" (40 : Nat) "Melodeon$Voice" "low" "I") ∈ lw_all := lw_g (lw_at lw_m2 47 rfl) rfl
theorem q314 : (Jvm.Cond.fieldLink "Melodeon$Voice" (43 : Nat) "Melodeon$Voice" "band" "I") ∈ lw_all := lw_g (lw_at lw_m2 49 rfl) rfl
theorem q316 : (Jvm.Cond.fieldLink "Melodeon$Voice" (9 : Nat) "Melodeon$Voice" "gate" "I") ∈ lw_all := lw_g (lw_at lw_m2 51 rfl) rfl
theorem q319 : (Jvm.Cond.lays "Melodeon$Voice" "Melodeon$Voice" "state" "I") ∈ lw_all := lw_g (lw_at lw_m2 54 rfl) rfl
theorem q320 : (Jvm.Cond.soleField "Melodeon$Voice" "state") ∈ lw_all := lw_g (lw_at lw_m2 55 rfl) rfl
theorem q321 : (Jvm.Cond.lays "Melodeon$Voice" "Melodeon$Voice" "level" "I") ∈ lw_all := lw_g (lw_at lw_m2 56 rfl) rfl
theorem q322 : (Jvm.Cond.soleField "Melodeon$Voice" "level") ∈ lw_all := lw_g (lw_at lw_m2 57 rfl) rfl
theorem q323 : (Jvm.Cond.lays "Melodeon$Voice" "Melodeon$Voice" "instrument" "I") ∈ lw_all := lw_g (lw_at lw_m2 58 rfl) rfl
theorem q324 : (Jvm.Cond.soleField "Melodeon$Voice" "instrument") ∈ lw_all := lw_g (lw_at lw_m2 59 rfl) rfl
theorem q325 : (Jvm.Cond.lays "Melodeon$Voice" "Melodeon$Voice" "pitch" "I") ∈ lw_all := lw_g (lw_at lw_m2 60 rfl) rfl
theorem q326 : (Jvm.Cond.soleField "Melodeon$Voice" "pitch") ∈ lw_all := lw_g (lw_at lw_m2 61 rfl) rfl
theorem q327 : (Jvm.Cond.lays "Melodeon$Voice" "Melodeon$Voice" "force" "I") ∈ lw_all := lw_g (lw_at lw_m2 62 rfl) rfl
theorem q328 : (Jvm.Cond.soleField "Melodeon$Voice" "force") ∈ lw_all := lw_g (lw_at lw_m2 63 rfl) rfl
theorem q329 : (Jvm.Cond.lays "Melodeon$Voice" "Melodeon$Voice" "began" "I") ∈ lw_all := lw_g (lw_at lw_m2 64 rfl) rfl
theorem q330 : (Jvm.Cond.soleField "Melodeon$Voice" "began") ∈ lw_all := lw_g (lw_at lw_m2 65 rfl) rfl
theorem q331 : (Jvm.Cond.lays "Melodeon$Voice" "Melodeon$Voice" "first" "I") ∈ lw_all := lw_g (lw_at lw_m2 66 rfl) rfl
theorem q332 : (Jvm.Cond.soleField "Melodeon$Voice" "first") ∈ lw_all := lw_g (lw_at lw_m2 67 rfl) rfl
theorem q333 : (Jvm.Cond.lays "Melodeon$Voice" "Melodeon$Voice" "second" "I") ∈ lw_all := lw_g (lw_at lw_m2 68 rfl) rfl
theorem q334 : (Jvm.Cond.soleField "Melodeon$Voice" "second") ∈ lw_all := lw_g (lw_at lw_m2 69 rfl) rfl
theorem q335 : (Jvm.Cond.lays "Melodeon$Voice" "Melodeon$Voice" "low" "I") ∈ lw_all := lw_g (lw_at lw_m2 70 rfl) rfl
theorem q336 : (Jvm.Cond.soleField "Melodeon$Voice" "low") ∈ lw_all := lw_g (lw_at lw_m2 71 rfl) rfl
theorem q337 : (Jvm.Cond.lays "Melodeon$Voice" "Melodeon$Voice" "band" "I") ∈ lw_all := lw_g (lw_at lw_m2 72 rfl) rfl
theorem q338 : (Jvm.Cond.soleField "Melodeon$Voice" "band") ∈ lw_all := lw_g (lw_at lw_m2 73 rfl) rfl
theorem q339 : (Jvm.Cond.lays "Melodeon$Voice" "Melodeon$Voice" "gate" "I") ∈ lw_all := lw_g (lw_at lw_m2 74 rfl) rfl
theorem q340 : (Jvm.Cond.soleField "Melodeon$Voice" "gate") ∈ lw_all := lw_g (lw_at lw_m2 75 rfl) rfl
theorem q341 : (Jvm.Cond.superclass "Melodeon$Voice" "java/lang/Object") ∈ lw_all := lw_g (lw_at lw_m2 76 rfl) rfl
theorem q426 : (Jvm.Cond.instanceMethod ({ cls := "Melodeon$Voice", name := "isFree", desc := "()Z" } : Jvm.MethodName)) ∈ lw_all := lw_g (lw_at lw_m2 161 rfl) rfl
theorem q427 : (Jvm.Cond.selects "Melodeon$Voice" ({ cls := "Melodeon$Voice", name := "isFree", desc := "()Z" } : Jvm.MethodName) ({ cls := "Melodeon$Voice", name := "isFree", desc := "()Z" } : Jvm.MethodName)) ∈ lw_all := lw_g (lw_at lw_m2 162 rfl) rfl
theorem q428 : (Jvm.Cond.code ({ cls := "Melodeon$Voice", name := "isFree", desc := "()Z" } : Jvm.MethodName) prog_5_method_3_code (1 : Nat) (Option.some Jvm.ClassFile.FieldType.boolean)) ∈ lw_all := lw_g (lw_at lw_m2 163 rfl) rfl
theorem q455 : (Jvm.Cond.instanceMethod ({ cls := "Melodeon$Voice", name := "end", desc := "()V" } : Jvm.MethodName)) ∈ lw_all := lw_g (lw_at lw_m2 190 rfl) rfl
theorem q456 : (Jvm.Cond.selects "Melodeon$Voice" ({ cls := "Melodeon$Voice", name := "end", desc := "()V" } : Jvm.MethodName) ({ cls := "Melodeon$Voice", name := "end", desc := "()V" } : Jvm.MethodName)) ∈ lw_all := lw_g (lw_at lw_m2 191 rfl) rfl
theorem q457 : (Jvm.Cond.code ({ cls := "Melodeon$Voice", name := "end", desc := "()V" } : Jvm.MethodName) prog_5_method_4_code (1 : Nat) (Option.none : Option Jvm.ClassFile.FieldType)) ∈ lw_all := lw_g (lw_at lw_m2 192 rfl) rfl
theorem q478 : (Jvm.Cond.instanceMethod ({ cls := "Melodeon$Voice", name := "begin", desc := "(IIIII)V" } : Jvm.MethodName)) ∈ lw_all := lw_g (lw_at lw_m2 213 rfl) rfl
theorem q479 : (Jvm.Cond.selects "Melodeon$Voice" ({ cls := "Melodeon$Voice", name := "begin", desc := "(IIIII)V" } : Jvm.MethodName) ({ cls := "Melodeon$Voice", name := "begin", desc := "(IIIII)V" } : Jvm.MethodName)) ∈ lw_all := lw_g (lw_at lw_m2 214 rfl) rfl
theorem q480 : (Jvm.Cond.code ({ cls := "Melodeon$Voice", name := "begin", desc := "(IIIII)V" } : Jvm.MethodName) prog_5_method_5_code (6 : Nat) (Option.none : Option Jvm.ClassFile.FieldType)) ∈ lw_all := lw_g (lw_at lw_m2 215 rfl) rfl
theorem q487 : (Jvm.Cond.instanceMethod ({ cls := "Melodeon$Voice", name := "grow", desc := "(LMelodeon$Instrument;)V" } : Jvm.MethodName)) ∈ lw_all := lw_g (lw_at lw_m2 222 rfl) rfl
theorem q488 : (Jvm.Cond.selects "Melodeon$Voice" ({ cls := "Melodeon$Voice", name := "grow", desc := "(LMelodeon$Instrument;)V" } : Jvm.MethodName) ({ cls := "Melodeon$Voice", name := "grow", desc := "(LMelodeon$Instrument;)V" } : Jvm.MethodName)) ∈ lw_all := lw_g (lw_at lw_m2 223 rfl) rfl
theorem q489 : (Jvm.Cond.code ({ cls := "Melodeon$Voice", name := "grow", desc := "(LMelodeon$Instrument;)V" } : Jvm.MethodName) prog_5_method_6_code (3 : Nat) (Option.none : Option Jvm.ClassFile.FieldType)) ∈ lw_all := lw_g (lw_at lw_m2 224 rfl) rfl
theorem q490 : (Jvm.Cond.constant "Melodeon$Voice" (51 : Nat) (1000000 : Int32)) ∈ lw_all := lw_g (lw_at lw_m2 225 rfl) rfl
theorem q491 : (Jvm.Cond.methodLink "Melodeon$Voice" (55 : Nat) ({ cls := "java/lang/Math", name := "min", desc := "(II)I" } : Jvm.MethodName)) ∈ lw_all := lw_g (lw_at lw_m2 226 rfl) rfl
theorem q492 : (Jvm.Cond.methodLink "Melodeon$Voice" (64 : Nat) ({ cls := "java/lang/Math", name := "max", desc := "(II)I" } : Jvm.MethodName)) ∈ lw_all := lw_g (lw_at lw_m2 227 rfl) rfl
theorem q509 : (Jvm.Cond.instanceMethod ({ cls := "Melodeon$Voice", name := "filtered", desc := "(ILMelodeon$Instrument;)I" } : Jvm.MethodName)) ∈ lw_all := lw_g (lw_at lw_m3 4 rfl) rfl
theorem q510 : (Jvm.Cond.selects "Melodeon$Voice" ({ cls := "Melodeon$Voice", name := "filtered", desc := "(ILMelodeon$Instrument;)I" } : Jvm.MethodName) ({ cls := "Melodeon$Voice", name := "filtered", desc := "(ILMelodeon$Instrument;)I" } : Jvm.MethodName)) ∈ lw_all := lw_g (lw_at lw_m3 5 rfl) rfl
theorem q511 : (Jvm.Cond.code ({ cls := "Melodeon$Voice", name := "filtered", desc := "(ILMelodeon$Instrument;)I" } : Jvm.MethodName) prog_5_method_7_code (4 : Nat) (Option.some Jvm.ClassFile.FieldType.int)) ∈ lw_all := lw_g (lw_at lw_m3 6 rfl) rfl
theorem q512 : (Jvm.Cond.methodLinkNest "Melodeon$Voice" (73 : Nat) ({ cls := "Melodeon", name := "kept", desc := "(II)I" } : Jvm.MethodName) "Melodeon") ∈ lw_tbl := lw_at lw_m3 7 rfl
theorem q884 : (Jvm.Cond.instanceMethod ({ cls := "Melodeon$Voice", name := "copy", desc := "()LMelodeon$Voice;" } : Jvm.MethodName)) ∈ lw_all := lw_g (lw_at lw_m4 139 rfl) rfl
theorem q885 : (Jvm.Cond.selects "Melodeon$Voice" ({ cls := "Melodeon$Voice", name := "copy", desc := "()LMelodeon$Voice;" } : Jvm.MethodName) ({ cls := "Melodeon$Voice", name := "copy", desc := "()LMelodeon$Voice;" } : Jvm.MethodName)) ∈ lw_all := lw_g (lw_at lw_m4 140 rfl) rfl
theorem q886 : (Jvm.Cond.code ({ cls := "Melodeon$Voice", name := "copy", desc := "()LMelodeon$Voice;" } : Jvm.MethodName) prog_5_method_2_code (2 : Nat) (Option.some (Jvm.ClassFile.FieldType.object "Melodeon$Voice"))) ∈ lw_all := lw_g (lw_at lw_m4 141 rfl) rfl
theorem q887 : (Jvm.Cond.classLink "Melodeon$Voice" (10 : Nat) "Melodeon$Voice") ∈ lw_all := lw_g (lw_at lw_m4 142 rfl) rfl
theorem q888 : (Jvm.Cond.methodLink "Melodeon$Voice" (15 : Nat) ({ cls := "Melodeon$Voice", name := "<init>", desc := "()V" } : Jvm.MethodName)) ∈ lw_all := lw_g (lw_at lw_m4 143 rfl) rfl
theorem q1330 : (Jvm.Cond.castable "Melodeon$Voice" "java/lang/Object") ∈ lw_tbl := lw_at lw_m6 105 rfl
theorem in_X5 : ∀ w ∈ wsX50, w ∈ lw_all := lw_in wsX50 [319, 321, 323, 325, 327, 329, 331, 333, 335, 337, 339] (by decide +kernel) (by decide +kernel)

/-! Melodeon$Engine -/
set_option maxRecDepth 100000
def RX2 : String := "Melodeon$Engine"
def TX2 : u_T := fun k => match k with
  | 0 => ("Melodeon$Engine", "voices", "Ljava/util/ArrayList;", true)
  | 1 => ("Melodeon$Engine", "row", "[I", true)
  | 2 => ("Melodeon$Engine", "head", "I", false)
  | 3 => ("Melodeon$Engine", "clock", "I", false)
  | 4 => ("Melodeon$Engine", "begun", "I", false)
  | 5 => ("Melodeon$Engine", "taken", "I", false)
  | 6 => ("Melodeon$Engine", "isPlaying", "Z", false)
  | 7 => ("Melodeon$Engine", "step", "I", false)
  | 8 => ("Melodeon$Engine", "gone", "I", false)
  | 9 => ("Melodeon$Engine", "stepLength", "I", false)
  | 10 => ("Melodeon$Engine", "isClipped", "Z", false)
  | _ => ("Melodeon$Engine", "this$0", "LMelodeon;", true)
def tyX2 : Nat → FieldType := fun k => match k with
  | 0 => .object "java/util/ArrayList"
  | 1 => .array .int
  | 2 => .int
  | 3 => .int
  | 4 => .int
  | 5 => .int
  | 6 => .boolean
  | 7 => .int
  | 8 => .int
  | 9 => .int
  | 10 => .boolean
  | _ => .object "Melodeon"
abbrev wsX20 : List Cond := u_ws RX2 TX2 12
theorem nmX2 : ∀ a, a < 12 → ∀ b, b < 12 → a ≠ b → (TX2 a).2.1 ≠ (TX2 b).2.1 := by decide +kernel
theorem tyX2_ok : ∀ k, k < 12 → parseFieldDescriptor (TX2 k).2.2.1 = some (tyX2 k) := by decide +kernel
abbrev cX2_init : ByteArray := prog_2_method_1_code
def yX2_init : MethodName := ⟨RX2, "<init>", "(LMelodeon;)V"⟩
def dkwX2_init_1 : List UInt8 := [188, 10, 181, 0, 22, 177]
abbrev dktX2_init_1 : List UInt8 := dkwX2_init_1 ++ []
def dkwX2_init_0 : List UInt8 := [42, 43, 181, 0, 3, 42, 183, 0, 9, 42, 187, 0, 15, 89, 183, 0, 17, 181, 0, 18, 42, 17, 0, 200]
abbrev dktX2_init_0 : List UInt8 := dkwX2_init_0 ++ dktX2_init_1
theorem dksX2_init_0 : cX2_init.data.toList.drop 0 = dktX2_init_0 := by decide +kernel
theorem dksX2_init_1 : cX2_init.data.toList.drop 24 = dktX2_init_1 := dk_seg dksX2_init_0 24 rfl rfl
theorem dX2_init_0 : decode cX2_init 0 = .ok (.aload_n 0, 1) := dk_42 (dk_at dksX2_init_0 0 rfl rfl)
theorem dX2_init_1 : decode cX2_init 1 = .ok (.aload_n 1, 1) := dk_43 (dk_at dksX2_init_0 1 rfl rfl)
theorem dX2_init_2 : decode cX2_init 2 = .ok (.putfield 3, 3) := dk_181 0 3 (dk_at dksX2_init_0 2 rfl rfl)
theorem dX2_init_5 : decode cX2_init 5 = .ok (.aload_n 0, 1) := dk_42 (dk_at dksX2_init_0 5 rfl rfl)
theorem dX2_init_6 : decode cX2_init 6 = .ok (.invokespecial 9, 3) := dk_183 0 9 (dk_at dksX2_init_0 6 rfl rfl)
theorem dX2_init_9 : decode cX2_init 9 = .ok (.aload_n 0, 1) := dk_42 (dk_at dksX2_init_0 9 rfl rfl)
theorem dX2_init_10 : decode cX2_init 10 = .ok (.new 15, 3) := dk_187 0 15 (dk_at dksX2_init_0 10 rfl rfl)
theorem dX2_init_13 : decode cX2_init 13 = .ok (.dup, 1) := dk_89 (dk_at dksX2_init_0 13 rfl rfl)
theorem dX2_init_14 : decode cX2_init 14 = .ok (.invokespecial 17, 3) := dk_183 0 17 (dk_at dksX2_init_0 14 rfl rfl)
theorem dX2_init_17 : decode cX2_init 17 = .ok (.putfield 18, 3) := dk_181 0 18 (dk_at dksX2_init_0 17 rfl rfl)
theorem dX2_init_20 : decode cX2_init 20 = .ok (.aload_n 0, 1) := dk_42 (dk_at dksX2_init_0 20 rfl rfl)
theorem dX2_init_21 : decode cX2_init 21 = .ok (.sipush 200, 3) := dk_17 0 200 (dk_at dksX2_init_0 21 rfl rfl)
theorem dX2_init_24 : decode cX2_init 24 = .ok (.newarray .int, 2) := dk_188_10 (dk_at dksX2_init_1 0 rfl rfl)
theorem dX2_init_26 : decode cX2_init 26 = .ok (.putfield 22, 3) := dk_181 0 22 (dk_at dksX2_init_1 2 rfl rfl)
theorem dX2_init_29 : decode cX2_init 29 = .ok (.return_, 1) := dk_177 (dk_at dksX2_init_1 5 rfl rfl)
abbrev cX2_sounding : ByteArray := prog_2_method_11_code
def yX2_sounding : MethodName := ⟨RX2, "sounding", "()I"⟩
def dkwX2_sounding_1 : List UInt8 := [153, 0, 7, 3, 167, 0, 4, 4, 96, 60, 132, 2, 1, 167, 255, 223, 27, 172]
abbrev dktX2_sounding_1 : List UInt8 := dkwX2_sounding_1 ++ []
def dkwX2_sounding_0 : List UInt8 := [3, 60, 3, 61, 28, 7, 162, 0, 34, 27, 42, 180, 0, 18, 28, 182, 0, 29, 192, 0, 33, 182, 0, 89]
abbrev dktX2_sounding_0 : List UInt8 := dkwX2_sounding_0 ++ dktX2_sounding_1
theorem dksX2_sounding_0 : cX2_sounding.data.toList.drop 0 = dktX2_sounding_0 := by decide +kernel
theorem dksX2_sounding_1 : cX2_sounding.data.toList.drop 24 = dktX2_sounding_1 := dk_seg dksX2_sounding_0 24 rfl rfl
theorem dX2_sounding_0 : decode cX2_sounding 0 = .ok (.iconst 0, 1) := dk_3 (dk_at dksX2_sounding_0 0 rfl rfl)
theorem dX2_sounding_1 : decode cX2_sounding 1 = .ok (.istore_n 1, 1) := dk_60 (dk_at dksX2_sounding_0 1 rfl rfl)
theorem dX2_sounding_2 : decode cX2_sounding 2 = .ok (.iconst 0, 1) := dk_3 (dk_at dksX2_sounding_0 2 rfl rfl)
theorem dX2_sounding_3 : decode cX2_sounding 3 = .ok (.istore_n 2, 1) := dk_61 (dk_at dksX2_sounding_0 3 rfl rfl)
theorem dX2_sounding_4 : decode cX2_sounding 4 = .ok (.iload_n 2, 1) := dk_28 (dk_at dksX2_sounding_0 4 rfl rfl)
theorem dX2_sounding_5 : decode cX2_sounding 5 = .ok (.iconst 4, 1) := dk_7 (dk_at dksX2_sounding_0 5 rfl rfl)
theorem dX2_sounding_6 : decode cX2_sounding 6 = .ok (.if_icmp .ge 34, 3) := dk_162 0 34 (dk_at dksX2_sounding_0 6 rfl rfl)
theorem dX2_sounding_9 : decode cX2_sounding 9 = .ok (.iload_n 1, 1) := dk_27 (dk_at dksX2_sounding_0 9 rfl rfl)
theorem dX2_sounding_10 : decode cX2_sounding 10 = .ok (.aload_n 0, 1) := dk_42 (dk_at dksX2_sounding_0 10 rfl rfl)
theorem dX2_sounding_11 : decode cX2_sounding 11 = .ok (.getfield 18, 3) := dk_180 0 18 (dk_at dksX2_sounding_0 11 rfl rfl)
theorem dX2_sounding_14 : decode cX2_sounding 14 = .ok (.iload_n 2, 1) := dk_28 (dk_at dksX2_sounding_0 14 rfl rfl)
theorem dX2_sounding_15 : decode cX2_sounding 15 = .ok (.invokevirtual 29, 3) := dk_182 0 29 (dk_at dksX2_sounding_0 15 rfl rfl)
theorem dX2_sounding_18 : decode cX2_sounding 18 = .ok (.checkcast 33, 3) := dk_192 0 33 (dk_at dksX2_sounding_0 18 rfl rfl)
theorem dX2_sounding_21 : decode cX2_sounding 21 = .ok (.invokevirtual 89, 3) := dk_182 0 89 (dk_at dksX2_sounding_0 21 rfl rfl)
theorem dX2_sounding_24 : decode cX2_sounding 24 = .ok (.ifCond .eq 7, 3) := dk_153 0 7 (dk_at dksX2_sounding_1 0 rfl rfl)
theorem dX2_sounding_27 : decode cX2_sounding 27 = .ok (.iconst 0, 1) := dk_3 (dk_at dksX2_sounding_1 3 rfl rfl)
theorem dX2_sounding_28 : decode cX2_sounding 28 = .ok (.goto 4, 3) := dk_167 0 4 (dk_at dksX2_sounding_1 4 rfl rfl)
theorem dX2_sounding_31 : decode cX2_sounding 31 = .ok (.iconst 1, 1) := dk_4 (dk_at dksX2_sounding_1 7 rfl rfl)
theorem dX2_sounding_32 : decode cX2_sounding 32 = .ok (.iadd, 1) := dk_96 (dk_at dksX2_sounding_1 8 rfl rfl)
theorem dX2_sounding_33 : decode cX2_sounding 33 = .ok (.istore_n 1, 1) := dk_60 (dk_at dksX2_sounding_1 9 rfl rfl)
theorem dX2_sounding_34 : decode cX2_sounding 34 = .ok (.iinc 2 1, 3) := dk_132 2 1 (dk_at dksX2_sounding_1 10 rfl rfl)
theorem dX2_sounding_37 : decode cX2_sounding 37 = .ok (.goto (-33), 3) := dk_167 255 223 (dk_at dksX2_sounding_1 13 rfl rfl)
theorem dX2_sounding_40 : decode cX2_sounding 40 = .ok (.iload_n 1, 1) := dk_27 (dk_at dksX2_sounding_1 16 rfl rfl)
theorem dX2_sounding_41 : decode cX2_sounding 41 = .ok (.ireturn, 1) := dk_172 (dk_at dksX2_sounding_1 17 rfl rfl)
abbrev cX2_sample : ByteArray := prog_2_method_10_code
def yX2_sample : MethodName := ⟨RX2, "sample", "()I"⟩
def dkwX2_sample_8 : List UInt8 := [181, 0, 214, 29, 17, 127, 255, 184, 0, 208, 172]
abbrev dktX2_sample_8 : List UInt8 := dkwX2_sample_8 ++ []
def dkwX2_sample_7 : List UInt8 := [181, 0, 53, 42, 29, 17, 127, 255, 163, 0, 10, 29, 17, 128, 1, 162, 0, 7, 4, 167, 0, 4, 3]
abbrev dktX2_sample_7 : List UInt8 := dkwX2_sample_7 ++ dktX2_sample_8
def dkwX2_sample_6 : List UInt8 := [28, 21, 4, 42, 180, 0, 3, 180, 0, 211, 104, 17, 1, 0, 108, 96, 62, 42, 89, 180, 0, 53, 4, 96]
abbrev dktX2_sample_6 : List UInt8 := dkwX2_sample_6 ++ dktX2_sample_7
def dkwX2_sample_5 : List UInt8 := [18, 207, 184, 0, 208, 79, 42, 42, 180, 0, 49, 4, 96, 42, 180, 0, 3, 180, 0, 201, 112, 181, 0, 49]
abbrev dktX2_sample_5 : List UInt8 := dkwX2_sample_5 ++ dktX2_sample_6
def dkwX2_sample_4 : List UInt8 := [180, 0, 22, 42, 180, 0, 49, 28, 21, 4, 42, 180, 0, 3, 180, 0, 204, 104, 17, 1, 0, 108, 96]
abbrev dktX2_sample_4 : List UInt8 := dkwX2_sample_4 ++ dktX2_sample_5
def dkwX2_sample_3 : List UInt8 := [42, 180, 0, 3, 180, 0, 201, 158, 0, 79, 42, 180, 0, 22, 42, 180, 0, 49, 46, 54, 4, 42]
abbrev dktX2_sample_3 : List UInt8 := dkwX2_sample_3 ++ dktX2_sample_4
def dkwX2_sample_2 : List UInt8 := [181, 0, 104, 132, 2, 1, 167, 255, 211, 27, 42, 180, 0, 3, 180, 0, 198, 104, 16, 16, 108, 61, 28, 62]
abbrev dktX2_sample_2 : List UInt8 := dkwX2_sample_2 ++ dktX2_sample_3
def dkwX2_sample_1 : List UInt8 := [78, 27, 42, 45, 182, 0, 195, 96, 60, 45, 180, 0, 104, 158, 0, 13, 45, 89, 180, 0, 104, 4, 100]
abbrev dktX2_sample_1 : List UInt8 := dkwX2_sample_1 ++ dktX2_sample_2
def dkwX2_sample_0 : List UInt8 := [42, 182, 0, 192, 3, 60, 3, 61, 28, 7, 162, 0, 46, 42, 180, 0, 18, 28, 182, 0, 29, 192, 0, 33]
abbrev dktX2_sample_0 : List UInt8 := dkwX2_sample_0 ++ dktX2_sample_1
theorem dksX2_sample_0 : cX2_sample.data.toList.drop 0 = dktX2_sample_0 := by decide +kernel
theorem dksX2_sample_1 : cX2_sample.data.toList.drop 24 = dktX2_sample_1 := dk_seg dksX2_sample_0 24 rfl rfl
theorem dksX2_sample_2 : cX2_sample.data.toList.drop 47 = dktX2_sample_2 := dk_seg dksX2_sample_1 23 rfl rfl
theorem dksX2_sample_3 : cX2_sample.data.toList.drop 71 = dktX2_sample_3 := dk_seg dksX2_sample_2 24 rfl rfl
theorem dksX2_sample_4 : cX2_sample.data.toList.drop 93 = dktX2_sample_4 := dk_seg dksX2_sample_3 22 rfl rfl
theorem dksX2_sample_5 : cX2_sample.data.toList.drop 116 = dktX2_sample_5 := dk_seg dksX2_sample_4 23 rfl rfl
theorem dksX2_sample_6 : cX2_sample.data.toList.drop 140 = dktX2_sample_6 := dk_seg dksX2_sample_5 24 rfl rfl
theorem dksX2_sample_7 : cX2_sample.data.toList.drop 164 = dktX2_sample_7 := dk_seg dksX2_sample_6 24 rfl rfl
theorem dksX2_sample_8 : cX2_sample.data.toList.drop 187 = dktX2_sample_8 := dk_seg dksX2_sample_7 23 rfl rfl
theorem dX2_sample_0 : decode cX2_sample 0 = .ok (.aload_n 0, 1) := dk_42 (dk_at dksX2_sample_0 0 rfl rfl)
theorem dX2_sample_1 : decode cX2_sample 1 = .ok (.invokevirtual 192, 3) := dk_182 0 192 (dk_at dksX2_sample_0 1 rfl rfl)
theorem dX2_sample_4 : decode cX2_sample 4 = .ok (.iconst 0, 1) := dk_3 (dk_at dksX2_sample_0 4 rfl rfl)
theorem dX2_sample_5 : decode cX2_sample 5 = .ok (.istore_n 1, 1) := dk_60 (dk_at dksX2_sample_0 5 rfl rfl)
theorem dX2_sample_6 : decode cX2_sample 6 = .ok (.iconst 0, 1) := dk_3 (dk_at dksX2_sample_0 6 rfl rfl)
theorem dX2_sample_7 : decode cX2_sample 7 = .ok (.istore_n 2, 1) := dk_61 (dk_at dksX2_sample_0 7 rfl rfl)
theorem dX2_sample_8 : decode cX2_sample 8 = .ok (.iload_n 2, 1) := dk_28 (dk_at dksX2_sample_0 8 rfl rfl)
theorem dX2_sample_9 : decode cX2_sample 9 = .ok (.iconst 4, 1) := dk_7 (dk_at dksX2_sample_0 9 rfl rfl)
theorem dX2_sample_10 : decode cX2_sample 10 = .ok (.if_icmp .ge 46, 3) := dk_162 0 46 (dk_at dksX2_sample_0 10 rfl rfl)
theorem dX2_sample_13 : decode cX2_sample 13 = .ok (.aload_n 0, 1) := dk_42 (dk_at dksX2_sample_0 13 rfl rfl)
theorem dX2_sample_14 : decode cX2_sample 14 = .ok (.getfield 18, 3) := dk_180 0 18 (dk_at dksX2_sample_0 14 rfl rfl)
theorem dX2_sample_17 : decode cX2_sample 17 = .ok (.iload_n 2, 1) := dk_28 (dk_at dksX2_sample_0 17 rfl rfl)
theorem dX2_sample_18 : decode cX2_sample 18 = .ok (.invokevirtual 29, 3) := dk_182 0 29 (dk_at dksX2_sample_0 18 rfl rfl)
theorem dX2_sample_21 : decode cX2_sample 21 = .ok (.checkcast 33, 3) := dk_192 0 33 (dk_at dksX2_sample_0 21 rfl rfl)
theorem dX2_sample_24 : decode cX2_sample 24 = .ok (.astore_n 3, 1) := dk_78 (dk_at dksX2_sample_1 0 rfl rfl)
theorem dX2_sample_25 : decode cX2_sample 25 = .ok (.iload_n 1, 1) := dk_27 (dk_at dksX2_sample_1 1 rfl rfl)
theorem dX2_sample_26 : decode cX2_sample 26 = .ok (.aload_n 0, 1) := dk_42 (dk_at dksX2_sample_1 2 rfl rfl)
theorem dX2_sample_27 : decode cX2_sample 27 = .ok (.aload_n 3, 1) := dk_45 (dk_at dksX2_sample_1 3 rfl rfl)
theorem dX2_sample_28 : decode cX2_sample 28 = .ok (.invokevirtual 195, 3) := dk_182 0 195 (dk_at dksX2_sample_1 4 rfl rfl)
theorem dX2_sample_31 : decode cX2_sample 31 = .ok (.iadd, 1) := dk_96 (dk_at dksX2_sample_1 7 rfl rfl)
theorem dX2_sample_32 : decode cX2_sample 32 = .ok (.istore_n 1, 1) := dk_60 (dk_at dksX2_sample_1 8 rfl rfl)
theorem dX2_sample_33 : decode cX2_sample 33 = .ok (.aload_n 3, 1) := dk_45 (dk_at dksX2_sample_1 9 rfl rfl)
theorem dX2_sample_34 : decode cX2_sample 34 = .ok (.getfield 104, 3) := dk_180 0 104 (dk_at dksX2_sample_1 10 rfl rfl)
theorem dX2_sample_37 : decode cX2_sample 37 = .ok (.ifCond .le 13, 3) := dk_158 0 13 (dk_at dksX2_sample_1 13 rfl rfl)
theorem dX2_sample_40 : decode cX2_sample 40 = .ok (.aload_n 3, 1) := dk_45 (dk_at dksX2_sample_1 16 rfl rfl)
theorem dX2_sample_41 : decode cX2_sample 41 = .ok (.dup, 1) := dk_89 (dk_at dksX2_sample_1 17 rfl rfl)
theorem dX2_sample_42 : decode cX2_sample 42 = .ok (.getfield 104, 3) := dk_180 0 104 (dk_at dksX2_sample_1 18 rfl rfl)
theorem dX2_sample_45 : decode cX2_sample 45 = .ok (.iconst 1, 1) := dk_4 (dk_at dksX2_sample_1 21 rfl rfl)
theorem dX2_sample_46 : decode cX2_sample 46 = .ok (.isub, 1) := dk_100 (dk_at dksX2_sample_1 22 rfl rfl)
theorem dX2_sample_47 : decode cX2_sample 47 = .ok (.putfield 104, 3) := dk_181 0 104 (dk_at dksX2_sample_2 0 rfl rfl)
theorem dX2_sample_50 : decode cX2_sample 50 = .ok (.iinc 2 1, 3) := dk_132 2 1 (dk_at dksX2_sample_2 3 rfl rfl)
theorem dX2_sample_53 : decode cX2_sample 53 = .ok (.goto (-45), 3) := dk_167 255 211 (dk_at dksX2_sample_2 6 rfl rfl)
theorem dX2_sample_56 : decode cX2_sample 56 = .ok (.iload_n 1, 1) := dk_27 (dk_at dksX2_sample_2 9 rfl rfl)
theorem dX2_sample_57 : decode cX2_sample 57 = .ok (.aload_n 0, 1) := dk_42 (dk_at dksX2_sample_2 10 rfl rfl)
theorem dX2_sample_58 : decode cX2_sample 58 = .ok (.getfield 3, 3) := dk_180 0 3 (dk_at dksX2_sample_2 11 rfl rfl)
theorem dX2_sample_61 : decode cX2_sample 61 = .ok (.getfield 198, 3) := dk_180 0 198 (dk_at dksX2_sample_2 14 rfl rfl)
theorem dX2_sample_64 : decode cX2_sample 64 = .ok (.imul, 1) := dk_104 (dk_at dksX2_sample_2 17 rfl rfl)
theorem dX2_sample_65 : decode cX2_sample 65 = .ok (.bipush 16, 2) := dk_16 16 (dk_at dksX2_sample_2 18 rfl rfl)
theorem dX2_sample_67 : decode cX2_sample 67 = .ok (.idiv, 1) := dk_108 (dk_at dksX2_sample_2 20 rfl rfl)
theorem dX2_sample_68 : decode cX2_sample 68 = .ok (.istore_n 2, 1) := dk_61 (dk_at dksX2_sample_2 21 rfl rfl)
theorem dX2_sample_69 : decode cX2_sample 69 = .ok (.iload_n 2, 1) := dk_28 (dk_at dksX2_sample_2 22 rfl rfl)
theorem dX2_sample_70 : decode cX2_sample 70 = .ok (.istore_n 3, 1) := dk_62 (dk_at dksX2_sample_2 23 rfl rfl)
theorem dX2_sample_71 : decode cX2_sample 71 = .ok (.aload_n 0, 1) := dk_42 (dk_at dksX2_sample_3 0 rfl rfl)
theorem dX2_sample_72 : decode cX2_sample 72 = .ok (.getfield 3, 3) := dk_180 0 3 (dk_at dksX2_sample_3 1 rfl rfl)
theorem dX2_sample_75 : decode cX2_sample 75 = .ok (.getfield 201, 3) := dk_180 0 201 (dk_at dksX2_sample_3 4 rfl rfl)
theorem dX2_sample_78 : decode cX2_sample 78 = .ok (.ifCond .le 79, 3) := dk_158 0 79 (dk_at dksX2_sample_3 7 rfl rfl)
theorem dX2_sample_81 : decode cX2_sample 81 = .ok (.aload_n 0, 1) := dk_42 (dk_at dksX2_sample_3 10 rfl rfl)
theorem dX2_sample_82 : decode cX2_sample 82 = .ok (.getfield 22, 3) := dk_180 0 22 (dk_at dksX2_sample_3 11 rfl rfl)
theorem dX2_sample_85 : decode cX2_sample 85 = .ok (.aload_n 0, 1) := dk_42 (dk_at dksX2_sample_3 14 rfl rfl)
theorem dX2_sample_86 : decode cX2_sample 86 = .ok (.getfield 49, 3) := dk_180 0 49 (dk_at dksX2_sample_3 15 rfl rfl)
theorem dX2_sample_89 : decode cX2_sample 89 = .ok (.iaload, 1) := dk_46 (dk_at dksX2_sample_3 18 rfl rfl)
theorem dX2_sample_90 : decode cX2_sample 90 = .ok (.istore 4, 2) := dk_54 4 (dk_at dksX2_sample_3 19 rfl rfl)
theorem dX2_sample_92 : decode cX2_sample 92 = .ok (.aload_n 0, 1) := dk_42 (dk_at dksX2_sample_3 21 rfl rfl)
theorem dX2_sample_93 : decode cX2_sample 93 = .ok (.getfield 22, 3) := dk_180 0 22 (dk_at dksX2_sample_4 0 rfl rfl)
theorem dX2_sample_96 : decode cX2_sample 96 = .ok (.aload_n 0, 1) := dk_42 (dk_at dksX2_sample_4 3 rfl rfl)
theorem dX2_sample_97 : decode cX2_sample 97 = .ok (.getfield 49, 3) := dk_180 0 49 (dk_at dksX2_sample_4 4 rfl rfl)
theorem dX2_sample_100 : decode cX2_sample 100 = .ok (.iload_n 2, 1) := dk_28 (dk_at dksX2_sample_4 7 rfl rfl)
theorem dX2_sample_101 : decode cX2_sample 101 = .ok (.iload 4, 2) := dk_21 4 (dk_at dksX2_sample_4 8 rfl rfl)
theorem dX2_sample_103 : decode cX2_sample 103 = .ok (.aload_n 0, 1) := dk_42 (dk_at dksX2_sample_4 10 rfl rfl)
theorem dX2_sample_104 : decode cX2_sample 104 = .ok (.getfield 3, 3) := dk_180 0 3 (dk_at dksX2_sample_4 11 rfl rfl)
theorem dX2_sample_107 : decode cX2_sample 107 = .ok (.getfield 204, 3) := dk_180 0 204 (dk_at dksX2_sample_4 14 rfl rfl)
theorem dX2_sample_110 : decode cX2_sample 110 = .ok (.imul, 1) := dk_104 (dk_at dksX2_sample_4 17 rfl rfl)
theorem dX2_sample_111 : decode cX2_sample 111 = .ok (.sipush 256, 3) := dk_17 1 0 (dk_at dksX2_sample_4 18 rfl rfl)
theorem dX2_sample_114 : decode cX2_sample 114 = .ok (.idiv, 1) := dk_108 (dk_at dksX2_sample_4 21 rfl rfl)
theorem dX2_sample_115 : decode cX2_sample 115 = .ok (.iadd, 1) := dk_96 (dk_at dksX2_sample_4 22 rfl rfl)
theorem dX2_sample_116 : decode cX2_sample 116 = .ok (.ldc 207, 2) := dk_18 207 (dk_at dksX2_sample_5 0 rfl rfl)
theorem dX2_sample_118 : decode cX2_sample 118 = .ok (.invokestatic 208, 3) := dk_184 0 208 (dk_at dksX2_sample_5 2 rfl rfl)
theorem dX2_sample_121 : decode cX2_sample 121 = .ok (.iastore, 1) := dk_79 (dk_at dksX2_sample_5 5 rfl rfl)
theorem dX2_sample_122 : decode cX2_sample 122 = .ok (.aload_n 0, 1) := dk_42 (dk_at dksX2_sample_5 6 rfl rfl)
theorem dX2_sample_123 : decode cX2_sample 123 = .ok (.aload_n 0, 1) := dk_42 (dk_at dksX2_sample_5 7 rfl rfl)
theorem dX2_sample_124 : decode cX2_sample 124 = .ok (.getfield 49, 3) := dk_180 0 49 (dk_at dksX2_sample_5 8 rfl rfl)
theorem dX2_sample_127 : decode cX2_sample 127 = .ok (.iconst 1, 1) := dk_4 (dk_at dksX2_sample_5 11 rfl rfl)
theorem dX2_sample_128 : decode cX2_sample 128 = .ok (.iadd, 1) := dk_96 (dk_at dksX2_sample_5 12 rfl rfl)
theorem dX2_sample_129 : decode cX2_sample 129 = .ok (.aload_n 0, 1) := dk_42 (dk_at dksX2_sample_5 13 rfl rfl)
theorem dX2_sample_130 : decode cX2_sample 130 = .ok (.getfield 3, 3) := dk_180 0 3 (dk_at dksX2_sample_5 14 rfl rfl)
theorem dX2_sample_133 : decode cX2_sample 133 = .ok (.getfield 201, 3) := dk_180 0 201 (dk_at dksX2_sample_5 17 rfl rfl)
theorem dX2_sample_136 : decode cX2_sample 136 = .ok (.irem, 1) := dk_112 (dk_at dksX2_sample_5 20 rfl rfl)
theorem dX2_sample_137 : decode cX2_sample 137 = .ok (.putfield 49, 3) := dk_181 0 49 (dk_at dksX2_sample_5 21 rfl rfl)
theorem dX2_sample_140 : decode cX2_sample 140 = .ok (.iload_n 2, 1) := dk_28 (dk_at dksX2_sample_6 0 rfl rfl)
theorem dX2_sample_141 : decode cX2_sample 141 = .ok (.iload 4, 2) := dk_21 4 (dk_at dksX2_sample_6 1 rfl rfl)
theorem dX2_sample_143 : decode cX2_sample 143 = .ok (.aload_n 0, 1) := dk_42 (dk_at dksX2_sample_6 3 rfl rfl)
theorem dX2_sample_144 : decode cX2_sample 144 = .ok (.getfield 3, 3) := dk_180 0 3 (dk_at dksX2_sample_6 4 rfl rfl)
theorem dX2_sample_147 : decode cX2_sample 147 = .ok (.getfield 211, 3) := dk_180 0 211 (dk_at dksX2_sample_6 7 rfl rfl)
theorem dX2_sample_150 : decode cX2_sample 150 = .ok (.imul, 1) := dk_104 (dk_at dksX2_sample_6 10 rfl rfl)
theorem dX2_sample_151 : decode cX2_sample 151 = .ok (.sipush 256, 3) := dk_17 1 0 (dk_at dksX2_sample_6 11 rfl rfl)
theorem dX2_sample_154 : decode cX2_sample 154 = .ok (.idiv, 1) := dk_108 (dk_at dksX2_sample_6 14 rfl rfl)
theorem dX2_sample_155 : decode cX2_sample 155 = .ok (.iadd, 1) := dk_96 (dk_at dksX2_sample_6 15 rfl rfl)
theorem dX2_sample_156 : decode cX2_sample 156 = .ok (.istore_n 3, 1) := dk_62 (dk_at dksX2_sample_6 16 rfl rfl)
theorem dX2_sample_157 : decode cX2_sample 157 = .ok (.aload_n 0, 1) := dk_42 (dk_at dksX2_sample_6 17 rfl rfl)
theorem dX2_sample_158 : decode cX2_sample 158 = .ok (.dup, 1) := dk_89 (dk_at dksX2_sample_6 18 rfl rfl)
theorem dX2_sample_159 : decode cX2_sample 159 = .ok (.getfield 53, 3) := dk_180 0 53 (dk_at dksX2_sample_6 19 rfl rfl)
theorem dX2_sample_162 : decode cX2_sample 162 = .ok (.iconst 1, 1) := dk_4 (dk_at dksX2_sample_6 22 rfl rfl)
theorem dX2_sample_163 : decode cX2_sample 163 = .ok (.iadd, 1) := dk_96 (dk_at dksX2_sample_6 23 rfl rfl)
theorem dX2_sample_164 : decode cX2_sample 164 = .ok (.putfield 53, 3) := dk_181 0 53 (dk_at dksX2_sample_7 0 rfl rfl)
theorem dX2_sample_167 : decode cX2_sample 167 = .ok (.aload_n 0, 1) := dk_42 (dk_at dksX2_sample_7 3 rfl rfl)
theorem dX2_sample_168 : decode cX2_sample 168 = .ok (.iload_n 3, 1) := dk_29 (dk_at dksX2_sample_7 4 rfl rfl)
theorem dX2_sample_169 : decode cX2_sample 169 = .ok (.sipush 32767, 3) := dk_17 127 255 (dk_at dksX2_sample_7 5 rfl rfl)
theorem dX2_sample_172 : decode cX2_sample 172 = .ok (.if_icmp .gt 10, 3) := dk_163 0 10 (dk_at dksX2_sample_7 8 rfl rfl)
theorem dX2_sample_175 : decode cX2_sample 175 = .ok (.iload_n 3, 1) := dk_29 (dk_at dksX2_sample_7 11 rfl rfl)
theorem dX2_sample_176 : decode cX2_sample 176 = .ok (.sipush (-32767), 3) := dk_17 128 1 (dk_at dksX2_sample_7 12 rfl rfl)
theorem dX2_sample_179 : decode cX2_sample 179 = .ok (.if_icmp .ge 7, 3) := dk_162 0 7 (dk_at dksX2_sample_7 15 rfl rfl)
theorem dX2_sample_182 : decode cX2_sample 182 = .ok (.iconst 1, 1) := dk_4 (dk_at dksX2_sample_7 18 rfl rfl)
theorem dX2_sample_183 : decode cX2_sample 183 = .ok (.goto 4, 3) := dk_167 0 4 (dk_at dksX2_sample_7 19 rfl rfl)
theorem dX2_sample_186 : decode cX2_sample 186 = .ok (.iconst 0, 1) := dk_3 (dk_at dksX2_sample_7 22 rfl rfl)
theorem dX2_sample_187 : decode cX2_sample 187 = .ok (.putfield 214, 3) := dk_181 0 214 (dk_at dksX2_sample_8 0 rfl rfl)
theorem dX2_sample_190 : decode cX2_sample 190 = .ok (.iload_n 3, 1) := dk_29 (dk_at dksX2_sample_8 3 rfl rfl)
theorem dX2_sample_191 : decode cX2_sample 191 = .ok (.sipush 32767, 3) := dk_17 127 255 (dk_at dksX2_sample_8 4 rfl rfl)
theorem dX2_sample_194 : decode cX2_sample 194 = .ok (.invokestatic 208, 3) := dk_184 0 208 (dk_at dksX2_sample_8 7 rfl rfl)
theorem dX2_sample_197 : decode cX2_sample 197 = .ok (.ireturn, 1) := dk_172 (dk_at dksX2_sample_8 10 rfl rfl)
abbrev cX2_track : ByteArray := prog_2_method_7_code
def yX2_track : MethodName := ⟨RX2, "track", "()V"⟩
def dkwX2_track_4 : List UInt8 := [180, 0, 66, 4, 96, 16, 8, 112, 181, 0, 66, 177]
abbrev dktX2_track_4 : List UInt8 := dkwX2_track_4 ++ []
def dkwX2_track_3 : List UInt8 := [96, 181, 0, 69, 42, 180, 0, 69, 42, 180, 0, 72, 162, 0, 4, 177, 42, 3, 181, 0, 69, 42, 42]
abbrev dktX2_track_3 : List UInt8 := dkwX2_track_3 ++ dktX2_track_4
def dkwX2_track_2 : List UInt8 := [180, 0, 62, 154, 0, 4, 177, 42, 180, 0, 69, 154, 0, 7, 42, 182, 0, 110, 42, 89, 180, 0, 69, 4]
abbrev dktX2_track_2 : List UInt8 := dkwX2_track_2 ++ dktX2_track_3
def dkwX2_track_1 : List UInt8 := [153, 0, 6, 167, 0, 12, 44, 182, 0, 107, 44, 2, 181, 0, 104, 132, 1, 1, 167, 255, 217, 42]
abbrev dktX2_track_1 : List UInt8 := dkwX2_track_1 ++ dktX2_track_2
def dkwX2_track_0 : List UInt8 := [3, 60, 27, 7, 162, 0, 40, 42, 180, 0, 18, 27, 182, 0, 29, 192, 0, 33, 77, 44, 180, 0, 104]
abbrev dktX2_track_0 : List UInt8 := dkwX2_track_0 ++ dktX2_track_1
theorem dksX2_track_0 : cX2_track.data.toList.drop 0 = dktX2_track_0 := by decide +kernel
theorem dksX2_track_1 : cX2_track.data.toList.drop 23 = dktX2_track_1 := dk_seg dksX2_track_0 23 rfl rfl
theorem dksX2_track_2 : cX2_track.data.toList.drop 45 = dktX2_track_2 := dk_seg dksX2_track_1 22 rfl rfl
theorem dksX2_track_3 : cX2_track.data.toList.drop 69 = dktX2_track_3 := dk_seg dksX2_track_2 24 rfl rfl
theorem dksX2_track_4 : cX2_track.data.toList.drop 92 = dktX2_track_4 := dk_seg dksX2_track_3 23 rfl rfl
theorem dX2_track_0 : decode cX2_track 0 = .ok (.iconst 0, 1) := dk_3 (dk_at dksX2_track_0 0 rfl rfl)
theorem dX2_track_1 : decode cX2_track 1 = .ok (.istore_n 1, 1) := dk_60 (dk_at dksX2_track_0 1 rfl rfl)
theorem dX2_track_2 : decode cX2_track 2 = .ok (.iload_n 1, 1) := dk_27 (dk_at dksX2_track_0 2 rfl rfl)
theorem dX2_track_3 : decode cX2_track 3 = .ok (.iconst 4, 1) := dk_7 (dk_at dksX2_track_0 3 rfl rfl)
theorem dX2_track_4 : decode cX2_track 4 = .ok (.if_icmp .ge 40, 3) := dk_162 0 40 (dk_at dksX2_track_0 4 rfl rfl)
theorem dX2_track_7 : decode cX2_track 7 = .ok (.aload_n 0, 1) := dk_42 (dk_at dksX2_track_0 7 rfl rfl)
theorem dX2_track_8 : decode cX2_track 8 = .ok (.getfield 18, 3) := dk_180 0 18 (dk_at dksX2_track_0 8 rfl rfl)
theorem dX2_track_11 : decode cX2_track 11 = .ok (.iload_n 1, 1) := dk_27 (dk_at dksX2_track_0 11 rfl rfl)
theorem dX2_track_12 : decode cX2_track 12 = .ok (.invokevirtual 29, 3) := dk_182 0 29 (dk_at dksX2_track_0 12 rfl rfl)
theorem dX2_track_15 : decode cX2_track 15 = .ok (.checkcast 33, 3) := dk_192 0 33 (dk_at dksX2_track_0 15 rfl rfl)
theorem dX2_track_18 : decode cX2_track 18 = .ok (.astore_n 2, 1) := dk_77 (dk_at dksX2_track_0 18 rfl rfl)
theorem dX2_track_19 : decode cX2_track 19 = .ok (.aload_n 2, 1) := dk_44 (dk_at dksX2_track_0 19 rfl rfl)
theorem dX2_track_20 : decode cX2_track 20 = .ok (.getfield 104, 3) := dk_180 0 104 (dk_at dksX2_track_0 20 rfl rfl)
theorem dX2_track_23 : decode cX2_track 23 = .ok (.ifCond .eq 6, 3) := dk_153 0 6 (dk_at dksX2_track_1 0 rfl rfl)
theorem dX2_track_26 : decode cX2_track 26 = .ok (.goto 12, 3) := dk_167 0 12 (dk_at dksX2_track_1 3 rfl rfl)
theorem dX2_track_29 : decode cX2_track 29 = .ok (.aload_n 2, 1) := dk_44 (dk_at dksX2_track_1 6 rfl rfl)
theorem dX2_track_30 : decode cX2_track 30 = .ok (.invokevirtual 107, 3) := dk_182 0 107 (dk_at dksX2_track_1 7 rfl rfl)
theorem dX2_track_33 : decode cX2_track 33 = .ok (.aload_n 2, 1) := dk_44 (dk_at dksX2_track_1 10 rfl rfl)
theorem dX2_track_34 : decode cX2_track 34 = .ok (.iconst (-1), 1) := dk_2 (dk_at dksX2_track_1 11 rfl rfl)
theorem dX2_track_35 : decode cX2_track 35 = .ok (.putfield 104, 3) := dk_181 0 104 (dk_at dksX2_track_1 12 rfl rfl)
theorem dX2_track_38 : decode cX2_track 38 = .ok (.iinc 1 1, 3) := dk_132 1 1 (dk_at dksX2_track_1 15 rfl rfl)
theorem dX2_track_41 : decode cX2_track 41 = .ok (.goto (-39), 3) := dk_167 255 217 (dk_at dksX2_track_1 18 rfl rfl)
theorem dX2_track_44 : decode cX2_track 44 = .ok (.aload_n 0, 1) := dk_42 (dk_at dksX2_track_1 21 rfl rfl)
theorem dX2_track_45 : decode cX2_track 45 = .ok (.getfield 62, 3) := dk_180 0 62 (dk_at dksX2_track_2 0 rfl rfl)
theorem dX2_track_48 : decode cX2_track 48 = .ok (.ifCond .ne 4, 3) := dk_154 0 4 (dk_at dksX2_track_2 3 rfl rfl)
theorem dX2_track_51 : decode cX2_track 51 = .ok (.return_, 1) := dk_177 (dk_at dksX2_track_2 6 rfl rfl)
theorem dX2_track_52 : decode cX2_track 52 = .ok (.aload_n 0, 1) := dk_42 (dk_at dksX2_track_2 7 rfl rfl)
theorem dX2_track_53 : decode cX2_track 53 = .ok (.getfield 69, 3) := dk_180 0 69 (dk_at dksX2_track_2 8 rfl rfl)
theorem dX2_track_56 : decode cX2_track 56 = .ok (.ifCond .ne 7, 3) := dk_154 0 7 (dk_at dksX2_track_2 11 rfl rfl)
theorem dX2_track_59 : decode cX2_track 59 = .ok (.aload_n 0, 1) := dk_42 (dk_at dksX2_track_2 14 rfl rfl)
theorem dX2_track_60 : decode cX2_track 60 = .ok (.invokevirtual 110, 3) := dk_182 0 110 (dk_at dksX2_track_2 15 rfl rfl)
theorem dX2_track_63 : decode cX2_track 63 = .ok (.aload_n 0, 1) := dk_42 (dk_at dksX2_track_2 18 rfl rfl)
theorem dX2_track_64 : decode cX2_track 64 = .ok (.dup, 1) := dk_89 (dk_at dksX2_track_2 19 rfl rfl)
theorem dX2_track_65 : decode cX2_track 65 = .ok (.getfield 69, 3) := dk_180 0 69 (dk_at dksX2_track_2 20 rfl rfl)
theorem dX2_track_68 : decode cX2_track 68 = .ok (.iconst 1, 1) := dk_4 (dk_at dksX2_track_2 23 rfl rfl)
theorem dX2_track_69 : decode cX2_track 69 = .ok (.iadd, 1) := dk_96 (dk_at dksX2_track_3 0 rfl rfl)
theorem dX2_track_70 : decode cX2_track 70 = .ok (.putfield 69, 3) := dk_181 0 69 (dk_at dksX2_track_3 1 rfl rfl)
theorem dX2_track_73 : decode cX2_track 73 = .ok (.aload_n 0, 1) := dk_42 (dk_at dksX2_track_3 4 rfl rfl)
theorem dX2_track_74 : decode cX2_track 74 = .ok (.getfield 69, 3) := dk_180 0 69 (dk_at dksX2_track_3 5 rfl rfl)
theorem dX2_track_77 : decode cX2_track 77 = .ok (.aload_n 0, 1) := dk_42 (dk_at dksX2_track_3 8 rfl rfl)
theorem dX2_track_78 : decode cX2_track 78 = .ok (.getfield 72, 3) := dk_180 0 72 (dk_at dksX2_track_3 9 rfl rfl)
theorem dX2_track_81 : decode cX2_track 81 = .ok (.if_icmp .ge 4, 3) := dk_162 0 4 (dk_at dksX2_track_3 12 rfl rfl)
theorem dX2_track_84 : decode cX2_track 84 = .ok (.return_, 1) := dk_177 (dk_at dksX2_track_3 15 rfl rfl)
theorem dX2_track_85 : decode cX2_track 85 = .ok (.aload_n 0, 1) := dk_42 (dk_at dksX2_track_3 16 rfl rfl)
theorem dX2_track_86 : decode cX2_track 86 = .ok (.iconst 0, 1) := dk_3 (dk_at dksX2_track_3 17 rfl rfl)
theorem dX2_track_87 : decode cX2_track 87 = .ok (.putfield 69, 3) := dk_181 0 69 (dk_at dksX2_track_3 18 rfl rfl)
theorem dX2_track_90 : decode cX2_track 90 = .ok (.aload_n 0, 1) := dk_42 (dk_at dksX2_track_3 21 rfl rfl)
theorem dX2_track_91 : decode cX2_track 91 = .ok (.aload_n 0, 1) := dk_42 (dk_at dksX2_track_3 22 rfl rfl)
theorem dX2_track_92 : decode cX2_track 92 = .ok (.getfield 66, 3) := dk_180 0 66 (dk_at dksX2_track_4 0 rfl rfl)
theorem dX2_track_95 : decode cX2_track 95 = .ok (.iconst 1, 1) := dk_4 (dk_at dksX2_track_4 3 rfl rfl)
theorem dX2_track_96 : decode cX2_track 96 = .ok (.iadd, 1) := dk_96 (dk_at dksX2_track_4 4 rfl rfl)
theorem dX2_track_97 : decode cX2_track 97 = .ok (.bipush 8, 2) := dk_16 8 (dk_at dksX2_track_4 5 rfl rfl)
theorem dX2_track_99 : decode cX2_track 99 = .ok (.irem, 1) := dk_112 (dk_at dksX2_track_4 7 rfl rfl)
theorem dX2_track_100 : decode cX2_track 100 = .ok (.putfield 66, 3) := dk_181 0 66 (dk_at dksX2_track_4 8 rfl rfl)
theorem dX2_track_103 : decode cX2_track 103 = .ok (.return_, 1) := dk_177 (dk_at dksX2_track_4 11 rfl rfl)
abbrev cX2_beginStep : ByteArray := prog_2_method_8_code
def yX2_beginStep : MethodName := ⟨RX2, "beginStep", "()V"⟩
def dkwX2_beginStep_5 : List UInt8 := [167, 255, 184, 177]
abbrev dktX2_beginStep_5 : List UInt8 := dkwX2_beginStep_5 ++ []
def dkwX2_beginStep_4 : List UInt8 := [180, 0, 130, 42, 180, 0, 66, 46, 44, 180, 0, 133, 42, 180, 0, 66, 46, 182, 0, 135, 87, 132, 1, 1]
abbrev dktX2_beginStep_4 : List UInt8 := dkwX2_beginStep_4 ++ dktX2_beginStep_5
def dkwX2_beginStep_3 : List UInt8 := [42, 180, 0, 66, 46, 2, 159, 0, 39, 42, 44, 180, 0, 127, 44, 180, 0, 124, 42, 180, 0, 66, 46, 44]
abbrev dktX2_beginStep_3 : List UInt8 := dkwX2_beginStep_3 ++ dktX2_beginStep_4
def dkwX2_beginStep_2 : List UInt8 := [27, 6, 162, 0, 73, 42, 180, 0, 3, 180, 0, 119, 27, 182, 0, 29, 192, 0, 122, 77, 44, 180, 0, 124]
abbrev dktX2_beginStep_2 : List UInt8 := dkwX2_beginStep_2 ++ dktX2_beginStep_3
def dkwX2_beginStep_1 : List UInt8 := [96, 167, 0, 18, 42, 180, 0, 3, 180, 0, 113, 42, 180, 0, 3, 180, 0, 116, 100, 181, 0, 72, 3, 60]
abbrev dktX2_beginStep_1 : List UInt8 := dkwX2_beginStep_1 ++ dktX2_beginStep_2
def dkwX2_beginStep_0 : List UInt8 := [42, 42, 180, 0, 66, 5, 112, 154, 0, 21, 42, 180, 0, 3, 180, 0, 113, 42, 180, 0, 3, 180, 0, 116]
abbrev dktX2_beginStep_0 : List UInt8 := dkwX2_beginStep_0 ++ dktX2_beginStep_1
theorem dksX2_beginStep_0 : cX2_beginStep.data.toList.drop 0 = dktX2_beginStep_0 := by decide +kernel
theorem dksX2_beginStep_1 : cX2_beginStep.data.toList.drop 24 = dktX2_beginStep_1 := dk_seg dksX2_beginStep_0 24 rfl rfl
theorem dksX2_beginStep_2 : cX2_beginStep.data.toList.drop 48 = dktX2_beginStep_2 := dk_seg dksX2_beginStep_1 24 rfl rfl
theorem dksX2_beginStep_3 : cX2_beginStep.data.toList.drop 72 = dktX2_beginStep_3 := dk_seg dksX2_beginStep_2 24 rfl rfl
theorem dksX2_beginStep_4 : cX2_beginStep.data.toList.drop 96 = dktX2_beginStep_4 := dk_seg dksX2_beginStep_3 24 rfl rfl
theorem dksX2_beginStep_5 : cX2_beginStep.data.toList.drop 120 = dktX2_beginStep_5 := dk_seg dksX2_beginStep_4 24 rfl rfl
theorem dX2_beginStep_0 : decode cX2_beginStep 0 = .ok (.aload_n 0, 1) := dk_42 (dk_at dksX2_beginStep_0 0 rfl rfl)
theorem dX2_beginStep_1 : decode cX2_beginStep 1 = .ok (.aload_n 0, 1) := dk_42 (dk_at dksX2_beginStep_0 1 rfl rfl)
theorem dX2_beginStep_2 : decode cX2_beginStep 2 = .ok (.getfield 66, 3) := dk_180 0 66 (dk_at dksX2_beginStep_0 2 rfl rfl)
theorem dX2_beginStep_5 : decode cX2_beginStep 5 = .ok (.iconst 2, 1) := dk_5 (dk_at dksX2_beginStep_0 5 rfl rfl)
theorem dX2_beginStep_6 : decode cX2_beginStep 6 = .ok (.irem, 1) := dk_112 (dk_at dksX2_beginStep_0 6 rfl rfl)
theorem dX2_beginStep_7 : decode cX2_beginStep 7 = .ok (.ifCond .ne 21, 3) := dk_154 0 21 (dk_at dksX2_beginStep_0 7 rfl rfl)
theorem dX2_beginStep_10 : decode cX2_beginStep 10 = .ok (.aload_n 0, 1) := dk_42 (dk_at dksX2_beginStep_0 10 rfl rfl)
theorem dX2_beginStep_11 : decode cX2_beginStep 11 = .ok (.getfield 3, 3) := dk_180 0 3 (dk_at dksX2_beginStep_0 11 rfl rfl)
theorem dX2_beginStep_14 : decode cX2_beginStep 14 = .ok (.getfield 113, 3) := dk_180 0 113 (dk_at dksX2_beginStep_0 14 rfl rfl)
theorem dX2_beginStep_17 : decode cX2_beginStep 17 = .ok (.aload_n 0, 1) := dk_42 (dk_at dksX2_beginStep_0 17 rfl rfl)
theorem dX2_beginStep_18 : decode cX2_beginStep 18 = .ok (.getfield 3, 3) := dk_180 0 3 (dk_at dksX2_beginStep_0 18 rfl rfl)
theorem dX2_beginStep_21 : decode cX2_beginStep 21 = .ok (.getfield 116, 3) := dk_180 0 116 (dk_at dksX2_beginStep_0 21 rfl rfl)
theorem dX2_beginStep_24 : decode cX2_beginStep 24 = .ok (.iadd, 1) := dk_96 (dk_at dksX2_beginStep_1 0 rfl rfl)
theorem dX2_beginStep_25 : decode cX2_beginStep 25 = .ok (.goto 18, 3) := dk_167 0 18 (dk_at dksX2_beginStep_1 1 rfl rfl)
theorem dX2_beginStep_28 : decode cX2_beginStep 28 = .ok (.aload_n 0, 1) := dk_42 (dk_at dksX2_beginStep_1 4 rfl rfl)
theorem dX2_beginStep_29 : decode cX2_beginStep 29 = .ok (.getfield 3, 3) := dk_180 0 3 (dk_at dksX2_beginStep_1 5 rfl rfl)
theorem dX2_beginStep_32 : decode cX2_beginStep 32 = .ok (.getfield 113, 3) := dk_180 0 113 (dk_at dksX2_beginStep_1 8 rfl rfl)
theorem dX2_beginStep_35 : decode cX2_beginStep 35 = .ok (.aload_n 0, 1) := dk_42 (dk_at dksX2_beginStep_1 11 rfl rfl)
theorem dX2_beginStep_36 : decode cX2_beginStep 36 = .ok (.getfield 3, 3) := dk_180 0 3 (dk_at dksX2_beginStep_1 12 rfl rfl)
theorem dX2_beginStep_39 : decode cX2_beginStep 39 = .ok (.getfield 116, 3) := dk_180 0 116 (dk_at dksX2_beginStep_1 15 rfl rfl)
theorem dX2_beginStep_42 : decode cX2_beginStep 42 = .ok (.isub, 1) := dk_100 (dk_at dksX2_beginStep_1 18 rfl rfl)
theorem dX2_beginStep_43 : decode cX2_beginStep 43 = .ok (.putfield 72, 3) := dk_181 0 72 (dk_at dksX2_beginStep_1 19 rfl rfl)
theorem dX2_beginStep_46 : decode cX2_beginStep 46 = .ok (.iconst 0, 1) := dk_3 (dk_at dksX2_beginStep_1 22 rfl rfl)
theorem dX2_beginStep_47 : decode cX2_beginStep 47 = .ok (.istore_n 1, 1) := dk_60 (dk_at dksX2_beginStep_1 23 rfl rfl)
theorem dX2_beginStep_48 : decode cX2_beginStep 48 = .ok (.iload_n 1, 1) := dk_27 (dk_at dksX2_beginStep_2 0 rfl rfl)
theorem dX2_beginStep_49 : decode cX2_beginStep 49 = .ok (.iconst 3, 1) := dk_6 (dk_at dksX2_beginStep_2 1 rfl rfl)
theorem dX2_beginStep_50 : decode cX2_beginStep 50 = .ok (.if_icmp .ge 73, 3) := dk_162 0 73 (dk_at dksX2_beginStep_2 2 rfl rfl)
theorem dX2_beginStep_53 : decode cX2_beginStep 53 = .ok (.aload_n 0, 1) := dk_42 (dk_at dksX2_beginStep_2 5 rfl rfl)
theorem dX2_beginStep_54 : decode cX2_beginStep 54 = .ok (.getfield 3, 3) := dk_180 0 3 (dk_at dksX2_beginStep_2 6 rfl rfl)
theorem dX2_beginStep_57 : decode cX2_beginStep 57 = .ok (.getfield 119, 3) := dk_180 0 119 (dk_at dksX2_beginStep_2 9 rfl rfl)
theorem dX2_beginStep_60 : decode cX2_beginStep 60 = .ok (.iload_n 1, 1) := dk_27 (dk_at dksX2_beginStep_2 12 rfl rfl)
theorem dX2_beginStep_61 : decode cX2_beginStep 61 = .ok (.invokevirtual 29, 3) := dk_182 0 29 (dk_at dksX2_beginStep_2 13 rfl rfl)
theorem dX2_beginStep_64 : decode cX2_beginStep 64 = .ok (.checkcast 122, 3) := dk_192 0 122 (dk_at dksX2_beginStep_2 16 rfl rfl)
theorem dX2_beginStep_67 : decode cX2_beginStep 67 = .ok (.astore_n 2, 1) := dk_77 (dk_at dksX2_beginStep_2 19 rfl rfl)
theorem dX2_beginStep_68 : decode cX2_beginStep 68 = .ok (.aload_n 2, 1) := dk_44 (dk_at dksX2_beginStep_2 20 rfl rfl)
theorem dX2_beginStep_69 : decode cX2_beginStep 69 = .ok (.getfield 124, 3) := dk_180 0 124 (dk_at dksX2_beginStep_2 21 rfl rfl)
theorem dX2_beginStep_72 : decode cX2_beginStep 72 = .ok (.aload_n 0, 1) := dk_42 (dk_at dksX2_beginStep_3 0 rfl rfl)
theorem dX2_beginStep_73 : decode cX2_beginStep 73 = .ok (.getfield 66, 3) := dk_180 0 66 (dk_at dksX2_beginStep_3 1 rfl rfl)
theorem dX2_beginStep_76 : decode cX2_beginStep 76 = .ok (.iaload, 1) := dk_46 (dk_at dksX2_beginStep_3 4 rfl rfl)
theorem dX2_beginStep_77 : decode cX2_beginStep 77 = .ok (.iconst (-1), 1) := dk_2 (dk_at dksX2_beginStep_3 5 rfl rfl)
theorem dX2_beginStep_78 : decode cX2_beginStep 78 = .ok (.if_icmp .eq 39, 3) := dk_159 0 39 (dk_at dksX2_beginStep_3 6 rfl rfl)
theorem dX2_beginStep_81 : decode cX2_beginStep 81 = .ok (.aload_n 0, 1) := dk_42 (dk_at dksX2_beginStep_3 9 rfl rfl)
theorem dX2_beginStep_82 : decode cX2_beginStep 82 = .ok (.aload_n 2, 1) := dk_44 (dk_at dksX2_beginStep_3 10 rfl rfl)
theorem dX2_beginStep_83 : decode cX2_beginStep 83 = .ok (.getfield 127, 3) := dk_180 0 127 (dk_at dksX2_beginStep_3 11 rfl rfl)
theorem dX2_beginStep_86 : decode cX2_beginStep 86 = .ok (.aload_n 2, 1) := dk_44 (dk_at dksX2_beginStep_3 14 rfl rfl)
theorem dX2_beginStep_87 : decode cX2_beginStep 87 = .ok (.getfield 124, 3) := dk_180 0 124 (dk_at dksX2_beginStep_3 15 rfl rfl)
theorem dX2_beginStep_90 : decode cX2_beginStep 90 = .ok (.aload_n 0, 1) := dk_42 (dk_at dksX2_beginStep_3 18 rfl rfl)
theorem dX2_beginStep_91 : decode cX2_beginStep 91 = .ok (.getfield 66, 3) := dk_180 0 66 (dk_at dksX2_beginStep_3 19 rfl rfl)
theorem dX2_beginStep_94 : decode cX2_beginStep 94 = .ok (.iaload, 1) := dk_46 (dk_at dksX2_beginStep_3 22 rfl rfl)
theorem dX2_beginStep_95 : decode cX2_beginStep 95 = .ok (.aload_n 2, 1) := dk_44 (dk_at dksX2_beginStep_3 23 rfl rfl)
theorem dX2_beginStep_96 : decode cX2_beginStep 96 = .ok (.getfield 130, 3) := dk_180 0 130 (dk_at dksX2_beginStep_4 0 rfl rfl)
theorem dX2_beginStep_99 : decode cX2_beginStep 99 = .ok (.aload_n 0, 1) := dk_42 (dk_at dksX2_beginStep_4 3 rfl rfl)
theorem dX2_beginStep_100 : decode cX2_beginStep 100 = .ok (.getfield 66, 3) := dk_180 0 66 (dk_at dksX2_beginStep_4 4 rfl rfl)
theorem dX2_beginStep_103 : decode cX2_beginStep 103 = .ok (.iaload, 1) := dk_46 (dk_at dksX2_beginStep_4 7 rfl rfl)
theorem dX2_beginStep_104 : decode cX2_beginStep 104 = .ok (.aload_n 2, 1) := dk_44 (dk_at dksX2_beginStep_4 8 rfl rfl)
theorem dX2_beginStep_105 : decode cX2_beginStep 105 = .ok (.getfield 133, 3) := dk_180 0 133 (dk_at dksX2_beginStep_4 9 rfl rfl)
theorem dX2_beginStep_108 : decode cX2_beginStep 108 = .ok (.aload_n 0, 1) := dk_42 (dk_at dksX2_beginStep_4 12 rfl rfl)
theorem dX2_beginStep_109 : decode cX2_beginStep 109 = .ok (.getfield 66, 3) := dk_180 0 66 (dk_at dksX2_beginStep_4 13 rfl rfl)
theorem dX2_beginStep_112 : decode cX2_beginStep 112 = .ok (.iaload, 1) := dk_46 (dk_at dksX2_beginStep_4 16 rfl rfl)
theorem dX2_beginStep_113 : decode cX2_beginStep 113 = .ok (.invokevirtual 135, 3) := dk_182 0 135 (dk_at dksX2_beginStep_4 17 rfl rfl)
theorem dX2_beginStep_116 : decode cX2_beginStep 116 = .ok (.pop, 1) := dk_87 (dk_at dksX2_beginStep_4 20 rfl rfl)
theorem dX2_beginStep_117 : decode cX2_beginStep 117 = .ok (.iinc 1 1, 3) := dk_132 1 1 (dk_at dksX2_beginStep_4 21 rfl rfl)
theorem dX2_beginStep_120 : decode cX2_beginStep 120 = .ok (.goto (-72), 3) := dk_167 255 184 (dk_at dksX2_beginStep_5 0 rfl rfl)
theorem dX2_beginStep_123 : decode cX2_beginStep 123 = .ok (.return_, 1) := dk_177 (dk_at dksX2_beginStep_5 3 rfl rfl)
abbrev cX2_begin : ByteArray := prog_2_method_6_code
def yX2_begin : MethodName := ⟨RX2, "begin", "(IIII)I"⟩
def dkwX2_begin_2 : List UInt8 := [181, 0, 56, 25, 6, 27, 28, 29, 21, 4, 42, 180, 0, 56, 182, 0, 100, 21, 5, 172]
abbrev dktX2_begin_2 : List UInt8 := dkwX2_begin_2 ++ []
def dkwX2_begin_1 : List UInt8 := [182, 0, 89, 154, 0, 13, 42, 89, 180, 0, 59, 4, 96, 181, 0, 59, 42, 89, 180, 0, 56, 4, 96]
abbrev dktX2_begin_1 : List UInt8 := dkwX2_begin_1 ++ dktX2_begin_2
def dkwX2_begin_0 : List UInt8 := [42, 182, 0, 96, 54, 5, 42, 180, 0, 18, 21, 5, 182, 0, 29, 192, 0, 33, 58, 6, 25, 6]
abbrev dktX2_begin_0 : List UInt8 := dkwX2_begin_0 ++ dktX2_begin_1
theorem dksX2_begin_0 : cX2_begin.data.toList.drop 0 = dktX2_begin_0 := by decide +kernel
theorem dksX2_begin_1 : cX2_begin.data.toList.drop 22 = dktX2_begin_1 := dk_seg dksX2_begin_0 22 rfl rfl
theorem dksX2_begin_2 : cX2_begin.data.toList.drop 45 = dktX2_begin_2 := dk_seg dksX2_begin_1 23 rfl rfl
theorem dX2_begin_0 : decode cX2_begin 0 = .ok (.aload_n 0, 1) := dk_42 (dk_at dksX2_begin_0 0 rfl rfl)
theorem dX2_begin_1 : decode cX2_begin 1 = .ok (.invokevirtual 96, 3) := dk_182 0 96 (dk_at dksX2_begin_0 1 rfl rfl)
theorem dX2_begin_4 : decode cX2_begin 4 = .ok (.istore 5, 2) := dk_54 5 (dk_at dksX2_begin_0 4 rfl rfl)
theorem dX2_begin_6 : decode cX2_begin 6 = .ok (.aload_n 0, 1) := dk_42 (dk_at dksX2_begin_0 6 rfl rfl)
theorem dX2_begin_7 : decode cX2_begin 7 = .ok (.getfield 18, 3) := dk_180 0 18 (dk_at dksX2_begin_0 7 rfl rfl)
theorem dX2_begin_10 : decode cX2_begin 10 = .ok (.iload 5, 2) := dk_21 5 (dk_at dksX2_begin_0 10 rfl rfl)
theorem dX2_begin_12 : decode cX2_begin 12 = .ok (.invokevirtual 29, 3) := dk_182 0 29 (dk_at dksX2_begin_0 12 rfl rfl)
theorem dX2_begin_15 : decode cX2_begin 15 = .ok (.checkcast 33, 3) := dk_192 0 33 (dk_at dksX2_begin_0 15 rfl rfl)
theorem dX2_begin_18 : decode cX2_begin 18 = .ok (.astore 6, 2) := dk_58 6 (dk_at dksX2_begin_0 18 rfl rfl)
theorem dX2_begin_20 : decode cX2_begin 20 = .ok (.aload 6, 2) := dk_25 6 (dk_at dksX2_begin_0 20 rfl rfl)
theorem dX2_begin_22 : decode cX2_begin 22 = .ok (.invokevirtual 89, 3) := dk_182 0 89 (dk_at dksX2_begin_1 0 rfl rfl)
theorem dX2_begin_25 : decode cX2_begin 25 = .ok (.ifCond .ne 13, 3) := dk_154 0 13 (dk_at dksX2_begin_1 3 rfl rfl)
theorem dX2_begin_28 : decode cX2_begin 28 = .ok (.aload_n 0, 1) := dk_42 (dk_at dksX2_begin_1 6 rfl rfl)
theorem dX2_begin_29 : decode cX2_begin 29 = .ok (.dup, 1) := dk_89 (dk_at dksX2_begin_1 7 rfl rfl)
theorem dX2_begin_30 : decode cX2_begin 30 = .ok (.getfield 59, 3) := dk_180 0 59 (dk_at dksX2_begin_1 8 rfl rfl)
theorem dX2_begin_33 : decode cX2_begin 33 = .ok (.iconst 1, 1) := dk_4 (dk_at dksX2_begin_1 11 rfl rfl)
theorem dX2_begin_34 : decode cX2_begin 34 = .ok (.iadd, 1) := dk_96 (dk_at dksX2_begin_1 12 rfl rfl)
theorem dX2_begin_35 : decode cX2_begin 35 = .ok (.putfield 59, 3) := dk_181 0 59 (dk_at dksX2_begin_1 13 rfl rfl)
theorem dX2_begin_38 : decode cX2_begin 38 = .ok (.aload_n 0, 1) := dk_42 (dk_at dksX2_begin_1 16 rfl rfl)
theorem dX2_begin_39 : decode cX2_begin 39 = .ok (.dup, 1) := dk_89 (dk_at dksX2_begin_1 17 rfl rfl)
theorem dX2_begin_40 : decode cX2_begin 40 = .ok (.getfield 56, 3) := dk_180 0 56 (dk_at dksX2_begin_1 18 rfl rfl)
theorem dX2_begin_43 : decode cX2_begin 43 = .ok (.iconst 1, 1) := dk_4 (dk_at dksX2_begin_1 21 rfl rfl)
theorem dX2_begin_44 : decode cX2_begin 44 = .ok (.iadd, 1) := dk_96 (dk_at dksX2_begin_1 22 rfl rfl)
theorem dX2_begin_45 : decode cX2_begin 45 = .ok (.putfield 56, 3) := dk_181 0 56 (dk_at dksX2_begin_2 0 rfl rfl)
theorem dX2_begin_48 : decode cX2_begin 48 = .ok (.aload 6, 2) := dk_25 6 (dk_at dksX2_begin_2 3 rfl rfl)
theorem dX2_begin_50 : decode cX2_begin 50 = .ok (.iload_n 1, 1) := dk_27 (dk_at dksX2_begin_2 5 rfl rfl)
theorem dX2_begin_51 : decode cX2_begin 51 = .ok (.iload_n 2, 1) := dk_28 (dk_at dksX2_begin_2 6 rfl rfl)
theorem dX2_begin_52 : decode cX2_begin 52 = .ok (.iload_n 3, 1) := dk_29 (dk_at dksX2_begin_2 7 rfl rfl)
theorem dX2_begin_53 : decode cX2_begin 53 = .ok (.iload 4, 2) := dk_21 4 (dk_at dksX2_begin_2 8 rfl rfl)
theorem dX2_begin_55 : decode cX2_begin 55 = .ok (.aload_n 0, 1) := dk_42 (dk_at dksX2_begin_2 10 rfl rfl)
theorem dX2_begin_56 : decode cX2_begin 56 = .ok (.getfield 56, 3) := dk_180 0 56 (dk_at dksX2_begin_2 11 rfl rfl)
theorem dX2_begin_59 : decode cX2_begin 59 = .ok (.invokevirtual 100, 3) := dk_182 0 100 (dk_at dksX2_begin_2 14 rfl rfl)
theorem dX2_begin_62 : decode cX2_begin 62 = .ok (.iload 5, 2) := dk_21 5 (dk_at dksX2_begin_2 17 rfl rfl)
theorem dX2_begin_64 : decode cX2_begin 64 = .ok (.ireturn, 1) := dk_172 (dk_at dksX2_begin_2 19 rfl rfl)
abbrev cX2_next : ByteArray := prog_2_method_3_code
def yX2_next : MethodName := ⟨RX2, "next", "()I"⟩
def dkwX2_next_1 : List UInt8 := [27, 182, 0, 29, 192, 0, 33, 184, 0, 75, 153, 0, 5, 28, 60, 132, 2, 1, 167, 255, 218, 27, 172]
abbrev dktX2_next_1 : List UInt8 := dkwX2_next_1 ++ []
def dkwX2_next_0 : List UInt8 := [3, 60, 4, 61, 28, 7, 162, 0, 39, 42, 180, 0, 18, 28, 182, 0, 29, 192, 0, 33, 42, 180, 0, 18]
abbrev dktX2_next_0 : List UInt8 := dkwX2_next_0 ++ dktX2_next_1
theorem dksX2_next_0 : cX2_next.data.toList.drop 0 = dktX2_next_0 := by decide +kernel
theorem dksX2_next_1 : cX2_next.data.toList.drop 24 = dktX2_next_1 := dk_seg dksX2_next_0 24 rfl rfl
theorem dX2_next_0 : decode cX2_next 0 = .ok (.iconst 0, 1) := dk_3 (dk_at dksX2_next_0 0 rfl rfl)
theorem dX2_next_1 : decode cX2_next 1 = .ok (.istore_n 1, 1) := dk_60 (dk_at dksX2_next_0 1 rfl rfl)
theorem dX2_next_2 : decode cX2_next 2 = .ok (.iconst 1, 1) := dk_4 (dk_at dksX2_next_0 2 rfl rfl)
theorem dX2_next_3 : decode cX2_next 3 = .ok (.istore_n 2, 1) := dk_61 (dk_at dksX2_next_0 3 rfl rfl)
theorem dX2_next_4 : decode cX2_next 4 = .ok (.iload_n 2, 1) := dk_28 (dk_at dksX2_next_0 4 rfl rfl)
theorem dX2_next_5 : decode cX2_next 5 = .ok (.iconst 4, 1) := dk_7 (dk_at dksX2_next_0 5 rfl rfl)
theorem dX2_next_6 : decode cX2_next 6 = .ok (.if_icmp .ge 39, 3) := dk_162 0 39 (dk_at dksX2_next_0 6 rfl rfl)
theorem dX2_next_9 : decode cX2_next 9 = .ok (.aload_n 0, 1) := dk_42 (dk_at dksX2_next_0 9 rfl rfl)
theorem dX2_next_10 : decode cX2_next 10 = .ok (.getfield 18, 3) := dk_180 0 18 (dk_at dksX2_next_0 10 rfl rfl)
theorem dX2_next_13 : decode cX2_next 13 = .ok (.iload_n 2, 1) := dk_28 (dk_at dksX2_next_0 13 rfl rfl)
theorem dX2_next_14 : decode cX2_next 14 = .ok (.invokevirtual 29, 3) := dk_182 0 29 (dk_at dksX2_next_0 14 rfl rfl)
theorem dX2_next_17 : decode cX2_next 17 = .ok (.checkcast 33, 3) := dk_192 0 33 (dk_at dksX2_next_0 17 rfl rfl)
theorem dX2_next_20 : decode cX2_next 20 = .ok (.aload_n 0, 1) := dk_42 (dk_at dksX2_next_0 20 rfl rfl)
theorem dX2_next_21 : decode cX2_next 21 = .ok (.getfield 18, 3) := dk_180 0 18 (dk_at dksX2_next_0 21 rfl rfl)
theorem dX2_next_24 : decode cX2_next 24 = .ok (.iload_n 1, 1) := dk_27 (dk_at dksX2_next_1 0 rfl rfl)
theorem dX2_next_25 : decode cX2_next 25 = .ok (.invokevirtual 29, 3) := dk_182 0 29 (dk_at dksX2_next_1 1 rfl rfl)
theorem dX2_next_28 : decode cX2_next 28 = .ok (.checkcast 33, 3) := dk_192 0 33 (dk_at dksX2_next_1 4 rfl rfl)
theorem dX2_next_31 : decode cX2_next 31 = .ok (.invokestatic 75, 3) := dk_184 0 75 (dk_at dksX2_next_1 7 rfl rfl)
theorem dX2_next_34 : decode cX2_next 34 = .ok (.ifCond .eq 5, 3) := dk_153 0 5 (dk_at dksX2_next_1 10 rfl rfl)
theorem dX2_next_37 : decode cX2_next 37 = .ok (.iload_n 2, 1) := dk_28 (dk_at dksX2_next_1 13 rfl rfl)
theorem dX2_next_38 : decode cX2_next 38 = .ok (.istore_n 1, 1) := dk_60 (dk_at dksX2_next_1 14 rfl rfl)
theorem dX2_next_39 : decode cX2_next 39 = .ok (.iinc 2 1, 3) := dk_132 2 1 (dk_at dksX2_next_1 15 rfl rfl)
theorem dX2_next_42 : decode cX2_next 42 = .ok (.goto (-38), 3) := dk_167 255 218 (dk_at dksX2_next_1 18 rfl rfl)
theorem dX2_next_45 : decode cX2_next 45 = .ok (.iload_n 1, 1) := dk_27 (dk_at dksX2_next_1 21 rfl rfl)
theorem dX2_next_46 : decode cX2_next 46 = .ok (.ireturn, 1) := dk_172 (dk_at dksX2_next_1 22 rfl rfl)
abbrev cX2_isAhead : ByteArray := prog_2_method_4_code
def yX2_isAhead : MethodName := ⟨RX2, "isAhead", "(LMelodeon$Voice;LMelodeon$Voice;)Z"⟩
def dkwX2_isAhead_3 : List UInt8 := [4, 167, 0, 4, 3, 172]
abbrev dktX2_isAhead_3 : List UInt8 := dkwX2_isAhead_3 ++ []
def dkwX2_isAhead_2 : List UInt8 := [4, 167, 0, 4, 3, 172, 42, 182, 0, 89, 154, 0, 18, 42, 180, 0, 93, 43, 180, 0, 93, 162, 0, 7]
abbrev dktX2_isAhead_2 : List UInt8 := dkwX2_isAhead_2 ++ dktX2_isAhead_3
def dkwX2_isAhead_1 : List UInt8 := [167, 0, 4, 3, 172, 42, 180, 0, 83, 7, 160, 0, 20, 42, 180, 0, 86, 43, 180, 0, 86, 162, 0, 7]
abbrev dktX2_isAhead_1 : List UInt8 := dkwX2_isAhead_1 ++ dktX2_isAhead_2
def dkwX2_isAhead_0 : List UInt8 := [42, 184, 0, 79, 43, 184, 0, 79, 159, 0, 20, 42, 184, 0, 79, 43, 184, 0, 79, 162, 0, 7, 4]
abbrev dktX2_isAhead_0 : List UInt8 := dkwX2_isAhead_0 ++ dktX2_isAhead_1
theorem dksX2_isAhead_0 : cX2_isAhead.data.toList.drop 0 = dktX2_isAhead_0 := by decide +kernel
theorem dksX2_isAhead_1 : cX2_isAhead.data.toList.drop 23 = dktX2_isAhead_1 := dk_seg dksX2_isAhead_0 23 rfl rfl
theorem dksX2_isAhead_2 : cX2_isAhead.data.toList.drop 47 = dktX2_isAhead_2 := dk_seg dksX2_isAhead_1 24 rfl rfl
theorem dksX2_isAhead_3 : cX2_isAhead.data.toList.drop 71 = dktX2_isAhead_3 := dk_seg dksX2_isAhead_2 24 rfl rfl
theorem dX2_isAhead_0 : decode cX2_isAhead 0 = .ok (.aload_n 0, 1) := dk_42 (dk_at dksX2_isAhead_0 0 rfl rfl)
theorem dX2_isAhead_1 : decode cX2_isAhead 1 = .ok (.invokestatic 79, 3) := dk_184 0 79 (dk_at dksX2_isAhead_0 1 rfl rfl)
theorem dX2_isAhead_4 : decode cX2_isAhead 4 = .ok (.aload_n 1, 1) := dk_43 (dk_at dksX2_isAhead_0 4 rfl rfl)
theorem dX2_isAhead_5 : decode cX2_isAhead 5 = .ok (.invokestatic 79, 3) := dk_184 0 79 (dk_at dksX2_isAhead_0 5 rfl rfl)
theorem dX2_isAhead_8 : decode cX2_isAhead 8 = .ok (.if_icmp .eq 20, 3) := dk_159 0 20 (dk_at dksX2_isAhead_0 8 rfl rfl)
theorem dX2_isAhead_11 : decode cX2_isAhead 11 = .ok (.aload_n 0, 1) := dk_42 (dk_at dksX2_isAhead_0 11 rfl rfl)
theorem dX2_isAhead_12 : decode cX2_isAhead 12 = .ok (.invokestatic 79, 3) := dk_184 0 79 (dk_at dksX2_isAhead_0 12 rfl rfl)
theorem dX2_isAhead_15 : decode cX2_isAhead 15 = .ok (.aload_n 1, 1) := dk_43 (dk_at dksX2_isAhead_0 15 rfl rfl)
theorem dX2_isAhead_16 : decode cX2_isAhead 16 = .ok (.invokestatic 79, 3) := dk_184 0 79 (dk_at dksX2_isAhead_0 16 rfl rfl)
theorem dX2_isAhead_19 : decode cX2_isAhead 19 = .ok (.if_icmp .ge 7, 3) := dk_162 0 7 (dk_at dksX2_isAhead_0 19 rfl rfl)
theorem dX2_isAhead_22 : decode cX2_isAhead 22 = .ok (.iconst 1, 1) := dk_4 (dk_at dksX2_isAhead_0 22 rfl rfl)
theorem dX2_isAhead_23 : decode cX2_isAhead 23 = .ok (.goto 4, 3) := dk_167 0 4 (dk_at dksX2_isAhead_1 0 rfl rfl)
theorem dX2_isAhead_26 : decode cX2_isAhead 26 = .ok (.iconst 0, 1) := dk_3 (dk_at dksX2_isAhead_1 3 rfl rfl)
theorem dX2_isAhead_27 : decode cX2_isAhead 27 = .ok (.ireturn, 1) := dk_172 (dk_at dksX2_isAhead_1 4 rfl rfl)
theorem dX2_isAhead_28 : decode cX2_isAhead 28 = .ok (.aload_n 0, 1) := dk_42 (dk_at dksX2_isAhead_1 5 rfl rfl)
theorem dX2_isAhead_29 : decode cX2_isAhead 29 = .ok (.getfield 83, 3) := dk_180 0 83 (dk_at dksX2_isAhead_1 6 rfl rfl)
theorem dX2_isAhead_32 : decode cX2_isAhead 32 = .ok (.iconst 4, 1) := dk_7 (dk_at dksX2_isAhead_1 9 rfl rfl)
theorem dX2_isAhead_33 : decode cX2_isAhead 33 = .ok (.if_icmp .ne 20, 3) := dk_160 0 20 (dk_at dksX2_isAhead_1 10 rfl rfl)
theorem dX2_isAhead_36 : decode cX2_isAhead 36 = .ok (.aload_n 0, 1) := dk_42 (dk_at dksX2_isAhead_1 13 rfl rfl)
theorem dX2_isAhead_37 : decode cX2_isAhead 37 = .ok (.getfield 86, 3) := dk_180 0 86 (dk_at dksX2_isAhead_1 14 rfl rfl)
theorem dX2_isAhead_40 : decode cX2_isAhead 40 = .ok (.aload_n 1, 1) := dk_43 (dk_at dksX2_isAhead_1 17 rfl rfl)
theorem dX2_isAhead_41 : decode cX2_isAhead 41 = .ok (.getfield 86, 3) := dk_180 0 86 (dk_at dksX2_isAhead_1 18 rfl rfl)
theorem dX2_isAhead_44 : decode cX2_isAhead 44 = .ok (.if_icmp .ge 7, 3) := dk_162 0 7 (dk_at dksX2_isAhead_1 21 rfl rfl)
theorem dX2_isAhead_47 : decode cX2_isAhead 47 = .ok (.iconst 1, 1) := dk_4 (dk_at dksX2_isAhead_2 0 rfl rfl)
theorem dX2_isAhead_48 : decode cX2_isAhead 48 = .ok (.goto 4, 3) := dk_167 0 4 (dk_at dksX2_isAhead_2 1 rfl rfl)
theorem dX2_isAhead_51 : decode cX2_isAhead 51 = .ok (.iconst 0, 1) := dk_3 (dk_at dksX2_isAhead_2 4 rfl rfl)
theorem dX2_isAhead_52 : decode cX2_isAhead 52 = .ok (.ireturn, 1) := dk_172 (dk_at dksX2_isAhead_2 5 rfl rfl)
theorem dX2_isAhead_53 : decode cX2_isAhead 53 = .ok (.aload_n 0, 1) := dk_42 (dk_at dksX2_isAhead_2 6 rfl rfl)
theorem dX2_isAhead_54 : decode cX2_isAhead 54 = .ok (.invokevirtual 89, 3) := dk_182 0 89 (dk_at dksX2_isAhead_2 7 rfl rfl)
theorem dX2_isAhead_57 : decode cX2_isAhead 57 = .ok (.ifCond .ne 18, 3) := dk_154 0 18 (dk_at dksX2_isAhead_2 10 rfl rfl)
theorem dX2_isAhead_60 : decode cX2_isAhead 60 = .ok (.aload_n 0, 1) := dk_42 (dk_at dksX2_isAhead_2 13 rfl rfl)
theorem dX2_isAhead_61 : decode cX2_isAhead 61 = .ok (.getfield 93, 3) := dk_180 0 93 (dk_at dksX2_isAhead_2 14 rfl rfl)
theorem dX2_isAhead_64 : decode cX2_isAhead 64 = .ok (.aload_n 1, 1) := dk_43 (dk_at dksX2_isAhead_2 17 rfl rfl)
theorem dX2_isAhead_65 : decode cX2_isAhead 65 = .ok (.getfield 93, 3) := dk_180 0 93 (dk_at dksX2_isAhead_2 18 rfl rfl)
theorem dX2_isAhead_68 : decode cX2_isAhead 68 = .ok (.if_icmp .ge 7, 3) := dk_162 0 7 (dk_at dksX2_isAhead_2 21 rfl rfl)
theorem dX2_isAhead_71 : decode cX2_isAhead 71 = .ok (.iconst 1, 1) := dk_4 (dk_at dksX2_isAhead_3 0 rfl rfl)
theorem dX2_isAhead_72 : decode cX2_isAhead 72 = .ok (.goto 4, 3) := dk_167 0 4 (dk_at dksX2_isAhead_3 1 rfl rfl)
theorem dX2_isAhead_75 : decode cX2_isAhead 75 = .ok (.iconst 0, 1) := dk_3 (dk_at dksX2_isAhead_3 4 rfl rfl)
theorem dX2_isAhead_76 : decode cX2_isAhead 76 = .ok (.ireturn, 1) := dk_172 (dk_at dksX2_isAhead_3 5 rfl rfl)
abbrev cX2_rank : ByteArray := prog_2_method_5_code
def yX2_rank : MethodName := ⟨RX2, "rank", "(LMelodeon$Voice;)I"⟩
def dkwX2_rank_1 : List UInt8 := [172]
abbrev dktX2_rank_1 : List UInt8 := dkwX2_rank_1 ++ []
def dkwX2_rank_0 : List UInt8 := [42, 182, 0, 89, 153, 0, 7, 3, 167, 0, 16, 42, 180, 0, 83, 7, 160, 0, 7, 4, 167, 0, 4, 5]
abbrev dktX2_rank_0 : List UInt8 := dkwX2_rank_0 ++ dktX2_rank_1
theorem dksX2_rank_0 : cX2_rank.data.toList.drop 0 = dktX2_rank_0 := by decide +kernel
theorem dksX2_rank_1 : cX2_rank.data.toList.drop 24 = dktX2_rank_1 := dk_seg dksX2_rank_0 24 rfl rfl
theorem dX2_rank_0 : decode cX2_rank 0 = .ok (.aload_n 0, 1) := dk_42 (dk_at dksX2_rank_0 0 rfl rfl)
theorem dX2_rank_1 : decode cX2_rank 1 = .ok (.invokevirtual 89, 3) := dk_182 0 89 (dk_at dksX2_rank_0 1 rfl rfl)
theorem dX2_rank_4 : decode cX2_rank 4 = .ok (.ifCond .eq 7, 3) := dk_153 0 7 (dk_at dksX2_rank_0 4 rfl rfl)
theorem dX2_rank_7 : decode cX2_rank 7 = .ok (.iconst 0, 1) := dk_3 (dk_at dksX2_rank_0 7 rfl rfl)
theorem dX2_rank_8 : decode cX2_rank 8 = .ok (.goto 16, 3) := dk_167 0 16 (dk_at dksX2_rank_0 8 rfl rfl)
theorem dX2_rank_11 : decode cX2_rank 11 = .ok (.aload_n 0, 1) := dk_42 (dk_at dksX2_rank_0 11 rfl rfl)
theorem dX2_rank_12 : decode cX2_rank 12 = .ok (.getfield 83, 3) := dk_180 0 83 (dk_at dksX2_rank_0 12 rfl rfl)
theorem dX2_rank_15 : decode cX2_rank 15 = .ok (.iconst 4, 1) := dk_7 (dk_at dksX2_rank_0 15 rfl rfl)
theorem dX2_rank_16 : decode cX2_rank 16 = .ok (.if_icmp .ne 7, 3) := dk_160 0 7 (dk_at dksX2_rank_0 16 rfl rfl)
theorem dX2_rank_19 : decode cX2_rank 19 = .ok (.iconst 1, 1) := dk_4 (dk_at dksX2_rank_0 19 rfl rfl)
theorem dX2_rank_20 : decode cX2_rank 20 = .ok (.goto 4, 3) := dk_167 0 4 (dk_at dksX2_rank_0 20 rfl rfl)
theorem dX2_rank_23 : decode cX2_rank 23 = .ok (.iconst 2, 1) := dk_5 (dk_at dksX2_rank_0 23 rfl rfl)
theorem dX2_rank_24 : decode cX2_rank 24 = .ok (.ireturn, 1) := dk_172 (dk_at dksX2_rank_1 0 rfl rfl)
abbrev cX2_given : ByteArray := prog_2_method_9_code
def yX2_given : MethodName := ⟨RX2, "given", "(LMelodeon$Voice;)I"⟩
def dkwX2_given_7 : List UInt8 := [18, 154, 184, 0, 180, 181, 0, 171, 43, 21, 4, 44, 182, 0, 188, 172]
abbrev dktX2_given_7 : List UInt8 := dkwX2_given_7 ++ []
def dkwX2_given_6 : List UInt8 := [21, 5, 96, 18, 154, 184, 0, 180, 181, 0, 162, 43, 43, 180, 0, 171, 21, 5, 96, 44, 180, 0, 185, 96]
abbrev dktX2_given_6 : List UInt8 := dkwX2_given_6 ++ dktX2_given_7
def dkwX2_given_5 : List UInt8 := [104, 96, 16, 100, 108, 54, 4, 43, 180, 0, 174, 184, 0, 176, 29, 96, 54, 5, 43, 43, 180, 0, 162]
abbrev dktX2_given_5 : List UInt8 := dkwX2_given_5 ++ dktX2_given_6
def dkwX2_given_4 : List UInt8 := [180, 0, 165, 100, 104, 42, 180, 0, 3, 44, 180, 0, 168, 43, 180, 0, 171, 182, 0, 155, 44, 180, 0, 165]
abbrev dktX2_given_4 : List UInt8 := dkwX2_given_4 ++ dktX2_given_5
def dkwX2_given_3 : List UInt8 := [104, 17, 3, 232, 108, 62, 42, 180, 0, 3, 44, 180, 0, 159, 43, 180, 0, 162, 182, 0, 155, 16, 100, 44]
abbrev dktX2_given_3 : List UInt8 := dkwX2_given_3 ++ dktX2_given_4
def dkwX2_given_2 : List UInt8 := [180, 0, 3, 5, 42, 180, 0, 53, 44, 180, 0, 151, 112, 18, 154, 104, 44, 180, 0, 151, 108, 182, 0, 155]
abbrev dktX2_given_2 : List UInt8 := dkwX2_given_2 ++ dktX2_given_3
def dkwX2_given_1 : List UInt8 := [192, 0, 142, 77, 43, 44, 182, 0, 144, 43, 182, 0, 89, 153, 0, 5, 3, 172, 44, 180, 0, 148, 42]
abbrev dktX2_given_1 : List UInt8 := dkwX2_given_1 ++ dktX2_given_2
def dkwX2_given_0 : List UInt8 := [43, 182, 0, 89, 153, 0, 5, 3, 172, 42, 180, 0, 3, 180, 0, 138, 43, 180, 0, 141, 182, 0, 29]
abbrev dktX2_given_0 : List UInt8 := dkwX2_given_0 ++ dktX2_given_1
theorem dksX2_given_0 : cX2_given.data.toList.drop 0 = dktX2_given_0 := by decide +kernel
theorem dksX2_given_1 : cX2_given.data.toList.drop 23 = dktX2_given_1 := dk_seg dksX2_given_0 23 rfl rfl
theorem dksX2_given_2 : cX2_given.data.toList.drop 46 = dktX2_given_2 := dk_seg dksX2_given_1 23 rfl rfl
theorem dksX2_given_3 : cX2_given.data.toList.drop 70 = dktX2_given_3 := dk_seg dksX2_given_2 24 rfl rfl
theorem dksX2_given_4 : cX2_given.data.toList.drop 94 = dktX2_given_4 := dk_seg dksX2_given_3 24 rfl rfl
theorem dksX2_given_5 : cX2_given.data.toList.drop 118 = dktX2_given_5 := dk_seg dksX2_given_4 24 rfl rfl
theorem dksX2_given_6 : cX2_given.data.toList.drop 141 = dktX2_given_6 := dk_seg dksX2_given_5 23 rfl rfl
theorem dksX2_given_7 : cX2_given.data.toList.drop 165 = dktX2_given_7 := dk_seg dksX2_given_6 24 rfl rfl
theorem dX2_given_0 : decode cX2_given 0 = .ok (.aload_n 1, 1) := dk_43 (dk_at dksX2_given_0 0 rfl rfl)
theorem dX2_given_1 : decode cX2_given 1 = .ok (.invokevirtual 89, 3) := dk_182 0 89 (dk_at dksX2_given_0 1 rfl rfl)
theorem dX2_given_4 : decode cX2_given 4 = .ok (.ifCond .eq 5, 3) := dk_153 0 5 (dk_at dksX2_given_0 4 rfl rfl)
theorem dX2_given_7 : decode cX2_given 7 = .ok (.iconst 0, 1) := dk_3 (dk_at dksX2_given_0 7 rfl rfl)
theorem dX2_given_8 : decode cX2_given 8 = .ok (.ireturn, 1) := dk_172 (dk_at dksX2_given_0 8 rfl rfl)
theorem dX2_given_9 : decode cX2_given 9 = .ok (.aload_n 0, 1) := dk_42 (dk_at dksX2_given_0 9 rfl rfl)
theorem dX2_given_10 : decode cX2_given 10 = .ok (.getfield 3, 3) := dk_180 0 3 (dk_at dksX2_given_0 10 rfl rfl)
theorem dX2_given_13 : decode cX2_given 13 = .ok (.getfield 138, 3) := dk_180 0 138 (dk_at dksX2_given_0 13 rfl rfl)
theorem dX2_given_16 : decode cX2_given 16 = .ok (.aload_n 1, 1) := dk_43 (dk_at dksX2_given_0 16 rfl rfl)
theorem dX2_given_17 : decode cX2_given 17 = .ok (.getfield 141, 3) := dk_180 0 141 (dk_at dksX2_given_0 17 rfl rfl)
theorem dX2_given_20 : decode cX2_given 20 = .ok (.invokevirtual 29, 3) := dk_182 0 29 (dk_at dksX2_given_0 20 rfl rfl)
theorem dX2_given_23 : decode cX2_given 23 = .ok (.checkcast 142, 3) := dk_192 0 142 (dk_at dksX2_given_1 0 rfl rfl)
theorem dX2_given_26 : decode cX2_given 26 = .ok (.astore_n 2, 1) := dk_77 (dk_at dksX2_given_1 3 rfl rfl)
theorem dX2_given_27 : decode cX2_given 27 = .ok (.aload_n 1, 1) := dk_43 (dk_at dksX2_given_1 4 rfl rfl)
theorem dX2_given_28 : decode cX2_given 28 = .ok (.aload_n 2, 1) := dk_44 (dk_at dksX2_given_1 5 rfl rfl)
theorem dX2_given_29 : decode cX2_given 29 = .ok (.invokevirtual 144, 3) := dk_182 0 144 (dk_at dksX2_given_1 6 rfl rfl)
theorem dX2_given_32 : decode cX2_given 32 = .ok (.aload_n 1, 1) := dk_43 (dk_at dksX2_given_1 9 rfl rfl)
theorem dX2_given_33 : decode cX2_given 33 = .ok (.invokevirtual 89, 3) := dk_182 0 89 (dk_at dksX2_given_1 10 rfl rfl)
theorem dX2_given_36 : decode cX2_given 36 = .ok (.ifCond .eq 5, 3) := dk_153 0 5 (dk_at dksX2_given_1 13 rfl rfl)
theorem dX2_given_39 : decode cX2_given 39 = .ok (.iconst 0, 1) := dk_3 (dk_at dksX2_given_1 16 rfl rfl)
theorem dX2_given_40 : decode cX2_given 40 = .ok (.ireturn, 1) := dk_172 (dk_at dksX2_given_1 17 rfl rfl)
theorem dX2_given_41 : decode cX2_given 41 = .ok (.aload_n 2, 1) := dk_44 (dk_at dksX2_given_1 18 rfl rfl)
theorem dX2_given_42 : decode cX2_given 42 = .ok (.getfield 148, 3) := dk_180 0 148 (dk_at dksX2_given_1 19 rfl rfl)
theorem dX2_given_45 : decode cX2_given 45 = .ok (.aload_n 0, 1) := dk_42 (dk_at dksX2_given_1 22 rfl rfl)
theorem dX2_given_46 : decode cX2_given 46 = .ok (.getfield 3, 3) := dk_180 0 3 (dk_at dksX2_given_2 0 rfl rfl)
theorem dX2_given_49 : decode cX2_given 49 = .ok (.iconst 2, 1) := dk_5 (dk_at dksX2_given_2 3 rfl rfl)
theorem dX2_given_50 : decode cX2_given 50 = .ok (.aload_n 0, 1) := dk_42 (dk_at dksX2_given_2 4 rfl rfl)
theorem dX2_given_51 : decode cX2_given 51 = .ok (.getfield 53, 3) := dk_180 0 53 (dk_at dksX2_given_2 5 rfl rfl)
theorem dX2_given_54 : decode cX2_given 54 = .ok (.aload_n 2, 1) := dk_44 (dk_at dksX2_given_2 8 rfl rfl)
theorem dX2_given_55 : decode cX2_given 55 = .ok (.getfield 151, 3) := dk_180 0 151 (dk_at dksX2_given_2 9 rfl rfl)
theorem dX2_given_58 : decode cX2_given 58 = .ok (.irem, 1) := dk_112 (dk_at dksX2_given_2 12 rfl rfl)
theorem dX2_given_59 : decode cX2_given 59 = .ok (.ldc 154, 2) := dk_18 154 (dk_at dksX2_given_2 13 rfl rfl)
theorem dX2_given_61 : decode cX2_given 61 = .ok (.imul, 1) := dk_104 (dk_at dksX2_given_2 15 rfl rfl)
theorem dX2_given_62 : decode cX2_given 62 = .ok (.aload_n 2, 1) := dk_44 (dk_at dksX2_given_2 16 rfl rfl)
theorem dX2_given_63 : decode cX2_given 63 = .ok (.getfield 151, 3) := dk_180 0 151 (dk_at dksX2_given_2 17 rfl rfl)
theorem dX2_given_66 : decode cX2_given 66 = .ok (.idiv, 1) := dk_108 (dk_at dksX2_given_2 20 rfl rfl)
theorem dX2_given_67 : decode cX2_given 67 = .ok (.invokevirtual 155, 3) := dk_182 0 155 (dk_at dksX2_given_2 21 rfl rfl)
theorem dX2_given_70 : decode cX2_given 70 = .ok (.imul, 1) := dk_104 (dk_at dksX2_given_3 0 rfl rfl)
theorem dX2_given_71 : decode cX2_given 71 = .ok (.sipush 1000, 3) := dk_17 3 232 (dk_at dksX2_given_3 1 rfl rfl)
theorem dX2_given_74 : decode cX2_given 74 = .ok (.idiv, 1) := dk_108 (dk_at dksX2_given_3 4 rfl rfl)
theorem dX2_given_75 : decode cX2_given 75 = .ok (.istore_n 3, 1) := dk_62 (dk_at dksX2_given_3 5 rfl rfl)
theorem dX2_given_76 : decode cX2_given 76 = .ok (.aload_n 0, 1) := dk_42 (dk_at dksX2_given_3 6 rfl rfl)
theorem dX2_given_77 : decode cX2_given 77 = .ok (.getfield 3, 3) := dk_180 0 3 (dk_at dksX2_given_3 7 rfl rfl)
theorem dX2_given_80 : decode cX2_given 80 = .ok (.aload_n 2, 1) := dk_44 (dk_at dksX2_given_3 10 rfl rfl)
theorem dX2_given_81 : decode cX2_given 81 = .ok (.getfield 159, 3) := dk_180 0 159 (dk_at dksX2_given_3 11 rfl rfl)
theorem dX2_given_84 : decode cX2_given 84 = .ok (.aload_n 1, 1) := dk_43 (dk_at dksX2_given_3 14 rfl rfl)
theorem dX2_given_85 : decode cX2_given 85 = .ok (.getfield 162, 3) := dk_180 0 162 (dk_at dksX2_given_3 15 rfl rfl)
theorem dX2_given_88 : decode cX2_given 88 = .ok (.invokevirtual 155, 3) := dk_182 0 155 (dk_at dksX2_given_3 18 rfl rfl)
theorem dX2_given_91 : decode cX2_given 91 = .ok (.bipush 100, 2) := dk_16 100 (dk_at dksX2_given_3 21 rfl rfl)
theorem dX2_given_93 : decode cX2_given 93 = .ok (.aload_n 2, 1) := dk_44 (dk_at dksX2_given_3 23 rfl rfl)
theorem dX2_given_94 : decode cX2_given 94 = .ok (.getfield 165, 3) := dk_180 0 165 (dk_at dksX2_given_4 0 rfl rfl)
theorem dX2_given_97 : decode cX2_given 97 = .ok (.isub, 1) := dk_100 (dk_at dksX2_given_4 3 rfl rfl)
theorem dX2_given_98 : decode cX2_given 98 = .ok (.imul, 1) := dk_104 (dk_at dksX2_given_4 4 rfl rfl)
theorem dX2_given_99 : decode cX2_given 99 = .ok (.aload_n 0, 1) := dk_42 (dk_at dksX2_given_4 5 rfl rfl)
theorem dX2_given_100 : decode cX2_given 100 = .ok (.getfield 3, 3) := dk_180 0 3 (dk_at dksX2_given_4 6 rfl rfl)
theorem dX2_given_103 : decode cX2_given 103 = .ok (.aload_n 2, 1) := dk_44 (dk_at dksX2_given_4 9 rfl rfl)
theorem dX2_given_104 : decode cX2_given 104 = .ok (.getfield 168, 3) := dk_180 0 168 (dk_at dksX2_given_4 10 rfl rfl)
theorem dX2_given_107 : decode cX2_given 107 = .ok (.aload_n 1, 1) := dk_43 (dk_at dksX2_given_4 13 rfl rfl)
theorem dX2_given_108 : decode cX2_given 108 = .ok (.getfield 171, 3) := dk_180 0 171 (dk_at dksX2_given_4 14 rfl rfl)
theorem dX2_given_111 : decode cX2_given 111 = .ok (.invokevirtual 155, 3) := dk_182 0 155 (dk_at dksX2_given_4 17 rfl rfl)
theorem dX2_given_114 : decode cX2_given 114 = .ok (.aload_n 2, 1) := dk_44 (dk_at dksX2_given_4 20 rfl rfl)
theorem dX2_given_115 : decode cX2_given 115 = .ok (.getfield 165, 3) := dk_180 0 165 (dk_at dksX2_given_4 21 rfl rfl)
theorem dX2_given_118 : decode cX2_given 118 = .ok (.imul, 1) := dk_104 (dk_at dksX2_given_5 0 rfl rfl)
theorem dX2_given_119 : decode cX2_given 119 = .ok (.iadd, 1) := dk_96 (dk_at dksX2_given_5 1 rfl rfl)
theorem dX2_given_120 : decode cX2_given 120 = .ok (.bipush 100, 2) := dk_16 100 (dk_at dksX2_given_5 2 rfl rfl)
theorem dX2_given_122 : decode cX2_given 122 = .ok (.idiv, 1) := dk_108 (dk_at dksX2_given_5 4 rfl rfl)
theorem dX2_given_123 : decode cX2_given 123 = .ok (.istore 4, 2) := dk_54 4 (dk_at dksX2_given_5 5 rfl rfl)
theorem dX2_given_125 : decode cX2_given 125 = .ok (.aload_n 1, 1) := dk_43 (dk_at dksX2_given_5 7 rfl rfl)
theorem dX2_given_126 : decode cX2_given 126 = .ok (.getfield 174, 3) := dk_180 0 174 (dk_at dksX2_given_5 8 rfl rfl)
theorem dX2_given_129 : decode cX2_given 129 = .ok (.invokestatic 176, 3) := dk_184 0 176 (dk_at dksX2_given_5 11 rfl rfl)
theorem dX2_given_132 : decode cX2_given 132 = .ok (.iload_n 3, 1) := dk_29 (dk_at dksX2_given_5 14 rfl rfl)
theorem dX2_given_133 : decode cX2_given 133 = .ok (.iadd, 1) := dk_96 (dk_at dksX2_given_5 15 rfl rfl)
theorem dX2_given_134 : decode cX2_given 134 = .ok (.istore 5, 2) := dk_54 5 (dk_at dksX2_given_5 16 rfl rfl)
theorem dX2_given_136 : decode cX2_given 136 = .ok (.aload_n 1, 1) := dk_43 (dk_at dksX2_given_5 18 rfl rfl)
theorem dX2_given_137 : decode cX2_given 137 = .ok (.aload_n 1, 1) := dk_43 (dk_at dksX2_given_5 19 rfl rfl)
theorem dX2_given_138 : decode cX2_given 138 = .ok (.getfield 162, 3) := dk_180 0 162 (dk_at dksX2_given_5 20 rfl rfl)
theorem dX2_given_141 : decode cX2_given 141 = .ok (.iload 5, 2) := dk_21 5 (dk_at dksX2_given_6 0 rfl rfl)
theorem dX2_given_143 : decode cX2_given 143 = .ok (.iadd, 1) := dk_96 (dk_at dksX2_given_6 2 rfl rfl)
theorem dX2_given_144 : decode cX2_given 144 = .ok (.ldc 154, 2) := dk_18 154 (dk_at dksX2_given_6 3 rfl rfl)
theorem dX2_given_146 : decode cX2_given 146 = .ok (.invokestatic 180, 3) := dk_184 0 180 (dk_at dksX2_given_6 5 rfl rfl)
theorem dX2_given_149 : decode cX2_given 149 = .ok (.putfield 162, 3) := dk_181 0 162 (dk_at dksX2_given_6 8 rfl rfl)
theorem dX2_given_152 : decode cX2_given 152 = .ok (.aload_n 1, 1) := dk_43 (dk_at dksX2_given_6 11 rfl rfl)
theorem dX2_given_153 : decode cX2_given 153 = .ok (.aload_n 1, 1) := dk_43 (dk_at dksX2_given_6 12 rfl rfl)
theorem dX2_given_154 : decode cX2_given 154 = .ok (.getfield 171, 3) := dk_180 0 171 (dk_at dksX2_given_6 13 rfl rfl)
theorem dX2_given_157 : decode cX2_given 157 = .ok (.iload 5, 2) := dk_21 5 (dk_at dksX2_given_6 16 rfl rfl)
theorem dX2_given_159 : decode cX2_given 159 = .ok (.iadd, 1) := dk_96 (dk_at dksX2_given_6 18 rfl rfl)
theorem dX2_given_160 : decode cX2_given 160 = .ok (.aload_n 2, 1) := dk_44 (dk_at dksX2_given_6 19 rfl rfl)
theorem dX2_given_161 : decode cX2_given 161 = .ok (.getfield 185, 3) := dk_180 0 185 (dk_at dksX2_given_6 20 rfl rfl)
theorem dX2_given_164 : decode cX2_given 164 = .ok (.iadd, 1) := dk_96 (dk_at dksX2_given_6 23 rfl rfl)
theorem dX2_given_165 : decode cX2_given 165 = .ok (.ldc 154, 2) := dk_18 154 (dk_at dksX2_given_7 0 rfl rfl)
theorem dX2_given_167 : decode cX2_given 167 = .ok (.invokestatic 180, 3) := dk_184 0 180 (dk_at dksX2_given_7 2 rfl rfl)
theorem dX2_given_170 : decode cX2_given 170 = .ok (.putfield 171, 3) := dk_181 0 171 (dk_at dksX2_given_7 5 rfl rfl)
theorem dX2_given_173 : decode cX2_given 173 = .ok (.aload_n 1, 1) := dk_43 (dk_at dksX2_given_7 8 rfl rfl)
theorem dX2_given_174 : decode cX2_given 174 = .ok (.iload 4, 2) := dk_21 4 (dk_at dksX2_given_7 9 rfl rfl)
theorem dX2_given_176 : decode cX2_given 176 = .ok (.aload_n 2, 1) := dk_44 (dk_at dksX2_given_7 11 rfl rfl)
theorem dX2_given_177 : decode cX2_given 177 = .ok (.invokevirtual 188, 3) := dk_182 0 188 (dk_at dksX2_given_7 12 rfl rfl)
theorem dX2_given_180 : decode cX2_given 180 = .ok (.ireturn, 1) := dk_172 (dk_at dksX2_given_7 15 rfl rfl)
abbrev cX2_copy : ByteArray := prog_2_method_2_code
def yX2_copy : MethodName := ⟨RX2, "copy", "()LMelodeon$Engine;"⟩
def dkwX2_copy_5 : List UInt8 := [42, 180, 0, 72, 181, 0, 72, 43, 176]
abbrev dktX2_copy_5 : List UInt8 := dkwX2_copy_5 ++ []
def dkwX2_copy_4 : List UInt8 := [42, 180, 0, 62, 181, 0, 62, 43, 42, 180, 0, 66, 181, 0, 66, 43, 42, 180, 0, 69, 181, 0, 69, 43]
abbrev dktX2_copy_4 : List UInt8 := dkwX2_copy_4 ++ dktX2_copy_5
def dkwX2_copy_3 : List UInt8 := [42, 180, 0, 53, 181, 0, 53, 43, 42, 180, 0, 56, 181, 0, 56, 43, 42, 180, 0, 59, 181, 0, 59, 43]
abbrev dktX2_copy_3 : List UInt8 := dkwX2_copy_3 ++ dktX2_copy_4
def dkwX2_copy_2 : List UInt8 := [180, 0, 22, 3, 43, 180, 0, 22, 3, 17, 0, 200, 184, 0, 43, 43, 42, 180, 0, 49, 181, 0, 49, 43]
abbrev dktX2_copy_2 : List UInt8 := dkwX2_copy_2 ++ dktX2_copy_3
def dkwX2_copy_1 : List UInt8 := [180, 0, 18, 28, 182, 0, 29, 192, 0, 33, 182, 0, 35, 182, 0, 39, 87, 132, 2, 1, 167, 255, 226, 42]
abbrev dktX2_copy_1 : List UInt8 := dkwX2_copy_1 ++ dktX2_copy_2
def dkwX2_copy_0 : List UInt8 := [187, 0, 4, 89, 42, 180, 0, 3, 183, 0, 26, 76, 3, 61, 28, 7, 162, 0, 31, 43, 180, 0, 18, 42]
abbrev dktX2_copy_0 : List UInt8 := dkwX2_copy_0 ++ dktX2_copy_1
theorem dksX2_copy_0 : cX2_copy.data.toList.drop 0 = dktX2_copy_0 := by decide +kernel
theorem dksX2_copy_1 : cX2_copy.data.toList.drop 24 = dktX2_copy_1 := dk_seg dksX2_copy_0 24 rfl rfl
theorem dksX2_copy_2 : cX2_copy.data.toList.drop 48 = dktX2_copy_2 := dk_seg dksX2_copy_1 24 rfl rfl
theorem dksX2_copy_3 : cX2_copy.data.toList.drop 72 = dktX2_copy_3 := dk_seg dksX2_copy_2 24 rfl rfl
theorem dksX2_copy_4 : cX2_copy.data.toList.drop 96 = dktX2_copy_4 := dk_seg dksX2_copy_3 24 rfl rfl
theorem dksX2_copy_5 : cX2_copy.data.toList.drop 120 = dktX2_copy_5 := dk_seg dksX2_copy_4 24 rfl rfl
theorem dX2_copy_0 : decode cX2_copy 0 = .ok (.new 4, 3) := dk_187 0 4 (dk_at dksX2_copy_0 0 rfl rfl)
theorem dX2_copy_3 : decode cX2_copy 3 = .ok (.dup, 1) := dk_89 (dk_at dksX2_copy_0 3 rfl rfl)
theorem dX2_copy_4 : decode cX2_copy 4 = .ok (.aload_n 0, 1) := dk_42 (dk_at dksX2_copy_0 4 rfl rfl)
theorem dX2_copy_5 : decode cX2_copy 5 = .ok (.getfield 3, 3) := dk_180 0 3 (dk_at dksX2_copy_0 5 rfl rfl)
theorem dX2_copy_8 : decode cX2_copy 8 = .ok (.invokespecial 26, 3) := dk_183 0 26 (dk_at dksX2_copy_0 8 rfl rfl)
theorem dX2_copy_11 : decode cX2_copy 11 = .ok (.astore_n 1, 1) := dk_76 (dk_at dksX2_copy_0 11 rfl rfl)
theorem dX2_copy_12 : decode cX2_copy 12 = .ok (.iconst 0, 1) := dk_3 (dk_at dksX2_copy_0 12 rfl rfl)
theorem dX2_copy_13 : decode cX2_copy 13 = .ok (.istore_n 2, 1) := dk_61 (dk_at dksX2_copy_0 13 rfl rfl)
theorem dX2_copy_14 : decode cX2_copy 14 = .ok (.iload_n 2, 1) := dk_28 (dk_at dksX2_copy_0 14 rfl rfl)
theorem dX2_copy_15 : decode cX2_copy 15 = .ok (.iconst 4, 1) := dk_7 (dk_at dksX2_copy_0 15 rfl rfl)
theorem dX2_copy_16 : decode cX2_copy 16 = .ok (.if_icmp .ge 31, 3) := dk_162 0 31 (dk_at dksX2_copy_0 16 rfl rfl)
theorem dX2_copy_19 : decode cX2_copy 19 = .ok (.aload_n 1, 1) := dk_43 (dk_at dksX2_copy_0 19 rfl rfl)
theorem dX2_copy_20 : decode cX2_copy 20 = .ok (.getfield 18, 3) := dk_180 0 18 (dk_at dksX2_copy_0 20 rfl rfl)
theorem dX2_copy_23 : decode cX2_copy 23 = .ok (.aload_n 0, 1) := dk_42 (dk_at dksX2_copy_0 23 rfl rfl)
theorem dX2_copy_24 : decode cX2_copy 24 = .ok (.getfield 18, 3) := dk_180 0 18 (dk_at dksX2_copy_1 0 rfl rfl)
theorem dX2_copy_27 : decode cX2_copy 27 = .ok (.iload_n 2, 1) := dk_28 (dk_at dksX2_copy_1 3 rfl rfl)
theorem dX2_copy_28 : decode cX2_copy 28 = .ok (.invokevirtual 29, 3) := dk_182 0 29 (dk_at dksX2_copy_1 4 rfl rfl)
theorem dX2_copy_31 : decode cX2_copy 31 = .ok (.checkcast 33, 3) := dk_192 0 33 (dk_at dksX2_copy_1 7 rfl rfl)
theorem dX2_copy_34 : decode cX2_copy 34 = .ok (.invokevirtual 35, 3) := dk_182 0 35 (dk_at dksX2_copy_1 10 rfl rfl)
theorem dX2_copy_37 : decode cX2_copy 37 = .ok (.invokevirtual 39, 3) := dk_182 0 39 (dk_at dksX2_copy_1 13 rfl rfl)
theorem dX2_copy_40 : decode cX2_copy 40 = .ok (.pop, 1) := dk_87 (dk_at dksX2_copy_1 16 rfl rfl)
theorem dX2_copy_41 : decode cX2_copy 41 = .ok (.iinc 2 1, 3) := dk_132 2 1 (dk_at dksX2_copy_1 17 rfl rfl)
theorem dX2_copy_44 : decode cX2_copy 44 = .ok (.goto (-30), 3) := dk_167 255 226 (dk_at dksX2_copy_1 20 rfl rfl)
theorem dX2_copy_47 : decode cX2_copy 47 = .ok (.aload_n 0, 1) := dk_42 (dk_at dksX2_copy_1 23 rfl rfl)
theorem dX2_copy_48 : decode cX2_copy 48 = .ok (.getfield 22, 3) := dk_180 0 22 (dk_at dksX2_copy_2 0 rfl rfl)
theorem dX2_copy_51 : decode cX2_copy 51 = .ok (.iconst 0, 1) := dk_3 (dk_at dksX2_copy_2 3 rfl rfl)
theorem dX2_copy_52 : decode cX2_copy 52 = .ok (.aload_n 1, 1) := dk_43 (dk_at dksX2_copy_2 4 rfl rfl)
theorem dX2_copy_53 : decode cX2_copy 53 = .ok (.getfield 22, 3) := dk_180 0 22 (dk_at dksX2_copy_2 5 rfl rfl)
theorem dX2_copy_56 : decode cX2_copy 56 = .ok (.iconst 0, 1) := dk_3 (dk_at dksX2_copy_2 8 rfl rfl)
theorem dX2_copy_57 : decode cX2_copy 57 = .ok (.sipush 200, 3) := dk_17 0 200 (dk_at dksX2_copy_2 9 rfl rfl)
theorem dX2_copy_60 : decode cX2_copy 60 = .ok (.invokestatic 43, 3) := dk_184 0 43 (dk_at dksX2_copy_2 12 rfl rfl)
theorem dX2_copy_63 : decode cX2_copy 63 = .ok (.aload_n 1, 1) := dk_43 (dk_at dksX2_copy_2 15 rfl rfl)
theorem dX2_copy_64 : decode cX2_copy 64 = .ok (.aload_n 0, 1) := dk_42 (dk_at dksX2_copy_2 16 rfl rfl)
theorem dX2_copy_65 : decode cX2_copy 65 = .ok (.getfield 49, 3) := dk_180 0 49 (dk_at dksX2_copy_2 17 rfl rfl)
theorem dX2_copy_68 : decode cX2_copy 68 = .ok (.putfield 49, 3) := dk_181 0 49 (dk_at dksX2_copy_2 20 rfl rfl)
theorem dX2_copy_71 : decode cX2_copy 71 = .ok (.aload_n 1, 1) := dk_43 (dk_at dksX2_copy_2 23 rfl rfl)
theorem dX2_copy_72 : decode cX2_copy 72 = .ok (.aload_n 0, 1) := dk_42 (dk_at dksX2_copy_3 0 rfl rfl)
theorem dX2_copy_73 : decode cX2_copy 73 = .ok (.getfield 53, 3) := dk_180 0 53 (dk_at dksX2_copy_3 1 rfl rfl)
theorem dX2_copy_76 : decode cX2_copy 76 = .ok (.putfield 53, 3) := dk_181 0 53 (dk_at dksX2_copy_3 4 rfl rfl)
theorem dX2_copy_79 : decode cX2_copy 79 = .ok (.aload_n 1, 1) := dk_43 (dk_at dksX2_copy_3 7 rfl rfl)
theorem dX2_copy_80 : decode cX2_copy 80 = .ok (.aload_n 0, 1) := dk_42 (dk_at dksX2_copy_3 8 rfl rfl)
theorem dX2_copy_81 : decode cX2_copy 81 = .ok (.getfield 56, 3) := dk_180 0 56 (dk_at dksX2_copy_3 9 rfl rfl)
theorem dX2_copy_84 : decode cX2_copy 84 = .ok (.putfield 56, 3) := dk_181 0 56 (dk_at dksX2_copy_3 12 rfl rfl)
theorem dX2_copy_87 : decode cX2_copy 87 = .ok (.aload_n 1, 1) := dk_43 (dk_at dksX2_copy_3 15 rfl rfl)
theorem dX2_copy_88 : decode cX2_copy 88 = .ok (.aload_n 0, 1) := dk_42 (dk_at dksX2_copy_3 16 rfl rfl)
theorem dX2_copy_89 : decode cX2_copy 89 = .ok (.getfield 59, 3) := dk_180 0 59 (dk_at dksX2_copy_3 17 rfl rfl)
theorem dX2_copy_92 : decode cX2_copy 92 = .ok (.putfield 59, 3) := dk_181 0 59 (dk_at dksX2_copy_3 20 rfl rfl)
theorem dX2_copy_95 : decode cX2_copy 95 = .ok (.aload_n 1, 1) := dk_43 (dk_at dksX2_copy_3 23 rfl rfl)
theorem dX2_copy_96 : decode cX2_copy 96 = .ok (.aload_n 0, 1) := dk_42 (dk_at dksX2_copy_4 0 rfl rfl)
theorem dX2_copy_97 : decode cX2_copy 97 = .ok (.getfield 62, 3) := dk_180 0 62 (dk_at dksX2_copy_4 1 rfl rfl)
theorem dX2_copy_100 : decode cX2_copy 100 = .ok (.putfield 62, 3) := dk_181 0 62 (dk_at dksX2_copy_4 4 rfl rfl)
theorem dX2_copy_103 : decode cX2_copy 103 = .ok (.aload_n 1, 1) := dk_43 (dk_at dksX2_copy_4 7 rfl rfl)
theorem dX2_copy_104 : decode cX2_copy 104 = .ok (.aload_n 0, 1) := dk_42 (dk_at dksX2_copy_4 8 rfl rfl)
theorem dX2_copy_105 : decode cX2_copy 105 = .ok (.getfield 66, 3) := dk_180 0 66 (dk_at dksX2_copy_4 9 rfl rfl)
theorem dX2_copy_108 : decode cX2_copy 108 = .ok (.putfield 66, 3) := dk_181 0 66 (dk_at dksX2_copy_4 12 rfl rfl)
theorem dX2_copy_111 : decode cX2_copy 111 = .ok (.aload_n 1, 1) := dk_43 (dk_at dksX2_copy_4 15 rfl rfl)
theorem dX2_copy_112 : decode cX2_copy 112 = .ok (.aload_n 0, 1) := dk_42 (dk_at dksX2_copy_4 16 rfl rfl)
theorem dX2_copy_113 : decode cX2_copy 113 = .ok (.getfield 69, 3) := dk_180 0 69 (dk_at dksX2_copy_4 17 rfl rfl)
theorem dX2_copy_116 : decode cX2_copy 116 = .ok (.putfield 69, 3) := dk_181 0 69 (dk_at dksX2_copy_4 20 rfl rfl)
theorem dX2_copy_119 : decode cX2_copy 119 = .ok (.aload_n 1, 1) := dk_43 (dk_at dksX2_copy_4 23 rfl rfl)
theorem dX2_copy_120 : decode cX2_copy 120 = .ok (.aload_n 0, 1) := dk_42 (dk_at dksX2_copy_5 0 rfl rfl)
theorem dX2_copy_121 : decode cX2_copy 121 = .ok (.getfield 72, 3) := dk_180 0 72 (dk_at dksX2_copy_5 1 rfl rfl)
theorem dX2_copy_124 : decode cX2_copy 124 = .ok (.putfield 72, 3) := dk_181 0 72 (dk_at dksX2_copy_5 4 rfl rfl)
theorem dX2_copy_127 : decode cX2_copy 127 = .ok (.aload_n 1, 1) := dk_43 (dk_at dksX2_copy_5 7 rfl rfl)
theorem dX2_copy_128 : decode cX2_copy 128 = .ok (.areturn, 1) := dk_176 (dk_at dksX2_copy_5 8 rfl rfl)
theorem q30 : (Jvm.Cond.initialized "Melodeon$Engine") ∈ lw_all := lw_g (lw_at lw_m1 5 rfl) rfl
theorem q85 : (Jvm.Cond.instantiable "Melodeon$Engine" (12 : Nat)) ∈ lw_all := lw_g (lw_at lw_m1 60 rfl) rfl
theorem q87 : (Jvm.Cond.instanceMethod ({ cls := "Melodeon$Engine", name := "<init>", desc := "(LMelodeon;)V" } : Jvm.MethodName)) ∈ lw_all := lw_g (lw_at lw_m1 62 rfl) rfl
theorem q88 : (Jvm.Cond.code ({ cls := "Melodeon$Engine", name := "<init>", desc := "(LMelodeon;)V" } : Jvm.MethodName) prog_2_method_1_code (2 : Nat) (Option.none : Option Jvm.ClassFile.FieldType)) ∈ lw_all := lw_g (lw_at lw_m1 63 rfl) rfl
theorem q89 : (Jvm.Cond.methodLink "Melodeon$Engine" (9 : Nat) ({ cls := "java/lang/Object", name := "<init>", desc := "()V" } : Jvm.MethodName)) ∈ lw_all := lw_g (lw_at lw_m1 64 rfl) rfl
theorem q90 : (Jvm.Cond.classLink "Melodeon$Engine" (15 : Nat) "java/util/ArrayList") ∈ lw_all := lw_g (lw_at lw_m1 65 rfl) rfl
theorem q91 : (Jvm.Cond.methodLink "Melodeon$Engine" (17 : Nat) ({ cls := "java/util/ArrayList", name := "<init>", desc := "()V" } : Jvm.MethodName)) ∈ lw_all := lw_g (lw_at lw_m1 66 rfl) rfl
theorem q92 : (Jvm.Cond.fieldLink "Melodeon$Engine" (18 : Nat) "Melodeon$Engine" "voices" "Ljava/util/ArrayList;") ∈ lw_all := lw_g (lw_at lw_m1 67 rfl) rfl
theorem q94 : (Jvm.Cond.fieldLink "Melodeon$Engine" (22 : Nat) "Melodeon$Engine" "row" "[I") ∈ lw_all := lw_g (lw_at lw_m1 69 rfl) rfl
theorem q96 : (Jvm.Cond.fieldLink "Melodeon$Engine" (49 : Nat) "Melodeon$Engine" "head" "I") ∈ lw_all := lw_g (lw_at lw_m1 71 rfl) rfl
theorem q98 : (Jvm.Cond.fieldLink "Melodeon$Engine" (53 : Nat) "Melodeon$Engine" "clock" "I") ∈ lw_all := lw_g (lw_at lw_m1 73 rfl) rfl
theorem q100 : (Jvm.Cond.fieldLink "Melodeon$Engine" (56 : Nat) "Melodeon$Engine" "begun" "I") ∈ lw_all := lw_g (lw_at lw_m1 75 rfl) rfl
theorem q101 : (Jvm.Cond.fieldLink "Melodeon$Engine" (59 : Nat) "Melodeon$Engine" "taken" "I") ∈ lw_all := lw_g (lw_at lw_m1 76 rfl) rfl
theorem q103 : (Jvm.Cond.fieldLink "Melodeon$Engine" (62 : Nat) "Melodeon$Engine" "isPlaying" "Z") ∈ lw_all := lw_g (lw_at lw_m1 78 rfl) rfl
theorem q105 : (Jvm.Cond.fieldLink "Melodeon$Engine" (66 : Nat) "Melodeon$Engine" "step" "I") ∈ lw_all := lw_g (lw_at lw_m1 80 rfl) rfl
theorem q107 : (Jvm.Cond.fieldLink "Melodeon$Engine" (69 : Nat) "Melodeon$Engine" "gone" "I") ∈ lw_all := lw_g (lw_at lw_m1 82 rfl) rfl
theorem q109 : (Jvm.Cond.fieldLink "Melodeon$Engine" (72 : Nat) "Melodeon$Engine" "stepLength" "I") ∈ lw_all := lw_g (lw_at lw_m1 84 rfl) rfl
theorem q111 : (Jvm.Cond.fieldLink "Melodeon$Engine" (214 : Nat) "Melodeon$Engine" "isClipped" "Z") ∈ lw_all := lw_g (lw_at lw_m1 86 rfl) rfl
theorem q112 : (Jvm.Cond.fieldLink "Melodeon$Engine" (3 : Nat) "Melodeon$Engine" "this$0" "LMelodeon;") ∈ lw_all := lw_g (lw_at lw_m1 87 rfl) rfl
theorem q113 : (Jvm.Cond.laysFinal "Melodeon$Engine" "Melodeon$Engine" "voices" "Ljava/util/ArrayList;") ∈ lw_all := lw_g (lw_at lw_m1 88 rfl) rfl
theorem q114 : (Jvm.Cond.soleField "Melodeon$Engine" "voices") ∈ lw_all := lw_g (lw_at lw_m1 89 rfl) rfl
theorem q115 : (Jvm.Cond.laysFinal "Melodeon$Engine" "Melodeon$Engine" "row" "[I") ∈ lw_all := lw_g (lw_at lw_m1 90 rfl) rfl
theorem q116 : (Jvm.Cond.soleField "Melodeon$Engine" "row") ∈ lw_all := lw_g (lw_at lw_m1 91 rfl) rfl
theorem q117 : (Jvm.Cond.lays "Melodeon$Engine" "Melodeon$Engine" "head" "I") ∈ lw_all := lw_g (lw_at lw_m1 92 rfl) rfl
theorem q118 : (Jvm.Cond.soleField "Melodeon$Engine" "head") ∈ lw_all := lw_g (lw_at lw_m1 93 rfl) rfl
theorem q119 : (Jvm.Cond.lays "Melodeon$Engine" "Melodeon$Engine" "clock" "I") ∈ lw_all := lw_g (lw_at lw_m1 94 rfl) rfl
theorem q120 : (Jvm.Cond.soleField "Melodeon$Engine" "clock") ∈ lw_all := lw_g (lw_at lw_m1 95 rfl) rfl
theorem q121 : (Jvm.Cond.lays "Melodeon$Engine" "Melodeon$Engine" "begun" "I") ∈ lw_all := lw_g (lw_at lw_m1 96 rfl) rfl
theorem q122 : (Jvm.Cond.soleField "Melodeon$Engine" "begun") ∈ lw_all := lw_g (lw_at lw_m1 97 rfl) rfl
theorem q123 : (Jvm.Cond.lays "Melodeon$Engine" "Melodeon$Engine" "taken" "I") ∈ lw_all := lw_g (lw_at lw_m1 98 rfl) rfl
theorem q124 : (Jvm.Cond.soleField "Melodeon$Engine" "taken") ∈ lw_all := lw_g (lw_at lw_m1 99 rfl) rfl
theorem q125 : (Jvm.Cond.lays "Melodeon$Engine" "Melodeon$Engine" "isPlaying" "Z") ∈ lw_all := lw_g (lw_at lw_m1 100 rfl) rfl
theorem q126 : (Jvm.Cond.soleField "Melodeon$Engine" "isPlaying") ∈ lw_all := lw_g (lw_at lw_m1 101 rfl) rfl
theorem q127 : (Jvm.Cond.lays "Melodeon$Engine" "Melodeon$Engine" "step" "I") ∈ lw_all := lw_g (lw_at lw_m1 102 rfl) rfl
theorem q128 : (Jvm.Cond.soleField "Melodeon$Engine" "step") ∈ lw_all := lw_g (lw_at lw_m1 103 rfl) rfl
theorem q129 : (Jvm.Cond.lays "Melodeon$Engine" "Melodeon$Engine" "gone" "I") ∈ lw_all := lw_g (lw_at lw_m1 104 rfl) rfl
theorem q130 : (Jvm.Cond.soleField "Melodeon$Engine" "gone") ∈ lw_all := lw_g (lw_at lw_m1 105 rfl) rfl
theorem q131 : (Jvm.Cond.lays "Melodeon$Engine" "Melodeon$Engine" "stepLength" "I") ∈ lw_all := lw_g (lw_at lw_m1 106 rfl) rfl
theorem q132 : (Jvm.Cond.soleField "Melodeon$Engine" "stepLength") ∈ lw_all := lw_g (lw_at lw_m1 107 rfl) rfl
theorem q133 : (Jvm.Cond.lays "Melodeon$Engine" "Melodeon$Engine" "isClipped" "Z") ∈ lw_all := lw_g (lw_at lw_m1 108 rfl) rfl
theorem q134 : (Jvm.Cond.soleField "Melodeon$Engine" "isClipped") ∈ lw_all := lw_g (lw_at lw_m1 109 rfl) rfl
theorem q135 : (Jvm.Cond.laysFinal "Melodeon$Engine" "Melodeon$Engine" "this$0" "LMelodeon;") ∈ lw_all := lw_g (lw_at lw_m1 110 rfl) rfl
theorem q136 : (Jvm.Cond.soleField "Melodeon$Engine" "this$0") ∈ lw_all := lw_g (lw_at lw_m1 111 rfl) rfl
theorem q137 : (Jvm.Cond.superclass "Melodeon$Engine" "java/lang/Object") ∈ lw_all := lw_g (lw_at lw_m1 112 rfl) rfl
theorem q144 : (Jvm.Cond.fieldLinkNest "Melodeon$Engine" (159 : Nat) "Melodeon$Instrument" "one" "I" "Melodeon") ∈ lw_tbl := lw_at lw_m1 119 rfl
theorem q146 : (Jvm.Cond.fieldLinkNest "Melodeon$Engine" (168 : Nat) "Melodeon$Instrument" "other" "I" "Melodeon") ∈ lw_tbl := lw_at lw_m1 121 rfl
theorem q148 : (Jvm.Cond.fieldLinkNest "Melodeon$Engine" (185 : Nat) "Melodeon$Instrument" "detune" "I" "Melodeon") ∈ lw_tbl := lw_at lw_m1 123 rfl
theorem q150 : (Jvm.Cond.fieldLinkNest "Melodeon$Engine" (165 : Nat) "Melodeon$Instrument" "mix" "I" "Melodeon") ∈ lw_tbl := lw_at lw_m1 125 rfl
theorem q170 : (Jvm.Cond.fieldLinkNest "Melodeon$Engine" (148 : Nat) "Melodeon$Instrument" "depth" "I" "Melodeon") ∈ lw_tbl := lw_at lw_m1 145 rfl
theorem q173 : (Jvm.Cond.fieldLinkNest "Melodeon$Engine" (151 : Nat) "Melodeon$Instrument" "period" "I" "Melodeon") ∈ lw_tbl := lw_at lw_m1 148 rfl
theorem q233 : (Jvm.Cond.selects "Melodeon$Engine" ({ cls := "java/lang/Object", name := "getClass", desc := "()Ljava/lang/Class;" } : Jvm.MethodName) ({ cls := "java/lang/Object", name := "getClass", desc := "()Ljava/lang/Class;" } : Jvm.MethodName)) ∈ lw_all := lw_g (lw_at lw_m1 208 rfl) rfl
theorem q264 : (Jvm.Cond.fieldLinkNest "Melodeon$Engine" (127 : Nat) "Melodeon$Track" "instrument" "I" "Melodeon") ∈ lw_tbl := lw_at lw_m1 239 rfl
theorem q267 : (Jvm.Cond.fieldLinkNest "Melodeon$Engine" (124 : Nat) "Melodeon$Track" "pitch" "[I" "Melodeon") ∈ lw_tbl := lw_at lw_m2 2 rfl
theorem q270 : (Jvm.Cond.fieldLinkNest "Melodeon$Engine" (130 : Nat) "Melodeon$Track" "force" "[I" "Melodeon") ∈ lw_tbl := lw_at lw_m2 5 rfl
theorem q273 : (Jvm.Cond.fieldLinkNest "Melodeon$Engine" (133 : Nat) "Melodeon$Track" "gate" "[I" "Melodeon") ∈ lw_tbl := lw_at lw_m2 8 rfl
theorem q291 : (Jvm.Cond.fieldLinkNest "Melodeon$Engine" (83 : Nat) "Melodeon$Voice" "state" "I" "Melodeon") ∈ lw_tbl := lw_at lw_m2 26 rfl
theorem q294 : (Jvm.Cond.fieldLinkNest "Melodeon$Engine" (86 : Nat) "Melodeon$Voice" "level" "I" "Melodeon") ∈ lw_tbl := lw_at lw_m2 29 rfl
theorem q297 : (Jvm.Cond.fieldLinkNest "Melodeon$Engine" (141 : Nat) "Melodeon$Voice" "instrument" "I" "Melodeon") ∈ lw_tbl := lw_at lw_m2 32 rfl
theorem q300 : (Jvm.Cond.fieldLinkNest "Melodeon$Engine" (174 : Nat) "Melodeon$Voice" "pitch" "I" "Melodeon") ∈ lw_tbl := lw_at lw_m2 35 rfl
theorem q305 : (Jvm.Cond.fieldLinkNest "Melodeon$Engine" (93 : Nat) "Melodeon$Voice" "began" "I" "Melodeon") ∈ lw_tbl := lw_at lw_m2 40 rfl
theorem q307 : (Jvm.Cond.fieldLinkNest "Melodeon$Engine" (162 : Nat) "Melodeon$Voice" "first" "I" "Melodeon") ∈ lw_tbl := lw_at lw_m2 42 rfl
theorem q310 : (Jvm.Cond.fieldLinkNest "Melodeon$Engine" (171 : Nat) "Melodeon$Voice" "second" "I" "Melodeon") ∈ lw_tbl := lw_at lw_m2 45 rfl
theorem q317 : (Jvm.Cond.fieldLinkNest "Melodeon$Engine" (104 : Nat) "Melodeon$Voice" "gate" "I" "Melodeon") ∈ lw_tbl := lw_at lw_m2 52 rfl
theorem q343 : (Jvm.Cond.fieldLinkNest "Melodeon$Engine" (138 : Nat) "Melodeon" "instruments" "Ljava/util/ArrayList;" "Melodeon") ∈ lw_tbl := lw_at lw_m2 78 rfl
theorem q345 : (Jvm.Cond.fieldLinkNest "Melodeon$Engine" (119 : Nat) "Melodeon" "tracks" "Ljava/util/ArrayList;" "Melodeon") ∈ lw_tbl := lw_at lw_m2 80 rfl
theorem q347 : (Jvm.Cond.fieldLinkNest "Melodeon$Engine" (113 : Nat) "Melodeon" "tempo" "I" "Melodeon") ∈ lw_tbl := lw_at lw_m2 82 rfl
theorem q349 : (Jvm.Cond.fieldLinkNest "Melodeon$Engine" (116 : Nat) "Melodeon" "swing" "I" "Melodeon") ∈ lw_tbl := lw_at lw_m2 84 rfl
theorem q352 : (Jvm.Cond.fieldLinkNest "Melodeon$Engine" (198 : Nat) "Melodeon" "gain" "I" "Melodeon") ∈ lw_tbl := lw_at lw_m2 87 rfl
theorem q353 : (Jvm.Cond.fieldLinkNest "Melodeon$Engine" (201 : Nat) "Melodeon" "length" "I" "Melodeon") ∈ lw_tbl := lw_at lw_m2 88 rfl
theorem q355 : (Jvm.Cond.fieldLinkNest "Melodeon$Engine" (211 : Nat) "Melodeon" "wet" "I" "Melodeon") ∈ lw_tbl := lw_at lw_m2 90 rfl
theorem q357 : (Jvm.Cond.fieldLinkNest "Melodeon$Engine" (204 : Nat) "Melodeon" "back" "I" "Melodeon") ∈ lw_tbl := lw_at lw_m2 92 rfl
theorem q407 : (Jvm.Cond.instanceMethod ({ cls := "Melodeon$Engine", name := "sounding", desc := "()I" } : Jvm.MethodName)) ∈ lw_all := lw_g (lw_at lw_m2 142 rfl) rfl
theorem q408 : (Jvm.Cond.selects "Melodeon$Engine" ({ cls := "Melodeon$Engine", name := "sounding", desc := "()I" } : Jvm.MethodName) ({ cls := "Melodeon$Engine", name := "sounding", desc := "()I" } : Jvm.MethodName)) ∈ lw_all := lw_g (lw_at lw_m2 143 rfl) rfl
theorem q409 : (Jvm.Cond.code ({ cls := "Melodeon$Engine", name := "sounding", desc := "()I" } : Jvm.MethodName) prog_2_method_11_code (3 : Nat) (Option.some Jvm.ClassFile.FieldType.int)) ∈ lw_all := lw_g (lw_at lw_m2 144 rfl) rfl
theorem q410 : (Jvm.Cond.methodLink "Melodeon$Engine" (29 : Nat) ({ cls := "java/util/ArrayList", name := "get", desc := "(I)Ljava/lang/Object;" } : Jvm.MethodName)) ∈ lw_all := lw_g (lw_at lw_m2 145 rfl) rfl
theorem q424 : (Jvm.Cond.classLink "Melodeon$Engine" (33 : Nat) "Melodeon$Voice") ∈ lw_all := lw_g (lw_at lw_m2 159 rfl) rfl
theorem q425 : (Jvm.Cond.methodLink "Melodeon$Engine" (89 : Nat) ({ cls := "Melodeon$Voice", name := "isFree", desc := "()Z" } : Jvm.MethodName)) ∈ lw_all := lw_g (lw_at lw_m2 160 rfl) rfl
theorem q447 : (Jvm.Cond.instanceMethod ({ cls := "Melodeon$Engine", name := "sample", desc := "()I" } : Jvm.MethodName)) ∈ lw_all := lw_g (lw_at lw_m2 182 rfl) rfl
theorem q448 : (Jvm.Cond.selects "Melodeon$Engine" ({ cls := "Melodeon$Engine", name := "sample", desc := "()I" } : Jvm.MethodName) ({ cls := "Melodeon$Engine", name := "sample", desc := "()I" } : Jvm.MethodName)) ∈ lw_all := lw_g (lw_at lw_m2 183 rfl) rfl
theorem q449 : (Jvm.Cond.code ({ cls := "Melodeon$Engine", name := "sample", desc := "()I" } : Jvm.MethodName) prog_2_method_10_code (5 : Nat) (Option.some Jvm.ClassFile.FieldType.int)) ∈ lw_all := lw_g (lw_at lw_m2 184 rfl) rfl
theorem q450 : (Jvm.Cond.methodLink "Melodeon$Engine" (192 : Nat) ({ cls := "Melodeon$Engine", name := "track", desc := "()V" } : Jvm.MethodName)) ∈ lw_all := lw_g (lw_at lw_m2 185 rfl) rfl
theorem q451 : (Jvm.Cond.privateMethod ({ cls := "Melodeon$Engine", name := "track", desc := "()V" } : Jvm.MethodName)) ∈ lw_tbl := lw_at lw_m2 186 rfl
theorem q452 : (Jvm.Cond.instanceMethod ({ cls := "Melodeon$Engine", name := "track", desc := "()V" } : Jvm.MethodName)) ∈ lw_all := lw_g (lw_at lw_m2 187 rfl) rfl
theorem q453 : (Jvm.Cond.code ({ cls := "Melodeon$Engine", name := "track", desc := "()V" } : Jvm.MethodName) prog_2_method_7_code (3 : Nat) (Option.none : Option Jvm.ClassFile.FieldType)) ∈ lw_all := lw_g (lw_at lw_m2 188 rfl) rfl
theorem q454 : (Jvm.Cond.methodLink "Melodeon$Engine" (107 : Nat) ({ cls := "Melodeon$Voice", name := "end", desc := "()V" } : Jvm.MethodName)) ∈ lw_all := lw_g (lw_at lw_m2 189 rfl) rfl
theorem q458 : (Jvm.Cond.methodLink "Melodeon$Engine" (110 : Nat) ({ cls := "Melodeon$Engine", name := "beginStep", desc := "()V" } : Jvm.MethodName)) ∈ lw_all := lw_g (lw_at lw_m2 193 rfl) rfl
theorem q459 : (Jvm.Cond.privateMethod ({ cls := "Melodeon$Engine", name := "beginStep", desc := "()V" } : Jvm.MethodName)) ∈ lw_tbl := lw_at lw_m2 194 rfl
theorem q460 : (Jvm.Cond.instanceMethod ({ cls := "Melodeon$Engine", name := "beginStep", desc := "()V" } : Jvm.MethodName)) ∈ lw_all := lw_g (lw_at lw_m2 195 rfl) rfl
theorem q461 : (Jvm.Cond.code ({ cls := "Melodeon$Engine", name := "beginStep", desc := "()V" } : Jvm.MethodName) prog_2_method_8_code (3 : Nat) (Option.none : Option Jvm.ClassFile.FieldType)) ∈ lw_all := lw_g (lw_at lw_m2 196 rfl) rfl
theorem q462 : (Jvm.Cond.classLink "Melodeon$Engine" (122 : Nat) "Melodeon$Track") ∈ lw_all := lw_g (lw_at lw_m2 197 rfl) rfl
theorem q463 : (Jvm.Cond.methodLink "Melodeon$Engine" (135 : Nat) ({ cls := "Melodeon$Engine", name := "begin", desc := "(IIII)I" } : Jvm.MethodName)) ∈ lw_all := lw_g (lw_at lw_m2 198 rfl) rfl
theorem q464 : (Jvm.Cond.instanceMethod ({ cls := "Melodeon$Engine", name := "begin", desc := "(IIII)I" } : Jvm.MethodName)) ∈ lw_all := lw_g (lw_at lw_m2 199 rfl) rfl
theorem q465 : (Jvm.Cond.selects "Melodeon$Engine" ({ cls := "Melodeon$Engine", name := "begin", desc := "(IIII)I" } : Jvm.MethodName) ({ cls := "Melodeon$Engine", name := "begin", desc := "(IIII)I" } : Jvm.MethodName)) ∈ lw_all := lw_g (lw_at lw_m2 200 rfl) rfl
theorem q466 : (Jvm.Cond.code ({ cls := "Melodeon$Engine", name := "begin", desc := "(IIII)I" } : Jvm.MethodName) prog_2_method_6_code (7 : Nat) (Option.some Jvm.ClassFile.FieldType.int)) ∈ lw_all := lw_g (lw_at lw_m2 201 rfl) rfl
theorem q467 : (Jvm.Cond.methodLink "Melodeon$Engine" (96 : Nat) ({ cls := "Melodeon$Engine", name := "next", desc := "()I" } : Jvm.MethodName)) ∈ lw_all := lw_g (lw_at lw_m2 202 rfl) rfl
theorem q468 : (Jvm.Cond.instanceMethod ({ cls := "Melodeon$Engine", name := "next", desc := "()I" } : Jvm.MethodName)) ∈ lw_all := lw_g (lw_at lw_m2 203 rfl) rfl
theorem q469 : (Jvm.Cond.selects "Melodeon$Engine" ({ cls := "Melodeon$Engine", name := "next", desc := "()I" } : Jvm.MethodName) ({ cls := "Melodeon$Engine", name := "next", desc := "()I" } : Jvm.MethodName)) ∈ lw_all := lw_g (lw_at lw_m2 204 rfl) rfl
theorem q470 : (Jvm.Cond.code ({ cls := "Melodeon$Engine", name := "next", desc := "()I" } : Jvm.MethodName) prog_2_method_3_code (3 : Nat) (Option.some Jvm.ClassFile.FieldType.int)) ∈ lw_all := lw_g (lw_at lw_m2 205 rfl) rfl
theorem q471 : (Jvm.Cond.methodLink "Melodeon$Engine" (75 : Nat) ({ cls := "Melodeon$Engine", name := "isAhead", desc := "(LMelodeon$Voice;LMelodeon$Voice;)Z" } : Jvm.MethodName)) ∈ lw_all := lw_g (lw_at lw_m2 206 rfl) rfl
theorem q472 : (Jvm.Cond.static ({ cls := "Melodeon$Engine", name := "isAhead", desc := "(LMelodeon$Voice;LMelodeon$Voice;)Z" } : Jvm.MethodName)) ∈ lw_all := lw_g (lw_at lw_m2 207 rfl) rfl
theorem q473 : (Jvm.Cond.code ({ cls := "Melodeon$Engine", name := "isAhead", desc := "(LMelodeon$Voice;LMelodeon$Voice;)Z" } : Jvm.MethodName) prog_2_method_4_code (2 : Nat) (Option.some Jvm.ClassFile.FieldType.boolean)) ∈ lw_all := lw_g (lw_at lw_m2 208 rfl) rfl
theorem q474 : (Jvm.Cond.methodLink "Melodeon$Engine" (79 : Nat) ({ cls := "Melodeon$Engine", name := "rank", desc := "(LMelodeon$Voice;)I" } : Jvm.MethodName)) ∈ lw_all := lw_g (lw_at lw_m2 209 rfl) rfl
theorem q475 : (Jvm.Cond.static ({ cls := "Melodeon$Engine", name := "rank", desc := "(LMelodeon$Voice;)I" } : Jvm.MethodName)) ∈ lw_all := lw_g (lw_at lw_m2 210 rfl) rfl
theorem q476 : (Jvm.Cond.code ({ cls := "Melodeon$Engine", name := "rank", desc := "(LMelodeon$Voice;)I" } : Jvm.MethodName) prog_2_method_5_code (1 : Nat) (Option.some Jvm.ClassFile.FieldType.int)) ∈ lw_all := lw_g (lw_at lw_m2 211 rfl) rfl
theorem q477 : (Jvm.Cond.methodLink "Melodeon$Engine" (100 : Nat) ({ cls := "Melodeon$Voice", name := "begin", desc := "(IIIII)V" } : Jvm.MethodName)) ∈ lw_all := lw_g (lw_at lw_m2 212 rfl) rfl
theorem q481 : (Jvm.Cond.methodLink "Melodeon$Engine" (195 : Nat) ({ cls := "Melodeon$Engine", name := "given", desc := "(LMelodeon$Voice;)I" } : Jvm.MethodName)) ∈ lw_all := lw_g (lw_at lw_m2 216 rfl) rfl
theorem q482 : (Jvm.Cond.privateMethod ({ cls := "Melodeon$Engine", name := "given", desc := "(LMelodeon$Voice;)I" } : Jvm.MethodName)) ∈ lw_tbl := lw_at lw_m2 217 rfl
theorem q483 : (Jvm.Cond.instanceMethod ({ cls := "Melodeon$Engine", name := "given", desc := "(LMelodeon$Voice;)I" } : Jvm.MethodName)) ∈ lw_all := lw_g (lw_at lw_m2 218 rfl) rfl
theorem q484 : (Jvm.Cond.code ({ cls := "Melodeon$Engine", name := "given", desc := "(LMelodeon$Voice;)I" } : Jvm.MethodName) prog_2_method_9_code (6 : Nat) (Option.some Jvm.ClassFile.FieldType.int)) ∈ lw_all := lw_g (lw_at lw_m2 219 rfl) rfl
theorem q485 : (Jvm.Cond.classLink "Melodeon$Engine" (142 : Nat) "Melodeon$Instrument") ∈ lw_all := lw_g (lw_at lw_m2 220 rfl) rfl
theorem q486 : (Jvm.Cond.methodLink "Melodeon$Engine" (144 : Nat) ({ cls := "Melodeon$Voice", name := "grow", desc := "(LMelodeon$Instrument;)V" } : Jvm.MethodName)) ∈ lw_all := lw_g (lw_at lw_m2 221 rfl) rfl
theorem q493 : (Jvm.Cond.constant "Melodeon$Engine" (154 : Nat) (65536 : Int32)) ∈ lw_all := lw_g (lw_at lw_m2 228 rfl) rfl
theorem q494 : (Jvm.Cond.methodLinkNest "Melodeon$Engine" (155 : Nat) ({ cls := "Melodeon", name := "waveAt", desc := "(II)I" } : Jvm.MethodName) "Melodeon") ∈ lw_tbl := lw_at lw_m2 229 rfl
theorem q502 : (Jvm.Cond.methodLinkNest "Melodeon$Engine" (176 : Nat) ({ cls := "Melodeon", name := "strideOf", desc := "(I)I" } : Jvm.MethodName) "Melodeon") ∈ lw_tbl := lw_at lw_m2 237 rfl
theorem q505 : (Jvm.Cond.methodLink "Melodeon$Engine" (180 : Nat) ({ cls := "java/lang/Math", name := "floorMod", desc := "(II)I" } : Jvm.MethodName)) ∈ lw_all := lw_g (lw_at lw_m3 0 rfl) rfl
theorem q508 : (Jvm.Cond.methodLink "Melodeon$Engine" (188 : Nat) ({ cls := "Melodeon$Voice", name := "filtered", desc := "(ILMelodeon$Instrument;)I" } : Jvm.MethodName)) ∈ lw_all := lw_g (lw_at lw_m3 3 rfl) rfl
theorem q517 : (Jvm.Cond.constant "Melodeon$Engine" (207 : Nat) (100000 : Int32)) ∈ lw_all := lw_g (lw_at lw_m3 12 rfl) rfl
theorem q518 : (Jvm.Cond.methodLinkNest "Melodeon$Engine" (208 : Nat) ({ cls := "Melodeon", name := "kept", desc := "(II)I" } : Jvm.MethodName) "Melodeon") ∈ lw_tbl := lw_at lw_m3 13 rfl
theorem q878 : (Jvm.Cond.instanceMethod ({ cls := "Melodeon$Engine", name := "copy", desc := "()LMelodeon$Engine;" } : Jvm.MethodName)) ∈ lw_all := lw_g (lw_at lw_m4 133 rfl) rfl
theorem q879 : (Jvm.Cond.selects "Melodeon$Engine" ({ cls := "Melodeon$Engine", name := "copy", desc := "()LMelodeon$Engine;" } : Jvm.MethodName) ({ cls := "Melodeon$Engine", name := "copy", desc := "()LMelodeon$Engine;" } : Jvm.MethodName)) ∈ lw_all := lw_g (lw_at lw_m4 134 rfl) rfl
theorem q880 : (Jvm.Cond.code ({ cls := "Melodeon$Engine", name := "copy", desc := "()LMelodeon$Engine;" } : Jvm.MethodName) prog_2_method_2_code (3 : Nat) (Option.some (Jvm.ClassFile.FieldType.object "Melodeon$Engine"))) ∈ lw_all := lw_g (lw_at lw_m4 135 rfl) rfl
theorem q881 : (Jvm.Cond.classLink "Melodeon$Engine" (4 : Nat) "Melodeon$Engine") ∈ lw_all := lw_g (lw_at lw_m4 136 rfl) rfl
theorem q882 : (Jvm.Cond.methodLink "Melodeon$Engine" (26 : Nat) ({ cls := "Melodeon$Engine", name := "<init>", desc := "(LMelodeon;)V" } : Jvm.MethodName)) ∈ lw_all := lw_g (lw_at lw_m4 137 rfl) rfl
theorem q883 : (Jvm.Cond.methodLink "Melodeon$Engine" (35 : Nat) ({ cls := "Melodeon$Voice", name := "copy", desc := "()LMelodeon$Voice;" } : Jvm.MethodName)) ∈ lw_all := lw_g (lw_at lw_m4 138 rfl) rfl
theorem q889 : (Jvm.Cond.methodLink "Melodeon$Engine" (39 : Nat) ({ cls := "java/util/ArrayList", name := "add", desc := "(Ljava/lang/Object;)Z" } : Jvm.MethodName)) ∈ lw_all := lw_g (lw_at lw_m4 144 rfl) rfl
theorem q890 : (Jvm.Cond.methodLink "Melodeon$Engine" (43 : Nat) ({ cls := "java/lang/System", name := "arraycopy", desc := "(Ljava/lang/Object;ILjava/lang/Object;II)V" } : Jvm.MethodName)) ∈ lw_all := lw_g (lw_at lw_m4 145 rfl) rfl
theorem q1327 : (Jvm.Cond.castable "Melodeon$Engine" "java/lang/Object") ∈ lw_tbl := lw_at lw_m6 102 rfl
theorem in_X2 : ∀ w ∈ wsX20, w ∈ lw_all := lw_in wsX20 [113, 115, 117, 119, 121, 123, 125, 127, 129, 131, 133, 135] (by decide +kernel) (by decide +kernel)

