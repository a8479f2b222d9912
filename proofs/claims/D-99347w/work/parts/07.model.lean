/-! EncoresModel -/
set_option maxRecDepth 100000
def RX3 : String := "EncoresModel"
def TX3 : u_T := fun k => match k with
  | 0 => ("EncoresModel", "w", "[I", true)
  | 1 => ("EncoresModel", "kept", "[I", true)
  | 2 => ("EncoresModel", "back", "[I", true)
  | 3 => ("EncoresModel", "lying", "[I", true)
  | 4 => ("EncoresModel", "backMany", "I", false)
  | 5 => ("EncoresModel", "hasImage", "Z", false)
  | 6 => ("EncoresModel", "freshLine", "[I", true)
  | 7 => ("EncoresModel", "freshStep", "[I", true)
  | 8 => ("EncoresModel", "freshRow", "[I", true)
  | 9 => ("EncoresModel", "tape", "[I", true)
  | 10 => ("EncoresModel", "pile", "[I", true)
  | 11 => ("EncoresModel", "facts", "[I", true)
  | 12 => ("EncoresModel", "reading", "I", false)
  | 13 => ("EncoresModel", "lines", "I", false)
  | 14 => ("EncoresModel", "steps", "I", false)
  | 15 => ("EncoresModel", "rows", "I", false)
  | 16 => ("EncoresModel", "taped", "I", false)
  | 17 => ("EncoresModel", "at", "I", false)
  | 18 => ("EncoresModel", "token", "I", false)
  | 19 => ("EncoresModel", "tokenAt", "I", false)
  | 20 => ("EncoresModel", "value", "I", false)
  | 21 => ("EncoresModel", "wrong", "I", false)
  | 22 => ("EncoresModel", "wrongAt", "I", false)
  | 23 => ("EncoresModel", "faultKind", "I", false)
  | 24 => ("EncoresModel", "depth", "I", false)
  | 25 => ("EncoresModel", "faultPlace", "I", false)
  | 26 => ("EncoresModel", "isTrue", "Z", false)
  | 27 => ("EncoresModel", "drawn", "[I", true)
  | 28 => ("EncoresModel", "clapping", "I", false)
  | 29 => ("EncoresModel", "rounds", "I", false)
  | 30 => ("EncoresModel", "hands", "I", false)
  | 31 => ("EncoresModel", "goesOn", "Z", false)
  | 32 => ("EncoresModel", "leastOf", "[I", true)
  | 33 => ("EncoresModel", "within", "[I", true)
  | _ => ("EncoresModel", "nims", "[I", true)
def tyX3 : Nat → FieldType := fun k => match k with
  | 0 => .array .int
  | 1 => .array .int
  | 2 => .array .int
  | 3 => .array .int
  | 4 => .int
  | 5 => .boolean
  | 6 => .array .int
  | 7 => .array .int
  | 8 => .array .int
  | 9 => .array .int
  | 10 => .array .int
  | 11 => .array .int
  | 12 => .int
  | 13 => .int
  | 14 => .int
  | 15 => .int
  | 16 => .int
  | 17 => .int
  | 18 => .int
  | 19 => .int
  | 20 => .int
  | 21 => .int
  | 22 => .int
  | 23 => .int
  | 24 => .int
  | 25 => .int
  | 26 => .boolean
  | 27 => .array .int
  | 28 => .int
  | 29 => .int
  | 30 => .int
  | 31 => .boolean
  | 32 => .array .int
  | 33 => .array .int
  | _ => .array .int
abbrev wsX30 : List Cond := u_ws RX3 TX3 35
set_option maxRecDepth 100000 in
theorem nmX3 : ∀ a, a < 35 → ∀ b, b < 35 → a ≠ b → (TX3 a).2.1 ≠ (TX3 b).2.1 := by decide +kernel
set_option maxRecDepth 100000 in
theorem tyX3_ok : ∀ k, k < 35 → parseFieldDescriptor (TX3 k).2.2.1 = some (tyX3 k) := by decide +kernel
abbrev cX3_init : ByteArray := prog_17_method_1_code
def yX3_init : MethodName := ⟨RX3, "<init>", "()V"⟩
def dkwX3_init_6 : List UInt8 := [16, 10, 162, 0, 20, 42, 180, 0, 7, 17, 0, 213, 27, 96, 27, 79, 132, 1, 1, 167, 255, 236, 177]
abbrev dktX3_init_6 : List UInt8 := dkwX3_init_6 ++ []
def dkwX3_init_5 : List UInt8 := [188, 10, 181, 0, 50, 42, 16, 61, 188, 10, 181, 0, 53, 42, 180, 0, 7, 6, 2, 79, 3, 60, 27]
abbrev dktX3_init_5 : List UInt8 := dkwX3_init_5 ++ dktX3_init_6
def dkwX3_init_4 : List UInt8 := [181, 0, 40, 42, 16, 12, 188, 10, 181, 0, 44, 42, 17, 1, 0, 188, 10, 181, 0, 47, 42, 16, 12]
abbrev dktX3_init_4 : List UInt8 := dkwX3_init_4 ++ dktX3_init_5
def dkwX3_init_3 : List UInt8 := [181, 0, 31, 42, 17, 1, 164, 188, 10, 181, 0, 34, 42, 16, 11, 188, 10, 181, 0, 37, 42, 2]
abbrev dktX3_init_3 : List UInt8 := dkwX3_init_3 ++ dktX3_init_4
def dkwX3_init_2 : List UInt8 := [42, 17, 3, 52, 188, 10, 181, 0, 25, 42, 16, 48, 188, 10, 181, 0, 28, 42, 17, 1, 144, 188, 10]
abbrev dktX3_init_2 : List UInt8 := dkwX3_init_2 ++ dktX3_init_3
def dkwX3_init_1 : List UInt8 := [17, 0, 222, 188, 10, 181, 0, 16, 42, 16, 37, 188, 10, 181, 0, 19, 42, 16, 64, 188, 10, 181, 0, 22]
abbrev dktX3_init_1 : List UInt8 := dkwX3_init_1 ++ dktX3_init_2
def dkwX3_init_0 : List UInt8 := [42, 183, 0, 1, 42, 17, 6, 171, 188, 10, 181, 0, 7, 42, 17, 6, 171, 188, 10, 181, 0, 13, 42]
abbrev dktX3_init_0 : List UInt8 := dkwX3_init_0 ++ dktX3_init_1
theorem dksX3_init_0 : cX3_init.data.toList.drop 0 = dktX3_init_0 := by decide +kernel
theorem dksX3_init_1 : cX3_init.data.toList.drop 23 = dktX3_init_1 := dk_seg dksX3_init_0 23 rfl rfl
theorem dksX3_init_2 : cX3_init.data.toList.drop 47 = dktX3_init_2 := dk_seg dksX3_init_1 24 rfl rfl
theorem dksX3_init_3 : cX3_init.data.toList.drop 70 = dktX3_init_3 := dk_seg dksX3_init_2 23 rfl rfl
theorem dksX3_init_4 : cX3_init.data.toList.drop 92 = dktX3_init_4 := dk_seg dksX3_init_3 22 rfl rfl
theorem dksX3_init_5 : cX3_init.data.toList.drop 115 = dktX3_init_5 := dk_seg dksX3_init_4 23 rfl rfl
theorem dksX3_init_6 : cX3_init.data.toList.drop 138 = dktX3_init_6 := dk_seg dksX3_init_5 23 rfl rfl
theorem dX3_init_0 : decode cX3_init 0 = .ok (.aload_n 0, 1) := dk_42 (dk_at dksX3_init_0 0 rfl rfl)
theorem dX3_init_1 : decode cX3_init 1 = .ok (.invokespecial 1, 3) := dk_183 0 1 (dk_at dksX3_init_0 1 rfl rfl)
theorem dX3_init_4 : decode cX3_init 4 = .ok (.aload_n 0, 1) := dk_42 (dk_at dksX3_init_0 4 rfl rfl)
theorem dX3_init_5 : decode cX3_init 5 = .ok (.sipush 1707, 3) := dk_17 6 171 (dk_at dksX3_init_0 5 rfl rfl)
theorem dX3_init_8 : decode cX3_init 8 = .ok (.newarray .int, 2) := dk_188_10 (dk_at dksX3_init_0 8 rfl rfl)
theorem dX3_init_10 : decode cX3_init 10 = .ok (.putfield 7, 3) := dk_181 0 7 (dk_at dksX3_init_0 10 rfl rfl)
theorem dX3_init_13 : decode cX3_init 13 = .ok (.aload_n 0, 1) := dk_42 (dk_at dksX3_init_0 13 rfl rfl)
theorem dX3_init_14 : decode cX3_init 14 = .ok (.sipush 1707, 3) := dk_17 6 171 (dk_at dksX3_init_0 14 rfl rfl)
theorem dX3_init_17 : decode cX3_init 17 = .ok (.newarray .int, 2) := dk_188_10 (dk_at dksX3_init_0 17 rfl rfl)
theorem dX3_init_19 : decode cX3_init 19 = .ok (.putfield 13, 3) := dk_181 0 13 (dk_at dksX3_init_0 19 rfl rfl)
theorem dX3_init_22 : decode cX3_init 22 = .ok (.aload_n 0, 1) := dk_42 (dk_at dksX3_init_0 22 rfl rfl)
theorem dX3_init_23 : decode cX3_init 23 = .ok (.sipush 222, 3) := dk_17 0 222 (dk_at dksX3_init_1 0 rfl rfl)
theorem dX3_init_26 : decode cX3_init 26 = .ok (.newarray .int, 2) := dk_188_10 (dk_at dksX3_init_1 3 rfl rfl)
theorem dX3_init_28 : decode cX3_init 28 = .ok (.putfield 16, 3) := dk_181 0 16 (dk_at dksX3_init_1 5 rfl rfl)
theorem dX3_init_31 : decode cX3_init 31 = .ok (.aload_n 0, 1) := dk_42 (dk_at dksX3_init_1 8 rfl rfl)
theorem dX3_init_32 : decode cX3_init 32 = .ok (.bipush 37, 2) := dk_16 37 (dk_at dksX3_init_1 9 rfl rfl)
theorem dX3_init_34 : decode cX3_init 34 = .ok (.newarray .int, 2) := dk_188_10 (dk_at dksX3_init_1 11 rfl rfl)
theorem dX3_init_36 : decode cX3_init 36 = .ok (.putfield 19, 3) := dk_181 0 19 (dk_at dksX3_init_1 13 rfl rfl)
theorem dX3_init_39 : decode cX3_init 39 = .ok (.aload_n 0, 1) := dk_42 (dk_at dksX3_init_1 16 rfl rfl)
theorem dX3_init_40 : decode cX3_init 40 = .ok (.bipush 64, 2) := dk_16 64 (dk_at dksX3_init_1 17 rfl rfl)
theorem dX3_init_42 : decode cX3_init 42 = .ok (.newarray .int, 2) := dk_188_10 (dk_at dksX3_init_1 19 rfl rfl)
theorem dX3_init_44 : decode cX3_init 44 = .ok (.putfield 22, 3) := dk_181 0 22 (dk_at dksX3_init_1 21 rfl rfl)
theorem dX3_init_47 : decode cX3_init 47 = .ok (.aload_n 0, 1) := dk_42 (dk_at dksX3_init_2 0 rfl rfl)
theorem dX3_init_48 : decode cX3_init 48 = .ok (.sipush 820, 3) := dk_17 3 52 (dk_at dksX3_init_2 1 rfl rfl)
theorem dX3_init_51 : decode cX3_init 51 = .ok (.newarray .int, 2) := dk_188_10 (dk_at dksX3_init_2 4 rfl rfl)
theorem dX3_init_53 : decode cX3_init 53 = .ok (.putfield 25, 3) := dk_181 0 25 (dk_at dksX3_init_2 6 rfl rfl)
theorem dX3_init_56 : decode cX3_init 56 = .ok (.aload_n 0, 1) := dk_42 (dk_at dksX3_init_2 9 rfl rfl)
theorem dX3_init_57 : decode cX3_init 57 = .ok (.bipush 48, 2) := dk_16 48 (dk_at dksX3_init_2 10 rfl rfl)
theorem dX3_init_59 : decode cX3_init 59 = .ok (.newarray .int, 2) := dk_188_10 (dk_at dksX3_init_2 12 rfl rfl)
theorem dX3_init_61 : decode cX3_init 61 = .ok (.putfield 28, 3) := dk_181 0 28 (dk_at dksX3_init_2 14 rfl rfl)
theorem dX3_init_64 : decode cX3_init 64 = .ok (.aload_n 0, 1) := dk_42 (dk_at dksX3_init_2 17 rfl rfl)
theorem dX3_init_65 : decode cX3_init 65 = .ok (.sipush 400, 3) := dk_17 1 144 (dk_at dksX3_init_2 18 rfl rfl)
theorem dX3_init_68 : decode cX3_init 68 = .ok (.newarray .int, 2) := dk_188_10 (dk_at dksX3_init_2 21 rfl rfl)
theorem dX3_init_70 : decode cX3_init 70 = .ok (.putfield 31, 3) := dk_181 0 31 (dk_at dksX3_init_3 0 rfl rfl)
theorem dX3_init_73 : decode cX3_init 73 = .ok (.aload_n 0, 1) := dk_42 (dk_at dksX3_init_3 3 rfl rfl)
theorem dX3_init_74 : decode cX3_init 74 = .ok (.sipush 420, 3) := dk_17 1 164 (dk_at dksX3_init_3 4 rfl rfl)
theorem dX3_init_77 : decode cX3_init 77 = .ok (.newarray .int, 2) := dk_188_10 (dk_at dksX3_init_3 7 rfl rfl)
theorem dX3_init_79 : decode cX3_init 79 = .ok (.putfield 34, 3) := dk_181 0 34 (dk_at dksX3_init_3 9 rfl rfl)
theorem dX3_init_82 : decode cX3_init 82 = .ok (.aload_n 0, 1) := dk_42 (dk_at dksX3_init_3 12 rfl rfl)
theorem dX3_init_83 : decode cX3_init 83 = .ok (.bipush 11, 2) := dk_16 11 (dk_at dksX3_init_3 13 rfl rfl)
theorem dX3_init_85 : decode cX3_init 85 = .ok (.newarray .int, 2) := dk_188_10 (dk_at dksX3_init_3 15 rfl rfl)
theorem dX3_init_87 : decode cX3_init 87 = .ok (.putfield 37, 3) := dk_181 0 37 (dk_at dksX3_init_3 17 rfl rfl)
theorem dX3_init_90 : decode cX3_init 90 = .ok (.aload_n 0, 1) := dk_42 (dk_at dksX3_init_3 20 rfl rfl)
theorem dX3_init_91 : decode cX3_init 91 = .ok (.iconst (-1), 1) := dk_2 (dk_at dksX3_init_3 21 rfl rfl)
theorem dX3_init_92 : decode cX3_init 92 = .ok (.putfield 40, 3) := dk_181 0 40 (dk_at dksX3_init_4 0 rfl rfl)
theorem dX3_init_95 : decode cX3_init 95 = .ok (.aload_n 0, 1) := dk_42 (dk_at dksX3_init_4 3 rfl rfl)
theorem dX3_init_96 : decode cX3_init 96 = .ok (.bipush 12, 2) := dk_16 12 (dk_at dksX3_init_4 4 rfl rfl)
theorem dX3_init_98 : decode cX3_init 98 = .ok (.newarray .int, 2) := dk_188_10 (dk_at dksX3_init_4 6 rfl rfl)
theorem dX3_init_100 : decode cX3_init 100 = .ok (.putfield 44, 3) := dk_181 0 44 (dk_at dksX3_init_4 8 rfl rfl)
theorem dX3_init_103 : decode cX3_init 103 = .ok (.aload_n 0, 1) := dk_42 (dk_at dksX3_init_4 11 rfl rfl)
theorem dX3_init_104 : decode cX3_init 104 = .ok (.sipush 256, 3) := dk_17 1 0 (dk_at dksX3_init_4 12 rfl rfl)
theorem dX3_init_107 : decode cX3_init 107 = .ok (.newarray .int, 2) := dk_188_10 (dk_at dksX3_init_4 15 rfl rfl)
theorem dX3_init_109 : decode cX3_init 109 = .ok (.putfield 47, 3) := dk_181 0 47 (dk_at dksX3_init_4 17 rfl rfl)
theorem dX3_init_112 : decode cX3_init 112 = .ok (.aload_n 0, 1) := dk_42 (dk_at dksX3_init_4 20 rfl rfl)
theorem dX3_init_113 : decode cX3_init 113 = .ok (.bipush 12, 2) := dk_16 12 (dk_at dksX3_init_4 21 rfl rfl)
theorem dX3_init_115 : decode cX3_init 115 = .ok (.newarray .int, 2) := dk_188_10 (dk_at dksX3_init_5 0 rfl rfl)
theorem dX3_init_117 : decode cX3_init 117 = .ok (.putfield 50, 3) := dk_181 0 50 (dk_at dksX3_init_5 2 rfl rfl)
theorem dX3_init_120 : decode cX3_init 120 = .ok (.aload_n 0, 1) := dk_42 (dk_at dksX3_init_5 5 rfl rfl)
theorem dX3_init_121 : decode cX3_init 121 = .ok (.bipush 61, 2) := dk_16 61 (dk_at dksX3_init_5 6 rfl rfl)
theorem dX3_init_123 : decode cX3_init 123 = .ok (.newarray .int, 2) := dk_188_10 (dk_at dksX3_init_5 8 rfl rfl)
theorem dX3_init_125 : decode cX3_init 125 = .ok (.putfield 53, 3) := dk_181 0 53 (dk_at dksX3_init_5 10 rfl rfl)
theorem dX3_init_128 : decode cX3_init 128 = .ok (.aload_n 0, 1) := dk_42 (dk_at dksX3_init_5 13 rfl rfl)
theorem dX3_init_129 : decode cX3_init 129 = .ok (.getfield 7, 3) := dk_180 0 7 (dk_at dksX3_init_5 14 rfl rfl)
theorem dX3_init_132 : decode cX3_init 132 = .ok (.iconst 3, 1) := dk_6 (dk_at dksX3_init_5 17 rfl rfl)
theorem dX3_init_133 : decode cX3_init 133 = .ok (.iconst (-1), 1) := dk_2 (dk_at dksX3_init_5 18 rfl rfl)
theorem dX3_init_134 : decode cX3_init 134 = .ok (.iastore, 1) := dk_79 (dk_at dksX3_init_5 19 rfl rfl)
theorem dX3_init_135 : decode cX3_init 135 = .ok (.iconst 0, 1) := dk_3 (dk_at dksX3_init_5 20 rfl rfl)
theorem dX3_init_136 : decode cX3_init 136 = .ok (.istore_n 1, 1) := dk_60 (dk_at dksX3_init_5 21 rfl rfl)
theorem dX3_init_137 : decode cX3_init 137 = .ok (.iload_n 1, 1) := dk_27 (dk_at dksX3_init_5 22 rfl rfl)
theorem dX3_init_138 : decode cX3_init 138 = .ok (.bipush 10, 2) := dk_16 10 (dk_at dksX3_init_6 0 rfl rfl)
theorem dX3_init_140 : decode cX3_init 140 = .ok (.if_icmp .ge 20, 3) := dk_162 0 20 (dk_at dksX3_init_6 2 rfl rfl)
theorem dX3_init_143 : decode cX3_init 143 = .ok (.aload_n 0, 1) := dk_42 (dk_at dksX3_init_6 5 rfl rfl)
theorem dX3_init_144 : decode cX3_init 144 = .ok (.getfield 7, 3) := dk_180 0 7 (dk_at dksX3_init_6 6 rfl rfl)
theorem dX3_init_147 : decode cX3_init 147 = .ok (.sipush 213, 3) := dk_17 0 213 (dk_at dksX3_init_6 9 rfl rfl)
theorem dX3_init_150 : decode cX3_init 150 = .ok (.iload_n 1, 1) := dk_27 (dk_at dksX3_init_6 12 rfl rfl)
theorem dX3_init_151 : decode cX3_init 151 = .ok (.iadd, 1) := dk_96 (dk_at dksX3_init_6 13 rfl rfl)
theorem dX3_init_152 : decode cX3_init 152 = .ok (.iload_n 1, 1) := dk_27 (dk_at dksX3_init_6 14 rfl rfl)
theorem dX3_init_153 : decode cX3_init 153 = .ok (.iastore, 1) := dk_79 (dk_at dksX3_init_6 15 rfl rfl)
theorem dX3_init_154 : decode cX3_init 154 = .ok (.iinc 1 1, 3) := dk_132 1 1 (dk_at dksX3_init_6 16 rfl rfl)
theorem dX3_init_157 : decode cX3_init 157 = .ok (.goto (-20), 3) := dk_167 255 236 (dk_at dksX3_init_6 19 rfl rfl)
theorem dX3_init_160 : decode cX3_init 160 = .ok (.return_, 1) := dk_177 (dk_at dksX3_init_6 22 rfl rfl)
abbrev cX3_state : ByteArray := prog_17_method_12_code
def yX3_state : MethodName := ⟨RX3, "state", "(I)I"⟩
def dkwX3_state_0 : List UInt8 := [42, 180, 0, 7, 8, 46, 61, 42, 180, 0, 7, 8, 27, 79, 42, 182, 0, 63, 28, 172]
abbrev dktX3_state_0 : List UInt8 := dkwX3_state_0 ++ []
theorem dksX3_state_0 : cX3_state.data.toList.drop 0 = dktX3_state_0 := by decide +kernel
theorem dX3_state_0 : decode cX3_state 0 = .ok (.aload_n 0, 1) := dk_42 (dk_at dksX3_state_0 0 rfl rfl)
theorem dX3_state_1 : decode cX3_state 1 = .ok (.getfield 7, 3) := dk_180 0 7 (dk_at dksX3_state_0 1 rfl rfl)
theorem dX3_state_4 : decode cX3_state 4 = .ok (.iconst 5, 1) := dk_8 (dk_at dksX3_state_0 4 rfl rfl)
theorem dX3_state_5 : decode cX3_state 5 = .ok (.iaload, 1) := dk_46 (dk_at dksX3_state_0 5 rfl rfl)
theorem dX3_state_6 : decode cX3_state 6 = .ok (.istore_n 2, 1) := dk_61 (dk_at dksX3_state_0 6 rfl rfl)
theorem dX3_state_7 : decode cX3_state 7 = .ok (.aload_n 0, 1) := dk_42 (dk_at dksX3_state_0 7 rfl rfl)
theorem dX3_state_8 : decode cX3_state 8 = .ok (.getfield 7, 3) := dk_180 0 7 (dk_at dksX3_state_0 8 rfl rfl)
theorem dX3_state_11 : decode cX3_state 11 = .ok (.iconst 5, 1) := dk_8 (dk_at dksX3_state_0 11 rfl rfl)
theorem dX3_state_12 : decode cX3_state 12 = .ok (.iload_n 1, 1) := dk_27 (dk_at dksX3_state_0 12 rfl rfl)
theorem dX3_state_13 : decode cX3_state 13 = .ok (.iastore, 1) := dk_79 (dk_at dksX3_state_0 13 rfl rfl)
theorem dX3_state_14 : decode cX3_state 14 = .ok (.aload_n 0, 1) := dk_42 (dk_at dksX3_state_0 14 rfl rfl)
theorem dX3_state_15 : decode cX3_state 15 = .ok (.invokevirtual 63, 3) := dk_182 0 63 (dk_at dksX3_state_0 15 rfl rfl)
theorem dX3_state_18 : decode cX3_state 18 = .ok (.iload_n 2, 1) := dk_28 (dk_at dksX3_state_0 18 rfl rfl)
theorem dX3_state_19 : decode cX3_state 19 = .ok (.ireturn, 1) := dk_172 (dk_at dksX3_state_0 19 rfl rfl)
abbrev cX3_forgets : ByteArray := prog_17_method_11_code
def yX3_forgets : MethodName := ⟨RX3, "forgets", "()V"⟩
def dkwX3_forgets_0 : List UInt8 := [42, 3, 181, 0, 60, 177]
abbrev dktX3_forgets_0 : List UInt8 := dkwX3_forgets_0 ++ []
theorem dksX3_forgets_0 : cX3_forgets.data.toList.drop 0 = dktX3_forgets_0 := by decide +kernel
theorem dX3_forgets_0 : decode cX3_forgets 0 = .ok (.aload_n 0, 1) := dk_42 (dk_at dksX3_forgets_0 0 rfl rfl)
theorem dX3_forgets_1 : decode cX3_forgets 1 = .ok (.iconst 0, 1) := dk_3 (dk_at dksX3_forgets_0 1 rfl rfl)
theorem dX3_forgets_2 : decode cX3_forgets 2 = .ok (.putfield 60, 3) := dk_181 0 60 (dk_at dksX3_forgets_0 2 rfl rfl)
theorem dX3_forgets_5 : decode cX3_forgets 5 = .ok (.return_, 1) := dk_177 (dk_at dksX3_forgets_0 5 rfl rfl)
abbrev cX3_hearer : ByteArray := prog_17_method_14_code
def yX3_hearer : MethodName := ⟨RX3, "hearer", "(III)I"⟩
def dkwX3_hearer_6 : List UInt8 := [172]
abbrev dktX3_hearer_6 : List UInt8 := dkwX3_hearer_6 ++ []
def dkwX3_hearer_5 : List UInt8 := [21, 4, 120, 2, 130, 126, 79, 42, 180, 0, 7, 16, 37, 92, 46, 4, 96, 79, 42, 182, 0, 63, 21, 4]
abbrev dktX3_hearer_5 : List UInt8 := dkwX3_hearer_5 ++ dktX3_hearer_6
def dkwX3_hearer_4 : List UInt8 := [79, 42, 180, 0, 7, 16, 7, 92, 46, 4, 21, 4, 120, 128, 79, 42, 180, 0, 7, 16, 8, 92, 46, 4]
abbrev dktX3_hearer_4 : List UInt8 := dkwX3_hearer_4 ++ dktX3_hearer_5
def dkwX3_hearer_3 : List UInt8 := [96, 28, 79, 42, 180, 0, 7, 16, 69, 21, 4, 96, 29, 79, 42, 180, 0, 7, 16, 9, 21, 4, 96, 3]
abbrev dktX3_hearer_3 : List UInt8 := dkwX3_hearer_3 ++ dktX3_hearer_4
def dkwX3_hearer_2 : List UInt8 := [16, 37, 46, 54, 4, 42, 180, 0, 7, 16, 45, 21, 4, 96, 27, 79, 42, 180, 0, 7, 16, 57, 21, 4]
abbrev dktX3_hearer_2 : List UInt8 := dkwX3_hearer_2 ++ dktX3_hearer_3
def dkwX3_hearer_1 : List UInt8 := [184, 0, 56, 153, 0, 15, 42, 180, 0, 7, 16, 37, 46, 16, 12, 160, 0, 5, 2, 172, 42, 180, 0, 7]
abbrev dktX3_hearer_1 : List UInt8 := dkwX3_hearer_1 ++ dktX3_hearer_2
def dkwX3_hearer_0 : List UInt8 := [27, 3, 16, 9, 184, 0, 56, 153, 0, 35, 28, 3, 16, 9, 184, 0, 56, 153, 0, 25, 29, 3, 16, 9]
abbrev dktX3_hearer_0 : List UInt8 := dkwX3_hearer_0 ++ dktX3_hearer_1
theorem dksX3_hearer_0 : cX3_hearer.data.toList.drop 0 = dktX3_hearer_0 := by decide +kernel
theorem dksX3_hearer_1 : cX3_hearer.data.toList.drop 24 = dktX3_hearer_1 := dk_seg dksX3_hearer_0 24 rfl rfl
theorem dksX3_hearer_2 : cX3_hearer.data.toList.drop 48 = dktX3_hearer_2 := dk_seg dksX3_hearer_1 24 rfl rfl
theorem dksX3_hearer_3 : cX3_hearer.data.toList.drop 72 = dktX3_hearer_3 := dk_seg dksX3_hearer_2 24 rfl rfl
theorem dksX3_hearer_4 : cX3_hearer.data.toList.drop 96 = dktX3_hearer_4 := dk_seg dksX3_hearer_3 24 rfl rfl
theorem dksX3_hearer_5 : cX3_hearer.data.toList.drop 120 = dktX3_hearer_5 := dk_seg dksX3_hearer_4 24 rfl rfl
theorem dksX3_hearer_6 : cX3_hearer.data.toList.drop 144 = dktX3_hearer_6 := dk_seg dksX3_hearer_5 24 rfl rfl
theorem dX3_hearer_0 : decode cX3_hearer 0 = .ok (.iload_n 1, 1) := dk_27 (dk_at dksX3_hearer_0 0 rfl rfl)
theorem dX3_hearer_1 : decode cX3_hearer 1 = .ok (.iconst 0, 1) := dk_3 (dk_at dksX3_hearer_0 1 rfl rfl)
theorem dX3_hearer_2 : decode cX3_hearer 2 = .ok (.bipush 9, 2) := dk_16 9 (dk_at dksX3_hearer_0 2 rfl rfl)
theorem dX3_hearer_4 : decode cX3_hearer 4 = .ok (.invokestatic 56, 3) := dk_184 0 56 (dk_at dksX3_hearer_0 4 rfl rfl)
theorem dX3_hearer_7 : decode cX3_hearer 7 = .ok (.ifCond .eq 35, 3) := dk_153 0 35 (dk_at dksX3_hearer_0 7 rfl rfl)
theorem dX3_hearer_10 : decode cX3_hearer 10 = .ok (.iload_n 2, 1) := dk_28 (dk_at dksX3_hearer_0 10 rfl rfl)
theorem dX3_hearer_11 : decode cX3_hearer 11 = .ok (.iconst 0, 1) := dk_3 (dk_at dksX3_hearer_0 11 rfl rfl)
theorem dX3_hearer_12 : decode cX3_hearer 12 = .ok (.bipush 9, 2) := dk_16 9 (dk_at dksX3_hearer_0 12 rfl rfl)
theorem dX3_hearer_14 : decode cX3_hearer 14 = .ok (.invokestatic 56, 3) := dk_184 0 56 (dk_at dksX3_hearer_0 14 rfl rfl)
theorem dX3_hearer_17 : decode cX3_hearer 17 = .ok (.ifCond .eq 25, 3) := dk_153 0 25 (dk_at dksX3_hearer_0 17 rfl rfl)
theorem dX3_hearer_20 : decode cX3_hearer 20 = .ok (.iload_n 3, 1) := dk_29 (dk_at dksX3_hearer_0 20 rfl rfl)
theorem dX3_hearer_21 : decode cX3_hearer 21 = .ok (.iconst 0, 1) := dk_3 (dk_at dksX3_hearer_0 21 rfl rfl)
theorem dX3_hearer_22 : decode cX3_hearer 22 = .ok (.bipush 9, 2) := dk_16 9 (dk_at dksX3_hearer_0 22 rfl rfl)
theorem dX3_hearer_24 : decode cX3_hearer 24 = .ok (.invokestatic 56, 3) := dk_184 0 56 (dk_at dksX3_hearer_1 0 rfl rfl)
theorem dX3_hearer_27 : decode cX3_hearer 27 = .ok (.ifCond .eq 15, 3) := dk_153 0 15 (dk_at dksX3_hearer_1 3 rfl rfl)
theorem dX3_hearer_30 : decode cX3_hearer 30 = .ok (.aload_n 0, 1) := dk_42 (dk_at dksX3_hearer_1 6 rfl rfl)
theorem dX3_hearer_31 : decode cX3_hearer 31 = .ok (.getfield 7, 3) := dk_180 0 7 (dk_at dksX3_hearer_1 7 rfl rfl)
theorem dX3_hearer_34 : decode cX3_hearer 34 = .ok (.bipush 37, 2) := dk_16 37 (dk_at dksX3_hearer_1 10 rfl rfl)
theorem dX3_hearer_36 : decode cX3_hearer 36 = .ok (.iaload, 1) := dk_46 (dk_at dksX3_hearer_1 12 rfl rfl)
theorem dX3_hearer_37 : decode cX3_hearer 37 = .ok (.bipush 12, 2) := dk_16 12 (dk_at dksX3_hearer_1 13 rfl rfl)
theorem dX3_hearer_39 : decode cX3_hearer 39 = .ok (.if_icmp .ne 5, 3) := dk_160 0 5 (dk_at dksX3_hearer_1 15 rfl rfl)
theorem dX3_hearer_42 : decode cX3_hearer 42 = .ok (.iconst (-1), 1) := dk_2 (dk_at dksX3_hearer_1 18 rfl rfl)
theorem dX3_hearer_43 : decode cX3_hearer 43 = .ok (.ireturn, 1) := dk_172 (dk_at dksX3_hearer_1 19 rfl rfl)
theorem dX3_hearer_44 : decode cX3_hearer 44 = .ok (.aload_n 0, 1) := dk_42 (dk_at dksX3_hearer_1 20 rfl rfl)
theorem dX3_hearer_45 : decode cX3_hearer 45 = .ok (.getfield 7, 3) := dk_180 0 7 (dk_at dksX3_hearer_1 21 rfl rfl)
theorem dX3_hearer_48 : decode cX3_hearer 48 = .ok (.bipush 37, 2) := dk_16 37 (dk_at dksX3_hearer_2 0 rfl rfl)
theorem dX3_hearer_50 : decode cX3_hearer 50 = .ok (.iaload, 1) := dk_46 (dk_at dksX3_hearer_2 2 rfl rfl)
theorem dX3_hearer_51 : decode cX3_hearer 51 = .ok (.istore 4, 2) := dk_54 4 (dk_at dksX3_hearer_2 3 rfl rfl)
theorem dX3_hearer_53 : decode cX3_hearer 53 = .ok (.aload_n 0, 1) := dk_42 (dk_at dksX3_hearer_2 5 rfl rfl)
theorem dX3_hearer_54 : decode cX3_hearer 54 = .ok (.getfield 7, 3) := dk_180 0 7 (dk_at dksX3_hearer_2 6 rfl rfl)
theorem dX3_hearer_57 : decode cX3_hearer 57 = .ok (.bipush 45, 2) := dk_16 45 (dk_at dksX3_hearer_2 9 rfl rfl)
theorem dX3_hearer_59 : decode cX3_hearer 59 = .ok (.iload 4, 2) := dk_21 4 (dk_at dksX3_hearer_2 11 rfl rfl)
theorem dX3_hearer_61 : decode cX3_hearer 61 = .ok (.iadd, 1) := dk_96 (dk_at dksX3_hearer_2 13 rfl rfl)
theorem dX3_hearer_62 : decode cX3_hearer 62 = .ok (.iload_n 1, 1) := dk_27 (dk_at dksX3_hearer_2 14 rfl rfl)
theorem dX3_hearer_63 : decode cX3_hearer 63 = .ok (.iastore, 1) := dk_79 (dk_at dksX3_hearer_2 15 rfl rfl)
theorem dX3_hearer_64 : decode cX3_hearer 64 = .ok (.aload_n 0, 1) := dk_42 (dk_at dksX3_hearer_2 16 rfl rfl)
theorem dX3_hearer_65 : decode cX3_hearer 65 = .ok (.getfield 7, 3) := dk_180 0 7 (dk_at dksX3_hearer_2 17 rfl rfl)
theorem dX3_hearer_68 : decode cX3_hearer 68 = .ok (.bipush 57, 2) := dk_16 57 (dk_at dksX3_hearer_2 20 rfl rfl)
theorem dX3_hearer_70 : decode cX3_hearer 70 = .ok (.iload 4, 2) := dk_21 4 (dk_at dksX3_hearer_2 22 rfl rfl)
theorem dX3_hearer_72 : decode cX3_hearer 72 = .ok (.iadd, 1) := dk_96 (dk_at dksX3_hearer_3 0 rfl rfl)
theorem dX3_hearer_73 : decode cX3_hearer 73 = .ok (.iload_n 2, 1) := dk_28 (dk_at dksX3_hearer_3 1 rfl rfl)
theorem dX3_hearer_74 : decode cX3_hearer 74 = .ok (.iastore, 1) := dk_79 (dk_at dksX3_hearer_3 2 rfl rfl)
theorem dX3_hearer_75 : decode cX3_hearer 75 = .ok (.aload_n 0, 1) := dk_42 (dk_at dksX3_hearer_3 3 rfl rfl)
theorem dX3_hearer_76 : decode cX3_hearer 76 = .ok (.getfield 7, 3) := dk_180 0 7 (dk_at dksX3_hearer_3 4 rfl rfl)
theorem dX3_hearer_79 : decode cX3_hearer 79 = .ok (.bipush 69, 2) := dk_16 69 (dk_at dksX3_hearer_3 7 rfl rfl)
theorem dX3_hearer_81 : decode cX3_hearer 81 = .ok (.iload 4, 2) := dk_21 4 (dk_at dksX3_hearer_3 9 rfl rfl)
theorem dX3_hearer_83 : decode cX3_hearer 83 = .ok (.iadd, 1) := dk_96 (dk_at dksX3_hearer_3 11 rfl rfl)
theorem dX3_hearer_84 : decode cX3_hearer 84 = .ok (.iload_n 3, 1) := dk_29 (dk_at dksX3_hearer_3 12 rfl rfl)
theorem dX3_hearer_85 : decode cX3_hearer 85 = .ok (.iastore, 1) := dk_79 (dk_at dksX3_hearer_3 13 rfl rfl)
theorem dX3_hearer_86 : decode cX3_hearer 86 = .ok (.aload_n 0, 1) := dk_42 (dk_at dksX3_hearer_3 14 rfl rfl)
theorem dX3_hearer_87 : decode cX3_hearer 87 = .ok (.getfield 7, 3) := dk_180 0 7 (dk_at dksX3_hearer_3 15 rfl rfl)
theorem dX3_hearer_90 : decode cX3_hearer 90 = .ok (.bipush 9, 2) := dk_16 9 (dk_at dksX3_hearer_3 18 rfl rfl)
theorem dX3_hearer_92 : decode cX3_hearer 92 = .ok (.iload 4, 2) := dk_21 4 (dk_at dksX3_hearer_3 20 rfl rfl)
theorem dX3_hearer_94 : decode cX3_hearer 94 = .ok (.iadd, 1) := dk_96 (dk_at dksX3_hearer_3 22 rfl rfl)
theorem dX3_hearer_95 : decode cX3_hearer 95 = .ok (.iconst 0, 1) := dk_3 (dk_at dksX3_hearer_3 23 rfl rfl)
theorem dX3_hearer_96 : decode cX3_hearer 96 = .ok (.iastore, 1) := dk_79 (dk_at dksX3_hearer_4 0 rfl rfl)
theorem dX3_hearer_97 : decode cX3_hearer 97 = .ok (.aload_n 0, 1) := dk_42 (dk_at dksX3_hearer_4 1 rfl rfl)
theorem dX3_hearer_98 : decode cX3_hearer 98 = .ok (.getfield 7, 3) := dk_180 0 7 (dk_at dksX3_hearer_4 2 rfl rfl)
theorem dX3_hearer_101 : decode cX3_hearer 101 = .ok (.bipush 7, 2) := dk_16 7 (dk_at dksX3_hearer_4 5 rfl rfl)
theorem dX3_hearer_103 : decode cX3_hearer 103 = .ok (.dup2, 1) := dk_92 (dk_at dksX3_hearer_4 7 rfl rfl)
theorem dX3_hearer_104 : decode cX3_hearer 104 = .ok (.iaload, 1) := dk_46 (dk_at dksX3_hearer_4 8 rfl rfl)
theorem dX3_hearer_105 : decode cX3_hearer 105 = .ok (.iconst 1, 1) := dk_4 (dk_at dksX3_hearer_4 9 rfl rfl)
theorem dX3_hearer_106 : decode cX3_hearer 106 = .ok (.iload 4, 2) := dk_21 4 (dk_at dksX3_hearer_4 10 rfl rfl)
theorem dX3_hearer_108 : decode cX3_hearer 108 = .ok (.ishl, 1) := dk_120 (dk_at dksX3_hearer_4 12 rfl rfl)
theorem dX3_hearer_109 : decode cX3_hearer 109 = .ok (.ior, 1) := dk_128 (dk_at dksX3_hearer_4 13 rfl rfl)
theorem dX3_hearer_110 : decode cX3_hearer 110 = .ok (.iastore, 1) := dk_79 (dk_at dksX3_hearer_4 14 rfl rfl)
theorem dX3_hearer_111 : decode cX3_hearer 111 = .ok (.aload_n 0, 1) := dk_42 (dk_at dksX3_hearer_4 15 rfl rfl)
theorem dX3_hearer_112 : decode cX3_hearer 112 = .ok (.getfield 7, 3) := dk_180 0 7 (dk_at dksX3_hearer_4 16 rfl rfl)
theorem dX3_hearer_115 : decode cX3_hearer 115 = .ok (.bipush 8, 2) := dk_16 8 (dk_at dksX3_hearer_4 19 rfl rfl)
theorem dX3_hearer_117 : decode cX3_hearer 117 = .ok (.dup2, 1) := dk_92 (dk_at dksX3_hearer_4 21 rfl rfl)
theorem dX3_hearer_118 : decode cX3_hearer 118 = .ok (.iaload, 1) := dk_46 (dk_at dksX3_hearer_4 22 rfl rfl)
theorem dX3_hearer_119 : decode cX3_hearer 119 = .ok (.iconst 1, 1) := dk_4 (dk_at dksX3_hearer_4 23 rfl rfl)
theorem dX3_hearer_120 : decode cX3_hearer 120 = .ok (.iload 4, 2) := dk_21 4 (dk_at dksX3_hearer_5 0 rfl rfl)
theorem dX3_hearer_122 : decode cX3_hearer 122 = .ok (.ishl, 1) := dk_120 (dk_at dksX3_hearer_5 2 rfl rfl)
theorem dX3_hearer_123 : decode cX3_hearer 123 = .ok (.iconst (-1), 1) := dk_2 (dk_at dksX3_hearer_5 3 rfl rfl)
theorem dX3_hearer_124 : decode cX3_hearer 124 = .ok (.ixor, 1) := dk_130 (dk_at dksX3_hearer_5 4 rfl rfl)
theorem dX3_hearer_125 : decode cX3_hearer 125 = .ok (.iand, 1) := dk_126 (dk_at dksX3_hearer_5 5 rfl rfl)
theorem dX3_hearer_126 : decode cX3_hearer 126 = .ok (.iastore, 1) := dk_79 (dk_at dksX3_hearer_5 6 rfl rfl)
theorem dX3_hearer_127 : decode cX3_hearer 127 = .ok (.aload_n 0, 1) := dk_42 (dk_at dksX3_hearer_5 7 rfl rfl)
theorem dX3_hearer_128 : decode cX3_hearer 128 = .ok (.getfield 7, 3) := dk_180 0 7 (dk_at dksX3_hearer_5 8 rfl rfl)
theorem dX3_hearer_131 : decode cX3_hearer 131 = .ok (.bipush 37, 2) := dk_16 37 (dk_at dksX3_hearer_5 11 rfl rfl)
theorem dX3_hearer_133 : decode cX3_hearer 133 = .ok (.dup2, 1) := dk_92 (dk_at dksX3_hearer_5 13 rfl rfl)
theorem dX3_hearer_134 : decode cX3_hearer 134 = .ok (.iaload, 1) := dk_46 (dk_at dksX3_hearer_5 14 rfl rfl)
theorem dX3_hearer_135 : decode cX3_hearer 135 = .ok (.iconst 1, 1) := dk_4 (dk_at dksX3_hearer_5 15 rfl rfl)
theorem dX3_hearer_136 : decode cX3_hearer 136 = .ok (.iadd, 1) := dk_96 (dk_at dksX3_hearer_5 16 rfl rfl)
theorem dX3_hearer_137 : decode cX3_hearer 137 = .ok (.iastore, 1) := dk_79 (dk_at dksX3_hearer_5 17 rfl rfl)
theorem dX3_hearer_138 : decode cX3_hearer 138 = .ok (.aload_n 0, 1) := dk_42 (dk_at dksX3_hearer_5 18 rfl rfl)
theorem dX3_hearer_139 : decode cX3_hearer 139 = .ok (.invokevirtual 63, 3) := dk_182 0 63 (dk_at dksX3_hearer_5 19 rfl rfl)
theorem dX3_hearer_142 : decode cX3_hearer 142 = .ok (.iload 4, 2) := dk_21 4 (dk_at dksX3_hearer_5 22 rfl rfl)
theorem dX3_hearer_144 : decode cX3_hearer 144 = .ok (.ireturn, 1) := dk_172 (dk_at dksX3_hearer_6 0 rfl rfl)
abbrev cX3_isIn : ByteArray := prog_17_method_2_code
def yX3_isIn : MethodName := ⟨RX3, "isIn", "(III)Z"⟩
def dkwX3_isIn_0 : List UInt8 := [26, 27, 161, 0, 12, 26, 28, 163, 0, 7, 4, 167, 0, 4, 3, 172]
abbrev dktX3_isIn_0 : List UInt8 := dkwX3_isIn_0 ++ []
theorem dksX3_isIn_0 : cX3_isIn.data.toList.drop 0 = dktX3_isIn_0 := by decide +kernel
theorem dX3_isIn_0 : decode cX3_isIn 0 = .ok (.iload_n 0, 1) := dk_26 (dk_at dksX3_isIn_0 0 rfl rfl)
theorem dX3_isIn_1 : decode cX3_isIn 1 = .ok (.iload_n 1, 1) := dk_27 (dk_at dksX3_isIn_0 1 rfl rfl)
theorem dX3_isIn_2 : decode cX3_isIn 2 = .ok (.if_icmp .lt 12, 3) := dk_161 0 12 (dk_at dksX3_isIn_0 2 rfl rfl)
theorem dX3_isIn_5 : decode cX3_isIn 5 = .ok (.iload_n 0, 1) := dk_26 (dk_at dksX3_isIn_0 5 rfl rfl)
theorem dX3_isIn_6 : decode cX3_isIn 6 = .ok (.iload_n 2, 1) := dk_28 (dk_at dksX3_isIn_0 6 rfl rfl)
theorem dX3_isIn_7 : decode cX3_isIn 7 = .ok (.if_icmp .gt 7, 3) := dk_163 0 7 (dk_at dksX3_isIn_0 7 rfl rfl)
theorem dX3_isIn_10 : decode cX3_isIn 10 = .ok (.iconst 1, 1) := dk_4 (dk_at dksX3_isIn_0 10 rfl rfl)
theorem dX3_isIn_11 : decode cX3_isIn 11 = .ok (.goto 4, 3) := dk_167 0 4 (dk_at dksX3_isIn_0 11 rfl rfl)
theorem dX3_isIn_14 : decode cX3_isIn 14 = .ok (.iconst 0, 1) := dk_3 (dk_at dksX3_isIn_0 14 rfl rfl)
theorem dX3_isIn_15 : decode cX3_isIn 15 = .ok (.ireturn, 1) := dk_172 (dk_at dksX3_isIn_0 15 rfl rfl)
abbrev cX3_deed : ByteArray := prog_17_method_15_code
def yX3_deed : MethodName := ⟨RX3, "deed", "(III)I"⟩
def dkwX3_deed_5 : List UInt8 := [182, 0, 63, 21, 4, 172]
abbrev dktX3_deed_5 : List UInt8 := dkwX3_deed_5 ++ []
def dkwX3_deed_4 : List UInt8 := [79, 42, 180, 0, 7, 16, 29, 21, 4, 96, 3, 79, 42, 180, 0, 7, 16, 38, 92, 46, 4, 96, 79, 42]
abbrev dktX3_deed_4 : List UInt8 := dkwX3_deed_4 ++ dktX3_deed_5
def dkwX3_deed_3 : List UInt8 := [96, 28, 79, 42, 180, 0, 7, 16, 97, 21, 4, 96, 29, 79, 42, 180, 0, 7, 16, 21, 21, 4, 96, 3]
abbrev dktX3_deed_3 : List UInt8 := dkwX3_deed_3 ++ dktX3_deed_4
def dkwX3_deed_2 : List UInt8 := [16, 38, 46, 54, 4, 42, 180, 0, 7, 16, 81, 21, 4, 96, 27, 79, 42, 180, 0, 7, 16, 89, 21, 4]
abbrev dktX3_deed_2 : List UInt8 := dkwX3_deed_2 ++ dktX3_deed_3
def dkwX3_deed_1 : List UInt8 := [184, 0, 56, 153, 0, 15, 42, 180, 0, 7, 16, 38, 46, 16, 8, 160, 0, 5, 2, 172, 42, 180, 0, 7]
abbrev dktX3_deed_1 : List UInt8 := dkwX3_deed_1 ++ dktX3_deed_2
def dkwX3_deed_0 : List UInt8 := [27, 3, 16, 9, 184, 0, 56, 153, 0, 35, 28, 4, 16, 60, 184, 0, 56, 153, 0, 25, 29, 3, 16, 99]
abbrev dktX3_deed_0 : List UInt8 := dkwX3_deed_0 ++ dktX3_deed_1
theorem dksX3_deed_0 : cX3_deed.data.toList.drop 0 = dktX3_deed_0 := by decide +kernel
theorem dksX3_deed_1 : cX3_deed.data.toList.drop 24 = dktX3_deed_1 := dk_seg dksX3_deed_0 24 rfl rfl
theorem dksX3_deed_2 : cX3_deed.data.toList.drop 48 = dktX3_deed_2 := dk_seg dksX3_deed_1 24 rfl rfl
theorem dksX3_deed_3 : cX3_deed.data.toList.drop 72 = dktX3_deed_3 := dk_seg dksX3_deed_2 24 rfl rfl
theorem dksX3_deed_4 : cX3_deed.data.toList.drop 96 = dktX3_deed_4 := dk_seg dksX3_deed_3 24 rfl rfl
theorem dksX3_deed_5 : cX3_deed.data.toList.drop 120 = dktX3_deed_5 := dk_seg dksX3_deed_4 24 rfl rfl
theorem dX3_deed_0 : decode cX3_deed 0 = .ok (.iload_n 1, 1) := dk_27 (dk_at dksX3_deed_0 0 rfl rfl)
theorem dX3_deed_1 : decode cX3_deed 1 = .ok (.iconst 0, 1) := dk_3 (dk_at dksX3_deed_0 1 rfl rfl)
theorem dX3_deed_2 : decode cX3_deed 2 = .ok (.bipush 9, 2) := dk_16 9 (dk_at dksX3_deed_0 2 rfl rfl)
theorem dX3_deed_4 : decode cX3_deed 4 = .ok (.invokestatic 56, 3) := dk_184 0 56 (dk_at dksX3_deed_0 4 rfl rfl)
theorem dX3_deed_7 : decode cX3_deed 7 = .ok (.ifCond .eq 35, 3) := dk_153 0 35 (dk_at dksX3_deed_0 7 rfl rfl)
theorem dX3_deed_10 : decode cX3_deed 10 = .ok (.iload_n 2, 1) := dk_28 (dk_at dksX3_deed_0 10 rfl rfl)
theorem dX3_deed_11 : decode cX3_deed 11 = .ok (.iconst 1, 1) := dk_4 (dk_at dksX3_deed_0 11 rfl rfl)
theorem dX3_deed_12 : decode cX3_deed 12 = .ok (.bipush 60, 2) := dk_16 60 (dk_at dksX3_deed_0 12 rfl rfl)
theorem dX3_deed_14 : decode cX3_deed 14 = .ok (.invokestatic 56, 3) := dk_184 0 56 (dk_at dksX3_deed_0 14 rfl rfl)
theorem dX3_deed_17 : decode cX3_deed 17 = .ok (.ifCond .eq 25, 3) := dk_153 0 25 (dk_at dksX3_deed_0 17 rfl rfl)
theorem dX3_deed_20 : decode cX3_deed 20 = .ok (.iload_n 3, 1) := dk_29 (dk_at dksX3_deed_0 20 rfl rfl)
theorem dX3_deed_21 : decode cX3_deed 21 = .ok (.iconst 0, 1) := dk_3 (dk_at dksX3_deed_0 21 rfl rfl)
theorem dX3_deed_22 : decode cX3_deed 22 = .ok (.bipush 99, 2) := dk_16 99 (dk_at dksX3_deed_0 22 rfl rfl)
theorem dX3_deed_24 : decode cX3_deed 24 = .ok (.invokestatic 56, 3) := dk_184 0 56 (dk_at dksX3_deed_1 0 rfl rfl)
theorem dX3_deed_27 : decode cX3_deed 27 = .ok (.ifCond .eq 15, 3) := dk_153 0 15 (dk_at dksX3_deed_1 3 rfl rfl)
theorem dX3_deed_30 : decode cX3_deed 30 = .ok (.aload_n 0, 1) := dk_42 (dk_at dksX3_deed_1 6 rfl rfl)
theorem dX3_deed_31 : decode cX3_deed 31 = .ok (.getfield 7, 3) := dk_180 0 7 (dk_at dksX3_deed_1 7 rfl rfl)
theorem dX3_deed_34 : decode cX3_deed 34 = .ok (.bipush 38, 2) := dk_16 38 (dk_at dksX3_deed_1 10 rfl rfl)
theorem dX3_deed_36 : decode cX3_deed 36 = .ok (.iaload, 1) := dk_46 (dk_at dksX3_deed_1 12 rfl rfl)
theorem dX3_deed_37 : decode cX3_deed 37 = .ok (.bipush 8, 2) := dk_16 8 (dk_at dksX3_deed_1 13 rfl rfl)
theorem dX3_deed_39 : decode cX3_deed 39 = .ok (.if_icmp .ne 5, 3) := dk_160 0 5 (dk_at dksX3_deed_1 15 rfl rfl)
theorem dX3_deed_42 : decode cX3_deed 42 = .ok (.iconst (-1), 1) := dk_2 (dk_at dksX3_deed_1 18 rfl rfl)
theorem dX3_deed_43 : decode cX3_deed 43 = .ok (.ireturn, 1) := dk_172 (dk_at dksX3_deed_1 19 rfl rfl)
theorem dX3_deed_44 : decode cX3_deed 44 = .ok (.aload_n 0, 1) := dk_42 (dk_at dksX3_deed_1 20 rfl rfl)
theorem dX3_deed_45 : decode cX3_deed 45 = .ok (.getfield 7, 3) := dk_180 0 7 (dk_at dksX3_deed_1 21 rfl rfl)
theorem dX3_deed_48 : decode cX3_deed 48 = .ok (.bipush 38, 2) := dk_16 38 (dk_at dksX3_deed_2 0 rfl rfl)
theorem dX3_deed_50 : decode cX3_deed 50 = .ok (.iaload, 1) := dk_46 (dk_at dksX3_deed_2 2 rfl rfl)
theorem dX3_deed_51 : decode cX3_deed 51 = .ok (.istore 4, 2) := dk_54 4 (dk_at dksX3_deed_2 3 rfl rfl)
theorem dX3_deed_53 : decode cX3_deed 53 = .ok (.aload_n 0, 1) := dk_42 (dk_at dksX3_deed_2 5 rfl rfl)
theorem dX3_deed_54 : decode cX3_deed 54 = .ok (.getfield 7, 3) := dk_180 0 7 (dk_at dksX3_deed_2 6 rfl rfl)
theorem dX3_deed_57 : decode cX3_deed 57 = .ok (.bipush 81, 2) := dk_16 81 (dk_at dksX3_deed_2 9 rfl rfl)
theorem dX3_deed_59 : decode cX3_deed 59 = .ok (.iload 4, 2) := dk_21 4 (dk_at dksX3_deed_2 11 rfl rfl)
theorem dX3_deed_61 : decode cX3_deed 61 = .ok (.iadd, 1) := dk_96 (dk_at dksX3_deed_2 13 rfl rfl)
theorem dX3_deed_62 : decode cX3_deed 62 = .ok (.iload_n 1, 1) := dk_27 (dk_at dksX3_deed_2 14 rfl rfl)
theorem dX3_deed_63 : decode cX3_deed 63 = .ok (.iastore, 1) := dk_79 (dk_at dksX3_deed_2 15 rfl rfl)
theorem dX3_deed_64 : decode cX3_deed 64 = .ok (.aload_n 0, 1) := dk_42 (dk_at dksX3_deed_2 16 rfl rfl)
theorem dX3_deed_65 : decode cX3_deed 65 = .ok (.getfield 7, 3) := dk_180 0 7 (dk_at dksX3_deed_2 17 rfl rfl)
theorem dX3_deed_68 : decode cX3_deed 68 = .ok (.bipush 89, 2) := dk_16 89 (dk_at dksX3_deed_2 20 rfl rfl)
theorem dX3_deed_70 : decode cX3_deed 70 = .ok (.iload 4, 2) := dk_21 4 (dk_at dksX3_deed_2 22 rfl rfl)
theorem dX3_deed_72 : decode cX3_deed 72 = .ok (.iadd, 1) := dk_96 (dk_at dksX3_deed_3 0 rfl rfl)
theorem dX3_deed_73 : decode cX3_deed 73 = .ok (.iload_n 2, 1) := dk_28 (dk_at dksX3_deed_3 1 rfl rfl)
theorem dX3_deed_74 : decode cX3_deed 74 = .ok (.iastore, 1) := dk_79 (dk_at dksX3_deed_3 2 rfl rfl)
theorem dX3_deed_75 : decode cX3_deed 75 = .ok (.aload_n 0, 1) := dk_42 (dk_at dksX3_deed_3 3 rfl rfl)
theorem dX3_deed_76 : decode cX3_deed 76 = .ok (.getfield 7, 3) := dk_180 0 7 (dk_at dksX3_deed_3 4 rfl rfl)
theorem dX3_deed_79 : decode cX3_deed 79 = .ok (.bipush 97, 2) := dk_16 97 (dk_at dksX3_deed_3 7 rfl rfl)
theorem dX3_deed_81 : decode cX3_deed 81 = .ok (.iload 4, 2) := dk_21 4 (dk_at dksX3_deed_3 9 rfl rfl)
theorem dX3_deed_83 : decode cX3_deed 83 = .ok (.iadd, 1) := dk_96 (dk_at dksX3_deed_3 11 rfl rfl)
theorem dX3_deed_84 : decode cX3_deed 84 = .ok (.iload_n 3, 1) := dk_29 (dk_at dksX3_deed_3 12 rfl rfl)
theorem dX3_deed_85 : decode cX3_deed 85 = .ok (.iastore, 1) := dk_79 (dk_at dksX3_deed_3 13 rfl rfl)
theorem dX3_deed_86 : decode cX3_deed 86 = .ok (.aload_n 0, 1) := dk_42 (dk_at dksX3_deed_3 14 rfl rfl)
theorem dX3_deed_87 : decode cX3_deed 87 = .ok (.getfield 7, 3) := dk_180 0 7 (dk_at dksX3_deed_3 15 rfl rfl)
theorem dX3_deed_90 : decode cX3_deed 90 = .ok (.bipush 21, 2) := dk_16 21 (dk_at dksX3_deed_3 18 rfl rfl)
theorem dX3_deed_92 : decode cX3_deed 92 = .ok (.iload 4, 2) := dk_21 4 (dk_at dksX3_deed_3 20 rfl rfl)
theorem dX3_deed_94 : decode cX3_deed 94 = .ok (.iadd, 1) := dk_96 (dk_at dksX3_deed_3 22 rfl rfl)
theorem dX3_deed_95 : decode cX3_deed 95 = .ok (.iconst 0, 1) := dk_3 (dk_at dksX3_deed_3 23 rfl rfl)
theorem dX3_deed_96 : decode cX3_deed 96 = .ok (.iastore, 1) := dk_79 (dk_at dksX3_deed_4 0 rfl rfl)
theorem dX3_deed_97 : decode cX3_deed 97 = .ok (.aload_n 0, 1) := dk_42 (dk_at dksX3_deed_4 1 rfl rfl)
theorem dX3_deed_98 : decode cX3_deed 98 = .ok (.getfield 7, 3) := dk_180 0 7 (dk_at dksX3_deed_4 2 rfl rfl)
theorem dX3_deed_101 : decode cX3_deed 101 = .ok (.bipush 29, 2) := dk_16 29 (dk_at dksX3_deed_4 5 rfl rfl)
theorem dX3_deed_103 : decode cX3_deed 103 = .ok (.iload 4, 2) := dk_21 4 (dk_at dksX3_deed_4 7 rfl rfl)
theorem dX3_deed_105 : decode cX3_deed 105 = .ok (.iadd, 1) := dk_96 (dk_at dksX3_deed_4 9 rfl rfl)
theorem dX3_deed_106 : decode cX3_deed 106 = .ok (.iconst 0, 1) := dk_3 (dk_at dksX3_deed_4 10 rfl rfl)
theorem dX3_deed_107 : decode cX3_deed 107 = .ok (.iastore, 1) := dk_79 (dk_at dksX3_deed_4 11 rfl rfl)
theorem dX3_deed_108 : decode cX3_deed 108 = .ok (.aload_n 0, 1) := dk_42 (dk_at dksX3_deed_4 12 rfl rfl)
theorem dX3_deed_109 : decode cX3_deed 109 = .ok (.getfield 7, 3) := dk_180 0 7 (dk_at dksX3_deed_4 13 rfl rfl)
theorem dX3_deed_112 : decode cX3_deed 112 = .ok (.bipush 38, 2) := dk_16 38 (dk_at dksX3_deed_4 16 rfl rfl)
theorem dX3_deed_114 : decode cX3_deed 114 = .ok (.dup2, 1) := dk_92 (dk_at dksX3_deed_4 18 rfl rfl)
theorem dX3_deed_115 : decode cX3_deed 115 = .ok (.iaload, 1) := dk_46 (dk_at dksX3_deed_4 19 rfl rfl)
theorem dX3_deed_116 : decode cX3_deed 116 = .ok (.iconst 1, 1) := dk_4 (dk_at dksX3_deed_4 20 rfl rfl)
theorem dX3_deed_117 : decode cX3_deed 117 = .ok (.iadd, 1) := dk_96 (dk_at dksX3_deed_4 21 rfl rfl)
theorem dX3_deed_118 : decode cX3_deed 118 = .ok (.iastore, 1) := dk_79 (dk_at dksX3_deed_4 22 rfl rfl)
theorem dX3_deed_119 : decode cX3_deed 119 = .ok (.aload_n 0, 1) := dk_42 (dk_at dksX3_deed_4 23 rfl rfl)
theorem dX3_deed_120 : decode cX3_deed 120 = .ok (.invokevirtual 63, 3) := dk_182 0 63 (dk_at dksX3_deed_5 0 rfl rfl)
theorem dX3_deed_123 : decode cX3_deed 123 = .ok (.iload 4, 2) := dk_21 4 (dk_at dksX3_deed_5 3 rfl rfl)
theorem dX3_deed_125 : decode cX3_deed 125 = .ok (.ireturn, 1) := dk_172 (dk_at dksX3_deed_5 5 rfl rfl)
abbrev cX3_set : ByteArray := prog_17_method_17_code
def yX3_set : MethodName := ⟨RX3, "set", "(III)Z"⟩
def dkwX3_set_4 : List UInt8 := [104, 96, 28, 96, 29, 79, 42, 182, 0, 63, 4, 172]
abbrev dktX3_set_4 : List UInt8 := dkwX3_set_4 ++ []
def dkwX3_set_3 : List UInt8 := [42, 180, 0, 7, 16, 21, 28, 96, 29, 79, 167, 0, 20, 42, 180, 0, 7, 16, 45, 16, 12, 27, 4, 100]
abbrev dktX3_set_3 : List UInt8 := dkwX3_set_3 ++ dktX3_set_4
def dkwX3_set_2 : List UInt8 := [42, 180, 0, 7, 16, 39, 29, 79, 167, 0, 46, 42, 180, 0, 7, 16, 81, 28, 96, 29, 79, 167, 0, 33]
abbrev dktX3_set_2 : List UInt8 := dkwX3_set_2 ++ dktX3_set_3
def dkwX3_set_1 : List UInt8 := [171, 0, 0, 0, 0, 0, 72, 0, 0, 0, 3, 0, 0, 0, 0, 0, 0, 0, 35, 0, 0, 0, 4, 0, 0, 0, 46, 0, 0, 0, 5, 0, 0, 0, 59]
abbrev dktX3_set_1 : List UInt8 := dkwX3_set_1 ++ dktX3_set_2
def dkwX3_set_0 : List UInt8 := [42, 27, 28, 29, 182, 0, 75, 154, 0, 5, 3, 172, 27]
abbrev dktX3_set_0 : List UInt8 := dkwX3_set_0 ++ dktX3_set_1
theorem dksX3_set_0 : cX3_set.data.toList.drop 0 = dktX3_set_0 := by decide +kernel
theorem dksX3_set_1 : cX3_set.data.toList.drop 13 = dktX3_set_1 := dk_seg dksX3_set_0 13 rfl rfl
theorem dksX3_set_2 : cX3_set.data.toList.drop 48 = dktX3_set_2 := dk_seg dksX3_set_1 35 rfl rfl
theorem dksX3_set_3 : cX3_set.data.toList.drop 72 = dktX3_set_3 := dk_seg dksX3_set_2 24 rfl rfl
theorem dksX3_set_4 : cX3_set.data.toList.drop 96 = dktX3_set_4 := dk_seg dksX3_set_3 24 rfl rfl
theorem dX3_set_0 : decode cX3_set 0 = .ok (.aload_n 0, 1) := dk_42 (dk_at dksX3_set_0 0 rfl rfl)
theorem dX3_set_1 : decode cX3_set 1 = .ok (.iload_n 1, 1) := dk_27 (dk_at dksX3_set_0 1 rfl rfl)
theorem dX3_set_2 : decode cX3_set 2 = .ok (.iload_n 2, 1) := dk_28 (dk_at dksX3_set_0 2 rfl rfl)
theorem dX3_set_3 : decode cX3_set 3 = .ok (.iload_n 3, 1) := dk_29 (dk_at dksX3_set_0 3 rfl rfl)
theorem dX3_set_4 : decode cX3_set 4 = .ok (.invokevirtual 75, 3) := dk_182 0 75 (dk_at dksX3_set_0 4 rfl rfl)
theorem dX3_set_7 : decode cX3_set 7 = .ok (.ifCond .ne 5, 3) := dk_154 0 5 (dk_at dksX3_set_0 7 rfl rfl)
theorem dX3_set_10 : decode cX3_set 10 = .ok (.iconst 0, 1) := dk_3 (dk_at dksX3_set_0 10 rfl rfl)
theorem dX3_set_11 : decode cX3_set 11 = .ok (.ireturn, 1) := dk_172 (dk_at dksX3_set_0 11 rfl rfl)
theorem dX3_set_12 : decode cX3_set 12 = .ok (.iload_n 1, 1) := dk_27 (dk_at dksX3_set_0 12 rfl rfl)
theorem dX3_set_13 : decode cX3_set 13 = .ok (.lookupswitch 72 #[(0, 35), (4, 46), (5, 59)], 35) := by decide +kernel
theorem dX3_set_48 : decode cX3_set 48 = .ok (.aload_n 0, 1) := dk_42 (dk_at dksX3_set_2 0 rfl rfl)
theorem dX3_set_49 : decode cX3_set 49 = .ok (.getfield 7, 3) := dk_180 0 7 (dk_at dksX3_set_2 1 rfl rfl)
theorem dX3_set_52 : decode cX3_set 52 = .ok (.bipush 39, 2) := dk_16 39 (dk_at dksX3_set_2 4 rfl rfl)
theorem dX3_set_54 : decode cX3_set 54 = .ok (.iload_n 3, 1) := dk_29 (dk_at dksX3_set_2 6 rfl rfl)
theorem dX3_set_55 : decode cX3_set 55 = .ok (.iastore, 1) := dk_79 (dk_at dksX3_set_2 7 rfl rfl)
theorem dX3_set_56 : decode cX3_set 56 = .ok (.goto 46, 3) := dk_167 0 46 (dk_at dksX3_set_2 8 rfl rfl)
theorem dX3_set_59 : decode cX3_set 59 = .ok (.aload_n 0, 1) := dk_42 (dk_at dksX3_set_2 11 rfl rfl)
theorem dX3_set_60 : decode cX3_set 60 = .ok (.getfield 7, 3) := dk_180 0 7 (dk_at dksX3_set_2 12 rfl rfl)
theorem dX3_set_63 : decode cX3_set 63 = .ok (.bipush 81, 2) := dk_16 81 (dk_at dksX3_set_2 15 rfl rfl)
theorem dX3_set_65 : decode cX3_set 65 = .ok (.iload_n 2, 1) := dk_28 (dk_at dksX3_set_2 17 rfl rfl)
theorem dX3_set_66 : decode cX3_set 66 = .ok (.iadd, 1) := dk_96 (dk_at dksX3_set_2 18 rfl rfl)
theorem dX3_set_67 : decode cX3_set 67 = .ok (.iload_n 3, 1) := dk_29 (dk_at dksX3_set_2 19 rfl rfl)
theorem dX3_set_68 : decode cX3_set 68 = .ok (.iastore, 1) := dk_79 (dk_at dksX3_set_2 20 rfl rfl)
theorem dX3_set_69 : decode cX3_set 69 = .ok (.goto 33, 3) := dk_167 0 33 (dk_at dksX3_set_2 21 rfl rfl)
theorem dX3_set_72 : decode cX3_set 72 = .ok (.aload_n 0, 1) := dk_42 (dk_at dksX3_set_3 0 rfl rfl)
theorem dX3_set_73 : decode cX3_set 73 = .ok (.getfield 7, 3) := dk_180 0 7 (dk_at dksX3_set_3 1 rfl rfl)
theorem dX3_set_76 : decode cX3_set 76 = .ok (.bipush 21, 2) := dk_16 21 (dk_at dksX3_set_3 4 rfl rfl)
theorem dX3_set_78 : decode cX3_set 78 = .ok (.iload_n 2, 1) := dk_28 (dk_at dksX3_set_3 6 rfl rfl)
theorem dX3_set_79 : decode cX3_set 79 = .ok (.iadd, 1) := dk_96 (dk_at dksX3_set_3 7 rfl rfl)
theorem dX3_set_80 : decode cX3_set 80 = .ok (.iload_n 3, 1) := dk_29 (dk_at dksX3_set_3 8 rfl rfl)
theorem dX3_set_81 : decode cX3_set 81 = .ok (.iastore, 1) := dk_79 (dk_at dksX3_set_3 9 rfl rfl)
theorem dX3_set_82 : decode cX3_set 82 = .ok (.goto 20, 3) := dk_167 0 20 (dk_at dksX3_set_3 10 rfl rfl)
theorem dX3_set_85 : decode cX3_set 85 = .ok (.aload_n 0, 1) := dk_42 (dk_at dksX3_set_3 13 rfl rfl)
theorem dX3_set_86 : decode cX3_set 86 = .ok (.getfield 7, 3) := dk_180 0 7 (dk_at dksX3_set_3 14 rfl rfl)
theorem dX3_set_89 : decode cX3_set 89 = .ok (.bipush 45, 2) := dk_16 45 (dk_at dksX3_set_3 17 rfl rfl)
theorem dX3_set_91 : decode cX3_set 91 = .ok (.bipush 12, 2) := dk_16 12 (dk_at dksX3_set_3 19 rfl rfl)
theorem dX3_set_93 : decode cX3_set 93 = .ok (.iload_n 1, 1) := dk_27 (dk_at dksX3_set_3 21 rfl rfl)
theorem dX3_set_94 : decode cX3_set 94 = .ok (.iconst 1, 1) := dk_4 (dk_at dksX3_set_3 22 rfl rfl)
theorem dX3_set_95 : decode cX3_set 95 = .ok (.isub, 1) := dk_100 (dk_at dksX3_set_3 23 rfl rfl)
theorem dX3_set_96 : decode cX3_set 96 = .ok (.imul, 1) := dk_104 (dk_at dksX3_set_4 0 rfl rfl)
theorem dX3_set_97 : decode cX3_set 97 = .ok (.iadd, 1) := dk_96 (dk_at dksX3_set_4 1 rfl rfl)
theorem dX3_set_98 : decode cX3_set 98 = .ok (.iload_n 2, 1) := dk_28 (dk_at dksX3_set_4 2 rfl rfl)
theorem dX3_set_99 : decode cX3_set 99 = .ok (.iadd, 1) := dk_96 (dk_at dksX3_set_4 3 rfl rfl)
theorem dX3_set_100 : decode cX3_set 100 = .ok (.iload_n 3, 1) := dk_29 (dk_at dksX3_set_4 4 rfl rfl)
theorem dX3_set_101 : decode cX3_set 101 = .ok (.iastore, 1) := dk_79 (dk_at dksX3_set_4 5 rfl rfl)
theorem dX3_set_102 : decode cX3_set 102 = .ok (.aload_n 0, 1) := dk_42 (dk_at dksX3_set_4 6 rfl rfl)
theorem dX3_set_103 : decode cX3_set 103 = .ok (.invokevirtual 63, 3) := dk_182 0 63 (dk_at dksX3_set_4 7 rfl rfl)
theorem dX3_set_106 : decode cX3_set 106 = .ok (.iconst 1, 1) := dk_4 (dk_at dksX3_set_4 10 rfl rfl)
theorem dX3_set_107 : decode cX3_set 107 = .ok (.ireturn, 1) := dk_172 (dk_at dksX3_set_4 11 rfl rfl)
abbrev cX3_canSet : ByteArray := prog_17_method_16_code
def yX3_canSet : MethodName := ⟨RX3, "canSet", "(III)Z"⟩
def dkwX3_canSet_3 : List UInt8 := [27, 8, 160, 0, 17, 29, 3, 16, 99, 184, 0, 56, 153, 0, 7, 4, 167, 0, 4, 3, 172]
abbrev dktX3_canSet_3 : List UInt8 := dkwX3_canSet_3 ++ []
def dkwX3_canSet_2 : List UInt8 := [182, 0, 72, 153, 0, 40, 27, 7, 160, 0, 16, 29, 3, 16, 9, 184, 0, 56, 153, 0, 25, 167, 0, 18]
abbrev dktX3_canSet_2 : List UInt8 := dkwX3_canSet_2 ++ dktX3_canSet_3
def dkwX3_canSet_1 : List UInt8 := [182, 0, 68, 153, 0, 17, 29, 3, 16, 9, 184, 0, 56, 153, 0, 7, 4, 167, 0, 4, 3, 172, 42, 28]
abbrev dktX3_canSet_1 : List UInt8 := dkwX3_canSet_1 ++ dktX3_canSet_2
def dkwX3_canSet_0 : List UInt8 := [27, 154, 0, 12, 29, 3, 17, 3, 232, 184, 0, 56, 172, 27, 4, 6, 184, 0, 56, 153, 0, 27, 42, 28]
abbrev dktX3_canSet_0 : List UInt8 := dkwX3_canSet_0 ++ dktX3_canSet_1
theorem dksX3_canSet_0 : cX3_canSet.data.toList.drop 0 = dktX3_canSet_0 := by decide +kernel
theorem dksX3_canSet_1 : cX3_canSet.data.toList.drop 24 = dktX3_canSet_1 := dk_seg dksX3_canSet_0 24 rfl rfl
theorem dksX3_canSet_2 : cX3_canSet.data.toList.drop 48 = dktX3_canSet_2 := dk_seg dksX3_canSet_1 24 rfl rfl
theorem dksX3_canSet_3 : cX3_canSet.data.toList.drop 72 = dktX3_canSet_3 := dk_seg dksX3_canSet_2 24 rfl rfl
theorem dX3_canSet_0 : decode cX3_canSet 0 = .ok (.iload_n 1, 1) := dk_27 (dk_at dksX3_canSet_0 0 rfl rfl)
theorem dX3_canSet_1 : decode cX3_canSet 1 = .ok (.ifCond .ne 12, 3) := dk_154 0 12 (dk_at dksX3_canSet_0 1 rfl rfl)
theorem dX3_canSet_4 : decode cX3_canSet 4 = .ok (.iload_n 3, 1) := dk_29 (dk_at dksX3_canSet_0 4 rfl rfl)
theorem dX3_canSet_5 : decode cX3_canSet 5 = .ok (.iconst 0, 1) := dk_3 (dk_at dksX3_canSet_0 5 rfl rfl)
theorem dX3_canSet_6 : decode cX3_canSet 6 = .ok (.sipush 1000, 3) := dk_17 3 232 (dk_at dksX3_canSet_0 6 rfl rfl)
theorem dX3_canSet_9 : decode cX3_canSet 9 = .ok (.invokestatic 56, 3) := dk_184 0 56 (dk_at dksX3_canSet_0 9 rfl rfl)
theorem dX3_canSet_12 : decode cX3_canSet 12 = .ok (.ireturn, 1) := dk_172 (dk_at dksX3_canSet_0 12 rfl rfl)
theorem dX3_canSet_13 : decode cX3_canSet 13 = .ok (.iload_n 1, 1) := dk_27 (dk_at dksX3_canSet_0 13 rfl rfl)
theorem dX3_canSet_14 : decode cX3_canSet 14 = .ok (.iconst 1, 1) := dk_4 (dk_at dksX3_canSet_0 14 rfl rfl)
theorem dX3_canSet_15 : decode cX3_canSet 15 = .ok (.iconst 3, 1) := dk_6 (dk_at dksX3_canSet_0 15 rfl rfl)
theorem dX3_canSet_16 : decode cX3_canSet 16 = .ok (.invokestatic 56, 3) := dk_184 0 56 (dk_at dksX3_canSet_0 16 rfl rfl)
theorem dX3_canSet_19 : decode cX3_canSet 19 = .ok (.ifCond .eq 27, 3) := dk_153 0 27 (dk_at dksX3_canSet_0 19 rfl rfl)
theorem dX3_canSet_22 : decode cX3_canSet 22 = .ok (.aload_n 0, 1) := dk_42 (dk_at dksX3_canSet_0 22 rfl rfl)
theorem dX3_canSet_23 : decode cX3_canSet 23 = .ok (.iload_n 2, 1) := dk_28 (dk_at dksX3_canSet_0 23 rfl rfl)
theorem dX3_canSet_24 : decode cX3_canSet 24 = .ok (.invokevirtual 68, 3) := dk_182 0 68 (dk_at dksX3_canSet_1 0 rfl rfl)
theorem dX3_canSet_27 : decode cX3_canSet 27 = .ok (.ifCond .eq 17, 3) := dk_153 0 17 (dk_at dksX3_canSet_1 3 rfl rfl)
theorem dX3_canSet_30 : decode cX3_canSet 30 = .ok (.iload_n 3, 1) := dk_29 (dk_at dksX3_canSet_1 6 rfl rfl)
theorem dX3_canSet_31 : decode cX3_canSet 31 = .ok (.iconst 0, 1) := dk_3 (dk_at dksX3_canSet_1 7 rfl rfl)
theorem dX3_canSet_32 : decode cX3_canSet 32 = .ok (.bipush 9, 2) := dk_16 9 (dk_at dksX3_canSet_1 8 rfl rfl)
theorem dX3_canSet_34 : decode cX3_canSet 34 = .ok (.invokestatic 56, 3) := dk_184 0 56 (dk_at dksX3_canSet_1 10 rfl rfl)
theorem dX3_canSet_37 : decode cX3_canSet 37 = .ok (.ifCond .eq 7, 3) := dk_153 0 7 (dk_at dksX3_canSet_1 13 rfl rfl)
theorem dX3_canSet_40 : decode cX3_canSet 40 = .ok (.iconst 1, 1) := dk_4 (dk_at dksX3_canSet_1 16 rfl rfl)
theorem dX3_canSet_41 : decode cX3_canSet 41 = .ok (.goto 4, 3) := dk_167 0 4 (dk_at dksX3_canSet_1 17 rfl rfl)
theorem dX3_canSet_44 : decode cX3_canSet 44 = .ok (.iconst 0, 1) := dk_3 (dk_at dksX3_canSet_1 20 rfl rfl)
theorem dX3_canSet_45 : decode cX3_canSet 45 = .ok (.ireturn, 1) := dk_172 (dk_at dksX3_canSet_1 21 rfl rfl)
theorem dX3_canSet_46 : decode cX3_canSet 46 = .ok (.aload_n 0, 1) := dk_42 (dk_at dksX3_canSet_1 22 rfl rfl)
theorem dX3_canSet_47 : decode cX3_canSet 47 = .ok (.iload_n 2, 1) := dk_28 (dk_at dksX3_canSet_1 23 rfl rfl)
theorem dX3_canSet_48 : decode cX3_canSet 48 = .ok (.invokevirtual 72, 3) := dk_182 0 72 (dk_at dksX3_canSet_2 0 rfl rfl)
theorem dX3_canSet_51 : decode cX3_canSet 51 = .ok (.ifCond .eq 40, 3) := dk_153 0 40 (dk_at dksX3_canSet_2 3 rfl rfl)
theorem dX3_canSet_54 : decode cX3_canSet 54 = .ok (.iload_n 1, 1) := dk_27 (dk_at dksX3_canSet_2 6 rfl rfl)
theorem dX3_canSet_55 : decode cX3_canSet 55 = .ok (.iconst 4, 1) := dk_7 (dk_at dksX3_canSet_2 7 rfl rfl)
theorem dX3_canSet_56 : decode cX3_canSet 56 = .ok (.if_icmp .ne 16, 3) := dk_160 0 16 (dk_at dksX3_canSet_2 8 rfl rfl)
theorem dX3_canSet_59 : decode cX3_canSet 59 = .ok (.iload_n 3, 1) := dk_29 (dk_at dksX3_canSet_2 11 rfl rfl)
theorem dX3_canSet_60 : decode cX3_canSet 60 = .ok (.iconst 0, 1) := dk_3 (dk_at dksX3_canSet_2 12 rfl rfl)
theorem dX3_canSet_61 : decode cX3_canSet 61 = .ok (.bipush 9, 2) := dk_16 9 (dk_at dksX3_canSet_2 13 rfl rfl)
theorem dX3_canSet_63 : decode cX3_canSet 63 = .ok (.invokestatic 56, 3) := dk_184 0 56 (dk_at dksX3_canSet_2 15 rfl rfl)
theorem dX3_canSet_66 : decode cX3_canSet 66 = .ok (.ifCond .eq 25, 3) := dk_153 0 25 (dk_at dksX3_canSet_2 18 rfl rfl)
theorem dX3_canSet_69 : decode cX3_canSet 69 = .ok (.goto 18, 3) := dk_167 0 18 (dk_at dksX3_canSet_2 21 rfl rfl)
theorem dX3_canSet_72 : decode cX3_canSet 72 = .ok (.iload_n 1, 1) := dk_27 (dk_at dksX3_canSet_3 0 rfl rfl)
theorem dX3_canSet_73 : decode cX3_canSet 73 = .ok (.iconst 5, 1) := dk_8 (dk_at dksX3_canSet_3 1 rfl rfl)
theorem dX3_canSet_74 : decode cX3_canSet 74 = .ok (.if_icmp .ne 17, 3) := dk_160 0 17 (dk_at dksX3_canSet_3 2 rfl rfl)
theorem dX3_canSet_77 : decode cX3_canSet 77 = .ok (.iload_n 3, 1) := dk_29 (dk_at dksX3_canSet_3 5 rfl rfl)
theorem dX3_canSet_78 : decode cX3_canSet 78 = .ok (.iconst 0, 1) := dk_3 (dk_at dksX3_canSet_3 6 rfl rfl)
theorem dX3_canSet_79 : decode cX3_canSet 79 = .ok (.bipush 99, 2) := dk_16 99 (dk_at dksX3_canSet_3 7 rfl rfl)
theorem dX3_canSet_81 : decode cX3_canSet 81 = .ok (.invokestatic 56, 3) := dk_184 0 56 (dk_at dksX3_canSet_3 9 rfl rfl)
theorem dX3_canSet_84 : decode cX3_canSet 84 = .ok (.ifCond .eq 7, 3) := dk_153 0 7 (dk_at dksX3_canSet_3 12 rfl rfl)
theorem dX3_canSet_87 : decode cX3_canSet 87 = .ok (.iconst 1, 1) := dk_4 (dk_at dksX3_canSet_3 15 rfl rfl)
theorem dX3_canSet_88 : decode cX3_canSet 88 = .ok (.goto 4, 3) := dk_167 0 4 (dk_at dksX3_canSet_3 16 rfl rfl)
theorem dX3_canSet_91 : decode cX3_canSet 91 = .ok (.iconst 0, 1) := dk_3 (dk_at dksX3_canSet_3 19 rfl rfl)
theorem dX3_canSet_92 : decode cX3_canSet 92 = .ok (.ireturn, 1) := dk_172 (dk_at dksX3_canSet_3 20 rfl rfl)
abbrev cX3_isHearer : ByteArray := prog_17_method_5_code
def yX3_isHearer : MethodName := ⟨RX3, "isHearer", "(I)Z"⟩
def dkwX3_isHearer_0 : List UInt8 := [27, 3, 42, 180, 0, 7, 16, 37, 46, 4, 100, 184, 0, 56, 172]
abbrev dktX3_isHearer_0 : List UInt8 := dkwX3_isHearer_0 ++ []
theorem dksX3_isHearer_0 : cX3_isHearer.data.toList.drop 0 = dktX3_isHearer_0 := by decide +kernel
theorem dX3_isHearer_0 : decode cX3_isHearer 0 = .ok (.iload_n 1, 1) := dk_27 (dk_at dksX3_isHearer_0 0 rfl rfl)
theorem dX3_isHearer_1 : decode cX3_isHearer 1 = .ok (.iconst 0, 1) := dk_3 (dk_at dksX3_isHearer_0 1 rfl rfl)
theorem dX3_isHearer_2 : decode cX3_isHearer 2 = .ok (.aload_n 0, 1) := dk_42 (dk_at dksX3_isHearer_0 2 rfl rfl)
theorem dX3_isHearer_3 : decode cX3_isHearer 3 = .ok (.getfield 7, 3) := dk_180 0 7 (dk_at dksX3_isHearer_0 3 rfl rfl)
theorem dX3_isHearer_6 : decode cX3_isHearer 6 = .ok (.bipush 37, 2) := dk_16 37 (dk_at dksX3_isHearer_0 6 rfl rfl)
theorem dX3_isHearer_8 : decode cX3_isHearer 8 = .ok (.iaload, 1) := dk_46 (dk_at dksX3_isHearer_0 8 rfl rfl)
theorem dX3_isHearer_9 : decode cX3_isHearer 9 = .ok (.iconst 1, 1) := dk_4 (dk_at dksX3_isHearer_0 9 rfl rfl)
theorem dX3_isHearer_10 : decode cX3_isHearer 10 = .ok (.isub, 1) := dk_100 (dk_at dksX3_isHearer_0 10 rfl rfl)
theorem dX3_isHearer_11 : decode cX3_isHearer 11 = .ok (.invokestatic 56, 3) := dk_184 0 56 (dk_at dksX3_isHearer_0 11 rfl rfl)
theorem dX3_isHearer_14 : decode cX3_isHearer 14 = .ok (.ireturn, 1) := dk_172 (dk_at dksX3_isHearer_0 14 rfl rfl)
abbrev cX3_isDeed : ByteArray := prog_17_method_6_code
def yX3_isDeed : MethodName := ⟨RX3, "isDeed", "(I)Z"⟩
def dkwX3_isDeed_0 : List UInt8 := [27, 3, 42, 180, 0, 7, 16, 38, 46, 4, 100, 184, 0, 56, 172]
abbrev dktX3_isDeed_0 : List UInt8 := dkwX3_isDeed_0 ++ []
theorem dksX3_isDeed_0 : cX3_isDeed.data.toList.drop 0 = dktX3_isDeed_0 := by decide +kernel
theorem dX3_isDeed_0 : decode cX3_isDeed 0 = .ok (.iload_n 1, 1) := dk_27 (dk_at dksX3_isDeed_0 0 rfl rfl)
theorem dX3_isDeed_1 : decode cX3_isDeed 1 = .ok (.iconst 0, 1) := dk_3 (dk_at dksX3_isDeed_0 1 rfl rfl)
theorem dX3_isDeed_2 : decode cX3_isDeed 2 = .ok (.aload_n 0, 1) := dk_42 (dk_at dksX3_isDeed_0 2 rfl rfl)
theorem dX3_isDeed_3 : decode cX3_isDeed 3 = .ok (.getfield 7, 3) := dk_180 0 7 (dk_at dksX3_isDeed_0 3 rfl rfl)
theorem dX3_isDeed_6 : decode cX3_isDeed 6 = .ok (.bipush 38, 2) := dk_16 38 (dk_at dksX3_isDeed_0 6 rfl rfl)
theorem dX3_isDeed_8 : decode cX3_isDeed 8 = .ok (.iaload, 1) := dk_46 (dk_at dksX3_isDeed_0 8 rfl rfl)
theorem dX3_isDeed_9 : decode cX3_isDeed 9 = .ok (.iconst 1, 1) := dk_4 (dk_at dksX3_isDeed_0 9 rfl rfl)
theorem dX3_isDeed_10 : decode cX3_isDeed 10 = .ok (.isub, 1) := dk_100 (dk_at dksX3_isDeed_0 10 rfl rfl)
theorem dX3_isDeed_11 : decode cX3_isDeed 11 = .ok (.invokestatic 56, 3) := dk_184 0 56 (dk_at dksX3_isDeed_0 11 rfl rfl)
theorem dX3_isDeed_14 : decode cX3_isDeed 14 = .ok (.ireturn, 1) := dk_172 (dk_at dksX3_isDeed_0 14 rfl rfl)
abbrev cX3_feed : ByteArray := prog_17_method_18_code
def yX3_feed : MethodName := ⟨RX3, "feed", "(IIIII)I"⟩
def dkwX3_feed_5 : List UInt8 := [180, 0, 78, 172]
abbrev dktX3_feed_5 : List UInt8 := dkwX3_feed_5 ++ []
def dkwX3_feed_4 : List UInt8 := [122, 17, 0, 255, 126, 79, 42, 89, 180, 0, 78, 4, 96, 181, 0, 78, 132, 6, 1, 167, 255, 162, 42]
abbrev dktX3_feed_4 : List UInt8 := dkwX3_feed_4 ++ dktX3_feed_5
def dkwX3_feed_3 : List UInt8 := [21, 5, 54, 7, 42, 180, 0, 31, 42, 180, 0, 78, 21, 7, 16, 24, 16, 8, 21, 6, 7, 112, 104, 100]
abbrev dktX3_feed_3 : List UInt8 := dkwX3_feed_3 ++ dktX3_feed_4
def dkwX3_feed_2 : List UInt8 := [21, 6, 16, 12, 162, 0, 7, 29, 167, 0, 17, 21, 6, 16, 16, 162, 0, 8, 21, 4, 167, 0, 5]
abbrev dktX3_feed_2 : List UInt8 := dkwX3_feed_2 ++ dktX3_feed_3
def dkwX3_feed_1 : List UInt8 := [162, 0, 93, 21, 6, 7, 162, 0, 7, 27, 167, 0, 39, 21, 6, 16, 8, 162, 0, 7, 28, 167, 0, 28]
abbrev dktX3_feed_1 : List UInt8 := dkwX3_feed_1 ++ dktX3_feed_2
def dkwX3_feed_0 : List UInt8 := [42, 180, 0, 78, 16, 20, 96, 17, 1, 144, 164, 0, 5, 2, 172, 3, 54, 6, 21, 6, 16, 20]
abbrev dktX3_feed_0 : List UInt8 := dkwX3_feed_0 ++ dktX3_feed_1
theorem dksX3_feed_0 : cX3_feed.data.toList.drop 0 = dktX3_feed_0 := by decide +kernel
theorem dksX3_feed_1 : cX3_feed.data.toList.drop 22 = dktX3_feed_1 := dk_seg dksX3_feed_0 22 rfl rfl
theorem dksX3_feed_2 : cX3_feed.data.toList.drop 46 = dktX3_feed_2 := dk_seg dksX3_feed_1 24 rfl rfl
theorem dksX3_feed_3 : cX3_feed.data.toList.drop 69 = dktX3_feed_3 := dk_seg dksX3_feed_2 23 rfl rfl
theorem dksX3_feed_4 : cX3_feed.data.toList.drop 93 = dktX3_feed_4 := dk_seg dksX3_feed_3 24 rfl rfl
theorem dksX3_feed_5 : cX3_feed.data.toList.drop 116 = dktX3_feed_5 := dk_seg dksX3_feed_4 23 rfl rfl
theorem dX3_feed_0 : decode cX3_feed 0 = .ok (.aload_n 0, 1) := dk_42 (dk_at dksX3_feed_0 0 rfl rfl)
theorem dX3_feed_1 : decode cX3_feed 1 = .ok (.getfield 78, 3) := dk_180 0 78 (dk_at dksX3_feed_0 1 rfl rfl)
theorem dX3_feed_4 : decode cX3_feed 4 = .ok (.bipush 20, 2) := dk_16 20 (dk_at dksX3_feed_0 4 rfl rfl)
theorem dX3_feed_6 : decode cX3_feed 6 = .ok (.iadd, 1) := dk_96 (dk_at dksX3_feed_0 6 rfl rfl)
theorem dX3_feed_7 : decode cX3_feed 7 = .ok (.sipush 400, 3) := dk_17 1 144 (dk_at dksX3_feed_0 7 rfl rfl)
theorem dX3_feed_10 : decode cX3_feed 10 = .ok (.if_icmp .le 5, 3) := dk_164 0 5 (dk_at dksX3_feed_0 10 rfl rfl)
theorem dX3_feed_13 : decode cX3_feed 13 = .ok (.iconst (-1), 1) := dk_2 (dk_at dksX3_feed_0 13 rfl rfl)
theorem dX3_feed_14 : decode cX3_feed 14 = .ok (.ireturn, 1) := dk_172 (dk_at dksX3_feed_0 14 rfl rfl)
theorem dX3_feed_15 : decode cX3_feed 15 = .ok (.iconst 0, 1) := dk_3 (dk_at dksX3_feed_0 15 rfl rfl)
theorem dX3_feed_16 : decode cX3_feed 16 = .ok (.istore 6, 2) := dk_54 6 (dk_at dksX3_feed_0 16 rfl rfl)
theorem dX3_feed_18 : decode cX3_feed 18 = .ok (.iload 6, 2) := dk_21 6 (dk_at dksX3_feed_0 18 rfl rfl)
theorem dX3_feed_20 : decode cX3_feed 20 = .ok (.bipush 20, 2) := dk_16 20 (dk_at dksX3_feed_0 20 rfl rfl)
theorem dX3_feed_22 : decode cX3_feed 22 = .ok (.if_icmp .ge 93, 3) := dk_162 0 93 (dk_at dksX3_feed_1 0 rfl rfl)
theorem dX3_feed_25 : decode cX3_feed 25 = .ok (.iload 6, 2) := dk_21 6 (dk_at dksX3_feed_1 3 rfl rfl)
theorem dX3_feed_27 : decode cX3_feed 27 = .ok (.iconst 4, 1) := dk_7 (dk_at dksX3_feed_1 5 rfl rfl)
theorem dX3_feed_28 : decode cX3_feed 28 = .ok (.if_icmp .ge 7, 3) := dk_162 0 7 (dk_at dksX3_feed_1 6 rfl rfl)
theorem dX3_feed_31 : decode cX3_feed 31 = .ok (.iload_n 1, 1) := dk_27 (dk_at dksX3_feed_1 9 rfl rfl)
theorem dX3_feed_32 : decode cX3_feed 32 = .ok (.goto 39, 3) := dk_167 0 39 (dk_at dksX3_feed_1 10 rfl rfl)
theorem dX3_feed_35 : decode cX3_feed 35 = .ok (.iload 6, 2) := dk_21 6 (dk_at dksX3_feed_1 13 rfl rfl)
theorem dX3_feed_37 : decode cX3_feed 37 = .ok (.bipush 8, 2) := dk_16 8 (dk_at dksX3_feed_1 15 rfl rfl)
theorem dX3_feed_39 : decode cX3_feed 39 = .ok (.if_icmp .ge 7, 3) := dk_162 0 7 (dk_at dksX3_feed_1 17 rfl rfl)
theorem dX3_feed_42 : decode cX3_feed 42 = .ok (.iload_n 2, 1) := dk_28 (dk_at dksX3_feed_1 20 rfl rfl)
theorem dX3_feed_43 : decode cX3_feed 43 = .ok (.goto 28, 3) := dk_167 0 28 (dk_at dksX3_feed_1 21 rfl rfl)
theorem dX3_feed_46 : decode cX3_feed 46 = .ok (.iload 6, 2) := dk_21 6 (dk_at dksX3_feed_2 0 rfl rfl)
theorem dX3_feed_48 : decode cX3_feed 48 = .ok (.bipush 12, 2) := dk_16 12 (dk_at dksX3_feed_2 2 rfl rfl)
theorem dX3_feed_50 : decode cX3_feed 50 = .ok (.if_icmp .ge 7, 3) := dk_162 0 7 (dk_at dksX3_feed_2 4 rfl rfl)
theorem dX3_feed_53 : decode cX3_feed 53 = .ok (.iload_n 3, 1) := dk_29 (dk_at dksX3_feed_2 7 rfl rfl)
theorem dX3_feed_54 : decode cX3_feed 54 = .ok (.goto 17, 3) := dk_167 0 17 (dk_at dksX3_feed_2 8 rfl rfl)
theorem dX3_feed_57 : decode cX3_feed 57 = .ok (.iload 6, 2) := dk_21 6 (dk_at dksX3_feed_2 11 rfl rfl)
theorem dX3_feed_59 : decode cX3_feed 59 = .ok (.bipush 16, 2) := dk_16 16 (dk_at dksX3_feed_2 13 rfl rfl)
theorem dX3_feed_61 : decode cX3_feed 61 = .ok (.if_icmp .ge 8, 3) := dk_162 0 8 (dk_at dksX3_feed_2 15 rfl rfl)
theorem dX3_feed_64 : decode cX3_feed 64 = .ok (.iload 4, 2) := dk_21 4 (dk_at dksX3_feed_2 18 rfl rfl)
theorem dX3_feed_66 : decode cX3_feed 66 = .ok (.goto 5, 3) := dk_167 0 5 (dk_at dksX3_feed_2 20 rfl rfl)
theorem dX3_feed_69 : decode cX3_feed 69 = .ok (.iload 5, 2) := dk_21 5 (dk_at dksX3_feed_3 0 rfl rfl)
theorem dX3_feed_71 : decode cX3_feed 71 = .ok (.istore 7, 2) := dk_54 7 (dk_at dksX3_feed_3 2 rfl rfl)
theorem dX3_feed_73 : decode cX3_feed 73 = .ok (.aload_n 0, 1) := dk_42 (dk_at dksX3_feed_3 4 rfl rfl)
theorem dX3_feed_74 : decode cX3_feed 74 = .ok (.getfield 31, 3) := dk_180 0 31 (dk_at dksX3_feed_3 5 rfl rfl)
theorem dX3_feed_77 : decode cX3_feed 77 = .ok (.aload_n 0, 1) := dk_42 (dk_at dksX3_feed_3 8 rfl rfl)
theorem dX3_feed_78 : decode cX3_feed 78 = .ok (.getfield 78, 3) := dk_180 0 78 (dk_at dksX3_feed_3 9 rfl rfl)
theorem dX3_feed_81 : decode cX3_feed 81 = .ok (.iload 7, 2) := dk_21 7 (dk_at dksX3_feed_3 12 rfl rfl)
theorem dX3_feed_83 : decode cX3_feed 83 = .ok (.bipush 24, 2) := dk_16 24 (dk_at dksX3_feed_3 14 rfl rfl)
theorem dX3_feed_85 : decode cX3_feed 85 = .ok (.bipush 8, 2) := dk_16 8 (dk_at dksX3_feed_3 16 rfl rfl)
theorem dX3_feed_87 : decode cX3_feed 87 = .ok (.iload 6, 2) := dk_21 6 (dk_at dksX3_feed_3 18 rfl rfl)
theorem dX3_feed_89 : decode cX3_feed 89 = .ok (.iconst 4, 1) := dk_7 (dk_at dksX3_feed_3 20 rfl rfl)
theorem dX3_feed_90 : decode cX3_feed 90 = .ok (.irem, 1) := dk_112 (dk_at dksX3_feed_3 21 rfl rfl)
theorem dX3_feed_91 : decode cX3_feed 91 = .ok (.imul, 1) := dk_104 (dk_at dksX3_feed_3 22 rfl rfl)
theorem dX3_feed_92 : decode cX3_feed 92 = .ok (.isub, 1) := dk_100 (dk_at dksX3_feed_3 23 rfl rfl)
theorem dX3_feed_93 : decode cX3_feed 93 = .ok (.ishr, 1) := dk_122 (dk_at dksX3_feed_4 0 rfl rfl)
theorem dX3_feed_94 : decode cX3_feed 94 = .ok (.sipush 255, 3) := dk_17 0 255 (dk_at dksX3_feed_4 1 rfl rfl)
theorem dX3_feed_97 : decode cX3_feed 97 = .ok (.iand, 1) := dk_126 (dk_at dksX3_feed_4 4 rfl rfl)
theorem dX3_feed_98 : decode cX3_feed 98 = .ok (.iastore, 1) := dk_79 (dk_at dksX3_feed_4 5 rfl rfl)
theorem dX3_feed_99 : decode cX3_feed 99 = .ok (.aload_n 0, 1) := dk_42 (dk_at dksX3_feed_4 6 rfl rfl)
theorem dX3_feed_100 : decode cX3_feed 100 = .ok (.dup, 1) := dk_89 (dk_at dksX3_feed_4 7 rfl rfl)
theorem dX3_feed_101 : decode cX3_feed 101 = .ok (.getfield 78, 3) := dk_180 0 78 (dk_at dksX3_feed_4 8 rfl rfl)
theorem dX3_feed_104 : decode cX3_feed 104 = .ok (.iconst 1, 1) := dk_4 (dk_at dksX3_feed_4 11 rfl rfl)
theorem dX3_feed_105 : decode cX3_feed 105 = .ok (.iadd, 1) := dk_96 (dk_at dksX3_feed_4 12 rfl rfl)
theorem dX3_feed_106 : decode cX3_feed 106 = .ok (.putfield 78, 3) := dk_181 0 78 (dk_at dksX3_feed_4 13 rfl rfl)
theorem dX3_feed_109 : decode cX3_feed 109 = .ok (.iinc 6 1, 3) := dk_132 6 1 (dk_at dksX3_feed_4 16 rfl rfl)
theorem dX3_feed_112 : decode cX3_feed 112 = .ok (.goto (-94), 3) := dk_167 255 162 (dk_at dksX3_feed_4 19 rfl rfl)
theorem dX3_feed_115 : decode cX3_feed 115 = .ok (.aload_n 0, 1) := dk_42 (dk_at dksX3_feed_4 22 rfl rfl)
theorem dX3_feed_116 : decode cX3_feed 116 = .ok (.getfield 78, 3) := dk_180 0 78 (dk_at dksX3_feed_5 0 rfl rfl)
theorem dX3_feed_119 : decode cX3_feed 119 = .ok (.ireturn, 1) := dk_172 (dk_at dksX3_feed_5 3 rfl rfl)
abbrev cX3_end : ByteArray := prog_17_method_19_code
def yX3_end : MethodName := ⟨RX3, "end", "(I)Z"⟩
def dkwX3_end_0 : List UInt8 := [27, 3, 42, 180, 0, 78, 184, 0, 56, 154, 0, 5, 3, 172, 42, 27, 181, 0, 78, 4, 172]
abbrev dktX3_end_0 : List UInt8 := dkwX3_end_0 ++ []
theorem dksX3_end_0 : cX3_end.data.toList.drop 0 = dktX3_end_0 := by decide +kernel
theorem dX3_end_0 : decode cX3_end 0 = .ok (.iload_n 1, 1) := dk_27 (dk_at dksX3_end_0 0 rfl rfl)
theorem dX3_end_1 : decode cX3_end 1 = .ok (.iconst 0, 1) := dk_3 (dk_at dksX3_end_0 1 rfl rfl)
theorem dX3_end_2 : decode cX3_end 2 = .ok (.aload_n 0, 1) := dk_42 (dk_at dksX3_end_0 2 rfl rfl)
theorem dX3_end_3 : decode cX3_end 3 = .ok (.getfield 78, 3) := dk_180 0 78 (dk_at dksX3_end_0 3 rfl rfl)
theorem dX3_end_6 : decode cX3_end 6 = .ok (.invokestatic 56, 3) := dk_184 0 56 (dk_at dksX3_end_0 6 rfl rfl)
theorem dX3_end_9 : decode cX3_end 9 = .ok (.ifCond .ne 5, 3) := dk_154 0 5 (dk_at dksX3_end_0 9 rfl rfl)
theorem dX3_end_12 : decode cX3_end 12 = .ok (.iconst 0, 1) := dk_3 (dk_at dksX3_end_0 12 rfl rfl)
theorem dX3_end_13 : decode cX3_end 13 = .ok (.ireturn, 1) := dk_172 (dk_at dksX3_end_0 13 rfl rfl)
theorem dX3_end_14 : decode cX3_end 14 = .ok (.aload_n 0, 1) := dk_42 (dk_at dksX3_end_0 14 rfl rfl)
theorem dX3_end_15 : decode cX3_end 15 = .ok (.iload_n 1, 1) := dk_27 (dk_at dksX3_end_0 15 rfl rfl)
theorem dX3_end_16 : decode cX3_end 16 = .ok (.putfield 78, 3) := dk_181 0 78 (dk_at dksX3_end_0 16 rfl rfl)
theorem dX3_end_19 : decode cX3_end 19 = .ok (.iconst 1, 1) := dk_4 (dk_at dksX3_end_0 19 rfl rfl)
theorem dX3_end_20 : decode cX3_end 20 = .ok (.ireturn, 1) := dk_172 (dk_at dksX3_end_0 20 rfl rfl)
abbrev cX3_text : ByteArray := prog_17_method_53_code
def yX3_text : MethodName := ⟨RX3, "text", "(I)I"⟩
def dkwX3_text_3 : List UInt8 := [42, 27, 182, 1, 18, 172, 42, 42, 180, 0, 177, 181, 1, 9, 42, 42, 180, 0, 180, 181, 0, 40, 2, 172]
abbrev dktX3_text_3 : List UInt8 := dkwX3_text_3 ++ []
def dkwX3_text_2 : List UInt8 := [154, 0, 10, 42, 182, 1, 12, 167, 0, 7, 42, 182, 1, 15, 61, 42, 3, 181, 0, 78, 28, 153, 0, 9]
abbrev dktX3_text_2 : List UInt8 := dkwX3_text_2 ++ dktX3_text_3
def dkwX3_text_1 : List UInt8 := [2, 172, 42, 3, 181, 0, 177, 42, 3, 181, 0, 81, 42, 27, 181, 0, 146, 42, 182, 0, 186, 27]
abbrev dktX3_text_1 : List UInt8 := dkwX3_text_1 ++ dktX3_text_2
def dkwX3_text_0 : List UInt8 := [42, 3, 181, 1, 9, 42, 2, 181, 0, 40, 27, 3, 6, 184, 0, 56, 154, 0, 10, 42, 3, 181, 0, 78]
abbrev dktX3_text_0 : List UInt8 := dkwX3_text_0 ++ dktX3_text_1
theorem dksX3_text_0 : cX3_text.data.toList.drop 0 = dktX3_text_0 := by decide +kernel
theorem dksX3_text_1 : cX3_text.data.toList.drop 24 = dktX3_text_1 := dk_seg dksX3_text_0 24 rfl rfl
theorem dksX3_text_2 : cX3_text.data.toList.drop 46 = dktX3_text_2 := dk_seg dksX3_text_1 22 rfl rfl
theorem dksX3_text_3 : cX3_text.data.toList.drop 70 = dktX3_text_3 := dk_seg dksX3_text_2 24 rfl rfl
theorem dX3_text_0 : decode cX3_text 0 = .ok (.aload_n 0, 1) := dk_42 (dk_at dksX3_text_0 0 rfl rfl)
theorem dX3_text_1 : decode cX3_text 1 = .ok (.iconst 0, 1) := dk_3 (dk_at dksX3_text_0 1 rfl rfl)
theorem dX3_text_2 : decode cX3_text 2 = .ok (.putfield 265, 3) := dk_181 1 9 (dk_at dksX3_text_0 2 rfl rfl)
theorem dX3_text_5 : decode cX3_text 5 = .ok (.aload_n 0, 1) := dk_42 (dk_at dksX3_text_0 5 rfl rfl)
theorem dX3_text_6 : decode cX3_text 6 = .ok (.iconst (-1), 1) := dk_2 (dk_at dksX3_text_0 6 rfl rfl)
theorem dX3_text_7 : decode cX3_text 7 = .ok (.putfield 40, 3) := dk_181 0 40 (dk_at dksX3_text_0 7 rfl rfl)
theorem dX3_text_10 : decode cX3_text 10 = .ok (.iload_n 1, 1) := dk_27 (dk_at dksX3_text_0 10 rfl rfl)
theorem dX3_text_11 : decode cX3_text 11 = .ok (.iconst 0, 1) := dk_3 (dk_at dksX3_text_0 11 rfl rfl)
theorem dX3_text_12 : decode cX3_text 12 = .ok (.iconst 3, 1) := dk_6 (dk_at dksX3_text_0 12 rfl rfl)
theorem dX3_text_13 : decode cX3_text 13 = .ok (.invokestatic 56, 3) := dk_184 0 56 (dk_at dksX3_text_0 13 rfl rfl)
theorem dX3_text_16 : decode cX3_text 16 = .ok (.ifCond .ne 10, 3) := dk_154 0 10 (dk_at dksX3_text_0 16 rfl rfl)
theorem dX3_text_19 : decode cX3_text 19 = .ok (.aload_n 0, 1) := dk_42 (dk_at dksX3_text_0 19 rfl rfl)
theorem dX3_text_20 : decode cX3_text 20 = .ok (.iconst 0, 1) := dk_3 (dk_at dksX3_text_0 20 rfl rfl)
theorem dX3_text_21 : decode cX3_text 21 = .ok (.putfield 78, 3) := dk_181 0 78 (dk_at dksX3_text_0 21 rfl rfl)
theorem dX3_text_24 : decode cX3_text 24 = .ok (.iconst (-1), 1) := dk_2 (dk_at dksX3_text_1 0 rfl rfl)
theorem dX3_text_25 : decode cX3_text 25 = .ok (.ireturn, 1) := dk_172 (dk_at dksX3_text_1 1 rfl rfl)
theorem dX3_text_26 : decode cX3_text 26 = .ok (.aload_n 0, 1) := dk_42 (dk_at dksX3_text_1 2 rfl rfl)
theorem dX3_text_27 : decode cX3_text 27 = .ok (.iconst 0, 1) := dk_3 (dk_at dksX3_text_1 3 rfl rfl)
theorem dX3_text_28 : decode cX3_text 28 = .ok (.putfield 177, 3) := dk_181 0 177 (dk_at dksX3_text_1 4 rfl rfl)
theorem dX3_text_31 : decode cX3_text 31 = .ok (.aload_n 0, 1) := dk_42 (dk_at dksX3_text_1 7 rfl rfl)
theorem dX3_text_32 : decode cX3_text 32 = .ok (.iconst 0, 1) := dk_3 (dk_at dksX3_text_1 8 rfl rfl)
theorem dX3_text_33 : decode cX3_text 33 = .ok (.putfield 81, 3) := dk_181 0 81 (dk_at dksX3_text_1 9 rfl rfl)
theorem dX3_text_36 : decode cX3_text 36 = .ok (.aload_n 0, 1) := dk_42 (dk_at dksX3_text_1 12 rfl rfl)
theorem dX3_text_37 : decode cX3_text 37 = .ok (.iload_n 1, 1) := dk_27 (dk_at dksX3_text_1 13 rfl rfl)
theorem dX3_text_38 : decode cX3_text 38 = .ok (.putfield 146, 3) := dk_181 0 146 (dk_at dksX3_text_1 14 rfl rfl)
theorem dX3_text_41 : decode cX3_text 41 = .ok (.aload_n 0, 1) := dk_42 (dk_at dksX3_text_1 17 rfl rfl)
theorem dX3_text_42 : decode cX3_text 42 = .ok (.invokevirtual 186, 3) := dk_182 0 186 (dk_at dksX3_text_1 18 rfl rfl)
theorem dX3_text_45 : decode cX3_text 45 = .ok (.iload_n 1, 1) := dk_27 (dk_at dksX3_text_1 21 rfl rfl)
theorem dX3_text_46 : decode cX3_text 46 = .ok (.ifCond .ne 10, 3) := dk_154 0 10 (dk_at dksX3_text_2 0 rfl rfl)
theorem dX3_text_49 : decode cX3_text 49 = .ok (.aload_n 0, 1) := dk_42 (dk_at dksX3_text_2 3 rfl rfl)
theorem dX3_text_50 : decode cX3_text 50 = .ok (.invokevirtual 268, 3) := dk_182 1 12 (dk_at dksX3_text_2 4 rfl rfl)
theorem dX3_text_53 : decode cX3_text 53 = .ok (.goto 7, 3) := dk_167 0 7 (dk_at dksX3_text_2 7 rfl rfl)
theorem dX3_text_56 : decode cX3_text 56 = .ok (.aload_n 0, 1) := dk_42 (dk_at dksX3_text_2 10 rfl rfl)
theorem dX3_text_57 : decode cX3_text 57 = .ok (.invokevirtual 271, 3) := dk_182 1 15 (dk_at dksX3_text_2 11 rfl rfl)
theorem dX3_text_60 : decode cX3_text 60 = .ok (.istore_n 2, 1) := dk_61 (dk_at dksX3_text_2 14 rfl rfl)
theorem dX3_text_61 : decode cX3_text 61 = .ok (.aload_n 0, 1) := dk_42 (dk_at dksX3_text_2 15 rfl rfl)
theorem dX3_text_62 : decode cX3_text 62 = .ok (.iconst 0, 1) := dk_3 (dk_at dksX3_text_2 16 rfl rfl)
theorem dX3_text_63 : decode cX3_text 63 = .ok (.putfield 78, 3) := dk_181 0 78 (dk_at dksX3_text_2 17 rfl rfl)
theorem dX3_text_66 : decode cX3_text 66 = .ok (.iload_n 2, 1) := dk_28 (dk_at dksX3_text_2 20 rfl rfl)
theorem dX3_text_67 : decode cX3_text 67 = .ok (.ifCond .eq 9, 3) := dk_153 0 9 (dk_at dksX3_text_2 21 rfl rfl)
theorem dX3_text_70 : decode cX3_text 70 = .ok (.aload_n 0, 1) := dk_42 (dk_at dksX3_text_3 0 rfl rfl)
theorem dX3_text_71 : decode cX3_text 71 = .ok (.iload_n 1, 1) := dk_27 (dk_at dksX3_text_3 1 rfl rfl)
theorem dX3_text_72 : decode cX3_text 72 = .ok (.invokevirtual 274, 3) := dk_182 1 18 (dk_at dksX3_text_3 2 rfl rfl)
theorem dX3_text_75 : decode cX3_text 75 = .ok (.ireturn, 1) := dk_172 (dk_at dksX3_text_3 5 rfl rfl)
theorem dX3_text_76 : decode cX3_text 76 = .ok (.aload_n 0, 1) := dk_42 (dk_at dksX3_text_3 6 rfl rfl)
theorem dX3_text_77 : decode cX3_text 77 = .ok (.aload_n 0, 1) := dk_42 (dk_at dksX3_text_3 7 rfl rfl)
theorem dX3_text_78 : decode cX3_text 78 = .ok (.getfield 177, 3) := dk_180 0 177 (dk_at dksX3_text_3 8 rfl rfl)
theorem dX3_text_81 : decode cX3_text 81 = .ok (.putfield 265, 3) := dk_181 1 9 (dk_at dksX3_text_3 11 rfl rfl)
theorem dX3_text_84 : decode cX3_text 84 = .ok (.aload_n 0, 1) := dk_42 (dk_at dksX3_text_3 14 rfl rfl)
theorem dX3_text_85 : decode cX3_text 85 = .ok (.aload_n 0, 1) := dk_42 (dk_at dksX3_text_3 15 rfl rfl)
theorem dX3_text_86 : decode cX3_text 86 = .ok (.getfield 180, 3) := dk_180 0 180 (dk_at dksX3_text_3 16 rfl rfl)
theorem dX3_text_89 : decode cX3_text 89 = .ok (.putfield 40, 3) := dk_181 0 40 (dk_at dksX3_text_3 19 rfl rfl)
theorem dX3_text_92 : decode cX3_text 92 = .ok (.iconst (-1), 1) := dk_2 (dk_at dksX3_text_3 22 rfl rfl)
theorem dX3_text_93 : decode cX3_text 93 = .ok (.ireturn, 1) := dk_172 (dk_at dksX3_text_3 23 rfl rfl)
abbrev cX3_next0 : ByteArray := prog_17_method_28_code
def yX3_next0 : MethodName := ⟨RX3, "next0", "()V"⟩
def dkwX3_next0_13 : List UInt8 := [181, 0, 162, 177]
abbrev dktX3_next0_13 : List UInt8 := dkwX3_next0_13 ++ []
def dkwX3_next0_12 : List UInt8 := [16, 62, 160, 0, 7, 4, 167, 0, 4, 3, 61, 42, 28, 153, 0, 10, 16, 100, 27, 96, 167, 0, 4, 4]
abbrev dktX3_next0_12 : List UInt8 := dkwX3_next0_12 ++ dktX3_next0_13
def dkwX3_next0_11 : List UInt8 := [16, 40, 159, 0, 27, 27, 16, 41, 159, 0, 21, 27, 16, 60, 159, 0, 15, 27, 16, 61, 159, 0, 9, 27]
abbrev dktX3_next0_11 : List UInt8 := dkwX3_next0_11 ++ dktX3_next0_12
def dkwX3_next0_10 : List UInt8 := [16, 43, 159, 0, 51, 27, 16, 45, 159, 0, 45, 27, 16, 42, 159, 0, 39, 27, 16, 47, 159, 0, 33, 27]
abbrev dktX3_next0_10 : List UInt8 := dkwX3_next0_10 ++ dktX3_next0_11
def dkwX3_next0_9 : List UInt8 := [4, 181, 0, 162, 167, 0, 95, 42, 89, 180, 0, 81, 4, 96, 181, 0, 81, 27, 16, 59, 159, 0, 57, 27]
abbrev dktX3_next0_9 : List UInt8 := dkwX3_next0_9 ++ dktX3_next0_10
def dkwX3_next0_8 : List UInt8 := [181, 0, 81, 167, 255, 196, 42, 42, 180, 0, 81, 42, 180, 0, 84, 100, 8, 162, 0, 7, 5, 167, 0, 4]
abbrev dktX3_next0_8 : List UInt8 := dkwX3_next0_8 ++ dktX3_next0_9
def dkwX3_next0_7 : List UInt8 := [42, 42, 180, 0, 81, 182, 0, 158, 96, 16, 48, 100, 181, 0, 174, 42, 89, 180, 0, 81, 4, 96]
abbrev dktX3_next0_7 : List UInt8 := dkwX3_next0_7 ++ dktX3_next0_8
def dkwX3_next0_6 : List UInt8 := [153, 0, 52, 42, 180, 0, 81, 42, 180, 0, 84, 7, 96, 162, 0, 26, 42, 16, 10, 42, 180, 0, 174, 104]
abbrev dktX3_next0_6 : List UInt8 := dkwX3_next0_6 ++ dktX3_next0_7
def dkwX3_next0_5 : List UInt8 := [184, 0, 171, 153, 0, 96, 42, 3, 181, 0, 174, 42, 42, 180, 0, 81, 182, 0, 158, 184, 0, 171]
abbrev dktX3_next0_5 : List UInt8 := dkwX3_next0_5 ++ dktX3_next0_6
def dkwX3_next0_4 : List UInt8 := [180, 0, 81, 4, 96, 181, 0, 81, 167, 255, 232, 42, 42, 182, 0, 168, 181, 0, 162, 167, 0, 195, 27]
abbrev dktX3_next0_4 : List UInt8 := dkwX3_next0_4 ++ dktX3_next0_5
def dkwX3_next0_3 : List UInt8 := [184, 0, 165, 153, 0, 41, 42, 42, 180, 0, 81, 182, 0, 158, 184, 0, 165, 153, 0, 16, 42, 89]
abbrev dktX3_next0_3 : List UInt8 := dkwX3_next0_3 ++ dktX3_next0_4
def dkwX3_next0_2 : List UInt8 := [42, 42, 180, 0, 81, 182, 0, 158, 60, 27, 2, 160, 0, 11, 42, 3, 181, 0, 162, 167, 0, 240, 27]
abbrev dktX3_next0_2 : List UInt8 := dkwX3_next0_2 ++ dktX3_next0_3
def dkwX3_next0_1 : List UInt8 := [160, 0, 16, 42, 89, 180, 0, 81, 4, 96, 181, 0, 81, 167, 255, 220, 42, 42, 180, 0, 81, 181, 0, 84]
abbrev dktX3_next0_1 : List UInt8 := dkwX3_next0_1 ++ dktX3_next0_2
def dkwX3_next0_0 : List UInt8 := [42, 42, 180, 0, 81, 182, 0, 158, 16, 32, 159, 0, 16, 42, 42, 180, 0, 81, 182, 0, 158, 16, 10]
abbrev dktX3_next0_0 : List UInt8 := dkwX3_next0_0 ++ dktX3_next0_1
theorem dksX3_next0_0 : cX3_next0.data.toList.drop 0 = dktX3_next0_0 := by decide +kernel
theorem dksX3_next0_1 : cX3_next0.data.toList.drop 23 = dktX3_next0_1 := dk_seg dksX3_next0_0 23 rfl rfl
theorem dksX3_next0_2 : cX3_next0.data.toList.drop 47 = dktX3_next0_2 := dk_seg dksX3_next0_1 24 rfl rfl
theorem dksX3_next0_3 : cX3_next0.data.toList.drop 70 = dktX3_next0_3 := dk_seg dksX3_next0_2 23 rfl rfl
theorem dksX3_next0_4 : cX3_next0.data.toList.drop 92 = dktX3_next0_4 := dk_seg dksX3_next0_3 22 rfl rfl
theorem dksX3_next0_5 : cX3_next0.data.toList.drop 115 = dktX3_next0_5 := dk_seg dksX3_next0_4 23 rfl rfl
theorem dksX3_next0_6 : cX3_next0.data.toList.drop 137 = dktX3_next0_6 := dk_seg dksX3_next0_5 22 rfl rfl
theorem dksX3_next0_7 : cX3_next0.data.toList.drop 161 = dktX3_next0_7 := dk_seg dksX3_next0_6 24 rfl rfl
theorem dksX3_next0_8 : cX3_next0.data.toList.drop 183 = dktX3_next0_8 := dk_seg dksX3_next0_7 22 rfl rfl
theorem dksX3_next0_9 : cX3_next0.data.toList.drop 207 = dktX3_next0_9 := dk_seg dksX3_next0_8 24 rfl rfl
theorem dksX3_next0_10 : cX3_next0.data.toList.drop 231 = dktX3_next0_10 := dk_seg dksX3_next0_9 24 rfl rfl
theorem dksX3_next0_11 : cX3_next0.data.toList.drop 255 = dktX3_next0_11 := dk_seg dksX3_next0_10 24 rfl rfl
theorem dksX3_next0_12 : cX3_next0.data.toList.drop 279 = dktX3_next0_12 := dk_seg dksX3_next0_11 24 rfl rfl
theorem dksX3_next0_13 : cX3_next0.data.toList.drop 303 = dktX3_next0_13 := dk_seg dksX3_next0_12 24 rfl rfl
theorem dX3_next0_0 : decode cX3_next0 0 = .ok (.aload_n 0, 1) := dk_42 (dk_at dksX3_next0_0 0 rfl rfl)
theorem dX3_next0_1 : decode cX3_next0 1 = .ok (.aload_n 0, 1) := dk_42 (dk_at dksX3_next0_0 1 rfl rfl)
theorem dX3_next0_2 : decode cX3_next0 2 = .ok (.getfield 81, 3) := dk_180 0 81 (dk_at dksX3_next0_0 2 rfl rfl)
theorem dX3_next0_5 : decode cX3_next0 5 = .ok (.invokevirtual 158, 3) := dk_182 0 158 (dk_at dksX3_next0_0 5 rfl rfl)
theorem dX3_next0_8 : decode cX3_next0 8 = .ok (.bipush 32, 2) := dk_16 32 (dk_at dksX3_next0_0 8 rfl rfl)
theorem dX3_next0_10 : decode cX3_next0 10 = .ok (.if_icmp .eq 16, 3) := dk_159 0 16 (dk_at dksX3_next0_0 10 rfl rfl)
theorem dX3_next0_13 : decode cX3_next0 13 = .ok (.aload_n 0, 1) := dk_42 (dk_at dksX3_next0_0 13 rfl rfl)
theorem dX3_next0_14 : decode cX3_next0 14 = .ok (.aload_n 0, 1) := dk_42 (dk_at dksX3_next0_0 14 rfl rfl)
theorem dX3_next0_15 : decode cX3_next0 15 = .ok (.getfield 81, 3) := dk_180 0 81 (dk_at dksX3_next0_0 15 rfl rfl)
theorem dX3_next0_18 : decode cX3_next0 18 = .ok (.invokevirtual 158, 3) := dk_182 0 158 (dk_at dksX3_next0_0 18 rfl rfl)
theorem dX3_next0_21 : decode cX3_next0 21 = .ok (.bipush 10, 2) := dk_16 10 (dk_at dksX3_next0_0 21 rfl rfl)
theorem dX3_next0_23 : decode cX3_next0 23 = .ok (.if_icmp .ne 16, 3) := dk_160 0 16 (dk_at dksX3_next0_1 0 rfl rfl)
theorem dX3_next0_26 : decode cX3_next0 26 = .ok (.aload_n 0, 1) := dk_42 (dk_at dksX3_next0_1 3 rfl rfl)
theorem dX3_next0_27 : decode cX3_next0 27 = .ok (.dup, 1) := dk_89 (dk_at dksX3_next0_1 4 rfl rfl)
theorem dX3_next0_28 : decode cX3_next0 28 = .ok (.getfield 81, 3) := dk_180 0 81 (dk_at dksX3_next0_1 5 rfl rfl)
theorem dX3_next0_31 : decode cX3_next0 31 = .ok (.iconst 1, 1) := dk_4 (dk_at dksX3_next0_1 8 rfl rfl)
theorem dX3_next0_32 : decode cX3_next0 32 = .ok (.iadd, 1) := dk_96 (dk_at dksX3_next0_1 9 rfl rfl)
theorem dX3_next0_33 : decode cX3_next0 33 = .ok (.putfield 81, 3) := dk_181 0 81 (dk_at dksX3_next0_1 10 rfl rfl)
theorem dX3_next0_36 : decode cX3_next0 36 = .ok (.goto (-36), 3) := dk_167 255 220 (dk_at dksX3_next0_1 13 rfl rfl)
theorem dX3_next0_39 : decode cX3_next0 39 = .ok (.aload_n 0, 1) := dk_42 (dk_at dksX3_next0_1 16 rfl rfl)
theorem dX3_next0_40 : decode cX3_next0 40 = .ok (.aload_n 0, 1) := dk_42 (dk_at dksX3_next0_1 17 rfl rfl)
theorem dX3_next0_41 : decode cX3_next0 41 = .ok (.getfield 81, 3) := dk_180 0 81 (dk_at dksX3_next0_1 18 rfl rfl)
theorem dX3_next0_44 : decode cX3_next0 44 = .ok (.putfield 84, 3) := dk_181 0 84 (dk_at dksX3_next0_1 21 rfl rfl)
theorem dX3_next0_47 : decode cX3_next0 47 = .ok (.aload_n 0, 1) := dk_42 (dk_at dksX3_next0_2 0 rfl rfl)
theorem dX3_next0_48 : decode cX3_next0 48 = .ok (.aload_n 0, 1) := dk_42 (dk_at dksX3_next0_2 1 rfl rfl)
theorem dX3_next0_49 : decode cX3_next0 49 = .ok (.getfield 81, 3) := dk_180 0 81 (dk_at dksX3_next0_2 2 rfl rfl)
theorem dX3_next0_52 : decode cX3_next0 52 = .ok (.invokevirtual 158, 3) := dk_182 0 158 (dk_at dksX3_next0_2 5 rfl rfl)
theorem dX3_next0_55 : decode cX3_next0 55 = .ok (.istore_n 1, 1) := dk_60 (dk_at dksX3_next0_2 8 rfl rfl)
theorem dX3_next0_56 : decode cX3_next0 56 = .ok (.iload_n 1, 1) := dk_27 (dk_at dksX3_next0_2 9 rfl rfl)
theorem dX3_next0_57 : decode cX3_next0 57 = .ok (.iconst (-1), 1) := dk_2 (dk_at dksX3_next0_2 10 rfl rfl)
theorem dX3_next0_58 : decode cX3_next0 58 = .ok (.if_icmp .ne 11, 3) := dk_160 0 11 (dk_at dksX3_next0_2 11 rfl rfl)
theorem dX3_next0_61 : decode cX3_next0 61 = .ok (.aload_n 0, 1) := dk_42 (dk_at dksX3_next0_2 14 rfl rfl)
theorem dX3_next0_62 : decode cX3_next0 62 = .ok (.iconst 0, 1) := dk_3 (dk_at dksX3_next0_2 15 rfl rfl)
theorem dX3_next0_63 : decode cX3_next0 63 = .ok (.putfield 162, 3) := dk_181 0 162 (dk_at dksX3_next0_2 16 rfl rfl)
theorem dX3_next0_66 : decode cX3_next0 66 = .ok (.goto 240, 3) := dk_167 0 240 (dk_at dksX3_next0_2 19 rfl rfl)
theorem dX3_next0_69 : decode cX3_next0 69 = .ok (.iload_n 1, 1) := dk_27 (dk_at dksX3_next0_2 22 rfl rfl)
theorem dX3_next0_70 : decode cX3_next0 70 = .ok (.invokestatic 165, 3) := dk_184 0 165 (dk_at dksX3_next0_3 0 rfl rfl)
theorem dX3_next0_73 : decode cX3_next0 73 = .ok (.ifCond .eq 41, 3) := dk_153 0 41 (dk_at dksX3_next0_3 3 rfl rfl)
theorem dX3_next0_76 : decode cX3_next0 76 = .ok (.aload_n 0, 1) := dk_42 (dk_at dksX3_next0_3 6 rfl rfl)
theorem dX3_next0_77 : decode cX3_next0 77 = .ok (.aload_n 0, 1) := dk_42 (dk_at dksX3_next0_3 7 rfl rfl)
theorem dX3_next0_78 : decode cX3_next0 78 = .ok (.getfield 81, 3) := dk_180 0 81 (dk_at dksX3_next0_3 8 rfl rfl)
theorem dX3_next0_81 : decode cX3_next0 81 = .ok (.invokevirtual 158, 3) := dk_182 0 158 (dk_at dksX3_next0_3 11 rfl rfl)
theorem dX3_next0_84 : decode cX3_next0 84 = .ok (.invokestatic 165, 3) := dk_184 0 165 (dk_at dksX3_next0_3 14 rfl rfl)
theorem dX3_next0_87 : decode cX3_next0 87 = .ok (.ifCond .eq 16, 3) := dk_153 0 16 (dk_at dksX3_next0_3 17 rfl rfl)
theorem dX3_next0_90 : decode cX3_next0 90 = .ok (.aload_n 0, 1) := dk_42 (dk_at dksX3_next0_3 20 rfl rfl)
theorem dX3_next0_91 : decode cX3_next0 91 = .ok (.dup, 1) := dk_89 (dk_at dksX3_next0_3 21 rfl rfl)
theorem dX3_next0_92 : decode cX3_next0 92 = .ok (.getfield 81, 3) := dk_180 0 81 (dk_at dksX3_next0_4 0 rfl rfl)
theorem dX3_next0_95 : decode cX3_next0 95 = .ok (.iconst 1, 1) := dk_4 (dk_at dksX3_next0_4 3 rfl rfl)
theorem dX3_next0_96 : decode cX3_next0 96 = .ok (.iadd, 1) := dk_96 (dk_at dksX3_next0_4 4 rfl rfl)
theorem dX3_next0_97 : decode cX3_next0 97 = .ok (.putfield 81, 3) := dk_181 0 81 (dk_at dksX3_next0_4 5 rfl rfl)
theorem dX3_next0_100 : decode cX3_next0 100 = .ok (.goto (-24), 3) := dk_167 255 232 (dk_at dksX3_next0_4 8 rfl rfl)
theorem dX3_next0_103 : decode cX3_next0 103 = .ok (.aload_n 0, 1) := dk_42 (dk_at dksX3_next0_4 11 rfl rfl)
theorem dX3_next0_104 : decode cX3_next0 104 = .ok (.aload_n 0, 1) := dk_42 (dk_at dksX3_next0_4 12 rfl rfl)
theorem dX3_next0_105 : decode cX3_next0 105 = .ok (.invokevirtual 168, 3) := dk_182 0 168 (dk_at dksX3_next0_4 13 rfl rfl)
theorem dX3_next0_108 : decode cX3_next0 108 = .ok (.putfield 162, 3) := dk_181 0 162 (dk_at dksX3_next0_4 16 rfl rfl)
theorem dX3_next0_111 : decode cX3_next0 111 = .ok (.goto 195, 3) := dk_167 0 195 (dk_at dksX3_next0_4 19 rfl rfl)
theorem dX3_next0_114 : decode cX3_next0 114 = .ok (.iload_n 1, 1) := dk_27 (dk_at dksX3_next0_4 22 rfl rfl)
theorem dX3_next0_115 : decode cX3_next0 115 = .ok (.invokestatic 171, 3) := dk_184 0 171 (dk_at dksX3_next0_5 0 rfl rfl)
theorem dX3_next0_118 : decode cX3_next0 118 = .ok (.ifCond .eq 96, 3) := dk_153 0 96 (dk_at dksX3_next0_5 3 rfl rfl)
theorem dX3_next0_121 : decode cX3_next0 121 = .ok (.aload_n 0, 1) := dk_42 (dk_at dksX3_next0_5 6 rfl rfl)
theorem dX3_next0_122 : decode cX3_next0 122 = .ok (.iconst 0, 1) := dk_3 (dk_at dksX3_next0_5 7 rfl rfl)
theorem dX3_next0_123 : decode cX3_next0 123 = .ok (.putfield 174, 3) := dk_181 0 174 (dk_at dksX3_next0_5 8 rfl rfl)
theorem dX3_next0_126 : decode cX3_next0 126 = .ok (.aload_n 0, 1) := dk_42 (dk_at dksX3_next0_5 11 rfl rfl)
theorem dX3_next0_127 : decode cX3_next0 127 = .ok (.aload_n 0, 1) := dk_42 (dk_at dksX3_next0_5 12 rfl rfl)
theorem dX3_next0_128 : decode cX3_next0 128 = .ok (.getfield 81, 3) := dk_180 0 81 (dk_at dksX3_next0_5 13 rfl rfl)
theorem dX3_next0_131 : decode cX3_next0 131 = .ok (.invokevirtual 158, 3) := dk_182 0 158 (dk_at dksX3_next0_5 16 rfl rfl)
theorem dX3_next0_134 : decode cX3_next0 134 = .ok (.invokestatic 171, 3) := dk_184 0 171 (dk_at dksX3_next0_5 19 rfl rfl)
theorem dX3_next0_137 : decode cX3_next0 137 = .ok (.ifCond .eq 52, 3) := dk_153 0 52 (dk_at dksX3_next0_6 0 rfl rfl)
theorem dX3_next0_140 : decode cX3_next0 140 = .ok (.aload_n 0, 1) := dk_42 (dk_at dksX3_next0_6 3 rfl rfl)
theorem dX3_next0_141 : decode cX3_next0 141 = .ok (.getfield 81, 3) := dk_180 0 81 (dk_at dksX3_next0_6 4 rfl rfl)
theorem dX3_next0_144 : decode cX3_next0 144 = .ok (.aload_n 0, 1) := dk_42 (dk_at dksX3_next0_6 7 rfl rfl)
theorem dX3_next0_145 : decode cX3_next0 145 = .ok (.getfield 84, 3) := dk_180 0 84 (dk_at dksX3_next0_6 8 rfl rfl)
theorem dX3_next0_148 : decode cX3_next0 148 = .ok (.iconst 4, 1) := dk_7 (dk_at dksX3_next0_6 11 rfl rfl)
theorem dX3_next0_149 : decode cX3_next0 149 = .ok (.iadd, 1) := dk_96 (dk_at dksX3_next0_6 12 rfl rfl)
theorem dX3_next0_150 : decode cX3_next0 150 = .ok (.if_icmp .ge 26, 3) := dk_162 0 26 (dk_at dksX3_next0_6 13 rfl rfl)
theorem dX3_next0_153 : decode cX3_next0 153 = .ok (.aload_n 0, 1) := dk_42 (dk_at dksX3_next0_6 16 rfl rfl)
theorem dX3_next0_154 : decode cX3_next0 154 = .ok (.bipush 10, 2) := dk_16 10 (dk_at dksX3_next0_6 17 rfl rfl)
theorem dX3_next0_156 : decode cX3_next0 156 = .ok (.aload_n 0, 1) := dk_42 (dk_at dksX3_next0_6 19 rfl rfl)
theorem dX3_next0_157 : decode cX3_next0 157 = .ok (.getfield 174, 3) := dk_180 0 174 (dk_at dksX3_next0_6 20 rfl rfl)
theorem dX3_next0_160 : decode cX3_next0 160 = .ok (.imul, 1) := dk_104 (dk_at dksX3_next0_6 23 rfl rfl)
theorem dX3_next0_161 : decode cX3_next0 161 = .ok (.aload_n 0, 1) := dk_42 (dk_at dksX3_next0_7 0 rfl rfl)
theorem dX3_next0_162 : decode cX3_next0 162 = .ok (.aload_n 0, 1) := dk_42 (dk_at dksX3_next0_7 1 rfl rfl)
theorem dX3_next0_163 : decode cX3_next0 163 = .ok (.getfield 81, 3) := dk_180 0 81 (dk_at dksX3_next0_7 2 rfl rfl)
theorem dX3_next0_166 : decode cX3_next0 166 = .ok (.invokevirtual 158, 3) := dk_182 0 158 (dk_at dksX3_next0_7 5 rfl rfl)
theorem dX3_next0_169 : decode cX3_next0 169 = .ok (.iadd, 1) := dk_96 (dk_at dksX3_next0_7 8 rfl rfl)
theorem dX3_next0_170 : decode cX3_next0 170 = .ok (.bipush 48, 2) := dk_16 48 (dk_at dksX3_next0_7 9 rfl rfl)
theorem dX3_next0_172 : decode cX3_next0 172 = .ok (.isub, 1) := dk_100 (dk_at dksX3_next0_7 11 rfl rfl)
theorem dX3_next0_173 : decode cX3_next0 173 = .ok (.putfield 174, 3) := dk_181 0 174 (dk_at dksX3_next0_7 12 rfl rfl)
theorem dX3_next0_176 : decode cX3_next0 176 = .ok (.aload_n 0, 1) := dk_42 (dk_at dksX3_next0_7 15 rfl rfl)
theorem dX3_next0_177 : decode cX3_next0 177 = .ok (.dup, 1) := dk_89 (dk_at dksX3_next0_7 16 rfl rfl)
theorem dX3_next0_178 : decode cX3_next0 178 = .ok (.getfield 81, 3) := dk_180 0 81 (dk_at dksX3_next0_7 17 rfl rfl)
theorem dX3_next0_181 : decode cX3_next0 181 = .ok (.iconst 1, 1) := dk_4 (dk_at dksX3_next0_7 20 rfl rfl)
theorem dX3_next0_182 : decode cX3_next0 182 = .ok (.iadd, 1) := dk_96 (dk_at dksX3_next0_7 21 rfl rfl)
theorem dX3_next0_183 : decode cX3_next0 183 = .ok (.putfield 81, 3) := dk_181 0 81 (dk_at dksX3_next0_8 0 rfl rfl)
theorem dX3_next0_186 : decode cX3_next0 186 = .ok (.goto (-60), 3) := dk_167 255 196 (dk_at dksX3_next0_8 3 rfl rfl)
theorem dX3_next0_189 : decode cX3_next0 189 = .ok (.aload_n 0, 1) := dk_42 (dk_at dksX3_next0_8 6 rfl rfl)
theorem dX3_next0_190 : decode cX3_next0 190 = .ok (.aload_n 0, 1) := dk_42 (dk_at dksX3_next0_8 7 rfl rfl)
theorem dX3_next0_191 : decode cX3_next0 191 = .ok (.getfield 81, 3) := dk_180 0 81 (dk_at dksX3_next0_8 8 rfl rfl)
theorem dX3_next0_194 : decode cX3_next0 194 = .ok (.aload_n 0, 1) := dk_42 (dk_at dksX3_next0_8 11 rfl rfl)
theorem dX3_next0_195 : decode cX3_next0 195 = .ok (.getfield 84, 3) := dk_180 0 84 (dk_at dksX3_next0_8 12 rfl rfl)
theorem dX3_next0_198 : decode cX3_next0 198 = .ok (.isub, 1) := dk_100 (dk_at dksX3_next0_8 15 rfl rfl)
theorem dX3_next0_199 : decode cX3_next0 199 = .ok (.iconst 5, 1) := dk_8 (dk_at dksX3_next0_8 16 rfl rfl)
theorem dX3_next0_200 : decode cX3_next0 200 = .ok (.if_icmp .ge 7, 3) := dk_162 0 7 (dk_at dksX3_next0_8 17 rfl rfl)
theorem dX3_next0_203 : decode cX3_next0 203 = .ok (.iconst 2, 1) := dk_5 (dk_at dksX3_next0_8 20 rfl rfl)
theorem dX3_next0_204 : decode cX3_next0 204 = .ok (.goto 4, 3) := dk_167 0 4 (dk_at dksX3_next0_8 21 rfl rfl)
theorem dX3_next0_207 : decode cX3_next0 207 = .ok (.iconst 1, 1) := dk_4 (dk_at dksX3_next0_9 0 rfl rfl)
theorem dX3_next0_208 : decode cX3_next0 208 = .ok (.putfield 162, 3) := dk_181 0 162 (dk_at dksX3_next0_9 1 rfl rfl)
theorem dX3_next0_211 : decode cX3_next0 211 = .ok (.goto 95, 3) := dk_167 0 95 (dk_at dksX3_next0_9 4 rfl rfl)
theorem dX3_next0_214 : decode cX3_next0 214 = .ok (.aload_n 0, 1) := dk_42 (dk_at dksX3_next0_9 7 rfl rfl)
theorem dX3_next0_215 : decode cX3_next0 215 = .ok (.dup, 1) := dk_89 (dk_at dksX3_next0_9 8 rfl rfl)
theorem dX3_next0_216 : decode cX3_next0 216 = .ok (.getfield 81, 3) := dk_180 0 81 (dk_at dksX3_next0_9 9 rfl rfl)
theorem dX3_next0_219 : decode cX3_next0 219 = .ok (.iconst 1, 1) := dk_4 (dk_at dksX3_next0_9 12 rfl rfl)
theorem dX3_next0_220 : decode cX3_next0 220 = .ok (.iadd, 1) := dk_96 (dk_at dksX3_next0_9 13 rfl rfl)
theorem dX3_next0_221 : decode cX3_next0 221 = .ok (.putfield 81, 3) := dk_181 0 81 (dk_at dksX3_next0_9 14 rfl rfl)
theorem dX3_next0_224 : decode cX3_next0 224 = .ok (.iload_n 1, 1) := dk_27 (dk_at dksX3_next0_9 17 rfl rfl)
theorem dX3_next0_225 : decode cX3_next0 225 = .ok (.bipush 59, 2) := dk_16 59 (dk_at dksX3_next0_9 18 rfl rfl)
theorem dX3_next0_227 : decode cX3_next0 227 = .ok (.if_icmp .eq 57, 3) := dk_159 0 57 (dk_at dksX3_next0_9 20 rfl rfl)
theorem dX3_next0_230 : decode cX3_next0 230 = .ok (.iload_n 1, 1) := dk_27 (dk_at dksX3_next0_9 23 rfl rfl)
theorem dX3_next0_231 : decode cX3_next0 231 = .ok (.bipush 43, 2) := dk_16 43 (dk_at dksX3_next0_10 0 rfl rfl)
theorem dX3_next0_233 : decode cX3_next0 233 = .ok (.if_icmp .eq 51, 3) := dk_159 0 51 (dk_at dksX3_next0_10 2 rfl rfl)
theorem dX3_next0_236 : decode cX3_next0 236 = .ok (.iload_n 1, 1) := dk_27 (dk_at dksX3_next0_10 5 rfl rfl)
theorem dX3_next0_237 : decode cX3_next0 237 = .ok (.bipush 45, 2) := dk_16 45 (dk_at dksX3_next0_10 6 rfl rfl)
theorem dX3_next0_239 : decode cX3_next0 239 = .ok (.if_icmp .eq 45, 3) := dk_159 0 45 (dk_at dksX3_next0_10 8 rfl rfl)
theorem dX3_next0_242 : decode cX3_next0 242 = .ok (.iload_n 1, 1) := dk_27 (dk_at dksX3_next0_10 11 rfl rfl)
theorem dX3_next0_243 : decode cX3_next0 243 = .ok (.bipush 42, 2) := dk_16 42 (dk_at dksX3_next0_10 12 rfl rfl)
theorem dX3_next0_245 : decode cX3_next0 245 = .ok (.if_icmp .eq 39, 3) := dk_159 0 39 (dk_at dksX3_next0_10 14 rfl rfl)
theorem dX3_next0_248 : decode cX3_next0 248 = .ok (.iload_n 1, 1) := dk_27 (dk_at dksX3_next0_10 17 rfl rfl)
theorem dX3_next0_249 : decode cX3_next0 249 = .ok (.bipush 47, 2) := dk_16 47 (dk_at dksX3_next0_10 18 rfl rfl)
theorem dX3_next0_251 : decode cX3_next0 251 = .ok (.if_icmp .eq 33, 3) := dk_159 0 33 (dk_at dksX3_next0_10 20 rfl rfl)
theorem dX3_next0_254 : decode cX3_next0 254 = .ok (.iload_n 1, 1) := dk_27 (dk_at dksX3_next0_10 23 rfl rfl)
theorem dX3_next0_255 : decode cX3_next0 255 = .ok (.bipush 40, 2) := dk_16 40 (dk_at dksX3_next0_11 0 rfl rfl)
theorem dX3_next0_257 : decode cX3_next0 257 = .ok (.if_icmp .eq 27, 3) := dk_159 0 27 (dk_at dksX3_next0_11 2 rfl rfl)
theorem dX3_next0_260 : decode cX3_next0 260 = .ok (.iload_n 1, 1) := dk_27 (dk_at dksX3_next0_11 5 rfl rfl)
theorem dX3_next0_261 : decode cX3_next0 261 = .ok (.bipush 41, 2) := dk_16 41 (dk_at dksX3_next0_11 6 rfl rfl)
theorem dX3_next0_263 : decode cX3_next0 263 = .ok (.if_icmp .eq 21, 3) := dk_159 0 21 (dk_at dksX3_next0_11 8 rfl rfl)
theorem dX3_next0_266 : decode cX3_next0 266 = .ok (.iload_n 1, 1) := dk_27 (dk_at dksX3_next0_11 11 rfl rfl)
theorem dX3_next0_267 : decode cX3_next0 267 = .ok (.bipush 60, 2) := dk_16 60 (dk_at dksX3_next0_11 12 rfl rfl)
theorem dX3_next0_269 : decode cX3_next0 269 = .ok (.if_icmp .eq 15, 3) := dk_159 0 15 (dk_at dksX3_next0_11 14 rfl rfl)
theorem dX3_next0_272 : decode cX3_next0 272 = .ok (.iload_n 1, 1) := dk_27 (dk_at dksX3_next0_11 17 rfl rfl)
theorem dX3_next0_273 : decode cX3_next0 273 = .ok (.bipush 61, 2) := dk_16 61 (dk_at dksX3_next0_11 18 rfl rfl)
theorem dX3_next0_275 : decode cX3_next0 275 = .ok (.if_icmp .eq 9, 3) := dk_159 0 9 (dk_at dksX3_next0_11 20 rfl rfl)
theorem dX3_next0_278 : decode cX3_next0 278 = .ok (.iload_n 1, 1) := dk_27 (dk_at dksX3_next0_11 23 rfl rfl)
theorem dX3_next0_279 : decode cX3_next0 279 = .ok (.bipush 62, 2) := dk_16 62 (dk_at dksX3_next0_12 0 rfl rfl)
theorem dX3_next0_281 : decode cX3_next0 281 = .ok (.if_icmp .ne 7, 3) := dk_160 0 7 (dk_at dksX3_next0_12 2 rfl rfl)
theorem dX3_next0_284 : decode cX3_next0 284 = .ok (.iconst 1, 1) := dk_4 (dk_at dksX3_next0_12 5 rfl rfl)
theorem dX3_next0_285 : decode cX3_next0 285 = .ok (.goto 4, 3) := dk_167 0 4 (dk_at dksX3_next0_12 6 rfl rfl)
theorem dX3_next0_288 : decode cX3_next0 288 = .ok (.iconst 0, 1) := dk_3 (dk_at dksX3_next0_12 9 rfl rfl)
theorem dX3_next0_289 : decode cX3_next0 289 = .ok (.istore_n 2, 1) := dk_61 (dk_at dksX3_next0_12 10 rfl rfl)
theorem dX3_next0_290 : decode cX3_next0 290 = .ok (.aload_n 0, 1) := dk_42 (dk_at dksX3_next0_12 11 rfl rfl)
theorem dX3_next0_291 : decode cX3_next0 291 = .ok (.iload_n 2, 1) := dk_28 (dk_at dksX3_next0_12 12 rfl rfl)
theorem dX3_next0_292 : decode cX3_next0 292 = .ok (.ifCond .eq 10, 3) := dk_153 0 10 (dk_at dksX3_next0_12 13 rfl rfl)
theorem dX3_next0_295 : decode cX3_next0 295 = .ok (.bipush 100, 2) := dk_16 100 (dk_at dksX3_next0_12 16 rfl rfl)
theorem dX3_next0_297 : decode cX3_next0 297 = .ok (.iload_n 1, 1) := dk_27 (dk_at dksX3_next0_12 18 rfl rfl)
theorem dX3_next0_298 : decode cX3_next0 298 = .ok (.iadd, 1) := dk_96 (dk_at dksX3_next0_12 19 rfl rfl)
theorem dX3_next0_299 : decode cX3_next0 299 = .ok (.goto 4, 3) := dk_167 0 4 (dk_at dksX3_next0_12 20 rfl rfl)
theorem dX3_next0_302 : decode cX3_next0 302 = .ok (.iconst 1, 1) := dk_4 (dk_at dksX3_next0_12 23 rfl rfl)
theorem dX3_next0_303 : decode cX3_next0 303 = .ok (.putfield 162, 3) := dk_181 0 162 (dk_at dksX3_next0_13 0 rfl rfl)
theorem dX3_next0_306 : decode cX3_next0 306 = .ok (.return_, 1) := dk_177 (dk_at dksX3_next0_13 3 rfl rfl)
abbrev cX3_see : ByteArray := prog_17_method_20_code
def yX3_see : MethodName := ⟨RX3, "see", "(I)I"⟩
def dkwX3_see_0 : List UInt8 := [27, 42, 180, 0, 78, 162, 0, 12, 42, 180, 0, 31, 27, 46, 167, 0, 4, 2, 172]
abbrev dktX3_see_0 : List UInt8 := dkwX3_see_0 ++ []
theorem dksX3_see_0 : cX3_see.data.toList.drop 0 = dktX3_see_0 := by decide +kernel
theorem dX3_see_0 : decode cX3_see 0 = .ok (.iload_n 1, 1) := dk_27 (dk_at dksX3_see_0 0 rfl rfl)
theorem dX3_see_1 : decode cX3_see 1 = .ok (.aload_n 0, 1) := dk_42 (dk_at dksX3_see_0 1 rfl rfl)
theorem dX3_see_2 : decode cX3_see 2 = .ok (.getfield 78, 3) := dk_180 0 78 (dk_at dksX3_see_0 2 rfl rfl)
theorem dX3_see_5 : decode cX3_see 5 = .ok (.if_icmp .ge 12, 3) := dk_162 0 12 (dk_at dksX3_see_0 5 rfl rfl)
theorem dX3_see_8 : decode cX3_see 8 = .ok (.aload_n 0, 1) := dk_42 (dk_at dksX3_see_0 8 rfl rfl)
theorem dX3_see_9 : decode cX3_see 9 = .ok (.getfield 31, 3) := dk_180 0 31 (dk_at dksX3_see_0 9 rfl rfl)
theorem dX3_see_12 : decode cX3_see 12 = .ok (.iload_n 1, 1) := dk_27 (dk_at dksX3_see_0 12 rfl rfl)
theorem dX3_see_13 : decode cX3_see 13 = .ok (.iaload, 1) := dk_46 (dk_at dksX3_see_0 13 rfl rfl)
theorem dX3_see_14 : decode cX3_see 14 = .ok (.goto 4, 3) := dk_167 0 4 (dk_at dksX3_see_0 14 rfl rfl)
theorem dX3_see_17 : decode cX3_see 17 = .ok (.iconst (-1), 1) := dk_2 (dk_at dksX3_see_0 17 rfl rfl)
theorem dX3_see_18 : decode cX3_see 18 = .ok (.ireturn, 1) := dk_172 (dk_at dksX3_see_0 18 rfl rfl)
abbrev cX3_isLetter : ByteArray := prog_17_method_21_code
def yX3_isLetter : MethodName := ⟨RX3, "isLetter", "(I)Z"⟩
def dkwX3_isLetter_1 : List UInt8 := [167, 0, 4, 3, 172]
abbrev dktX3_isLetter_1 : List UInt8 := dkwX3_isLetter_1 ++ []
def dkwX3_isLetter_0 : List UInt8 := [26, 16, 97, 16, 122, 184, 0, 56, 154, 0, 14, 26, 16, 65, 16, 90, 184, 0, 56, 153, 0, 7, 4]
abbrev dktX3_isLetter_0 : List UInt8 := dkwX3_isLetter_0 ++ dktX3_isLetter_1
theorem dksX3_isLetter_0 : cX3_isLetter.data.toList.drop 0 = dktX3_isLetter_0 := by decide +kernel
theorem dksX3_isLetter_1 : cX3_isLetter.data.toList.drop 23 = dktX3_isLetter_1 := dk_seg dksX3_isLetter_0 23 rfl rfl
theorem dX3_isLetter_0 : decode cX3_isLetter 0 = .ok (.iload_n 0, 1) := dk_26 (dk_at dksX3_isLetter_0 0 rfl rfl)
theorem dX3_isLetter_1 : decode cX3_isLetter 1 = .ok (.bipush 97, 2) := dk_16 97 (dk_at dksX3_isLetter_0 1 rfl rfl)
theorem dX3_isLetter_3 : decode cX3_isLetter 3 = .ok (.bipush 122, 2) := dk_16 122 (dk_at dksX3_isLetter_0 3 rfl rfl)
theorem dX3_isLetter_5 : decode cX3_isLetter 5 = .ok (.invokestatic 56, 3) := dk_184 0 56 (dk_at dksX3_isLetter_0 5 rfl rfl)
theorem dX3_isLetter_8 : decode cX3_isLetter 8 = .ok (.ifCond .ne 14, 3) := dk_154 0 14 (dk_at dksX3_isLetter_0 8 rfl rfl)
theorem dX3_isLetter_11 : decode cX3_isLetter 11 = .ok (.iload_n 0, 1) := dk_26 (dk_at dksX3_isLetter_0 11 rfl rfl)
theorem dX3_isLetter_12 : decode cX3_isLetter 12 = .ok (.bipush 65, 2) := dk_16 65 (dk_at dksX3_isLetter_0 12 rfl rfl)
theorem dX3_isLetter_14 : decode cX3_isLetter 14 = .ok (.bipush 90, 2) := dk_16 90 (dk_at dksX3_isLetter_0 14 rfl rfl)
theorem dX3_isLetter_16 : decode cX3_isLetter 16 = .ok (.invokestatic 56, 3) := dk_184 0 56 (dk_at dksX3_isLetter_0 16 rfl rfl)
theorem dX3_isLetter_19 : decode cX3_isLetter 19 = .ok (.ifCond .eq 7, 3) := dk_153 0 7 (dk_at dksX3_isLetter_0 19 rfl rfl)
theorem dX3_isLetter_22 : decode cX3_isLetter 22 = .ok (.iconst 1, 1) := dk_4 (dk_at dksX3_isLetter_0 22 rfl rfl)
theorem dX3_isLetter_23 : decode cX3_isLetter 23 = .ok (.goto 4, 3) := dk_167 0 4 (dk_at dksX3_isLetter_1 0 rfl rfl)
theorem dX3_isLetter_26 : decode cX3_isLetter 26 = .ok (.iconst 0, 1) := dk_3 (dk_at dksX3_isLetter_1 3 rfl rfl)
theorem dX3_isLetter_27 : decode cX3_isLetter 27 = .ok (.ireturn, 1) := dk_172 (dk_at dksX3_isLetter_1 4 rfl rfl)
abbrev cX3_word : ByteArray := prog_17_method_27_code
def yX3_word : MethodName := ⟨RX3, "word", "()I"⟩
def dkwX3_word_4 : List UInt8 := [153, 0, 8, 16, 14, 167, 0, 18, 42, 18, 117, 182, 0, 99, 153, 0, 8, 16, 15, 167, 0, 4, 4, 172]
abbrev dktX3_word_4 : List UInt8 := dkwX3_word_4 ++ []
def dkwX3_word_3 : List UInt8 := [42, 18, 156, 182, 0, 99, 153, 0, 8, 16, 13, 167, 0, 4, 4, 172, 42, 18, 97, 182, 0, 99]
abbrev dktX3_word_3 : List UInt8 := dkwX3_word_3 ++ dktX3_word_4
def dkwX3_word_2 : List UInt8 := [42, 182, 0, 149, 172, 42, 182, 0, 152, 172, 42, 18, 155, 182, 0, 99, 153, 0, 8, 16, 12, 167, 0, 18]
abbrev dktX3_word_2 : List UInt8 := dkwX3_word_2 ++ dktX3_word_3
def dkwX3_word_1 : List UInt8 := [170, 0, 0, 0, 0, 0, 0, 68, 0, 0, 0, 0, 0, 0, 0, 2, 0, 0, 0, 28, 0, 0, 0, 33, 0, 0, 0, 38]
abbrev dktX3_word_1 : List UInt8 := dkwX3_word_1 ++ dktX3_word_2
def dkwX3_word_0 : List UInt8 := [42, 180, 0, 146]
abbrev dktX3_word_0 : List UInt8 := dkwX3_word_0 ++ dktX3_word_1
theorem dksX3_word_0 : cX3_word.data.toList.drop 0 = dktX3_word_0 := by decide +kernel
theorem dksX3_word_1 : cX3_word.data.toList.drop 4 = dktX3_word_1 := dk_seg dksX3_word_0 4 rfl rfl
theorem dksX3_word_2 : cX3_word.data.toList.drop 32 = dktX3_word_2 := dk_seg dksX3_word_1 28 rfl rfl
theorem dksX3_word_3 : cX3_word.data.toList.drop 56 = dktX3_word_3 := dk_seg dksX3_word_2 24 rfl rfl
theorem dksX3_word_4 : cX3_word.data.toList.drop 78 = dktX3_word_4 := dk_seg dksX3_word_3 22 rfl rfl
theorem dX3_word_0 : decode cX3_word 0 = .ok (.aload_n 0, 1) := dk_42 (dk_at dksX3_word_0 0 rfl rfl)
theorem dX3_word_1 : decode cX3_word 1 = .ok (.getfield 146, 3) := dk_180 0 146 (dk_at dksX3_word_0 1 rfl rfl)
theorem dX3_word_4 : decode cX3_word 4 = .ok (.tableswitch 68 0 2 #[28, 33, 38], 28) := by decide +kernel
theorem dX3_word_32 : decode cX3_word 32 = .ok (.aload_n 0, 1) := dk_42 (dk_at dksX3_word_2 0 rfl rfl)
theorem dX3_word_33 : decode cX3_word 33 = .ok (.invokevirtual 149, 3) := dk_182 0 149 (dk_at dksX3_word_2 1 rfl rfl)
theorem dX3_word_36 : decode cX3_word 36 = .ok (.ireturn, 1) := dk_172 (dk_at dksX3_word_2 4 rfl rfl)
theorem dX3_word_37 : decode cX3_word 37 = .ok (.aload_n 0, 1) := dk_42 (dk_at dksX3_word_2 5 rfl rfl)
theorem dX3_word_38 : decode cX3_word 38 = .ok (.invokevirtual 152, 3) := dk_182 0 152 (dk_at dksX3_word_2 6 rfl rfl)
theorem dX3_word_41 : decode cX3_word 41 = .ok (.ireturn, 1) := dk_172 (dk_at dksX3_word_2 9 rfl rfl)
theorem dX3_word_42 : decode cX3_word 42 = .ok (.aload_n 0, 1) := dk_42 (dk_at dksX3_word_2 10 rfl rfl)
theorem dX3_word_43 : decode cX3_word 43 = .ok (.ldc 155, 2) := dk_18 155 (dk_at dksX3_word_2 11 rfl rfl)
theorem dX3_word_45 : decode cX3_word 45 = .ok (.invokevirtual 99, 3) := dk_182 0 99 (dk_at dksX3_word_2 13 rfl rfl)
theorem dX3_word_48 : decode cX3_word 48 = .ok (.ifCond .eq 8, 3) := dk_153 0 8 (dk_at dksX3_word_2 16 rfl rfl)
theorem dX3_word_51 : decode cX3_word 51 = .ok (.bipush 12, 2) := dk_16 12 (dk_at dksX3_word_2 19 rfl rfl)
theorem dX3_word_53 : decode cX3_word 53 = .ok (.goto 18, 3) := dk_167 0 18 (dk_at dksX3_word_2 21 rfl rfl)
theorem dX3_word_56 : decode cX3_word 56 = .ok (.aload_n 0, 1) := dk_42 (dk_at dksX3_word_3 0 rfl rfl)
theorem dX3_word_57 : decode cX3_word 57 = .ok (.ldc 156, 2) := dk_18 156 (dk_at dksX3_word_3 1 rfl rfl)
theorem dX3_word_59 : decode cX3_word 59 = .ok (.invokevirtual 99, 3) := dk_182 0 99 (dk_at dksX3_word_3 3 rfl rfl)
theorem dX3_word_62 : decode cX3_word 62 = .ok (.ifCond .eq 8, 3) := dk_153 0 8 (dk_at dksX3_word_3 6 rfl rfl)
theorem dX3_word_65 : decode cX3_word 65 = .ok (.bipush 13, 2) := dk_16 13 (dk_at dksX3_word_3 9 rfl rfl)
theorem dX3_word_67 : decode cX3_word 67 = .ok (.goto 4, 3) := dk_167 0 4 (dk_at dksX3_word_3 11 rfl rfl)
theorem dX3_word_70 : decode cX3_word 70 = .ok (.iconst 1, 1) := dk_4 (dk_at dksX3_word_3 14 rfl rfl)
theorem dX3_word_71 : decode cX3_word 71 = .ok (.ireturn, 1) := dk_172 (dk_at dksX3_word_3 15 rfl rfl)
theorem dX3_word_72 : decode cX3_word 72 = .ok (.aload_n 0, 1) := dk_42 (dk_at dksX3_word_3 16 rfl rfl)
theorem dX3_word_73 : decode cX3_word 73 = .ok (.ldc 97, 2) := dk_18 97 (dk_at dksX3_word_3 17 rfl rfl)
theorem dX3_word_75 : decode cX3_word 75 = .ok (.invokevirtual 99, 3) := dk_182 0 99 (dk_at dksX3_word_3 19 rfl rfl)
theorem dX3_word_78 : decode cX3_word 78 = .ok (.ifCond .eq 8, 3) := dk_153 0 8 (dk_at dksX3_word_4 0 rfl rfl)
theorem dX3_word_81 : decode cX3_word 81 = .ok (.bipush 14, 2) := dk_16 14 (dk_at dksX3_word_4 3 rfl rfl)
theorem dX3_word_83 : decode cX3_word 83 = .ok (.goto 18, 3) := dk_167 0 18 (dk_at dksX3_word_4 5 rfl rfl)
theorem dX3_word_86 : decode cX3_word 86 = .ok (.aload_n 0, 1) := dk_42 (dk_at dksX3_word_4 8 rfl rfl)
theorem dX3_word_87 : decode cX3_word 87 = .ok (.ldc 117, 2) := dk_18 117 (dk_at dksX3_word_4 9 rfl rfl)
theorem dX3_word_89 : decode cX3_word 89 = .ok (.invokevirtual 99, 3) := dk_182 0 99 (dk_at dksX3_word_4 11 rfl rfl)
theorem dX3_word_92 : decode cX3_word 92 = .ok (.ifCond .eq 8, 3) := dk_153 0 8 (dk_at dksX3_word_4 14 rfl rfl)
theorem dX3_word_95 : decode cX3_word 95 = .ok (.bipush 15, 2) := dk_16 15 (dk_at dksX3_word_4 17 rfl rfl)
theorem dX3_word_97 : decode cX3_word 97 = .ok (.goto 4, 3) := dk_167 0 4 (dk_at dksX3_word_4 19 rfl rfl)
theorem dX3_word_100 : decode cX3_word 100 = .ok (.iconst 1, 1) := dk_4 (dk_at dksX3_word_4 22 rfl rfl)
theorem dX3_word_101 : decode cX3_word 101 = .ok (.ireturn, 1) := dk_172 (dk_at dksX3_word_4 23 rfl rfl)
abbrev cX3_lawWord : ByteArray := prog_17_method_25_code
def yX3_lawWord : MethodName := ⟨RX3, "lawWord", "()I"⟩
def dkwX3_lawWord_3 : List UInt8 := [18, 133, 182, 0, 99, 153, 0, 8, 16, 22, 167, 0, 7, 42, 182, 0, 135, 172]
abbrev dktX3_lawWord_3 : List UInt8 := dkwX3_lawWord_3 ++ []
def dkwX3_lawWord_2 : List UInt8 := [18, 129, 182, 0, 99, 153, 0, 6, 16, 20, 172, 42, 18, 131, 182, 0, 99, 153, 0, 6, 16, 21, 172, 42]
abbrev dktX3_lawWord_2 : List UInt8 := dkwX3_lawWord_2 ++ dktX3_lawWord_3
def dkwX3_lawWord_1 : List UInt8 := [18, 125, 182, 0, 99, 153, 0, 5, 8, 172, 42, 18, 127, 182, 0, 99, 153, 0, 6, 16, 6, 172, 42]
abbrev dktX3_lawWord_1 : List UInt8 := dkwX3_lawWord_1 ++ dktX3_lawWord_2
def dkwX3_lawWord_0 : List UInt8 := [42, 18, 121, 182, 0, 99, 153, 0, 5, 6, 172, 42, 18, 123, 182, 0, 99, 153, 0, 5, 7, 172, 42]
abbrev dktX3_lawWord_0 : List UInt8 := dkwX3_lawWord_0 ++ dktX3_lawWord_1
theorem dksX3_lawWord_0 : cX3_lawWord.data.toList.drop 0 = dktX3_lawWord_0 := by decide +kernel
theorem dksX3_lawWord_1 : cX3_lawWord.data.toList.drop 23 = dktX3_lawWord_1 := dk_seg dksX3_lawWord_0 23 rfl rfl
theorem dksX3_lawWord_2 : cX3_lawWord.data.toList.drop 46 = dktX3_lawWord_2 := dk_seg dksX3_lawWord_1 23 rfl rfl
theorem dksX3_lawWord_3 : cX3_lawWord.data.toList.drop 70 = dktX3_lawWord_3 := dk_seg dksX3_lawWord_2 24 rfl rfl
theorem dX3_lawWord_0 : decode cX3_lawWord 0 = .ok (.aload_n 0, 1) := dk_42 (dk_at dksX3_lawWord_0 0 rfl rfl)
theorem dX3_lawWord_1 : decode cX3_lawWord 1 = .ok (.ldc 121, 2) := dk_18 121 (dk_at dksX3_lawWord_0 1 rfl rfl)
theorem dX3_lawWord_3 : decode cX3_lawWord 3 = .ok (.invokevirtual 99, 3) := dk_182 0 99 (dk_at dksX3_lawWord_0 3 rfl rfl)
theorem dX3_lawWord_6 : decode cX3_lawWord 6 = .ok (.ifCond .eq 5, 3) := dk_153 0 5 (dk_at dksX3_lawWord_0 6 rfl rfl)
theorem dX3_lawWord_9 : decode cX3_lawWord 9 = .ok (.iconst 3, 1) := dk_6 (dk_at dksX3_lawWord_0 9 rfl rfl)
theorem dX3_lawWord_10 : decode cX3_lawWord 10 = .ok (.ireturn, 1) := dk_172 (dk_at dksX3_lawWord_0 10 rfl rfl)
theorem dX3_lawWord_11 : decode cX3_lawWord 11 = .ok (.aload_n 0, 1) := dk_42 (dk_at dksX3_lawWord_0 11 rfl rfl)
theorem dX3_lawWord_12 : decode cX3_lawWord 12 = .ok (.ldc 123, 2) := dk_18 123 (dk_at dksX3_lawWord_0 12 rfl rfl)
theorem dX3_lawWord_14 : decode cX3_lawWord 14 = .ok (.invokevirtual 99, 3) := dk_182 0 99 (dk_at dksX3_lawWord_0 14 rfl rfl)
theorem dX3_lawWord_17 : decode cX3_lawWord 17 = .ok (.ifCond .eq 5, 3) := dk_153 0 5 (dk_at dksX3_lawWord_0 17 rfl rfl)
theorem dX3_lawWord_20 : decode cX3_lawWord 20 = .ok (.iconst 4, 1) := dk_7 (dk_at dksX3_lawWord_0 20 rfl rfl)
theorem dX3_lawWord_21 : decode cX3_lawWord 21 = .ok (.ireturn, 1) := dk_172 (dk_at dksX3_lawWord_0 21 rfl rfl)
theorem dX3_lawWord_22 : decode cX3_lawWord 22 = .ok (.aload_n 0, 1) := dk_42 (dk_at dksX3_lawWord_0 22 rfl rfl)
theorem dX3_lawWord_23 : decode cX3_lawWord 23 = .ok (.ldc 125, 2) := dk_18 125 (dk_at dksX3_lawWord_1 0 rfl rfl)
theorem dX3_lawWord_25 : decode cX3_lawWord 25 = .ok (.invokevirtual 99, 3) := dk_182 0 99 (dk_at dksX3_lawWord_1 2 rfl rfl)
theorem dX3_lawWord_28 : decode cX3_lawWord 28 = .ok (.ifCond .eq 5, 3) := dk_153 0 5 (dk_at dksX3_lawWord_1 5 rfl rfl)
theorem dX3_lawWord_31 : decode cX3_lawWord 31 = .ok (.iconst 5, 1) := dk_8 (dk_at dksX3_lawWord_1 8 rfl rfl)
theorem dX3_lawWord_32 : decode cX3_lawWord 32 = .ok (.ireturn, 1) := dk_172 (dk_at dksX3_lawWord_1 9 rfl rfl)
theorem dX3_lawWord_33 : decode cX3_lawWord 33 = .ok (.aload_n 0, 1) := dk_42 (dk_at dksX3_lawWord_1 10 rfl rfl)
theorem dX3_lawWord_34 : decode cX3_lawWord 34 = .ok (.ldc 127, 2) := dk_18 127 (dk_at dksX3_lawWord_1 11 rfl rfl)
theorem dX3_lawWord_36 : decode cX3_lawWord 36 = .ok (.invokevirtual 99, 3) := dk_182 0 99 (dk_at dksX3_lawWord_1 13 rfl rfl)
theorem dX3_lawWord_39 : decode cX3_lawWord 39 = .ok (.ifCond .eq 6, 3) := dk_153 0 6 (dk_at dksX3_lawWord_1 16 rfl rfl)
theorem dX3_lawWord_42 : decode cX3_lawWord 42 = .ok (.bipush 6, 2) := dk_16 6 (dk_at dksX3_lawWord_1 19 rfl rfl)
theorem dX3_lawWord_44 : decode cX3_lawWord 44 = .ok (.ireturn, 1) := dk_172 (dk_at dksX3_lawWord_1 21 rfl rfl)
theorem dX3_lawWord_45 : decode cX3_lawWord 45 = .ok (.aload_n 0, 1) := dk_42 (dk_at dksX3_lawWord_1 22 rfl rfl)
theorem dX3_lawWord_46 : decode cX3_lawWord 46 = .ok (.ldc 129, 2) := dk_18 129 (dk_at dksX3_lawWord_2 0 rfl rfl)
theorem dX3_lawWord_48 : decode cX3_lawWord 48 = .ok (.invokevirtual 99, 3) := dk_182 0 99 (dk_at dksX3_lawWord_2 2 rfl rfl)
theorem dX3_lawWord_51 : decode cX3_lawWord 51 = .ok (.ifCond .eq 6, 3) := dk_153 0 6 (dk_at dksX3_lawWord_2 5 rfl rfl)
theorem dX3_lawWord_54 : decode cX3_lawWord 54 = .ok (.bipush 20, 2) := dk_16 20 (dk_at dksX3_lawWord_2 8 rfl rfl)
theorem dX3_lawWord_56 : decode cX3_lawWord 56 = .ok (.ireturn, 1) := dk_172 (dk_at dksX3_lawWord_2 10 rfl rfl)
theorem dX3_lawWord_57 : decode cX3_lawWord 57 = .ok (.aload_n 0, 1) := dk_42 (dk_at dksX3_lawWord_2 11 rfl rfl)
theorem dX3_lawWord_58 : decode cX3_lawWord 58 = .ok (.ldc 131, 2) := dk_18 131 (dk_at dksX3_lawWord_2 12 rfl rfl)
theorem dX3_lawWord_60 : decode cX3_lawWord 60 = .ok (.invokevirtual 99, 3) := dk_182 0 99 (dk_at dksX3_lawWord_2 14 rfl rfl)
theorem dX3_lawWord_63 : decode cX3_lawWord 63 = .ok (.ifCond .eq 6, 3) := dk_153 0 6 (dk_at dksX3_lawWord_2 17 rfl rfl)
theorem dX3_lawWord_66 : decode cX3_lawWord 66 = .ok (.bipush 21, 2) := dk_16 21 (dk_at dksX3_lawWord_2 20 rfl rfl)
theorem dX3_lawWord_68 : decode cX3_lawWord 68 = .ok (.ireturn, 1) := dk_172 (dk_at dksX3_lawWord_2 22 rfl rfl)
theorem dX3_lawWord_69 : decode cX3_lawWord 69 = .ok (.aload_n 0, 1) := dk_42 (dk_at dksX3_lawWord_2 23 rfl rfl)
theorem dX3_lawWord_70 : decode cX3_lawWord 70 = .ok (.ldc 133, 2) := dk_18 133 (dk_at dksX3_lawWord_3 0 rfl rfl)
theorem dX3_lawWord_72 : decode cX3_lawWord 72 = .ok (.invokevirtual 99, 3) := dk_182 0 99 (dk_at dksX3_lawWord_3 2 rfl rfl)
theorem dX3_lawWord_75 : decode cX3_lawWord 75 = .ok (.ifCond .eq 8, 3) := dk_153 0 8 (dk_at dksX3_lawWord_3 5 rfl rfl)
theorem dX3_lawWord_78 : decode cX3_lawWord 78 = .ok (.bipush 22, 2) := dk_16 22 (dk_at dksX3_lawWord_3 8 rfl rfl)
theorem dX3_lawWord_80 : decode cX3_lawWord 80 = .ok (.goto 7, 3) := dk_167 0 7 (dk_at dksX3_lawWord_3 10 rfl rfl)
theorem dX3_lawWord_83 : decode cX3_lawWord 83 = .ok (.aload_n 0, 1) := dk_42 (dk_at dksX3_lawWord_3 13 rfl rfl)
theorem dX3_lawWord_84 : decode cX3_lawWord 84 = .ok (.invokevirtual 135, 3) := dk_182 0 135 (dk_at dksX3_lawWord_3 14 rfl rfl)
theorem dX3_lawWord_87 : decode cX3_lawWord 87 = .ok (.ireturn, 1) := dk_172 (dk_at dksX3_lawWord_3 17 rfl rfl)
abbrev cX3_is : ByteArray := prog_17_method_23_code
def yX3_is : MethodName := ⟨RX3, "is", "(Ljava/lang/String;)Z"⟩
def dkwX3_is_2 : List UInt8 := [29, 182, 0, 93, 160, 0, 7, 4, 167, 0, 4, 3, 61, 132, 3, 1, 167, 255, 216, 28, 172]
abbrev dktX3_is_2 : List UInt8 := dkwX3_is_2 ++ []
def dkwX3_is_1 : List UInt8 := [29, 43, 182, 0, 87, 162, 0, 38, 28, 153, 0, 34, 42, 180, 0, 31, 42, 180, 0, 84, 29, 96, 46, 43]
abbrev dktX3_is_1 : List UInt8 := dkwX3_is_1 ++ dktX3_is_2
def dkwX3_is_0 : List UInt8 := [42, 180, 0, 81, 42, 180, 0, 84, 100, 43, 182, 0, 87, 160, 0, 7, 4, 167, 0, 4, 3, 61, 3, 62]
abbrev dktX3_is_0 : List UInt8 := dkwX3_is_0 ++ dktX3_is_1
theorem dksX3_is_0 : cX3_is.data.toList.drop 0 = dktX3_is_0 := by decide +kernel
theorem dksX3_is_1 : cX3_is.data.toList.drop 24 = dktX3_is_1 := dk_seg dksX3_is_0 24 rfl rfl
theorem dksX3_is_2 : cX3_is.data.toList.drop 48 = dktX3_is_2 := dk_seg dksX3_is_1 24 rfl rfl
theorem dX3_is_0 : decode cX3_is 0 = .ok (.aload_n 0, 1) := dk_42 (dk_at dksX3_is_0 0 rfl rfl)
theorem dX3_is_1 : decode cX3_is 1 = .ok (.getfield 81, 3) := dk_180 0 81 (dk_at dksX3_is_0 1 rfl rfl)
theorem dX3_is_4 : decode cX3_is 4 = .ok (.aload_n 0, 1) := dk_42 (dk_at dksX3_is_0 4 rfl rfl)
theorem dX3_is_5 : decode cX3_is 5 = .ok (.getfield 84, 3) := dk_180 0 84 (dk_at dksX3_is_0 5 rfl rfl)
theorem dX3_is_8 : decode cX3_is 8 = .ok (.isub, 1) := dk_100 (dk_at dksX3_is_0 8 rfl rfl)
theorem dX3_is_9 : decode cX3_is 9 = .ok (.aload_n 1, 1) := dk_43 (dk_at dksX3_is_0 9 rfl rfl)
theorem dX3_is_10 : decode cX3_is 10 = .ok (.invokevirtual 87, 3) := dk_182 0 87 (dk_at dksX3_is_0 10 rfl rfl)
theorem dX3_is_13 : decode cX3_is 13 = .ok (.if_icmp .ne 7, 3) := dk_160 0 7 (dk_at dksX3_is_0 13 rfl rfl)
theorem dX3_is_16 : decode cX3_is 16 = .ok (.iconst 1, 1) := dk_4 (dk_at dksX3_is_0 16 rfl rfl)
theorem dX3_is_17 : decode cX3_is 17 = .ok (.goto 4, 3) := dk_167 0 4 (dk_at dksX3_is_0 17 rfl rfl)
theorem dX3_is_20 : decode cX3_is 20 = .ok (.iconst 0, 1) := dk_3 (dk_at dksX3_is_0 20 rfl rfl)
theorem dX3_is_21 : decode cX3_is 21 = .ok (.istore_n 2, 1) := dk_61 (dk_at dksX3_is_0 21 rfl rfl)
theorem dX3_is_22 : decode cX3_is 22 = .ok (.iconst 0, 1) := dk_3 (dk_at dksX3_is_0 22 rfl rfl)
theorem dX3_is_23 : decode cX3_is 23 = .ok (.istore_n 3, 1) := dk_62 (dk_at dksX3_is_0 23 rfl rfl)
theorem dX3_is_24 : decode cX3_is 24 = .ok (.iload_n 3, 1) := dk_29 (dk_at dksX3_is_1 0 rfl rfl)
theorem dX3_is_25 : decode cX3_is 25 = .ok (.aload_n 1, 1) := dk_43 (dk_at dksX3_is_1 1 rfl rfl)
theorem dX3_is_26 : decode cX3_is 26 = .ok (.invokevirtual 87, 3) := dk_182 0 87 (dk_at dksX3_is_1 2 rfl rfl)
theorem dX3_is_29 : decode cX3_is 29 = .ok (.if_icmp .ge 38, 3) := dk_162 0 38 (dk_at dksX3_is_1 5 rfl rfl)
theorem dX3_is_32 : decode cX3_is 32 = .ok (.iload_n 2, 1) := dk_28 (dk_at dksX3_is_1 8 rfl rfl)
theorem dX3_is_33 : decode cX3_is 33 = .ok (.ifCond .eq 34, 3) := dk_153 0 34 (dk_at dksX3_is_1 9 rfl rfl)
theorem dX3_is_36 : decode cX3_is 36 = .ok (.aload_n 0, 1) := dk_42 (dk_at dksX3_is_1 12 rfl rfl)
theorem dX3_is_37 : decode cX3_is 37 = .ok (.getfield 31, 3) := dk_180 0 31 (dk_at dksX3_is_1 13 rfl rfl)
theorem dX3_is_40 : decode cX3_is 40 = .ok (.aload_n 0, 1) := dk_42 (dk_at dksX3_is_1 16 rfl rfl)
theorem dX3_is_41 : decode cX3_is 41 = .ok (.getfield 84, 3) := dk_180 0 84 (dk_at dksX3_is_1 17 rfl rfl)
theorem dX3_is_44 : decode cX3_is 44 = .ok (.iload_n 3, 1) := dk_29 (dk_at dksX3_is_1 20 rfl rfl)
theorem dX3_is_45 : decode cX3_is 45 = .ok (.iadd, 1) := dk_96 (dk_at dksX3_is_1 21 rfl rfl)
theorem dX3_is_46 : decode cX3_is 46 = .ok (.iaload, 1) := dk_46 (dk_at dksX3_is_1 22 rfl rfl)
theorem dX3_is_47 : decode cX3_is 47 = .ok (.aload_n 1, 1) := dk_43 (dk_at dksX3_is_1 23 rfl rfl)
theorem dX3_is_48 : decode cX3_is 48 = .ok (.iload_n 3, 1) := dk_29 (dk_at dksX3_is_2 0 rfl rfl)
theorem dX3_is_49 : decode cX3_is 49 = .ok (.invokevirtual 93, 3) := dk_182 0 93 (dk_at dksX3_is_2 1 rfl rfl)
theorem dX3_is_52 : decode cX3_is 52 = .ok (.if_icmp .ne 7, 3) := dk_160 0 7 (dk_at dksX3_is_2 4 rfl rfl)
theorem dX3_is_55 : decode cX3_is 55 = .ok (.iconst 1, 1) := dk_4 (dk_at dksX3_is_2 7 rfl rfl)
theorem dX3_is_56 : decode cX3_is 56 = .ok (.goto 4, 3) := dk_167 0 4 (dk_at dksX3_is_2 8 rfl rfl)
theorem dX3_is_59 : decode cX3_is 59 = .ok (.iconst 0, 1) := dk_3 (dk_at dksX3_is_2 11 rfl rfl)
theorem dX3_is_60 : decode cX3_is 60 = .ok (.istore_n 2, 1) := dk_61 (dk_at dksX3_is_2 12 rfl rfl)
theorem dX3_is_61 : decode cX3_is 61 = .ok (.iinc 3 1, 3) := dk_132 3 1 (dk_at dksX3_is_2 13 rfl rfl)
theorem dX3_is_64 : decode cX3_is 64 = .ok (.goto (-40), 3) := dk_167 255 216 (dk_at dksX3_is_2 16 rfl rfl)
theorem dX3_is_67 : decode cX3_is 67 = .ok (.iload_n 2, 1) := dk_28 (dk_at dksX3_is_2 19 rfl rfl)
theorem dX3_is_68 : decode cX3_is 68 = .ok (.ireturn, 1) := dk_172 (dk_at dksX3_is_2 20 rfl rfl)
abbrev cX3_asked : ByteArray := prog_17_method_24_code
def yX3_asked : MethodName := ⟨RX3, "asked", "()I"⟩
def dkwX3_asked_5 : List UInt8 := [167, 0, 4, 4, 172]
abbrev dktX3_asked_5 : List UInt8 := dkwX3_asked_5 ++ []
def dkwX3_asked_4 : List UInt8 := [42, 18, 117, 182, 0, 99, 153, 0, 6, 16, 49, 172, 42, 18, 119, 182, 0, 99, 153, 0, 8, 16, 50]
abbrev dktX3_asked_4 : List UInt8 := dkwX3_asked_4 ++ dktX3_asked_5
def dkwX3_asked_3 : List UInt8 := [42, 18, 113, 182, 0, 99, 153, 0, 6, 16, 47, 172, 42, 18, 115, 182, 0, 99, 153, 0, 6, 16, 48, 172]
abbrev dktX3_asked_3 : List UInt8 := dkwX3_asked_3 ++ dktX3_asked_4
def dkwX3_asked_2 : List UInt8 := [42, 18, 109, 182, 0, 99, 153, 0, 6, 16, 45, 172, 42, 18, 111, 182, 0, 99, 153, 0, 6, 16, 46, 172]
abbrev dktX3_asked_2 : List UInt8 := dkwX3_asked_2 ++ dktX3_asked_3
def dkwX3_asked_1 : List UInt8 := [42, 18, 105, 182, 0, 99, 153, 0, 6, 16, 43, 172, 42, 18, 107, 182, 0, 99, 153, 0, 6, 16, 44, 172]
abbrev dktX3_asked_1 : List UInt8 := dkwX3_asked_1 ++ dktX3_asked_2
def dkwX3_asked_0 : List UInt8 := [42, 18, 97, 182, 0, 99, 153, 0, 6, 16, 41, 172, 42, 18, 103, 182, 0, 99, 153, 0, 6, 16, 42, 172]
abbrev dktX3_asked_0 : List UInt8 := dkwX3_asked_0 ++ dktX3_asked_1
theorem dksX3_asked_0 : cX3_asked.data.toList.drop 0 = dktX3_asked_0 := by decide +kernel
theorem dksX3_asked_1 : cX3_asked.data.toList.drop 24 = dktX3_asked_1 := dk_seg dksX3_asked_0 24 rfl rfl
theorem dksX3_asked_2 : cX3_asked.data.toList.drop 48 = dktX3_asked_2 := dk_seg dksX3_asked_1 24 rfl rfl
theorem dksX3_asked_3 : cX3_asked.data.toList.drop 72 = dktX3_asked_3 := dk_seg dksX3_asked_2 24 rfl rfl
theorem dksX3_asked_4 : cX3_asked.data.toList.drop 96 = dktX3_asked_4 := dk_seg dksX3_asked_3 24 rfl rfl
theorem dksX3_asked_5 : cX3_asked.data.toList.drop 119 = dktX3_asked_5 := dk_seg dksX3_asked_4 23 rfl rfl
theorem dX3_asked_0 : decode cX3_asked 0 = .ok (.aload_n 0, 1) := dk_42 (dk_at dksX3_asked_0 0 rfl rfl)
theorem dX3_asked_1 : decode cX3_asked 1 = .ok (.ldc 97, 2) := dk_18 97 (dk_at dksX3_asked_0 1 rfl rfl)
theorem dX3_asked_3 : decode cX3_asked 3 = .ok (.invokevirtual 99, 3) := dk_182 0 99 (dk_at dksX3_asked_0 3 rfl rfl)
theorem dX3_asked_6 : decode cX3_asked 6 = .ok (.ifCond .eq 6, 3) := dk_153 0 6 (dk_at dksX3_asked_0 6 rfl rfl)
theorem dX3_asked_9 : decode cX3_asked 9 = .ok (.bipush 41, 2) := dk_16 41 (dk_at dksX3_asked_0 9 rfl rfl)
theorem dX3_asked_11 : decode cX3_asked 11 = .ok (.ireturn, 1) := dk_172 (dk_at dksX3_asked_0 11 rfl rfl)
theorem dX3_asked_12 : decode cX3_asked 12 = .ok (.aload_n 0, 1) := dk_42 (dk_at dksX3_asked_0 12 rfl rfl)
theorem dX3_asked_13 : decode cX3_asked 13 = .ok (.ldc 103, 2) := dk_18 103 (dk_at dksX3_asked_0 13 rfl rfl)
theorem dX3_asked_15 : decode cX3_asked 15 = .ok (.invokevirtual 99, 3) := dk_182 0 99 (dk_at dksX3_asked_0 15 rfl rfl)
theorem dX3_asked_18 : decode cX3_asked 18 = .ok (.ifCond .eq 6, 3) := dk_153 0 6 (dk_at dksX3_asked_0 18 rfl rfl)
theorem dX3_asked_21 : decode cX3_asked 21 = .ok (.bipush 42, 2) := dk_16 42 (dk_at dksX3_asked_0 21 rfl rfl)
theorem dX3_asked_23 : decode cX3_asked 23 = .ok (.ireturn, 1) := dk_172 (dk_at dksX3_asked_0 23 rfl rfl)
theorem dX3_asked_24 : decode cX3_asked 24 = .ok (.aload_n 0, 1) := dk_42 (dk_at dksX3_asked_1 0 rfl rfl)
theorem dX3_asked_25 : decode cX3_asked 25 = .ok (.ldc 105, 2) := dk_18 105 (dk_at dksX3_asked_1 1 rfl rfl)
theorem dX3_asked_27 : decode cX3_asked 27 = .ok (.invokevirtual 99, 3) := dk_182 0 99 (dk_at dksX3_asked_1 3 rfl rfl)
theorem dX3_asked_30 : decode cX3_asked 30 = .ok (.ifCond .eq 6, 3) := dk_153 0 6 (dk_at dksX3_asked_1 6 rfl rfl)
theorem dX3_asked_33 : decode cX3_asked 33 = .ok (.bipush 43, 2) := dk_16 43 (dk_at dksX3_asked_1 9 rfl rfl)
theorem dX3_asked_35 : decode cX3_asked 35 = .ok (.ireturn, 1) := dk_172 (dk_at dksX3_asked_1 11 rfl rfl)
theorem dX3_asked_36 : decode cX3_asked 36 = .ok (.aload_n 0, 1) := dk_42 (dk_at dksX3_asked_1 12 rfl rfl)
theorem dX3_asked_37 : decode cX3_asked 37 = .ok (.ldc 107, 2) := dk_18 107 (dk_at dksX3_asked_1 13 rfl rfl)
theorem dX3_asked_39 : decode cX3_asked 39 = .ok (.invokevirtual 99, 3) := dk_182 0 99 (dk_at dksX3_asked_1 15 rfl rfl)
theorem dX3_asked_42 : decode cX3_asked 42 = .ok (.ifCond .eq 6, 3) := dk_153 0 6 (dk_at dksX3_asked_1 18 rfl rfl)
theorem dX3_asked_45 : decode cX3_asked 45 = .ok (.bipush 44, 2) := dk_16 44 (dk_at dksX3_asked_1 21 rfl rfl)
theorem dX3_asked_47 : decode cX3_asked 47 = .ok (.ireturn, 1) := dk_172 (dk_at dksX3_asked_1 23 rfl rfl)
theorem dX3_asked_48 : decode cX3_asked 48 = .ok (.aload_n 0, 1) := dk_42 (dk_at dksX3_asked_2 0 rfl rfl)
theorem dX3_asked_49 : decode cX3_asked 49 = .ok (.ldc 109, 2) := dk_18 109 (dk_at dksX3_asked_2 1 rfl rfl)
theorem dX3_asked_51 : decode cX3_asked 51 = .ok (.invokevirtual 99, 3) := dk_182 0 99 (dk_at dksX3_asked_2 3 rfl rfl)
theorem dX3_asked_54 : decode cX3_asked 54 = .ok (.ifCond .eq 6, 3) := dk_153 0 6 (dk_at dksX3_asked_2 6 rfl rfl)
theorem dX3_asked_57 : decode cX3_asked 57 = .ok (.bipush 45, 2) := dk_16 45 (dk_at dksX3_asked_2 9 rfl rfl)
theorem dX3_asked_59 : decode cX3_asked 59 = .ok (.ireturn, 1) := dk_172 (dk_at dksX3_asked_2 11 rfl rfl)
theorem dX3_asked_60 : decode cX3_asked 60 = .ok (.aload_n 0, 1) := dk_42 (dk_at dksX3_asked_2 12 rfl rfl)
theorem dX3_asked_61 : decode cX3_asked 61 = .ok (.ldc 111, 2) := dk_18 111 (dk_at dksX3_asked_2 13 rfl rfl)
theorem dX3_asked_63 : decode cX3_asked 63 = .ok (.invokevirtual 99, 3) := dk_182 0 99 (dk_at dksX3_asked_2 15 rfl rfl)
theorem dX3_asked_66 : decode cX3_asked 66 = .ok (.ifCond .eq 6, 3) := dk_153 0 6 (dk_at dksX3_asked_2 18 rfl rfl)
theorem dX3_asked_69 : decode cX3_asked 69 = .ok (.bipush 46, 2) := dk_16 46 (dk_at dksX3_asked_2 21 rfl rfl)
theorem dX3_asked_71 : decode cX3_asked 71 = .ok (.ireturn, 1) := dk_172 (dk_at dksX3_asked_2 23 rfl rfl)
theorem dX3_asked_72 : decode cX3_asked 72 = .ok (.aload_n 0, 1) := dk_42 (dk_at dksX3_asked_3 0 rfl rfl)
theorem dX3_asked_73 : decode cX3_asked 73 = .ok (.ldc 113, 2) := dk_18 113 (dk_at dksX3_asked_3 1 rfl rfl)
theorem dX3_asked_75 : decode cX3_asked 75 = .ok (.invokevirtual 99, 3) := dk_182 0 99 (dk_at dksX3_asked_3 3 rfl rfl)
theorem dX3_asked_78 : decode cX3_asked 78 = .ok (.ifCond .eq 6, 3) := dk_153 0 6 (dk_at dksX3_asked_3 6 rfl rfl)
theorem dX3_asked_81 : decode cX3_asked 81 = .ok (.bipush 47, 2) := dk_16 47 (dk_at dksX3_asked_3 9 rfl rfl)
theorem dX3_asked_83 : decode cX3_asked 83 = .ok (.ireturn, 1) := dk_172 (dk_at dksX3_asked_3 11 rfl rfl)
theorem dX3_asked_84 : decode cX3_asked 84 = .ok (.aload_n 0, 1) := dk_42 (dk_at dksX3_asked_3 12 rfl rfl)
theorem dX3_asked_85 : decode cX3_asked 85 = .ok (.ldc 115, 2) := dk_18 115 (dk_at dksX3_asked_3 13 rfl rfl)
theorem dX3_asked_87 : decode cX3_asked 87 = .ok (.invokevirtual 99, 3) := dk_182 0 99 (dk_at dksX3_asked_3 15 rfl rfl)
theorem dX3_asked_90 : decode cX3_asked 90 = .ok (.ifCond .eq 6, 3) := dk_153 0 6 (dk_at dksX3_asked_3 18 rfl rfl)
theorem dX3_asked_93 : decode cX3_asked 93 = .ok (.bipush 48, 2) := dk_16 48 (dk_at dksX3_asked_3 21 rfl rfl)
theorem dX3_asked_95 : decode cX3_asked 95 = .ok (.ireturn, 1) := dk_172 (dk_at dksX3_asked_3 23 rfl rfl)
theorem dX3_asked_96 : decode cX3_asked 96 = .ok (.aload_n 0, 1) := dk_42 (dk_at dksX3_asked_4 0 rfl rfl)
theorem dX3_asked_97 : decode cX3_asked 97 = .ok (.ldc 117, 2) := dk_18 117 (dk_at dksX3_asked_4 1 rfl rfl)
theorem dX3_asked_99 : decode cX3_asked 99 = .ok (.invokevirtual 99, 3) := dk_182 0 99 (dk_at dksX3_asked_4 3 rfl rfl)
theorem dX3_asked_102 : decode cX3_asked 102 = .ok (.ifCond .eq 6, 3) := dk_153 0 6 (dk_at dksX3_asked_4 6 rfl rfl)
theorem dX3_asked_105 : decode cX3_asked 105 = .ok (.bipush 49, 2) := dk_16 49 (dk_at dksX3_asked_4 9 rfl rfl)
theorem dX3_asked_107 : decode cX3_asked 107 = .ok (.ireturn, 1) := dk_172 (dk_at dksX3_asked_4 11 rfl rfl)
theorem dX3_asked_108 : decode cX3_asked 108 = .ok (.aload_n 0, 1) := dk_42 (dk_at dksX3_asked_4 12 rfl rfl)
theorem dX3_asked_109 : decode cX3_asked 109 = .ok (.ldc 119, 2) := dk_18 119 (dk_at dksX3_asked_4 13 rfl rfl)
theorem dX3_asked_111 : decode cX3_asked 111 = .ok (.invokevirtual 99, 3) := dk_182 0 99 (dk_at dksX3_asked_4 15 rfl rfl)
theorem dX3_asked_114 : decode cX3_asked 114 = .ok (.ifCond .eq 8, 3) := dk_153 0 8 (dk_at dksX3_asked_4 18 rfl rfl)
theorem dX3_asked_117 : decode cX3_asked 117 = .ok (.bipush 50, 2) := dk_16 50 (dk_at dksX3_asked_4 21 rfl rfl)
theorem dX3_asked_119 : decode cX3_asked 119 = .ok (.goto 4, 3) := dk_167 0 4 (dk_at dksX3_asked_5 0 rfl rfl)
theorem dX3_asked_122 : decode cX3_asked 122 = .ok (.iconst 1, 1) := dk_4 (dk_at dksX3_asked_5 3 rfl rfl)
theorem dX3_asked_123 : decode cX3_asked 123 = .ok (.ireturn, 1) := dk_172 (dk_at dksX3_asked_5 4 rfl rfl)
abbrev cX3_statuteWord : ByteArray := prog_17_method_26_code
def yX3_statuteWord : MethodName := ⟨RX3, "statuteWord", "()I"⟩
def dkwX3_statuteWord_2 : List UInt8 := [42, 18, 144, 182, 0, 99, 153, 0, 8, 16, 11, 167, 0, 4, 4, 172]
abbrev dktX3_statuteWord_2 : List UInt8 := dkwX3_statuteWord_2 ++ []
def dkwX3_statuteWord_1 : List UInt8 := [42, 18, 140, 182, 0, 99, 153, 0, 6, 16, 9, 172, 42, 18, 142, 182, 0, 99, 153, 0, 6, 16, 10, 172]
abbrev dktX3_statuteWord_1 : List UInt8 := dkwX3_statuteWord_1 ++ dktX3_statuteWord_2
def dkwX3_statuteWord_0 : List UInt8 := [42, 18, 103, 182, 0, 99, 153, 0, 6, 16, 7, 172, 42, 18, 138, 182, 0, 99, 153, 0, 6, 16, 8, 172]
abbrev dktX3_statuteWord_0 : List UInt8 := dkwX3_statuteWord_0 ++ dktX3_statuteWord_1
theorem dksX3_statuteWord_0 : cX3_statuteWord.data.toList.drop 0 = dktX3_statuteWord_0 := by decide +kernel
theorem dksX3_statuteWord_1 : cX3_statuteWord.data.toList.drop 24 = dktX3_statuteWord_1 := dk_seg dksX3_statuteWord_0 24 rfl rfl
theorem dksX3_statuteWord_2 : cX3_statuteWord.data.toList.drop 48 = dktX3_statuteWord_2 := dk_seg dksX3_statuteWord_1 24 rfl rfl
theorem dX3_statuteWord_0 : decode cX3_statuteWord 0 = .ok (.aload_n 0, 1) := dk_42 (dk_at dksX3_statuteWord_0 0 rfl rfl)
theorem dX3_statuteWord_1 : decode cX3_statuteWord 1 = .ok (.ldc 103, 2) := dk_18 103 (dk_at dksX3_statuteWord_0 1 rfl rfl)
theorem dX3_statuteWord_3 : decode cX3_statuteWord 3 = .ok (.invokevirtual 99, 3) := dk_182 0 99 (dk_at dksX3_statuteWord_0 3 rfl rfl)
theorem dX3_statuteWord_6 : decode cX3_statuteWord 6 = .ok (.ifCond .eq 6, 3) := dk_153 0 6 (dk_at dksX3_statuteWord_0 6 rfl rfl)
theorem dX3_statuteWord_9 : decode cX3_statuteWord 9 = .ok (.bipush 7, 2) := dk_16 7 (dk_at dksX3_statuteWord_0 9 rfl rfl)
theorem dX3_statuteWord_11 : decode cX3_statuteWord 11 = .ok (.ireturn, 1) := dk_172 (dk_at dksX3_statuteWord_0 11 rfl rfl)
theorem dX3_statuteWord_12 : decode cX3_statuteWord 12 = .ok (.aload_n 0, 1) := dk_42 (dk_at dksX3_statuteWord_0 12 rfl rfl)
theorem dX3_statuteWord_13 : decode cX3_statuteWord 13 = .ok (.ldc 138, 2) := dk_18 138 (dk_at dksX3_statuteWord_0 13 rfl rfl)
theorem dX3_statuteWord_15 : decode cX3_statuteWord 15 = .ok (.invokevirtual 99, 3) := dk_182 0 99 (dk_at dksX3_statuteWord_0 15 rfl rfl)
theorem dX3_statuteWord_18 : decode cX3_statuteWord 18 = .ok (.ifCond .eq 6, 3) := dk_153 0 6 (dk_at dksX3_statuteWord_0 18 rfl rfl)
theorem dX3_statuteWord_21 : decode cX3_statuteWord 21 = .ok (.bipush 8, 2) := dk_16 8 (dk_at dksX3_statuteWord_0 21 rfl rfl)
theorem dX3_statuteWord_23 : decode cX3_statuteWord 23 = .ok (.ireturn, 1) := dk_172 (dk_at dksX3_statuteWord_0 23 rfl rfl)
theorem dX3_statuteWord_24 : decode cX3_statuteWord 24 = .ok (.aload_n 0, 1) := dk_42 (dk_at dksX3_statuteWord_1 0 rfl rfl)
theorem dX3_statuteWord_25 : decode cX3_statuteWord 25 = .ok (.ldc 140, 2) := dk_18 140 (dk_at dksX3_statuteWord_1 1 rfl rfl)
theorem dX3_statuteWord_27 : decode cX3_statuteWord 27 = .ok (.invokevirtual 99, 3) := dk_182 0 99 (dk_at dksX3_statuteWord_1 3 rfl rfl)
theorem dX3_statuteWord_30 : decode cX3_statuteWord 30 = .ok (.ifCond .eq 6, 3) := dk_153 0 6 (dk_at dksX3_statuteWord_1 6 rfl rfl)
theorem dX3_statuteWord_33 : decode cX3_statuteWord 33 = .ok (.bipush 9, 2) := dk_16 9 (dk_at dksX3_statuteWord_1 9 rfl rfl)
theorem dX3_statuteWord_35 : decode cX3_statuteWord 35 = .ok (.ireturn, 1) := dk_172 (dk_at dksX3_statuteWord_1 11 rfl rfl)
theorem dX3_statuteWord_36 : decode cX3_statuteWord 36 = .ok (.aload_n 0, 1) := dk_42 (dk_at dksX3_statuteWord_1 12 rfl rfl)
theorem dX3_statuteWord_37 : decode cX3_statuteWord 37 = .ok (.ldc 142, 2) := dk_18 142 (dk_at dksX3_statuteWord_1 13 rfl rfl)
theorem dX3_statuteWord_39 : decode cX3_statuteWord 39 = .ok (.invokevirtual 99, 3) := dk_182 0 99 (dk_at dksX3_statuteWord_1 15 rfl rfl)
theorem dX3_statuteWord_42 : decode cX3_statuteWord 42 = .ok (.ifCond .eq 6, 3) := dk_153 0 6 (dk_at dksX3_statuteWord_1 18 rfl rfl)
theorem dX3_statuteWord_45 : decode cX3_statuteWord 45 = .ok (.bipush 10, 2) := dk_16 10 (dk_at dksX3_statuteWord_1 21 rfl rfl)
theorem dX3_statuteWord_47 : decode cX3_statuteWord 47 = .ok (.ireturn, 1) := dk_172 (dk_at dksX3_statuteWord_1 23 rfl rfl)
theorem dX3_statuteWord_48 : decode cX3_statuteWord 48 = .ok (.aload_n 0, 1) := dk_42 (dk_at dksX3_statuteWord_2 0 rfl rfl)
theorem dX3_statuteWord_49 : decode cX3_statuteWord 49 = .ok (.ldc 144, 2) := dk_18 144 (dk_at dksX3_statuteWord_2 1 rfl rfl)
theorem dX3_statuteWord_51 : decode cX3_statuteWord 51 = .ok (.invokevirtual 99, 3) := dk_182 0 99 (dk_at dksX3_statuteWord_2 3 rfl rfl)
theorem dX3_statuteWord_54 : decode cX3_statuteWord 54 = .ok (.ifCond .eq 8, 3) := dk_153 0 8 (dk_at dksX3_statuteWord_2 6 rfl rfl)
theorem dX3_statuteWord_57 : decode cX3_statuteWord 57 = .ok (.bipush 11, 2) := dk_16 11 (dk_at dksX3_statuteWord_2 9 rfl rfl)
theorem dX3_statuteWord_59 : decode cX3_statuteWord 59 = .ok (.goto 4, 3) := dk_167 0 4 (dk_at dksX3_statuteWord_2 11 rfl rfl)
theorem dX3_statuteWord_62 : decode cX3_statuteWord 62 = .ok (.iconst 1, 1) := dk_4 (dk_at dksX3_statuteWord_2 14 rfl rfl)
theorem dX3_statuteWord_63 : decode cX3_statuteWord 63 = .ok (.ireturn, 1) := dk_172 (dk_at dksX3_statuteWord_2 15 rfl rfl)
abbrev cX3_isDigit : ByteArray := prog_17_method_22_code
def yX3_isDigit : MethodName := ⟨RX3, "isDigit", "(I)Z"⟩
def dkwX3_isDigit_0 : List UInt8 := [26, 16, 48, 16, 57, 184, 0, 56, 172]
abbrev dktX3_isDigit_0 : List UInt8 := dkwX3_isDigit_0 ++ []
theorem dksX3_isDigit_0 : cX3_isDigit.data.toList.drop 0 = dktX3_isDigit_0 := by decide +kernel
theorem dX3_isDigit_0 : decode cX3_isDigit 0 = .ok (.iload_n 0, 1) := dk_26 (dk_at dksX3_isDigit_0 0 rfl rfl)
theorem dX3_isDigit_1 : decode cX3_isDigit 1 = .ok (.bipush 48, 2) := dk_16 48 (dk_at dksX3_isDigit_0 1 rfl rfl)
theorem dX3_isDigit_3 : decode cX3_isDigit 3 = .ok (.bipush 57, 2) := dk_16 57 (dk_at dksX3_isDigit_0 3 rfl rfl)
theorem dX3_isDigit_5 : decode cX3_isDigit 5 = .ok (.invokestatic 56, 3) := dk_184 0 56 (dk_at dksX3_isDigit_0 5 rfl rfl)
theorem dX3_isDigit_8 : decode cX3_isDigit 8 = .ok (.ireturn, 1) := dk_172 (dk_at dksX3_isDigit_0 8 rfl rfl)
abbrev cX3_readsLaw : ByteArray := prog_17_method_40_code
def yX3_readsLaw : MethodName := ⟨RX3, "readsLaw", "()Z"⟩
def dkwX3_readsLaw_2 : List UInt8 := [167, 255, 222, 27, 172]
abbrev dktX3_readsLaw_2 : List UInt8 := dkwX3_readsLaw_2 ++ []
def dkwX3_readsLaw_1 : List UInt8 := [182, 0, 227, 60, 42, 89, 180, 0, 224, 27, 153, 0, 7, 4, 167, 0, 4, 3, 96, 181, 0, 224]
abbrev dktX3_readsLaw_1 : List UInt8 := dkwX3_readsLaw_1 ++ dktX3_readsLaw_2
def dkwX3_readsLaw_0 : List UInt8 := [42, 3, 181, 0, 224, 42, 3, 181, 0, 189, 4, 60, 27, 153, 0, 36, 42, 180, 0, 162, 153, 0, 29, 42]
abbrev dktX3_readsLaw_0 : List UInt8 := dkwX3_readsLaw_0 ++ dktX3_readsLaw_1
theorem dksX3_readsLaw_0 : cX3_readsLaw.data.toList.drop 0 = dktX3_readsLaw_0 := by decide +kernel
theorem dksX3_readsLaw_1 : cX3_readsLaw.data.toList.drop 24 = dktX3_readsLaw_1 := dk_seg dksX3_readsLaw_0 24 rfl rfl
theorem dksX3_readsLaw_2 : cX3_readsLaw.data.toList.drop 46 = dktX3_readsLaw_2 := dk_seg dksX3_readsLaw_1 22 rfl rfl
theorem dX3_readsLaw_0 : decode cX3_readsLaw 0 = .ok (.aload_n 0, 1) := dk_42 (dk_at dksX3_readsLaw_0 0 rfl rfl)
theorem dX3_readsLaw_1 : decode cX3_readsLaw 1 = .ok (.iconst 0, 1) := dk_3 (dk_at dksX3_readsLaw_0 1 rfl rfl)
theorem dX3_readsLaw_2 : decode cX3_readsLaw 2 = .ok (.putfield 224, 3) := dk_181 0 224 (dk_at dksX3_readsLaw_0 2 rfl rfl)
theorem dX3_readsLaw_5 : decode cX3_readsLaw 5 = .ok (.aload_n 0, 1) := dk_42 (dk_at dksX3_readsLaw_0 5 rfl rfl)
theorem dX3_readsLaw_6 : decode cX3_readsLaw 6 = .ok (.iconst 0, 1) := dk_3 (dk_at dksX3_readsLaw_0 6 rfl rfl)
theorem dX3_readsLaw_7 : decode cX3_readsLaw 7 = .ok (.putfield 189, 3) := dk_181 0 189 (dk_at dksX3_readsLaw_0 7 rfl rfl)
theorem dX3_readsLaw_10 : decode cX3_readsLaw 10 = .ok (.iconst 1, 1) := dk_4 (dk_at dksX3_readsLaw_0 10 rfl rfl)
theorem dX3_readsLaw_11 : decode cX3_readsLaw 11 = .ok (.istore_n 1, 1) := dk_60 (dk_at dksX3_readsLaw_0 11 rfl rfl)
theorem dX3_readsLaw_12 : decode cX3_readsLaw 12 = .ok (.iload_n 1, 1) := dk_27 (dk_at dksX3_readsLaw_0 12 rfl rfl)
theorem dX3_readsLaw_13 : decode cX3_readsLaw 13 = .ok (.ifCond .eq 36, 3) := dk_153 0 36 (dk_at dksX3_readsLaw_0 13 rfl rfl)
theorem dX3_readsLaw_16 : decode cX3_readsLaw 16 = .ok (.aload_n 0, 1) := dk_42 (dk_at dksX3_readsLaw_0 16 rfl rfl)
theorem dX3_readsLaw_17 : decode cX3_readsLaw 17 = .ok (.getfield 162, 3) := dk_180 0 162 (dk_at dksX3_readsLaw_0 17 rfl rfl)
theorem dX3_readsLaw_20 : decode cX3_readsLaw 20 = .ok (.ifCond .eq 29, 3) := dk_153 0 29 (dk_at dksX3_readsLaw_0 20 rfl rfl)
theorem dX3_readsLaw_23 : decode cX3_readsLaw 23 = .ok (.aload_n 0, 1) := dk_42 (dk_at dksX3_readsLaw_0 23 rfl rfl)
theorem dX3_readsLaw_24 : decode cX3_readsLaw 24 = .ok (.invokevirtual 227, 3) := dk_182 0 227 (dk_at dksX3_readsLaw_1 0 rfl rfl)
theorem dX3_readsLaw_27 : decode cX3_readsLaw 27 = .ok (.istore_n 1, 1) := dk_60 (dk_at dksX3_readsLaw_1 3 rfl rfl)
theorem dX3_readsLaw_28 : decode cX3_readsLaw 28 = .ok (.aload_n 0, 1) := dk_42 (dk_at dksX3_readsLaw_1 4 rfl rfl)
theorem dX3_readsLaw_29 : decode cX3_readsLaw 29 = .ok (.dup, 1) := dk_89 (dk_at dksX3_readsLaw_1 5 rfl rfl)
theorem dX3_readsLaw_30 : decode cX3_readsLaw 30 = .ok (.getfield 224, 3) := dk_180 0 224 (dk_at dksX3_readsLaw_1 6 rfl rfl)
theorem dX3_readsLaw_33 : decode cX3_readsLaw 33 = .ok (.iload_n 1, 1) := dk_27 (dk_at dksX3_readsLaw_1 9 rfl rfl)
theorem dX3_readsLaw_34 : decode cX3_readsLaw 34 = .ok (.ifCond .eq 7, 3) := dk_153 0 7 (dk_at dksX3_readsLaw_1 10 rfl rfl)
theorem dX3_readsLaw_37 : decode cX3_readsLaw 37 = .ok (.iconst 1, 1) := dk_4 (dk_at dksX3_readsLaw_1 13 rfl rfl)
theorem dX3_readsLaw_38 : decode cX3_readsLaw 38 = .ok (.goto 4, 3) := dk_167 0 4 (dk_at dksX3_readsLaw_1 14 rfl rfl)
theorem dX3_readsLaw_41 : decode cX3_readsLaw 41 = .ok (.iconst 0, 1) := dk_3 (dk_at dksX3_readsLaw_1 17 rfl rfl)
theorem dX3_readsLaw_42 : decode cX3_readsLaw 42 = .ok (.iadd, 1) := dk_96 (dk_at dksX3_readsLaw_1 18 rfl rfl)
theorem dX3_readsLaw_43 : decode cX3_readsLaw 43 = .ok (.putfield 224, 3) := dk_181 0 224 (dk_at dksX3_readsLaw_1 19 rfl rfl)
theorem dX3_readsLaw_46 : decode cX3_readsLaw 46 = .ok (.goto (-34), 3) := dk_167 255 222 (dk_at dksX3_readsLaw_2 0 rfl rfl)
theorem dX3_readsLaw_49 : decode cX3_readsLaw 49 = .ok (.iload_n 1, 1) := dk_27 (dk_at dksX3_readsLaw_2 3 rfl rfl)
theorem dX3_readsLaw_50 : decode cX3_readsLaw 50 = .ok (.ireturn, 1) := dk_172 (dk_at dksX3_readsLaw_2 4 rfl rfl)
abbrev cX3_aLine : ByteArray := prog_17_method_39_code
def yX3_aLine : MethodName := ⟨RX3, "aLine", "()Z"⟩
def dkwX3_aLine_6 : List UInt8 := [17, 0, 159, 182, 0, 218, 172]
abbrev dktX3_aLine_6 : List UInt8 := dkwX3_aLine_6 ++ []
def dkwX3_aLine_5 : List UInt8 := [154, 0, 5, 3, 172, 42, 180, 0, 22, 7, 42, 180, 0, 224, 104, 5, 96, 42, 180, 0, 189, 79, 42]
abbrev dktX3_aLine_5 : List UInt8 := dkwX3_aLine_5 ++ dktX3_aLine_6
def dkwX3_aLine_4 : List UInt8 := [104, 4, 96, 42, 180, 0, 189, 79, 42, 180, 0, 162, 6, 160, 0, 16, 42, 182, 0, 186, 42, 182, 0, 215]
abbrev dktX3_aLine_4 : List UInt8 := dkwX3_aLine_4 ++ dktX3_aLine_5
def dkwX3_aLine_3 : List UInt8 := [104, 42, 180, 0, 189, 79, 42, 182, 0, 221, 154, 0, 5, 3, 172, 42, 180, 0, 22, 7, 42, 180, 0, 224]
abbrev dktX3_aLine_3 : List UInt8 := dkwX3_aLine_3 ++ dktX3_aLine_4
def dkwX3_aLine_2 : List UInt8 := [180, 0, 224, 104, 6, 96, 42, 180, 0, 162, 79, 42, 182, 0, 186, 42, 180, 0, 22, 7, 42, 180, 0, 224]
abbrev dktX3_aLine_2 : List UInt8 := dkwX3_aLine_2 ++ dktX3_aLine_3
def dkwX3_aLine_1 : List UInt8 := [16, 16, 160, 0, 9, 42, 6, 182, 0, 183, 172, 42, 3, 181, 0, 192, 42, 180, 0, 22, 7, 42]
abbrev dktX3_aLine_1 : List UInt8 := dkwX3_aLine_1 ++ dktX3_aLine_2
def dkwX3_aLine_0 : List UInt8 := [42, 180, 0, 162, 16, 20, 16, 22, 184, 0, 56, 154, 0, 9, 42, 4, 182, 0, 183, 172, 42, 180, 0, 224]
abbrev dktX3_aLine_0 : List UInt8 := dkwX3_aLine_0 ++ dktX3_aLine_1
theorem dksX3_aLine_0 : cX3_aLine.data.toList.drop 0 = dktX3_aLine_0 := by decide +kernel
theorem dksX3_aLine_1 : cX3_aLine.data.toList.drop 24 = dktX3_aLine_1 := dk_seg dksX3_aLine_0 24 rfl rfl
theorem dksX3_aLine_2 : cX3_aLine.data.toList.drop 46 = dktX3_aLine_2 := dk_seg dksX3_aLine_1 22 rfl rfl
theorem dksX3_aLine_3 : cX3_aLine.data.toList.drop 70 = dktX3_aLine_3 := dk_seg dksX3_aLine_2 24 rfl rfl
theorem dksX3_aLine_4 : cX3_aLine.data.toList.drop 94 = dktX3_aLine_4 := dk_seg dksX3_aLine_3 24 rfl rfl
theorem dksX3_aLine_5 : cX3_aLine.data.toList.drop 118 = dktX3_aLine_5 := dk_seg dksX3_aLine_4 24 rfl rfl
theorem dksX3_aLine_6 : cX3_aLine.data.toList.drop 141 = dktX3_aLine_6 := dk_seg dksX3_aLine_5 23 rfl rfl
theorem dX3_aLine_0 : decode cX3_aLine 0 = .ok (.aload_n 0, 1) := dk_42 (dk_at dksX3_aLine_0 0 rfl rfl)
theorem dX3_aLine_1 : decode cX3_aLine 1 = .ok (.getfield 162, 3) := dk_180 0 162 (dk_at dksX3_aLine_0 1 rfl rfl)
theorem dX3_aLine_4 : decode cX3_aLine 4 = .ok (.bipush 20, 2) := dk_16 20 (dk_at dksX3_aLine_0 4 rfl rfl)
theorem dX3_aLine_6 : decode cX3_aLine 6 = .ok (.bipush 22, 2) := dk_16 22 (dk_at dksX3_aLine_0 6 rfl rfl)
theorem dX3_aLine_8 : decode cX3_aLine 8 = .ok (.invokestatic 56, 3) := dk_184 0 56 (dk_at dksX3_aLine_0 8 rfl rfl)
theorem dX3_aLine_11 : decode cX3_aLine 11 = .ok (.ifCond .ne 9, 3) := dk_154 0 9 (dk_at dksX3_aLine_0 11 rfl rfl)
theorem dX3_aLine_14 : decode cX3_aLine 14 = .ok (.aload_n 0, 1) := dk_42 (dk_at dksX3_aLine_0 14 rfl rfl)
theorem dX3_aLine_15 : decode cX3_aLine 15 = .ok (.iconst 1, 1) := dk_4 (dk_at dksX3_aLine_0 15 rfl rfl)
theorem dX3_aLine_16 : decode cX3_aLine 16 = .ok (.invokevirtual 183, 3) := dk_182 0 183 (dk_at dksX3_aLine_0 16 rfl rfl)
theorem dX3_aLine_19 : decode cX3_aLine 19 = .ok (.ireturn, 1) := dk_172 (dk_at dksX3_aLine_0 19 rfl rfl)
theorem dX3_aLine_20 : decode cX3_aLine 20 = .ok (.aload_n 0, 1) := dk_42 (dk_at dksX3_aLine_0 20 rfl rfl)
theorem dX3_aLine_21 : decode cX3_aLine 21 = .ok (.getfield 224, 3) := dk_180 0 224 (dk_at dksX3_aLine_0 21 rfl rfl)
theorem dX3_aLine_24 : decode cX3_aLine 24 = .ok (.bipush 16, 2) := dk_16 16 (dk_at dksX3_aLine_1 0 rfl rfl)
theorem dX3_aLine_26 : decode cX3_aLine 26 = .ok (.if_icmp .ne 9, 3) := dk_160 0 9 (dk_at dksX3_aLine_1 2 rfl rfl)
theorem dX3_aLine_29 : decode cX3_aLine 29 = .ok (.aload_n 0, 1) := dk_42 (dk_at dksX3_aLine_1 5 rfl rfl)
theorem dX3_aLine_30 : decode cX3_aLine 30 = .ok (.iconst 3, 1) := dk_6 (dk_at dksX3_aLine_1 6 rfl rfl)
theorem dX3_aLine_31 : decode cX3_aLine 31 = .ok (.invokevirtual 183, 3) := dk_182 0 183 (dk_at dksX3_aLine_1 7 rfl rfl)
theorem dX3_aLine_34 : decode cX3_aLine 34 = .ok (.ireturn, 1) := dk_172 (dk_at dksX3_aLine_1 10 rfl rfl)
theorem dX3_aLine_35 : decode cX3_aLine 35 = .ok (.aload_n 0, 1) := dk_42 (dk_at dksX3_aLine_1 11 rfl rfl)
theorem dX3_aLine_36 : decode cX3_aLine 36 = .ok (.iconst 0, 1) := dk_3 (dk_at dksX3_aLine_1 12 rfl rfl)
theorem dX3_aLine_37 : decode cX3_aLine 37 = .ok (.putfield 192, 3) := dk_181 0 192 (dk_at dksX3_aLine_1 13 rfl rfl)
theorem dX3_aLine_40 : decode cX3_aLine 40 = .ok (.aload_n 0, 1) := dk_42 (dk_at dksX3_aLine_1 16 rfl rfl)
theorem dX3_aLine_41 : decode cX3_aLine 41 = .ok (.getfield 22, 3) := dk_180 0 22 (dk_at dksX3_aLine_1 17 rfl rfl)
theorem dX3_aLine_44 : decode cX3_aLine 44 = .ok (.iconst 4, 1) := dk_7 (dk_at dksX3_aLine_1 20 rfl rfl)
theorem dX3_aLine_45 : decode cX3_aLine 45 = .ok (.aload_n 0, 1) := dk_42 (dk_at dksX3_aLine_1 21 rfl rfl)
theorem dX3_aLine_46 : decode cX3_aLine 46 = .ok (.getfield 224, 3) := dk_180 0 224 (dk_at dksX3_aLine_2 0 rfl rfl)
theorem dX3_aLine_49 : decode cX3_aLine 49 = .ok (.imul, 1) := dk_104 (dk_at dksX3_aLine_2 3 rfl rfl)
theorem dX3_aLine_50 : decode cX3_aLine 50 = .ok (.iconst 3, 1) := dk_6 (dk_at dksX3_aLine_2 4 rfl rfl)
theorem dX3_aLine_51 : decode cX3_aLine 51 = .ok (.iadd, 1) := dk_96 (dk_at dksX3_aLine_2 5 rfl rfl)
theorem dX3_aLine_52 : decode cX3_aLine 52 = .ok (.aload_n 0, 1) := dk_42 (dk_at dksX3_aLine_2 6 rfl rfl)
theorem dX3_aLine_53 : decode cX3_aLine 53 = .ok (.getfield 162, 3) := dk_180 0 162 (dk_at dksX3_aLine_2 7 rfl rfl)
theorem dX3_aLine_56 : decode cX3_aLine 56 = .ok (.iastore, 1) := dk_79 (dk_at dksX3_aLine_2 10 rfl rfl)
theorem dX3_aLine_57 : decode cX3_aLine 57 = .ok (.aload_n 0, 1) := dk_42 (dk_at dksX3_aLine_2 11 rfl rfl)
theorem dX3_aLine_58 : decode cX3_aLine 58 = .ok (.invokevirtual 186, 3) := dk_182 0 186 (dk_at dksX3_aLine_2 12 rfl rfl)
theorem dX3_aLine_61 : decode cX3_aLine 61 = .ok (.aload_n 0, 1) := dk_42 (dk_at dksX3_aLine_2 15 rfl rfl)
theorem dX3_aLine_62 : decode cX3_aLine 62 = .ok (.getfield 22, 3) := dk_180 0 22 (dk_at dksX3_aLine_2 16 rfl rfl)
theorem dX3_aLine_65 : decode cX3_aLine 65 = .ok (.iconst 4, 1) := dk_7 (dk_at dksX3_aLine_2 19 rfl rfl)
theorem dX3_aLine_66 : decode cX3_aLine 66 = .ok (.aload_n 0, 1) := dk_42 (dk_at dksX3_aLine_2 20 rfl rfl)
theorem dX3_aLine_67 : decode cX3_aLine 67 = .ok (.getfield 224, 3) := dk_180 0 224 (dk_at dksX3_aLine_2 21 rfl rfl)
theorem dX3_aLine_70 : decode cX3_aLine 70 = .ok (.imul, 1) := dk_104 (dk_at dksX3_aLine_3 0 rfl rfl)
theorem dX3_aLine_71 : decode cX3_aLine 71 = .ok (.aload_n 0, 1) := dk_42 (dk_at dksX3_aLine_3 1 rfl rfl)
theorem dX3_aLine_72 : decode cX3_aLine 72 = .ok (.getfield 189, 3) := dk_180 0 189 (dk_at dksX3_aLine_3 2 rfl rfl)
theorem dX3_aLine_75 : decode cX3_aLine 75 = .ok (.iastore, 1) := dk_79 (dk_at dksX3_aLine_3 5 rfl rfl)
theorem dX3_aLine_76 : decode cX3_aLine 76 = .ok (.aload_n 0, 1) := dk_42 (dk_at dksX3_aLine_3 6 rfl rfl)
theorem dX3_aLine_77 : decode cX3_aLine 77 = .ok (.invokevirtual 221, 3) := dk_182 0 221 (dk_at dksX3_aLine_3 7 rfl rfl)
theorem dX3_aLine_80 : decode cX3_aLine 80 = .ok (.ifCond .ne 5, 3) := dk_154 0 5 (dk_at dksX3_aLine_3 10 rfl rfl)
theorem dX3_aLine_83 : decode cX3_aLine 83 = .ok (.iconst 0, 1) := dk_3 (dk_at dksX3_aLine_3 13 rfl rfl)
theorem dX3_aLine_84 : decode cX3_aLine 84 = .ok (.ireturn, 1) := dk_172 (dk_at dksX3_aLine_3 14 rfl rfl)
theorem dX3_aLine_85 : decode cX3_aLine 85 = .ok (.aload_n 0, 1) := dk_42 (dk_at dksX3_aLine_3 15 rfl rfl)
theorem dX3_aLine_86 : decode cX3_aLine 86 = .ok (.getfield 22, 3) := dk_180 0 22 (dk_at dksX3_aLine_3 16 rfl rfl)
theorem dX3_aLine_89 : decode cX3_aLine 89 = .ok (.iconst 4, 1) := dk_7 (dk_at dksX3_aLine_3 19 rfl rfl)
theorem dX3_aLine_90 : decode cX3_aLine 90 = .ok (.aload_n 0, 1) := dk_42 (dk_at dksX3_aLine_3 20 rfl rfl)
theorem dX3_aLine_91 : decode cX3_aLine 91 = .ok (.getfield 224, 3) := dk_180 0 224 (dk_at dksX3_aLine_3 21 rfl rfl)
theorem dX3_aLine_94 : decode cX3_aLine 94 = .ok (.imul, 1) := dk_104 (dk_at dksX3_aLine_4 0 rfl rfl)
theorem dX3_aLine_95 : decode cX3_aLine 95 = .ok (.iconst 1, 1) := dk_4 (dk_at dksX3_aLine_4 1 rfl rfl)
theorem dX3_aLine_96 : decode cX3_aLine 96 = .ok (.iadd, 1) := dk_96 (dk_at dksX3_aLine_4 2 rfl rfl)
theorem dX3_aLine_97 : decode cX3_aLine 97 = .ok (.aload_n 0, 1) := dk_42 (dk_at dksX3_aLine_4 3 rfl rfl)
theorem dX3_aLine_98 : decode cX3_aLine 98 = .ok (.getfield 189, 3) := dk_180 0 189 (dk_at dksX3_aLine_4 4 rfl rfl)
theorem dX3_aLine_101 : decode cX3_aLine 101 = .ok (.iastore, 1) := dk_79 (dk_at dksX3_aLine_4 7 rfl rfl)
theorem dX3_aLine_102 : decode cX3_aLine 102 = .ok (.aload_n 0, 1) := dk_42 (dk_at dksX3_aLine_4 8 rfl rfl)
theorem dX3_aLine_103 : decode cX3_aLine 103 = .ok (.getfield 162, 3) := dk_180 0 162 (dk_at dksX3_aLine_4 9 rfl rfl)
theorem dX3_aLine_106 : decode cX3_aLine 106 = .ok (.iconst 3, 1) := dk_6 (dk_at dksX3_aLine_4 12 rfl rfl)
theorem dX3_aLine_107 : decode cX3_aLine 107 = .ok (.if_icmp .ne 16, 3) := dk_160 0 16 (dk_at dksX3_aLine_4 13 rfl rfl)
theorem dX3_aLine_110 : decode cX3_aLine 110 = .ok (.aload_n 0, 1) := dk_42 (dk_at dksX3_aLine_4 16 rfl rfl)
theorem dX3_aLine_111 : decode cX3_aLine 111 = .ok (.invokevirtual 186, 3) := dk_182 0 186 (dk_at dksX3_aLine_4 17 rfl rfl)
theorem dX3_aLine_114 : decode cX3_aLine 114 = .ok (.aload_n 0, 1) := dk_42 (dk_at dksX3_aLine_4 20 rfl rfl)
theorem dX3_aLine_115 : decode cX3_aLine 115 = .ok (.invokevirtual 215, 3) := dk_182 0 215 (dk_at dksX3_aLine_4 21 rfl rfl)
theorem dX3_aLine_118 : decode cX3_aLine 118 = .ok (.ifCond .ne 5, 3) := dk_154 0 5 (dk_at dksX3_aLine_5 0 rfl rfl)
theorem dX3_aLine_121 : decode cX3_aLine 121 = .ok (.iconst 0, 1) := dk_3 (dk_at dksX3_aLine_5 3 rfl rfl)
theorem dX3_aLine_122 : decode cX3_aLine 122 = .ok (.ireturn, 1) := dk_172 (dk_at dksX3_aLine_5 4 rfl rfl)
theorem dX3_aLine_123 : decode cX3_aLine 123 = .ok (.aload_n 0, 1) := dk_42 (dk_at dksX3_aLine_5 5 rfl rfl)
theorem dX3_aLine_124 : decode cX3_aLine 124 = .ok (.getfield 22, 3) := dk_180 0 22 (dk_at dksX3_aLine_5 6 rfl rfl)
theorem dX3_aLine_127 : decode cX3_aLine 127 = .ok (.iconst 4, 1) := dk_7 (dk_at dksX3_aLine_5 9 rfl rfl)
theorem dX3_aLine_128 : decode cX3_aLine 128 = .ok (.aload_n 0, 1) := dk_42 (dk_at dksX3_aLine_5 10 rfl rfl)
theorem dX3_aLine_129 : decode cX3_aLine 129 = .ok (.getfield 224, 3) := dk_180 0 224 (dk_at dksX3_aLine_5 11 rfl rfl)
theorem dX3_aLine_132 : decode cX3_aLine 132 = .ok (.imul, 1) := dk_104 (dk_at dksX3_aLine_5 14 rfl rfl)
theorem dX3_aLine_133 : decode cX3_aLine 133 = .ok (.iconst 2, 1) := dk_5 (dk_at dksX3_aLine_5 15 rfl rfl)
theorem dX3_aLine_134 : decode cX3_aLine 134 = .ok (.iadd, 1) := dk_96 (dk_at dksX3_aLine_5 16 rfl rfl)
theorem dX3_aLine_135 : decode cX3_aLine 135 = .ok (.aload_n 0, 1) := dk_42 (dk_at dksX3_aLine_5 17 rfl rfl)
theorem dX3_aLine_136 : decode cX3_aLine 136 = .ok (.getfield 189, 3) := dk_180 0 189 (dk_at dksX3_aLine_5 18 rfl rfl)
theorem dX3_aLine_139 : decode cX3_aLine 139 = .ok (.iastore, 1) := dk_79 (dk_at dksX3_aLine_5 21 rfl rfl)
theorem dX3_aLine_140 : decode cX3_aLine 140 = .ok (.aload_n 0, 1) := dk_42 (dk_at dksX3_aLine_5 22 rfl rfl)
theorem dX3_aLine_141 : decode cX3_aLine 141 = .ok (.sipush 159, 3) := dk_17 0 159 (dk_at dksX3_aLine_6 0 rfl rfl)
theorem dX3_aLine_144 : decode cX3_aLine 144 = .ok (.invokevirtual 218, 3) := dk_182 0 218 (dk_at dksX3_aLine_6 3 rfl rfl)
theorem dX3_aLine_147 : decode cX3_aLine 147 = .ok (.ireturn, 1) := dk_172 (dk_at dksX3_aLine_6 6 rfl rfl)
abbrev cX3_bad : ByteArray := prog_17_method_29_code
def yX3_bad : MethodName := ⟨RX3, "bad", "(I)Z"⟩
def dkwX3_bad_0 : List UInt8 := [42, 27, 181, 0, 177, 42, 42, 180, 0, 84, 181, 0, 180, 3, 172]
abbrev dktX3_bad_0 : List UInt8 := dkwX3_bad_0 ++ []
theorem dksX3_bad_0 : cX3_bad.data.toList.drop 0 = dktX3_bad_0 := by decide +kernel
theorem dX3_bad_0 : decode cX3_bad 0 = .ok (.aload_n 0, 1) := dk_42 (dk_at dksX3_bad_0 0 rfl rfl)
theorem dX3_bad_1 : decode cX3_bad 1 = .ok (.iload_n 1, 1) := dk_27 (dk_at dksX3_bad_0 1 rfl rfl)
theorem dX3_bad_2 : decode cX3_bad 2 = .ok (.putfield 177, 3) := dk_181 0 177 (dk_at dksX3_bad_0 2 rfl rfl)
theorem dX3_bad_5 : decode cX3_bad 5 = .ok (.aload_n 0, 1) := dk_42 (dk_at dksX3_bad_0 5 rfl rfl)
theorem dX3_bad_6 : decode cX3_bad 6 = .ok (.aload_n 0, 1) := dk_42 (dk_at dksX3_bad_0 6 rfl rfl)
theorem dX3_bad_7 : decode cX3_bad 7 = .ok (.getfield 84, 3) := dk_180 0 84 (dk_at dksX3_bad_0 7 rfl rfl)
theorem dX3_bad_10 : decode cX3_bad 10 = .ok (.putfield 180, 3) := dk_181 0 180 (dk_at dksX3_bad_0 10 rfl rfl)
theorem dX3_bad_13 : decode cX3_bad 13 = .ok (.iconst 0, 1) := dk_3 (dk_at dksX3_bad_0 13 rfl rfl)
theorem dX3_bad_14 : decode cX3_bad 14 = .ok (.ireturn, 1) := dk_172 (dk_at dksX3_bad_0 14 rfl rfl)
abbrev cX3_sumUp : ByteArray := prog_17_method_33_code
def yX3_sumUp : MethodName := ⟨RX3, "sumUp", "()Z"⟩
def dkwX3_sumUp_2 : List UInt8 := [42, 182, 0, 186, 42, 182, 0, 195, 154, 0, 5, 3, 172, 42, 27, 3, 182, 0, 199, 167, 255, 199, 4, 172]
abbrev dktX3_sumUp_2 : List UInt8 := dkwX3_sumUp_2 ++ []
def dkwX3_sumUp_1 : List UInt8 := [17, 0, 145, 160, 0, 43, 42, 180, 0, 162, 17, 0, 143, 160, 0, 8, 16, 23, 167, 0, 5, 16, 24, 60]
abbrev dktX3_sumUp_1 : List UInt8 := dkwX3_sumUp_1 ++ dktX3_sumUp_2
def dkwX3_sumUp_0 : List UInt8 := [42, 182, 0, 195, 154, 0, 5, 3, 172, 42, 180, 0, 162, 17, 0, 143, 159, 0, 13, 42, 180, 0, 162]
abbrev dktX3_sumUp_0 : List UInt8 := dkwX3_sumUp_0 ++ dktX3_sumUp_1
theorem dksX3_sumUp_0 : cX3_sumUp.data.toList.drop 0 = dktX3_sumUp_0 := by decide +kernel
theorem dksX3_sumUp_1 : cX3_sumUp.data.toList.drop 23 = dktX3_sumUp_1 := dk_seg dksX3_sumUp_0 23 rfl rfl
theorem dksX3_sumUp_2 : cX3_sumUp.data.toList.drop 47 = dktX3_sumUp_2 := dk_seg dksX3_sumUp_1 24 rfl rfl
theorem dX3_sumUp_0 : decode cX3_sumUp 0 = .ok (.aload_n 0, 1) := dk_42 (dk_at dksX3_sumUp_0 0 rfl rfl)
theorem dX3_sumUp_1 : decode cX3_sumUp 1 = .ok (.invokevirtual 195, 3) := dk_182 0 195 (dk_at dksX3_sumUp_0 1 rfl rfl)
theorem dX3_sumUp_4 : decode cX3_sumUp 4 = .ok (.ifCond .ne 5, 3) := dk_154 0 5 (dk_at dksX3_sumUp_0 4 rfl rfl)
theorem dX3_sumUp_7 : decode cX3_sumUp 7 = .ok (.iconst 0, 1) := dk_3 (dk_at dksX3_sumUp_0 7 rfl rfl)
theorem dX3_sumUp_8 : decode cX3_sumUp 8 = .ok (.ireturn, 1) := dk_172 (dk_at dksX3_sumUp_0 8 rfl rfl)
theorem dX3_sumUp_9 : decode cX3_sumUp 9 = .ok (.aload_n 0, 1) := dk_42 (dk_at dksX3_sumUp_0 9 rfl rfl)
theorem dX3_sumUp_10 : decode cX3_sumUp 10 = .ok (.getfield 162, 3) := dk_180 0 162 (dk_at dksX3_sumUp_0 10 rfl rfl)
theorem dX3_sumUp_13 : decode cX3_sumUp 13 = .ok (.sipush 143, 3) := dk_17 0 143 (dk_at dksX3_sumUp_0 13 rfl rfl)
theorem dX3_sumUp_16 : decode cX3_sumUp 16 = .ok (.if_icmp .eq 13, 3) := dk_159 0 13 (dk_at dksX3_sumUp_0 16 rfl rfl)
theorem dX3_sumUp_19 : decode cX3_sumUp 19 = .ok (.aload_n 0, 1) := dk_42 (dk_at dksX3_sumUp_0 19 rfl rfl)
theorem dX3_sumUp_20 : decode cX3_sumUp 20 = .ok (.getfield 162, 3) := dk_180 0 162 (dk_at dksX3_sumUp_0 20 rfl rfl)
theorem dX3_sumUp_23 : decode cX3_sumUp 23 = .ok (.sipush 145, 3) := dk_17 0 145 (dk_at dksX3_sumUp_1 0 rfl rfl)
theorem dX3_sumUp_26 : decode cX3_sumUp 26 = .ok (.if_icmp .ne 43, 3) := dk_160 0 43 (dk_at dksX3_sumUp_1 3 rfl rfl)
theorem dX3_sumUp_29 : decode cX3_sumUp 29 = .ok (.aload_n 0, 1) := dk_42 (dk_at dksX3_sumUp_1 6 rfl rfl)
theorem dX3_sumUp_30 : decode cX3_sumUp 30 = .ok (.getfield 162, 3) := dk_180 0 162 (dk_at dksX3_sumUp_1 7 rfl rfl)
theorem dX3_sumUp_33 : decode cX3_sumUp 33 = .ok (.sipush 143, 3) := dk_17 0 143 (dk_at dksX3_sumUp_1 10 rfl rfl)
theorem dX3_sumUp_36 : decode cX3_sumUp 36 = .ok (.if_icmp .ne 8, 3) := dk_160 0 8 (dk_at dksX3_sumUp_1 13 rfl rfl)
theorem dX3_sumUp_39 : decode cX3_sumUp 39 = .ok (.bipush 23, 2) := dk_16 23 (dk_at dksX3_sumUp_1 16 rfl rfl)
theorem dX3_sumUp_41 : decode cX3_sumUp 41 = .ok (.goto 5, 3) := dk_167 0 5 (dk_at dksX3_sumUp_1 18 rfl rfl)
theorem dX3_sumUp_44 : decode cX3_sumUp 44 = .ok (.bipush 24, 2) := dk_16 24 (dk_at dksX3_sumUp_1 21 rfl rfl)
theorem dX3_sumUp_46 : decode cX3_sumUp 46 = .ok (.istore_n 1, 1) := dk_60 (dk_at dksX3_sumUp_1 23 rfl rfl)
theorem dX3_sumUp_47 : decode cX3_sumUp 47 = .ok (.aload_n 0, 1) := dk_42 (dk_at dksX3_sumUp_2 0 rfl rfl)
theorem dX3_sumUp_48 : decode cX3_sumUp 48 = .ok (.invokevirtual 186, 3) := dk_182 0 186 (dk_at dksX3_sumUp_2 1 rfl rfl)
theorem dX3_sumUp_51 : decode cX3_sumUp 51 = .ok (.aload_n 0, 1) := dk_42 (dk_at dksX3_sumUp_2 4 rfl rfl)
theorem dX3_sumUp_52 : decode cX3_sumUp 52 = .ok (.invokevirtual 195, 3) := dk_182 0 195 (dk_at dksX3_sumUp_2 5 rfl rfl)
theorem dX3_sumUp_55 : decode cX3_sumUp 55 = .ok (.ifCond .ne 5, 3) := dk_154 0 5 (dk_at dksX3_sumUp_2 8 rfl rfl)
theorem dX3_sumUp_58 : decode cX3_sumUp 58 = .ok (.iconst 0, 1) := dk_3 (dk_at dksX3_sumUp_2 11 rfl rfl)
theorem dX3_sumUp_59 : decode cX3_sumUp 59 = .ok (.ireturn, 1) := dk_172 (dk_at dksX3_sumUp_2 12 rfl rfl)
theorem dX3_sumUp_60 : decode cX3_sumUp 60 = .ok (.aload_n 0, 1) := dk_42 (dk_at dksX3_sumUp_2 13 rfl rfl)
theorem dX3_sumUp_61 : decode cX3_sumUp 61 = .ok (.iload_n 1, 1) := dk_27 (dk_at dksX3_sumUp_2 14 rfl rfl)
theorem dX3_sumUp_62 : decode cX3_sumUp 62 = .ok (.iconst 0, 1) := dk_3 (dk_at dksX3_sumUp_2 15 rfl rfl)
theorem dX3_sumUp_63 : decode cX3_sumUp 63 = .ok (.invokevirtual 199, 3) := dk_182 0 199 (dk_at dksX3_sumUp_2 16 rfl rfl)
theorem dX3_sumUp_66 : decode cX3_sumUp 66 = .ok (.goto (-57), 3) := dk_167 255 199 (dk_at dksX3_sumUp_2 19 rfl rfl)
theorem dX3_sumUp_69 : decode cX3_sumUp 69 = .ok (.iconst 1, 1) := dk_4 (dk_at dksX3_sumUp_2 22 rfl rfl)
theorem dX3_sumUp_70 : decode cX3_sumUp 70 = .ok (.ireturn, 1) := dk_172 (dk_at dksX3_sumUp_2 23 rfl rfl)
abbrev cX3_product : ByteArray := prog_17_method_34_code
def yX3_product : MethodName := ⟨RX3, "product", "()Z"⟩
def dkwX3_product_5 : List UInt8 := [167, 255, 153, 4, 172]
abbrev dktX3_product_5 : List UInt8 := dkwX3_product_5 ++ []
def dkwX3_product_4 : List UInt8 := [182, 0, 199, 167, 0, 19, 42, 182, 0, 203, 154, 0, 5, 3, 172, 42, 16, 25, 3, 182, 0, 199]
abbrev dktX3_product_4 : List UInt8 := dkwX3_product_4 ++ dktX3_product_5
def dkwX3_product_3 : List UInt8 := [182, 0, 183, 172, 28, 154, 0, 9, 42, 5, 182, 0, 183, 172, 42, 182, 0, 186, 42, 16, 26, 28]
abbrev dktX3_product_3 : List UInt8 := dkwX3_product_3 ++ dktX3_product_4
def dkwX3_product_2 : List UInt8 := [182, 0, 186, 27, 153, 0, 46, 42, 180, 0, 174, 61, 42, 180, 0, 162, 5, 159, 0, 9, 42, 4]
abbrev dktX3_product_2 : List UInt8 := dkwX3_product_2 ++ dktX3_product_3
def dkwX3_product_1 : List UInt8 := [17, 0, 147, 160, 0, 89, 42, 180, 0, 162, 17, 0, 147, 160, 0, 7, 4, 167, 0, 4, 3, 60, 42]
abbrev dktX3_product_1 : List UInt8 := dkwX3_product_1 ++ dktX3_product_2
def dkwX3_product_0 : List UInt8 := [42, 182, 0, 203, 154, 0, 5, 3, 172, 42, 180, 0, 162, 17, 0, 142, 159, 0, 13, 42, 180, 0, 162]
abbrev dktX3_product_0 : List UInt8 := dkwX3_product_0 ++ dktX3_product_1
theorem dksX3_product_0 : cX3_product.data.toList.drop 0 = dktX3_product_0 := by decide +kernel
theorem dksX3_product_1 : cX3_product.data.toList.drop 23 = dktX3_product_1 := dk_seg dksX3_product_0 23 rfl rfl
theorem dksX3_product_2 : cX3_product.data.toList.drop 46 = dktX3_product_2 := dk_seg dksX3_product_1 23 rfl rfl
theorem dksX3_product_3 : cX3_product.data.toList.drop 68 = dktX3_product_3 := dk_seg dksX3_product_2 22 rfl rfl
theorem dksX3_product_4 : cX3_product.data.toList.drop 90 = dktX3_product_4 := dk_seg dksX3_product_3 22 rfl rfl
theorem dksX3_product_5 : cX3_product.data.toList.drop 112 = dktX3_product_5 := dk_seg dksX3_product_4 22 rfl rfl
theorem dX3_product_0 : decode cX3_product 0 = .ok (.aload_n 0, 1) := dk_42 (dk_at dksX3_product_0 0 rfl rfl)
theorem dX3_product_1 : decode cX3_product 1 = .ok (.invokevirtual 203, 3) := dk_182 0 203 (dk_at dksX3_product_0 1 rfl rfl)
theorem dX3_product_4 : decode cX3_product 4 = .ok (.ifCond .ne 5, 3) := dk_154 0 5 (dk_at dksX3_product_0 4 rfl rfl)
theorem dX3_product_7 : decode cX3_product 7 = .ok (.iconst 0, 1) := dk_3 (dk_at dksX3_product_0 7 rfl rfl)
theorem dX3_product_8 : decode cX3_product 8 = .ok (.ireturn, 1) := dk_172 (dk_at dksX3_product_0 8 rfl rfl)
theorem dX3_product_9 : decode cX3_product 9 = .ok (.aload_n 0, 1) := dk_42 (dk_at dksX3_product_0 9 rfl rfl)
theorem dX3_product_10 : decode cX3_product 10 = .ok (.getfield 162, 3) := dk_180 0 162 (dk_at dksX3_product_0 10 rfl rfl)
theorem dX3_product_13 : decode cX3_product 13 = .ok (.sipush 142, 3) := dk_17 0 142 (dk_at dksX3_product_0 13 rfl rfl)
theorem dX3_product_16 : decode cX3_product 16 = .ok (.if_icmp .eq 13, 3) := dk_159 0 13 (dk_at dksX3_product_0 16 rfl rfl)
theorem dX3_product_19 : decode cX3_product 19 = .ok (.aload_n 0, 1) := dk_42 (dk_at dksX3_product_0 19 rfl rfl)
theorem dX3_product_20 : decode cX3_product 20 = .ok (.getfield 162, 3) := dk_180 0 162 (dk_at dksX3_product_0 20 rfl rfl)
theorem dX3_product_23 : decode cX3_product 23 = .ok (.sipush 147, 3) := dk_17 0 147 (dk_at dksX3_product_1 0 rfl rfl)
theorem dX3_product_26 : decode cX3_product 26 = .ok (.if_icmp .ne 89, 3) := dk_160 0 89 (dk_at dksX3_product_1 3 rfl rfl)
theorem dX3_product_29 : decode cX3_product 29 = .ok (.aload_n 0, 1) := dk_42 (dk_at dksX3_product_1 6 rfl rfl)
theorem dX3_product_30 : decode cX3_product 30 = .ok (.getfield 162, 3) := dk_180 0 162 (dk_at dksX3_product_1 7 rfl rfl)
theorem dX3_product_33 : decode cX3_product 33 = .ok (.sipush 147, 3) := dk_17 0 147 (dk_at dksX3_product_1 10 rfl rfl)
theorem dX3_product_36 : decode cX3_product 36 = .ok (.if_icmp .ne 7, 3) := dk_160 0 7 (dk_at dksX3_product_1 13 rfl rfl)
theorem dX3_product_39 : decode cX3_product 39 = .ok (.iconst 1, 1) := dk_4 (dk_at dksX3_product_1 16 rfl rfl)
theorem dX3_product_40 : decode cX3_product 40 = .ok (.goto 4, 3) := dk_167 0 4 (dk_at dksX3_product_1 17 rfl rfl)
theorem dX3_product_43 : decode cX3_product 43 = .ok (.iconst 0, 1) := dk_3 (dk_at dksX3_product_1 20 rfl rfl)
theorem dX3_product_44 : decode cX3_product 44 = .ok (.istore_n 1, 1) := dk_60 (dk_at dksX3_product_1 21 rfl rfl)
theorem dX3_product_45 : decode cX3_product 45 = .ok (.aload_n 0, 1) := dk_42 (dk_at dksX3_product_1 22 rfl rfl)
theorem dX3_product_46 : decode cX3_product 46 = .ok (.invokevirtual 186, 3) := dk_182 0 186 (dk_at dksX3_product_2 0 rfl rfl)
theorem dX3_product_49 : decode cX3_product 49 = .ok (.iload_n 1, 1) := dk_27 (dk_at dksX3_product_2 3 rfl rfl)
theorem dX3_product_50 : decode cX3_product 50 = .ok (.ifCond .eq 46, 3) := dk_153 0 46 (dk_at dksX3_product_2 4 rfl rfl)
theorem dX3_product_53 : decode cX3_product 53 = .ok (.aload_n 0, 1) := dk_42 (dk_at dksX3_product_2 7 rfl rfl)
theorem dX3_product_54 : decode cX3_product 54 = .ok (.getfield 174, 3) := dk_180 0 174 (dk_at dksX3_product_2 8 rfl rfl)
theorem dX3_product_57 : decode cX3_product 57 = .ok (.istore_n 2, 1) := dk_61 (dk_at dksX3_product_2 11 rfl rfl)
theorem dX3_product_58 : decode cX3_product 58 = .ok (.aload_n 0, 1) := dk_42 (dk_at dksX3_product_2 12 rfl rfl)
theorem dX3_product_59 : decode cX3_product 59 = .ok (.getfield 162, 3) := dk_180 0 162 (dk_at dksX3_product_2 13 rfl rfl)
theorem dX3_product_62 : decode cX3_product 62 = .ok (.iconst 2, 1) := dk_5 (dk_at dksX3_product_2 16 rfl rfl)
theorem dX3_product_63 : decode cX3_product 63 = .ok (.if_icmp .eq 9, 3) := dk_159 0 9 (dk_at dksX3_product_2 17 rfl rfl)
theorem dX3_product_66 : decode cX3_product 66 = .ok (.aload_n 0, 1) := dk_42 (dk_at dksX3_product_2 20 rfl rfl)
theorem dX3_product_67 : decode cX3_product 67 = .ok (.iconst 1, 1) := dk_4 (dk_at dksX3_product_2 21 rfl rfl)
theorem dX3_product_68 : decode cX3_product 68 = .ok (.invokevirtual 183, 3) := dk_182 0 183 (dk_at dksX3_product_3 0 rfl rfl)
theorem dX3_product_71 : decode cX3_product 71 = .ok (.ireturn, 1) := dk_172 (dk_at dksX3_product_3 3 rfl rfl)
theorem dX3_product_72 : decode cX3_product 72 = .ok (.iload_n 2, 1) := dk_28 (dk_at dksX3_product_3 4 rfl rfl)
theorem dX3_product_73 : decode cX3_product 73 = .ok (.ifCond .ne 9, 3) := dk_154 0 9 (dk_at dksX3_product_3 5 rfl rfl)
theorem dX3_product_76 : decode cX3_product 76 = .ok (.aload_n 0, 1) := dk_42 (dk_at dksX3_product_3 8 rfl rfl)
theorem dX3_product_77 : decode cX3_product 77 = .ok (.iconst 2, 1) := dk_5 (dk_at dksX3_product_3 9 rfl rfl)
theorem dX3_product_78 : decode cX3_product 78 = .ok (.invokevirtual 183, 3) := dk_182 0 183 (dk_at dksX3_product_3 10 rfl rfl)
theorem dX3_product_81 : decode cX3_product 81 = .ok (.ireturn, 1) := dk_172 (dk_at dksX3_product_3 13 rfl rfl)
theorem dX3_product_82 : decode cX3_product 82 = .ok (.aload_n 0, 1) := dk_42 (dk_at dksX3_product_3 14 rfl rfl)
theorem dX3_product_83 : decode cX3_product 83 = .ok (.invokevirtual 186, 3) := dk_182 0 186 (dk_at dksX3_product_3 15 rfl rfl)
theorem dX3_product_86 : decode cX3_product 86 = .ok (.aload_n 0, 1) := dk_42 (dk_at dksX3_product_3 18 rfl rfl)
theorem dX3_product_87 : decode cX3_product 87 = .ok (.bipush 26, 2) := dk_16 26 (dk_at dksX3_product_3 19 rfl rfl)
theorem dX3_product_89 : decode cX3_product 89 = .ok (.iload_n 2, 1) := dk_28 (dk_at dksX3_product_3 21 rfl rfl)
theorem dX3_product_90 : decode cX3_product 90 = .ok (.invokevirtual 199, 3) := dk_182 0 199 (dk_at dksX3_product_4 0 rfl rfl)
theorem dX3_product_93 : decode cX3_product 93 = .ok (.goto 19, 3) := dk_167 0 19 (dk_at dksX3_product_4 3 rfl rfl)
theorem dX3_product_96 : decode cX3_product 96 = .ok (.aload_n 0, 1) := dk_42 (dk_at dksX3_product_4 6 rfl rfl)
theorem dX3_product_97 : decode cX3_product 97 = .ok (.invokevirtual 203, 3) := dk_182 0 203 (dk_at dksX3_product_4 7 rfl rfl)
theorem dX3_product_100 : decode cX3_product 100 = .ok (.ifCond .ne 5, 3) := dk_154 0 5 (dk_at dksX3_product_4 10 rfl rfl)
theorem dX3_product_103 : decode cX3_product 103 = .ok (.iconst 0, 1) := dk_3 (dk_at dksX3_product_4 13 rfl rfl)
theorem dX3_product_104 : decode cX3_product 104 = .ok (.ireturn, 1) := dk_172 (dk_at dksX3_product_4 14 rfl rfl)
theorem dX3_product_105 : decode cX3_product 105 = .ok (.aload_n 0, 1) := dk_42 (dk_at dksX3_product_4 15 rfl rfl)
theorem dX3_product_106 : decode cX3_product 106 = .ok (.bipush 25, 2) := dk_16 25 (dk_at dksX3_product_4 16 rfl rfl)
theorem dX3_product_108 : decode cX3_product 108 = .ok (.iconst 0, 1) := dk_3 (dk_at dksX3_product_4 18 rfl rfl)
theorem dX3_product_109 : decode cX3_product 109 = .ok (.invokevirtual 199, 3) := dk_182 0 199 (dk_at dksX3_product_4 19 rfl rfl)
theorem dX3_product_112 : decode cX3_product 112 = .ok (.goto (-103), 3) := dk_167 255 153 (dk_at dksX3_product_5 0 rfl rfl)
theorem dX3_product_115 : decode cX3_product 115 = .ok (.iconst 1, 1) := dk_4 (dk_at dksX3_product_5 3 rfl rfl)
theorem dX3_product_116 : decode cX3_product 116 = .ok (.ireturn, 1) := dk_172 (dk_at dksX3_product_5 4 rfl rfl)
abbrev cX3_unit : ByteArray := prog_17_method_35_code
def yX3_unit : MethodName := ⟨RX3, "unit", "()Z"⟩
def dkwX3_unit_2 : List UInt8 := [180, 0, 174, 182, 0, 199, 42, 182, 0, 186, 4, 172]
abbrev dktX3_unit_2 : List UInt8 := dkwX3_unit_2 ++ []
def dkwX3_unit_1 : List UInt8 := [42, 4, 182, 0, 183, 172, 42, 27, 153, 0, 13, 42, 180, 0, 162, 16, 40, 100, 167, 0, 4, 3, 42]
abbrev dktX3_unit_1 : List UInt8 := dkwX3_unit_1 ++ dktX3_unit_2
def dkwX3_unit_0 : List UInt8 := [42, 180, 0, 162, 16, 41, 16, 50, 184, 0, 56, 60, 42, 180, 0, 162, 5, 159, 0, 13, 27, 154, 0, 9]
abbrev dktX3_unit_0 : List UInt8 := dkwX3_unit_0 ++ dktX3_unit_1
theorem dksX3_unit_0 : cX3_unit.data.toList.drop 0 = dktX3_unit_0 := by decide +kernel
theorem dksX3_unit_1 : cX3_unit.data.toList.drop 24 = dktX3_unit_1 := dk_seg dksX3_unit_0 24 rfl rfl
theorem dksX3_unit_2 : cX3_unit.data.toList.drop 47 = dktX3_unit_2 := dk_seg dksX3_unit_1 23 rfl rfl
theorem dX3_unit_0 : decode cX3_unit 0 = .ok (.aload_n 0, 1) := dk_42 (dk_at dksX3_unit_0 0 rfl rfl)
theorem dX3_unit_1 : decode cX3_unit 1 = .ok (.getfield 162, 3) := dk_180 0 162 (dk_at dksX3_unit_0 1 rfl rfl)
theorem dX3_unit_4 : decode cX3_unit 4 = .ok (.bipush 41, 2) := dk_16 41 (dk_at dksX3_unit_0 4 rfl rfl)
theorem dX3_unit_6 : decode cX3_unit 6 = .ok (.bipush 50, 2) := dk_16 50 (dk_at dksX3_unit_0 6 rfl rfl)
theorem dX3_unit_8 : decode cX3_unit 8 = .ok (.invokestatic 56, 3) := dk_184 0 56 (dk_at dksX3_unit_0 8 rfl rfl)
theorem dX3_unit_11 : decode cX3_unit 11 = .ok (.istore_n 1, 1) := dk_60 (dk_at dksX3_unit_0 11 rfl rfl)
theorem dX3_unit_12 : decode cX3_unit 12 = .ok (.aload_n 0, 1) := dk_42 (dk_at dksX3_unit_0 12 rfl rfl)
theorem dX3_unit_13 : decode cX3_unit 13 = .ok (.getfield 162, 3) := dk_180 0 162 (dk_at dksX3_unit_0 13 rfl rfl)
theorem dX3_unit_16 : decode cX3_unit 16 = .ok (.iconst 2, 1) := dk_5 (dk_at dksX3_unit_0 16 rfl rfl)
theorem dX3_unit_17 : decode cX3_unit 17 = .ok (.if_icmp .eq 13, 3) := dk_159 0 13 (dk_at dksX3_unit_0 17 rfl rfl)
theorem dX3_unit_20 : decode cX3_unit 20 = .ok (.iload_n 1, 1) := dk_27 (dk_at dksX3_unit_0 20 rfl rfl)
theorem dX3_unit_21 : decode cX3_unit 21 = .ok (.ifCond .ne 9, 3) := dk_154 0 9 (dk_at dksX3_unit_0 21 rfl rfl)
theorem dX3_unit_24 : decode cX3_unit 24 = .ok (.aload_n 0, 1) := dk_42 (dk_at dksX3_unit_1 0 rfl rfl)
theorem dX3_unit_25 : decode cX3_unit 25 = .ok (.iconst 1, 1) := dk_4 (dk_at dksX3_unit_1 1 rfl rfl)
theorem dX3_unit_26 : decode cX3_unit 26 = .ok (.invokevirtual 183, 3) := dk_182 0 183 (dk_at dksX3_unit_1 2 rfl rfl)
theorem dX3_unit_29 : decode cX3_unit 29 = .ok (.ireturn, 1) := dk_172 (dk_at dksX3_unit_1 5 rfl rfl)
theorem dX3_unit_30 : decode cX3_unit 30 = .ok (.aload_n 0, 1) := dk_42 (dk_at dksX3_unit_1 6 rfl rfl)
theorem dX3_unit_31 : decode cX3_unit 31 = .ok (.iload_n 1, 1) := dk_27 (dk_at dksX3_unit_1 7 rfl rfl)
theorem dX3_unit_32 : decode cX3_unit 32 = .ok (.ifCond .eq 13, 3) := dk_153 0 13 (dk_at dksX3_unit_1 8 rfl rfl)
theorem dX3_unit_35 : decode cX3_unit 35 = .ok (.aload_n 0, 1) := dk_42 (dk_at dksX3_unit_1 11 rfl rfl)
theorem dX3_unit_36 : decode cX3_unit 36 = .ok (.getfield 162, 3) := dk_180 0 162 (dk_at dksX3_unit_1 12 rfl rfl)
theorem dX3_unit_39 : decode cX3_unit 39 = .ok (.bipush 40, 2) := dk_16 40 (dk_at dksX3_unit_1 15 rfl rfl)
theorem dX3_unit_41 : decode cX3_unit 41 = .ok (.isub, 1) := dk_100 (dk_at dksX3_unit_1 17 rfl rfl)
theorem dX3_unit_42 : decode cX3_unit 42 = .ok (.goto 4, 3) := dk_167 0 4 (dk_at dksX3_unit_1 18 rfl rfl)
theorem dX3_unit_45 : decode cX3_unit 45 = .ok (.iconst 0, 1) := dk_3 (dk_at dksX3_unit_1 21 rfl rfl)
theorem dX3_unit_46 : decode cX3_unit 46 = .ok (.aload_n 0, 1) := dk_42 (dk_at dksX3_unit_1 22 rfl rfl)
theorem dX3_unit_47 : decode cX3_unit 47 = .ok (.getfield 174, 3) := dk_180 0 174 (dk_at dksX3_unit_2 0 rfl rfl)
theorem dX3_unit_50 : decode cX3_unit 50 = .ok (.invokevirtual 199, 3) := dk_182 0 199 (dk_at dksX3_unit_2 3 rfl rfl)
theorem dX3_unit_53 : decode cX3_unit 53 = .ok (.aload_n 0, 1) := dk_42 (dk_at dksX3_unit_2 6 rfl rfl)
theorem dX3_unit_54 : decode cX3_unit 54 = .ok (.invokevirtual 186, 3) := dk_182 0 186 (dk_at dksX3_unit_2 7 rfl rfl)
theorem dX3_unit_57 : decode cX3_unit 57 = .ok (.iconst 1, 1) := dk_4 (dk_at dksX3_unit_2 10 rfl rfl)
theorem dX3_unit_58 : decode cX3_unit 58 = .ok (.ireturn, 1) := dk_172 (dk_at dksX3_unit_2 11 rfl rfl)
abbrev cX3_lay : ByteArray := prog_17_method_31_code
def yX3_lay : MethodName := ⟨RX3, "lay", "(II)V"⟩
def dkwX3_lay_1 : List UInt8 := [28, 79, 42, 89, 180, 0, 189, 4, 96, 181, 0, 189, 177]
abbrev dktX3_lay_1 : List UInt8 := dkwX3_lay_1 ++ []
def dkwX3_lay_0 : List UInt8 := [42, 180, 0, 25, 5, 42, 180, 0, 189, 104, 27, 79, 42, 180, 0, 25, 5, 42, 180, 0, 189, 104, 4, 96]
abbrev dktX3_lay_0 : List UInt8 := dkwX3_lay_0 ++ dktX3_lay_1
theorem dksX3_lay_0 : cX3_lay.data.toList.drop 0 = dktX3_lay_0 := by decide +kernel
theorem dksX3_lay_1 : cX3_lay.data.toList.drop 24 = dktX3_lay_1 := dk_seg dksX3_lay_0 24 rfl rfl
theorem dX3_lay_0 : decode cX3_lay 0 = .ok (.aload_n 0, 1) := dk_42 (dk_at dksX3_lay_0 0 rfl rfl)
theorem dX3_lay_1 : decode cX3_lay 1 = .ok (.getfield 25, 3) := dk_180 0 25 (dk_at dksX3_lay_0 1 rfl rfl)
theorem dX3_lay_4 : decode cX3_lay 4 = .ok (.iconst 2, 1) := dk_5 (dk_at dksX3_lay_0 4 rfl rfl)
theorem dX3_lay_5 : decode cX3_lay 5 = .ok (.aload_n 0, 1) := dk_42 (dk_at dksX3_lay_0 5 rfl rfl)
theorem dX3_lay_6 : decode cX3_lay 6 = .ok (.getfield 189, 3) := dk_180 0 189 (dk_at dksX3_lay_0 6 rfl rfl)
theorem dX3_lay_9 : decode cX3_lay 9 = .ok (.imul, 1) := dk_104 (dk_at dksX3_lay_0 9 rfl rfl)
theorem dX3_lay_10 : decode cX3_lay 10 = .ok (.iload_n 1, 1) := dk_27 (dk_at dksX3_lay_0 10 rfl rfl)
theorem dX3_lay_11 : decode cX3_lay 11 = .ok (.iastore, 1) := dk_79 (dk_at dksX3_lay_0 11 rfl rfl)
theorem dX3_lay_12 : decode cX3_lay 12 = .ok (.aload_n 0, 1) := dk_42 (dk_at dksX3_lay_0 12 rfl rfl)
theorem dX3_lay_13 : decode cX3_lay 13 = .ok (.getfield 25, 3) := dk_180 0 25 (dk_at dksX3_lay_0 13 rfl rfl)
theorem dX3_lay_16 : decode cX3_lay 16 = .ok (.iconst 2, 1) := dk_5 (dk_at dksX3_lay_0 16 rfl rfl)
theorem dX3_lay_17 : decode cX3_lay 17 = .ok (.aload_n 0, 1) := dk_42 (dk_at dksX3_lay_0 17 rfl rfl)
theorem dX3_lay_18 : decode cX3_lay 18 = .ok (.getfield 189, 3) := dk_180 0 189 (dk_at dksX3_lay_0 18 rfl rfl)
theorem dX3_lay_21 : decode cX3_lay 21 = .ok (.imul, 1) := dk_104 (dk_at dksX3_lay_0 21 rfl rfl)
theorem dX3_lay_22 : decode cX3_lay 22 = .ok (.iconst 1, 1) := dk_4 (dk_at dksX3_lay_0 22 rfl rfl)
theorem dX3_lay_23 : decode cX3_lay 23 = .ok (.iadd, 1) := dk_96 (dk_at dksX3_lay_0 23 rfl rfl)
theorem dX3_lay_24 : decode cX3_lay 24 = .ok (.iload_n 2, 1) := dk_28 (dk_at dksX3_lay_1 0 rfl rfl)
theorem dX3_lay_25 : decode cX3_lay 25 = .ok (.iastore, 1) := dk_79 (dk_at dksX3_lay_1 1 rfl rfl)
theorem dX3_lay_26 : decode cX3_lay 26 = .ok (.aload_n 0, 1) := dk_42 (dk_at dksX3_lay_1 2 rfl rfl)
theorem dX3_lay_27 : decode cX3_lay 27 = .ok (.dup, 1) := dk_89 (dk_at dksX3_lay_1 3 rfl rfl)
theorem dX3_lay_28 : decode cX3_lay 28 = .ok (.getfield 189, 3) := dk_180 0 189 (dk_at dksX3_lay_1 4 rfl rfl)
theorem dX3_lay_31 : decode cX3_lay 31 = .ok (.iconst 1, 1) := dk_4 (dk_at dksX3_lay_1 7 rfl rfl)
theorem dX3_lay_32 : decode cX3_lay 32 = .ok (.iadd, 1) := dk_96 (dk_at dksX3_lay_1 8 rfl rfl)
theorem dX3_lay_33 : decode cX3_lay 33 = .ok (.putfield 189, 3) := dk_181 0 189 (dk_at dksX3_lay_1 9 rfl rfl)
theorem dX3_lay_36 : decode cX3_lay 36 = .ok (.return_, 1) := dk_177 (dk_at dksX3_lay_1 12 rfl rfl)
abbrev cX3_any : ByteArray := prog_17_method_36_code
def yX3_any : MethodName := ⟨RX3, "any", "()Z"⟩
def dkwX3_any_1 : List UInt8 := [182, 0, 206, 154, 0, 5, 3, 172, 42, 16, 32, 3, 182, 0, 199, 167, 255, 228, 4, 172]
abbrev dktX3_any_1 : List UInt8 := dkwX3_any_1 ++ []
def dkwX3_any_0 : List UInt8 := [42, 182, 0, 206, 154, 0, 5, 3, 172, 42, 180, 0, 162, 7, 160, 0, 26, 42, 182, 0, 186, 42]
abbrev dktX3_any_0 : List UInt8 := dkwX3_any_0 ++ dktX3_any_1
theorem dksX3_any_0 : cX3_any.data.toList.drop 0 = dktX3_any_0 := by decide +kernel
theorem dksX3_any_1 : cX3_any.data.toList.drop 22 = dktX3_any_1 := dk_seg dksX3_any_0 22 rfl rfl
theorem dX3_any_0 : decode cX3_any 0 = .ok (.aload_n 0, 1) := dk_42 (dk_at dksX3_any_0 0 rfl rfl)
theorem dX3_any_1 : decode cX3_any 1 = .ok (.invokevirtual 206, 3) := dk_182 0 206 (dk_at dksX3_any_0 1 rfl rfl)
theorem dX3_any_4 : decode cX3_any 4 = .ok (.ifCond .ne 5, 3) := dk_154 0 5 (dk_at dksX3_any_0 4 rfl rfl)
theorem dX3_any_7 : decode cX3_any 7 = .ok (.iconst 0, 1) := dk_3 (dk_at dksX3_any_0 7 rfl rfl)
theorem dX3_any_8 : decode cX3_any 8 = .ok (.ireturn, 1) := dk_172 (dk_at dksX3_any_0 8 rfl rfl)
theorem dX3_any_9 : decode cX3_any 9 = .ok (.aload_n 0, 1) := dk_42 (dk_at dksX3_any_0 9 rfl rfl)
theorem dX3_any_10 : decode cX3_any 10 = .ok (.getfield 162, 3) := dk_180 0 162 (dk_at dksX3_any_0 10 rfl rfl)
theorem dX3_any_13 : decode cX3_any 13 = .ok (.iconst 4, 1) := dk_7 (dk_at dksX3_any_0 13 rfl rfl)
theorem dX3_any_14 : decode cX3_any 14 = .ok (.if_icmp .ne 26, 3) := dk_160 0 26 (dk_at dksX3_any_0 14 rfl rfl)
theorem dX3_any_17 : decode cX3_any 17 = .ok (.aload_n 0, 1) := dk_42 (dk_at dksX3_any_0 17 rfl rfl)
theorem dX3_any_18 : decode cX3_any 18 = .ok (.invokevirtual 186, 3) := dk_182 0 186 (dk_at dksX3_any_0 18 rfl rfl)
theorem dX3_any_21 : decode cX3_any 21 = .ok (.aload_n 0, 1) := dk_42 (dk_at dksX3_any_0 21 rfl rfl)
theorem dX3_any_22 : decode cX3_any 22 = .ok (.invokevirtual 206, 3) := dk_182 0 206 (dk_at dksX3_any_1 0 rfl rfl)
theorem dX3_any_25 : decode cX3_any 25 = .ok (.ifCond .ne 5, 3) := dk_154 0 5 (dk_at dksX3_any_1 3 rfl rfl)
theorem dX3_any_28 : decode cX3_any 28 = .ok (.iconst 0, 1) := dk_3 (dk_at dksX3_any_1 6 rfl rfl)
theorem dX3_any_29 : decode cX3_any 29 = .ok (.ireturn, 1) := dk_172 (dk_at dksX3_any_1 7 rfl rfl)
theorem dX3_any_30 : decode cX3_any 30 = .ok (.aload_n 0, 1) := dk_42 (dk_at dksX3_any_1 8 rfl rfl)
theorem dX3_any_31 : decode cX3_any 31 = .ok (.bipush 32, 2) := dk_16 32 (dk_at dksX3_any_1 9 rfl rfl)
theorem dX3_any_33 : decode cX3_any 33 = .ok (.iconst 0, 1) := dk_3 (dk_at dksX3_any_1 11 rfl rfl)
theorem dX3_any_34 : decode cX3_any 34 = .ok (.invokevirtual 199, 3) := dk_182 0 199 (dk_at dksX3_any_1 12 rfl rfl)
theorem dX3_any_37 : decode cX3_any 37 = .ok (.goto (-28), 3) := dk_167 255 228 (dk_at dksX3_any_1 15 rfl rfl)
theorem dX3_any_40 : decode cX3_any 40 = .ok (.iconst 1, 1) := dk_4 (dk_at dksX3_any_1 18 rfl rfl)
theorem dX3_any_41 : decode cX3_any 41 = .ok (.ireturn, 1) := dk_172 (dk_at dksX3_any_1 19 rfl rfl)
abbrev cX3_every : ByteArray := prog_17_method_37_code
def yX3_every : MethodName := ⟨RX3, "every", "()Z"⟩
def dkwX3_every_1 : List UInt8 := [182, 0, 209, 154, 0, 5, 3, 172, 42, 16, 31, 3, 182, 0, 199, 167, 255, 228, 4, 172]
abbrev dktX3_every_1 : List UInt8 := dkwX3_every_1 ++ []
def dkwX3_every_0 : List UInt8 := [42, 182, 0, 209, 154, 0, 5, 3, 172, 42, 180, 0, 162, 8, 160, 0, 26, 42, 182, 0, 186, 42]
abbrev dktX3_every_0 : List UInt8 := dkwX3_every_0 ++ dktX3_every_1
theorem dksX3_every_0 : cX3_every.data.toList.drop 0 = dktX3_every_0 := by decide +kernel
theorem dksX3_every_1 : cX3_every.data.toList.drop 22 = dktX3_every_1 := dk_seg dksX3_every_0 22 rfl rfl
theorem dX3_every_0 : decode cX3_every 0 = .ok (.aload_n 0, 1) := dk_42 (dk_at dksX3_every_0 0 rfl rfl)
theorem dX3_every_1 : decode cX3_every 1 = .ok (.invokevirtual 209, 3) := dk_182 0 209 (dk_at dksX3_every_0 1 rfl rfl)
theorem dX3_every_4 : decode cX3_every 4 = .ok (.ifCond .ne 5, 3) := dk_154 0 5 (dk_at dksX3_every_0 4 rfl rfl)
theorem dX3_every_7 : decode cX3_every 7 = .ok (.iconst 0, 1) := dk_3 (dk_at dksX3_every_0 7 rfl rfl)
theorem dX3_every_8 : decode cX3_every 8 = .ok (.ireturn, 1) := dk_172 (dk_at dksX3_every_0 8 rfl rfl)
theorem dX3_every_9 : decode cX3_every 9 = .ok (.aload_n 0, 1) := dk_42 (dk_at dksX3_every_0 9 rfl rfl)
theorem dX3_every_10 : decode cX3_every 10 = .ok (.getfield 162, 3) := dk_180 0 162 (dk_at dksX3_every_0 10 rfl rfl)
theorem dX3_every_13 : decode cX3_every 13 = .ok (.iconst 5, 1) := dk_8 (dk_at dksX3_every_0 13 rfl rfl)
theorem dX3_every_14 : decode cX3_every 14 = .ok (.if_icmp .ne 26, 3) := dk_160 0 26 (dk_at dksX3_every_0 14 rfl rfl)
theorem dX3_every_17 : decode cX3_every 17 = .ok (.aload_n 0, 1) := dk_42 (dk_at dksX3_every_0 17 rfl rfl)
theorem dX3_every_18 : decode cX3_every 18 = .ok (.invokevirtual 186, 3) := dk_182 0 186 (dk_at dksX3_every_0 18 rfl rfl)
theorem dX3_every_21 : decode cX3_every 21 = .ok (.aload_n 0, 1) := dk_42 (dk_at dksX3_every_0 21 rfl rfl)
theorem dX3_every_22 : decode cX3_every 22 = .ok (.invokevirtual 209, 3) := dk_182 0 209 (dk_at dksX3_every_1 0 rfl rfl)
theorem dX3_every_25 : decode cX3_every 25 = .ok (.ifCond .ne 5, 3) := dk_154 0 5 (dk_at dksX3_every_1 3 rfl rfl)
theorem dX3_every_28 : decode cX3_every 28 = .ok (.iconst 0, 1) := dk_3 (dk_at dksX3_every_1 6 rfl rfl)
theorem dX3_every_29 : decode cX3_every 29 = .ok (.ireturn, 1) := dk_172 (dk_at dksX3_every_1 7 rfl rfl)
theorem dX3_every_30 : decode cX3_every 30 = .ok (.aload_n 0, 1) := dk_42 (dk_at dksX3_every_1 8 rfl rfl)
theorem dX3_every_31 : decode cX3_every 31 = .ok (.bipush 31, 2) := dk_16 31 (dk_at dksX3_every_1 9 rfl rfl)
theorem dX3_every_33 : decode cX3_every 33 = .ok (.iconst 0, 1) := dk_3 (dk_at dksX3_every_1 11 rfl rfl)
theorem dX3_every_34 : decode cX3_every 34 = .ok (.invokevirtual 199, 3) := dk_182 0 199 (dk_at dksX3_every_1 12 rfl rfl)
theorem dX3_every_37 : decode cX3_every 37 = .ok (.goto (-28), 3) := dk_167 255 228 (dk_at dksX3_every_1 15 rfl rfl)
theorem dX3_every_40 : decode cX3_every 40 = .ok (.iconst 1, 1) := dk_4 (dk_at dksX3_every_1 18 rfl rfl)
theorem dX3_every_41 : decode cX3_every 41 = .ok (.ireturn, 1) := dk_172 (dk_at dksX3_every_1 19 rfl rfl)
abbrev cX3_oneTest : ByteArray := prog_17_method_38_code
def yX3_oneTest : MethodName := ⟨RX3, "oneTest", "()Z"⟩
def dkwX3_oneTest_7 : List UInt8 := [154, 0, 5, 3, 172, 42, 27, 3, 182, 0, 199, 4, 172]
abbrev dktX3_oneTest_7 : List UInt8 := dkwX3_oneTest_7 ++ []
def dkwX3_oneTest_6 : List UInt8 := [167, 0, 4, 2, 60, 27, 2, 160, 0, 9, 42, 4, 182, 0, 183, 172, 42, 182, 0, 186, 42, 182, 0, 221]
abbrev dktX3_oneTest_6 : List UInt8 := dkwX3_oneTest_6 ++ dktX3_oneTest_7
def dkwX3_oneTest_5 : List UInt8 := [17, 0, 161, 160, 0, 8, 16, 28, 167, 0, 19, 42, 180, 0, 162, 17, 0, 162, 160, 0, 8, 16, 29]
abbrev dktX3_oneTest_5 : List UInt8 := dkwX3_oneTest_5 ++ dktX3_oneTest_6
def dkwX3_oneTest_4 : List UInt8 := [154, 0, 5, 3, 172, 42, 180, 0, 162, 17, 0, 160, 160, 0, 8, 16, 27, 167, 0, 34, 42, 180, 0, 162]
abbrev dktX3_oneTest_4 : List UInt8 := dkwX3_oneTest_4 ++ dktX3_oneTest_5
def dkwX3_oneTest_3 : List UInt8 := [182, 0, 218, 154, 0, 5, 3, 172, 42, 89, 180, 0, 192, 4, 100, 181, 0, 192, 4, 172, 42, 182, 0, 221]
abbrev dktX3_oneTest_3 : List UInt8 := dkwX3_oneTest_3 ++ dktX3_oneTest_4
def dkwX3_oneTest_2 : List UInt8 := [17, 0, 140, 160, 0, 41, 42, 182, 0, 212, 153, 0, 20, 42, 182, 0, 215, 153, 0, 13, 42, 17, 0, 141]
abbrev dktX3_oneTest_2 : List UInt8 := dkwX3_oneTest_2 ++ dktX3_oneTest_3
def dkwX3_oneTest_1 : List UInt8 := [172, 42, 89, 180, 0, 192, 4, 100, 181, 0, 192, 42, 16, 30, 3, 182, 0, 199, 4, 172, 42, 180, 0, 162]
abbrev dktX3_oneTest_1 : List UInt8 := dkwX3_oneTest_1 ++ dktX3_oneTest_2
def dkwX3_oneTest_0 : List UInt8 := [42, 180, 0, 162, 16, 6, 160, 0, 38, 42, 182, 0, 212, 153, 0, 10, 42, 182, 0, 209, 154, 0, 5, 3]
abbrev dktX3_oneTest_0 : List UInt8 := dkwX3_oneTest_0 ++ dktX3_oneTest_1
theorem dksX3_oneTest_0 : cX3_oneTest.data.toList.drop 0 = dktX3_oneTest_0 := by decide +kernel
theorem dksX3_oneTest_1 : cX3_oneTest.data.toList.drop 24 = dktX3_oneTest_1 := dk_seg dksX3_oneTest_0 24 rfl rfl
theorem dksX3_oneTest_2 : cX3_oneTest.data.toList.drop 48 = dktX3_oneTest_2 := dk_seg dksX3_oneTest_1 24 rfl rfl
theorem dksX3_oneTest_3 : cX3_oneTest.data.toList.drop 72 = dktX3_oneTest_3 := dk_seg dksX3_oneTest_2 24 rfl rfl
theorem dksX3_oneTest_4 : cX3_oneTest.data.toList.drop 96 = dktX3_oneTest_4 := dk_seg dksX3_oneTest_3 24 rfl rfl
theorem dksX3_oneTest_5 : cX3_oneTest.data.toList.drop 120 = dktX3_oneTest_5 := dk_seg dksX3_oneTest_4 24 rfl rfl
theorem dksX3_oneTest_6 : cX3_oneTest.data.toList.drop 143 = dktX3_oneTest_6 := dk_seg dksX3_oneTest_5 23 rfl rfl
theorem dksX3_oneTest_7 : cX3_oneTest.data.toList.drop 167 = dktX3_oneTest_7 := dk_seg dksX3_oneTest_6 24 rfl rfl
theorem dX3_oneTest_0 : decode cX3_oneTest 0 = .ok (.aload_n 0, 1) := dk_42 (dk_at dksX3_oneTest_0 0 rfl rfl)
theorem dX3_oneTest_1 : decode cX3_oneTest 1 = .ok (.getfield 162, 3) := dk_180 0 162 (dk_at dksX3_oneTest_0 1 rfl rfl)
theorem dX3_oneTest_4 : decode cX3_oneTest 4 = .ok (.bipush 6, 2) := dk_16 6 (dk_at dksX3_oneTest_0 4 rfl rfl)
theorem dX3_oneTest_6 : decode cX3_oneTest 6 = .ok (.if_icmp .ne 38, 3) := dk_160 0 38 (dk_at dksX3_oneTest_0 6 rfl rfl)
theorem dX3_oneTest_9 : decode cX3_oneTest 9 = .ok (.aload_n 0, 1) := dk_42 (dk_at dksX3_oneTest_0 9 rfl rfl)
theorem dX3_oneTest_10 : decode cX3_oneTest 10 = .ok (.invokevirtual 212, 3) := dk_182 0 212 (dk_at dksX3_oneTest_0 10 rfl rfl)
theorem dX3_oneTest_13 : decode cX3_oneTest 13 = .ok (.ifCond .eq 10, 3) := dk_153 0 10 (dk_at dksX3_oneTest_0 13 rfl rfl)
theorem dX3_oneTest_16 : decode cX3_oneTest 16 = .ok (.aload_n 0, 1) := dk_42 (dk_at dksX3_oneTest_0 16 rfl rfl)
theorem dX3_oneTest_17 : decode cX3_oneTest 17 = .ok (.invokevirtual 209, 3) := dk_182 0 209 (dk_at dksX3_oneTest_0 17 rfl rfl)
theorem dX3_oneTest_20 : decode cX3_oneTest 20 = .ok (.ifCond .ne 5, 3) := dk_154 0 5 (dk_at dksX3_oneTest_0 20 rfl rfl)
theorem dX3_oneTest_23 : decode cX3_oneTest 23 = .ok (.iconst 0, 1) := dk_3 (dk_at dksX3_oneTest_0 23 rfl rfl)
theorem dX3_oneTest_24 : decode cX3_oneTest 24 = .ok (.ireturn, 1) := dk_172 (dk_at dksX3_oneTest_1 0 rfl rfl)
theorem dX3_oneTest_25 : decode cX3_oneTest 25 = .ok (.aload_n 0, 1) := dk_42 (dk_at dksX3_oneTest_1 1 rfl rfl)
theorem dX3_oneTest_26 : decode cX3_oneTest 26 = .ok (.dup, 1) := dk_89 (dk_at dksX3_oneTest_1 2 rfl rfl)
theorem dX3_oneTest_27 : decode cX3_oneTest 27 = .ok (.getfield 192, 3) := dk_180 0 192 (dk_at dksX3_oneTest_1 3 rfl rfl)
theorem dX3_oneTest_30 : decode cX3_oneTest 30 = .ok (.iconst 1, 1) := dk_4 (dk_at dksX3_oneTest_1 6 rfl rfl)
theorem dX3_oneTest_31 : decode cX3_oneTest 31 = .ok (.isub, 1) := dk_100 (dk_at dksX3_oneTest_1 7 rfl rfl)
theorem dX3_oneTest_32 : decode cX3_oneTest 32 = .ok (.putfield 192, 3) := dk_181 0 192 (dk_at dksX3_oneTest_1 8 rfl rfl)
theorem dX3_oneTest_35 : decode cX3_oneTest 35 = .ok (.aload_n 0, 1) := dk_42 (dk_at dksX3_oneTest_1 11 rfl rfl)
theorem dX3_oneTest_36 : decode cX3_oneTest 36 = .ok (.bipush 30, 2) := dk_16 30 (dk_at dksX3_oneTest_1 12 rfl rfl)
theorem dX3_oneTest_38 : decode cX3_oneTest 38 = .ok (.iconst 0, 1) := dk_3 (dk_at dksX3_oneTest_1 14 rfl rfl)
theorem dX3_oneTest_39 : decode cX3_oneTest 39 = .ok (.invokevirtual 199, 3) := dk_182 0 199 (dk_at dksX3_oneTest_1 15 rfl rfl)
theorem dX3_oneTest_42 : decode cX3_oneTest 42 = .ok (.iconst 1, 1) := dk_4 (dk_at dksX3_oneTest_1 18 rfl rfl)
theorem dX3_oneTest_43 : decode cX3_oneTest 43 = .ok (.ireturn, 1) := dk_172 (dk_at dksX3_oneTest_1 19 rfl rfl)
theorem dX3_oneTest_44 : decode cX3_oneTest 44 = .ok (.aload_n 0, 1) := dk_42 (dk_at dksX3_oneTest_1 20 rfl rfl)
theorem dX3_oneTest_45 : decode cX3_oneTest 45 = .ok (.getfield 162, 3) := dk_180 0 162 (dk_at dksX3_oneTest_1 21 rfl rfl)
theorem dX3_oneTest_48 : decode cX3_oneTest 48 = .ok (.sipush 140, 3) := dk_17 0 140 (dk_at dksX3_oneTest_2 0 rfl rfl)
theorem dX3_oneTest_51 : decode cX3_oneTest 51 = .ok (.if_icmp .ne 41, 3) := dk_160 0 41 (dk_at dksX3_oneTest_2 3 rfl rfl)
theorem dX3_oneTest_54 : decode cX3_oneTest 54 = .ok (.aload_n 0, 1) := dk_42 (dk_at dksX3_oneTest_2 6 rfl rfl)
theorem dX3_oneTest_55 : decode cX3_oneTest 55 = .ok (.invokevirtual 212, 3) := dk_182 0 212 (dk_at dksX3_oneTest_2 7 rfl rfl)
theorem dX3_oneTest_58 : decode cX3_oneTest 58 = .ok (.ifCond .eq 20, 3) := dk_153 0 20 (dk_at dksX3_oneTest_2 10 rfl rfl)
theorem dX3_oneTest_61 : decode cX3_oneTest 61 = .ok (.aload_n 0, 1) := dk_42 (dk_at dksX3_oneTest_2 13 rfl rfl)
theorem dX3_oneTest_62 : decode cX3_oneTest 62 = .ok (.invokevirtual 215, 3) := dk_182 0 215 (dk_at dksX3_oneTest_2 14 rfl rfl)
theorem dX3_oneTest_65 : decode cX3_oneTest 65 = .ok (.ifCond .eq 13, 3) := dk_153 0 13 (dk_at dksX3_oneTest_2 17 rfl rfl)
theorem dX3_oneTest_68 : decode cX3_oneTest 68 = .ok (.aload_n 0, 1) := dk_42 (dk_at dksX3_oneTest_2 20 rfl rfl)
theorem dX3_oneTest_69 : decode cX3_oneTest 69 = .ok (.sipush 141, 3) := dk_17 0 141 (dk_at dksX3_oneTest_2 21 rfl rfl)
theorem dX3_oneTest_72 : decode cX3_oneTest 72 = .ok (.invokevirtual 218, 3) := dk_182 0 218 (dk_at dksX3_oneTest_3 0 rfl rfl)
theorem dX3_oneTest_75 : decode cX3_oneTest 75 = .ok (.ifCond .ne 5, 3) := dk_154 0 5 (dk_at dksX3_oneTest_3 3 rfl rfl)
theorem dX3_oneTest_78 : decode cX3_oneTest 78 = .ok (.iconst 0, 1) := dk_3 (dk_at dksX3_oneTest_3 6 rfl rfl)
theorem dX3_oneTest_79 : decode cX3_oneTest 79 = .ok (.ireturn, 1) := dk_172 (dk_at dksX3_oneTest_3 7 rfl rfl)
theorem dX3_oneTest_80 : decode cX3_oneTest 80 = .ok (.aload_n 0, 1) := dk_42 (dk_at dksX3_oneTest_3 8 rfl rfl)
theorem dX3_oneTest_81 : decode cX3_oneTest 81 = .ok (.dup, 1) := dk_89 (dk_at dksX3_oneTest_3 9 rfl rfl)
theorem dX3_oneTest_82 : decode cX3_oneTest 82 = .ok (.getfield 192, 3) := dk_180 0 192 (dk_at dksX3_oneTest_3 10 rfl rfl)
theorem dX3_oneTest_85 : decode cX3_oneTest 85 = .ok (.iconst 1, 1) := dk_4 (dk_at dksX3_oneTest_3 13 rfl rfl)
theorem dX3_oneTest_86 : decode cX3_oneTest 86 = .ok (.isub, 1) := dk_100 (dk_at dksX3_oneTest_3 14 rfl rfl)
theorem dX3_oneTest_87 : decode cX3_oneTest 87 = .ok (.putfield 192, 3) := dk_181 0 192 (dk_at dksX3_oneTest_3 15 rfl rfl)
theorem dX3_oneTest_90 : decode cX3_oneTest 90 = .ok (.iconst 1, 1) := dk_4 (dk_at dksX3_oneTest_3 18 rfl rfl)
theorem dX3_oneTest_91 : decode cX3_oneTest 91 = .ok (.ireturn, 1) := dk_172 (dk_at dksX3_oneTest_3 19 rfl rfl)
theorem dX3_oneTest_92 : decode cX3_oneTest 92 = .ok (.aload_n 0, 1) := dk_42 (dk_at dksX3_oneTest_3 20 rfl rfl)
theorem dX3_oneTest_93 : decode cX3_oneTest 93 = .ok (.invokevirtual 221, 3) := dk_182 0 221 (dk_at dksX3_oneTest_3 21 rfl rfl)
theorem dX3_oneTest_96 : decode cX3_oneTest 96 = .ok (.ifCond .ne 5, 3) := dk_154 0 5 (dk_at dksX3_oneTest_4 0 rfl rfl)
theorem dX3_oneTest_99 : decode cX3_oneTest 99 = .ok (.iconst 0, 1) := dk_3 (dk_at dksX3_oneTest_4 3 rfl rfl)
theorem dX3_oneTest_100 : decode cX3_oneTest 100 = .ok (.ireturn, 1) := dk_172 (dk_at dksX3_oneTest_4 4 rfl rfl)
theorem dX3_oneTest_101 : decode cX3_oneTest 101 = .ok (.aload_n 0, 1) := dk_42 (dk_at dksX3_oneTest_4 5 rfl rfl)
theorem dX3_oneTest_102 : decode cX3_oneTest 102 = .ok (.getfield 162, 3) := dk_180 0 162 (dk_at dksX3_oneTest_4 6 rfl rfl)
theorem dX3_oneTest_105 : decode cX3_oneTest 105 = .ok (.sipush 160, 3) := dk_17 0 160 (dk_at dksX3_oneTest_4 9 rfl rfl)
theorem dX3_oneTest_108 : decode cX3_oneTest 108 = .ok (.if_icmp .ne 8, 3) := dk_160 0 8 (dk_at dksX3_oneTest_4 12 rfl rfl)
theorem dX3_oneTest_111 : decode cX3_oneTest 111 = .ok (.bipush 27, 2) := dk_16 27 (dk_at dksX3_oneTest_4 15 rfl rfl)
theorem dX3_oneTest_113 : decode cX3_oneTest 113 = .ok (.goto 34, 3) := dk_167 0 34 (dk_at dksX3_oneTest_4 17 rfl rfl)
theorem dX3_oneTest_116 : decode cX3_oneTest 116 = .ok (.aload_n 0, 1) := dk_42 (dk_at dksX3_oneTest_4 20 rfl rfl)
theorem dX3_oneTest_117 : decode cX3_oneTest 117 = .ok (.getfield 162, 3) := dk_180 0 162 (dk_at dksX3_oneTest_4 21 rfl rfl)
theorem dX3_oneTest_120 : decode cX3_oneTest 120 = .ok (.sipush 161, 3) := dk_17 0 161 (dk_at dksX3_oneTest_5 0 rfl rfl)
theorem dX3_oneTest_123 : decode cX3_oneTest 123 = .ok (.if_icmp .ne 8, 3) := dk_160 0 8 (dk_at dksX3_oneTest_5 3 rfl rfl)
theorem dX3_oneTest_126 : decode cX3_oneTest 126 = .ok (.bipush 28, 2) := dk_16 28 (dk_at dksX3_oneTest_5 6 rfl rfl)
theorem dX3_oneTest_128 : decode cX3_oneTest 128 = .ok (.goto 19, 3) := dk_167 0 19 (dk_at dksX3_oneTest_5 8 rfl rfl)
theorem dX3_oneTest_131 : decode cX3_oneTest 131 = .ok (.aload_n 0, 1) := dk_42 (dk_at dksX3_oneTest_5 11 rfl rfl)
theorem dX3_oneTest_132 : decode cX3_oneTest 132 = .ok (.getfield 162, 3) := dk_180 0 162 (dk_at dksX3_oneTest_5 12 rfl rfl)
theorem dX3_oneTest_135 : decode cX3_oneTest 135 = .ok (.sipush 162, 3) := dk_17 0 162 (dk_at dksX3_oneTest_5 15 rfl rfl)
theorem dX3_oneTest_138 : decode cX3_oneTest 138 = .ok (.if_icmp .ne 8, 3) := dk_160 0 8 (dk_at dksX3_oneTest_5 18 rfl rfl)
theorem dX3_oneTest_141 : decode cX3_oneTest 141 = .ok (.bipush 29, 2) := dk_16 29 (dk_at dksX3_oneTest_5 21 rfl rfl)
theorem dX3_oneTest_143 : decode cX3_oneTest 143 = .ok (.goto 4, 3) := dk_167 0 4 (dk_at dksX3_oneTest_6 0 rfl rfl)
theorem dX3_oneTest_146 : decode cX3_oneTest 146 = .ok (.iconst (-1), 1) := dk_2 (dk_at dksX3_oneTest_6 3 rfl rfl)
theorem dX3_oneTest_147 : decode cX3_oneTest 147 = .ok (.istore_n 1, 1) := dk_60 (dk_at dksX3_oneTest_6 4 rfl rfl)
theorem dX3_oneTest_148 : decode cX3_oneTest 148 = .ok (.iload_n 1, 1) := dk_27 (dk_at dksX3_oneTest_6 5 rfl rfl)
theorem dX3_oneTest_149 : decode cX3_oneTest 149 = .ok (.iconst (-1), 1) := dk_2 (dk_at dksX3_oneTest_6 6 rfl rfl)
theorem dX3_oneTest_150 : decode cX3_oneTest 150 = .ok (.if_icmp .ne 9, 3) := dk_160 0 9 (dk_at dksX3_oneTest_6 7 rfl rfl)
theorem dX3_oneTest_153 : decode cX3_oneTest 153 = .ok (.aload_n 0, 1) := dk_42 (dk_at dksX3_oneTest_6 10 rfl rfl)
theorem dX3_oneTest_154 : decode cX3_oneTest 154 = .ok (.iconst 1, 1) := dk_4 (dk_at dksX3_oneTest_6 11 rfl rfl)
theorem dX3_oneTest_155 : decode cX3_oneTest 155 = .ok (.invokevirtual 183, 3) := dk_182 0 183 (dk_at dksX3_oneTest_6 12 rfl rfl)
theorem dX3_oneTest_158 : decode cX3_oneTest 158 = .ok (.ireturn, 1) := dk_172 (dk_at dksX3_oneTest_6 15 rfl rfl)
theorem dX3_oneTest_159 : decode cX3_oneTest 159 = .ok (.aload_n 0, 1) := dk_42 (dk_at dksX3_oneTest_6 16 rfl rfl)
theorem dX3_oneTest_160 : decode cX3_oneTest 160 = .ok (.invokevirtual 186, 3) := dk_182 0 186 (dk_at dksX3_oneTest_6 17 rfl rfl)
theorem dX3_oneTest_163 : decode cX3_oneTest 163 = .ok (.aload_n 0, 1) := dk_42 (dk_at dksX3_oneTest_6 20 rfl rfl)
theorem dX3_oneTest_164 : decode cX3_oneTest 164 = .ok (.invokevirtual 221, 3) := dk_182 0 221 (dk_at dksX3_oneTest_6 21 rfl rfl)
theorem dX3_oneTest_167 : decode cX3_oneTest 167 = .ok (.ifCond .ne 5, 3) := dk_154 0 5 (dk_at dksX3_oneTest_7 0 rfl rfl)
theorem dX3_oneTest_170 : decode cX3_oneTest 170 = .ok (.iconst 0, 1) := dk_3 (dk_at dksX3_oneTest_7 3 rfl rfl)
theorem dX3_oneTest_171 : decode cX3_oneTest 171 = .ok (.ireturn, 1) := dk_172 (dk_at dksX3_oneTest_7 4 rfl rfl)
theorem dX3_oneTest_172 : decode cX3_oneTest 172 = .ok (.aload_n 0, 1) := dk_42 (dk_at dksX3_oneTest_7 5 rfl rfl)
theorem dX3_oneTest_173 : decode cX3_oneTest 173 = .ok (.iload_n 1, 1) := dk_27 (dk_at dksX3_oneTest_7 6 rfl rfl)
theorem dX3_oneTest_174 : decode cX3_oneTest 174 = .ok (.iconst 0, 1) := dk_3 (dk_at dksX3_oneTest_7 7 rfl rfl)
theorem dX3_oneTest_175 : decode cX3_oneTest 175 = .ok (.invokevirtual 199, 3) := dk_182 0 199 (dk_at dksX3_oneTest_7 8 rfl rfl)
theorem dX3_oneTest_178 : decode cX3_oneTest 178 = .ok (.iconst 1, 1) := dk_4 (dk_at dksX3_oneTest_7 11 rfl rfl)
theorem dX3_oneTest_179 : decode cX3_oneTest 179 = .ok (.ireturn, 1) := dk_172 (dk_at dksX3_oneTest_7 12 rfl rfl)
abbrev cX3_opens : ByteArray := prog_17_method_32_code
def yX3_opens : MethodName := ⟨RX3, "opens", "()Z"⟩
def dkwX3_opens_1 : List UInt8 := [181, 0, 192, 42, 182, 0, 186, 4, 172]
abbrev dktX3_opens_1 : List UInt8 := dkwX3_opens_1 ++ []
def dkwX3_opens_0 : List UInt8 := [42, 180, 0, 192, 16, 8, 160, 0, 9, 42, 6, 182, 0, 183, 172, 42, 89, 180, 0, 192, 4, 96]
abbrev dktX3_opens_0 : List UInt8 := dkwX3_opens_0 ++ dktX3_opens_1
theorem dksX3_opens_0 : cX3_opens.data.toList.drop 0 = dktX3_opens_0 := by decide +kernel
theorem dksX3_opens_1 : cX3_opens.data.toList.drop 22 = dktX3_opens_1 := dk_seg dksX3_opens_0 22 rfl rfl
theorem dX3_opens_0 : decode cX3_opens 0 = .ok (.aload_n 0, 1) := dk_42 (dk_at dksX3_opens_0 0 rfl rfl)
theorem dX3_opens_1 : decode cX3_opens 1 = .ok (.getfield 192, 3) := dk_180 0 192 (dk_at dksX3_opens_0 1 rfl rfl)
theorem dX3_opens_4 : decode cX3_opens 4 = .ok (.bipush 8, 2) := dk_16 8 (dk_at dksX3_opens_0 4 rfl rfl)
theorem dX3_opens_6 : decode cX3_opens 6 = .ok (.if_icmp .ne 9, 3) := dk_160 0 9 (dk_at dksX3_opens_0 6 rfl rfl)
theorem dX3_opens_9 : decode cX3_opens 9 = .ok (.aload_n 0, 1) := dk_42 (dk_at dksX3_opens_0 9 rfl rfl)
theorem dX3_opens_10 : decode cX3_opens 10 = .ok (.iconst 3, 1) := dk_6 (dk_at dksX3_opens_0 10 rfl rfl)
theorem dX3_opens_11 : decode cX3_opens 11 = .ok (.invokevirtual 183, 3) := dk_182 0 183 (dk_at dksX3_opens_0 11 rfl rfl)
theorem dX3_opens_14 : decode cX3_opens 14 = .ok (.ireturn, 1) := dk_172 (dk_at dksX3_opens_0 14 rfl rfl)
theorem dX3_opens_15 : decode cX3_opens 15 = .ok (.aload_n 0, 1) := dk_42 (dk_at dksX3_opens_0 15 rfl rfl)
theorem dX3_opens_16 : decode cX3_opens 16 = .ok (.dup, 1) := dk_89 (dk_at dksX3_opens_0 16 rfl rfl)
theorem dX3_opens_17 : decode cX3_opens 17 = .ok (.getfield 192, 3) := dk_180 0 192 (dk_at dksX3_opens_0 17 rfl rfl)
theorem dX3_opens_20 : decode cX3_opens 20 = .ok (.iconst 1, 1) := dk_4 (dk_at dksX3_opens_0 20 rfl rfl)
theorem dX3_opens_21 : decode cX3_opens 21 = .ok (.iadd, 1) := dk_96 (dk_at dksX3_opens_0 21 rfl rfl)
theorem dX3_opens_22 : decode cX3_opens 22 = .ok (.putfield 192, 3) := dk_181 0 192 (dk_at dksX3_opens_1 0 rfl rfl)
theorem dX3_opens_25 : decode cX3_opens 25 = .ok (.aload_n 0, 1) := dk_42 (dk_at dksX3_opens_1 3 rfl rfl)
theorem dX3_opens_26 : decode cX3_opens 26 = .ok (.invokevirtual 186, 3) := dk_182 0 186 (dk_at dksX3_opens_1 4 rfl rfl)
theorem dX3_opens_29 : decode cX3_opens 29 = .ok (.iconst 1, 1) := dk_4 (dk_at dksX3_opens_1 7 rfl rfl)
theorem dX3_opens_30 : decode cX3_opens 30 = .ok (.ireturn, 1) := dk_172 (dk_at dksX3_opens_1 8 rfl rfl)
abbrev cX3_need : ByteArray := prog_17_method_30_code
def yX3_need : MethodName := ⟨RX3, "need", "(I)Z"⟩
def dkwX3_need_0 : List UInt8 := [42, 180, 0, 162, 27, 159, 0, 9, 42, 4, 182, 0, 183, 172, 42, 182, 0, 186, 4, 172]
abbrev dktX3_need_0 : List UInt8 := dkwX3_need_0 ++ []
theorem dksX3_need_0 : cX3_need.data.toList.drop 0 = dktX3_need_0 := by decide +kernel
theorem dX3_need_0 : decode cX3_need 0 = .ok (.aload_n 0, 1) := dk_42 (dk_at dksX3_need_0 0 rfl rfl)
theorem dX3_need_1 : decode cX3_need 1 = .ok (.getfield 162, 3) := dk_180 0 162 (dk_at dksX3_need_0 1 rfl rfl)
theorem dX3_need_4 : decode cX3_need 4 = .ok (.iload_n 1, 1) := dk_27 (dk_at dksX3_need_0 4 rfl rfl)
theorem dX3_need_5 : decode cX3_need 5 = .ok (.if_icmp .eq 9, 3) := dk_159 0 9 (dk_at dksX3_need_0 5 rfl rfl)
theorem dX3_need_8 : decode cX3_need 8 = .ok (.aload_n 0, 1) := dk_42 (dk_at dksX3_need_0 8 rfl rfl)
theorem dX3_need_9 : decode cX3_need 9 = .ok (.iconst 1, 1) := dk_4 (dk_at dksX3_need_0 9 rfl rfl)
theorem dX3_need_10 : decode cX3_need 10 = .ok (.invokevirtual 183, 3) := dk_182 0 183 (dk_at dksX3_need_0 10 rfl rfl)
theorem dX3_need_13 : decode cX3_need 13 = .ok (.ireturn, 1) := dk_172 (dk_at dksX3_need_0 13 rfl rfl)
theorem dX3_need_14 : decode cX3_need 14 = .ok (.aload_n 0, 1) := dk_42 (dk_at dksX3_need_0 14 rfl rfl)
theorem dX3_need_15 : decode cX3_need 15 = .ok (.invokevirtual 186, 3) := dk_182 0 186 (dk_at dksX3_need_0 15 rfl rfl)
theorem dX3_need_18 : decode cX3_need 18 = .ok (.iconst 1, 1) := dk_4 (dk_at dksX3_need_0 18 rfl rfl)
theorem dX3_need_19 : decode cX3_need 19 = .ok (.ireturn, 1) := dk_172 (dk_at dksX3_need_0 19 rfl rfl)
abbrev cX3_readsRows : ByteArray := prog_17_method_48_code
def yX3_readsRows : MethodName := ⟨RX3, "readsRows", "()Z"⟩
def dkwX3_readsRows_3 : List UInt8 := [167, 255, 194, 27, 172]
abbrev dktX3_readsRows_3 : List UInt8 := dkwX3_readsRows_3 ++ []
def dkwX3_readsRows_2 : List UInt8 := [42, 182, 0, 252, 60, 42, 89, 180, 0, 233, 27, 153, 0, 7, 4, 167, 0, 4, 3, 96, 181, 0, 233]
abbrev dktX3_readsRows_2 : List UInt8 := dkwX3_readsRows_2 ++ dktX3_readsRows_3
def dkwX3_readsRows_1 : List UInt8 := [154, 0, 9, 42, 4, 182, 0, 183, 172, 42, 180, 0, 233, 16, 16, 160, 0, 9, 42, 6, 182, 0, 183, 172]
abbrev dktX3_readsRows_1 : List UInt8 := dkwX3_readsRows_1 ++ dktX3_readsRows_2
def dkwX3_readsRows_0 : List UInt8 := [42, 3, 181, 0, 233, 4, 60, 27, 153, 0, 64, 42, 180, 0, 162, 153, 0, 57, 42, 182, 0, 249]
abbrev dktX3_readsRows_0 : List UInt8 := dkwX3_readsRows_0 ++ dktX3_readsRows_1
theorem dksX3_readsRows_0 : cX3_readsRows.data.toList.drop 0 = dktX3_readsRows_0 := by decide +kernel
theorem dksX3_readsRows_1 : cX3_readsRows.data.toList.drop 22 = dktX3_readsRows_1 := dk_seg dksX3_readsRows_0 22 rfl rfl
theorem dksX3_readsRows_2 : cX3_readsRows.data.toList.drop 46 = dktX3_readsRows_2 := dk_seg dksX3_readsRows_1 24 rfl rfl
theorem dksX3_readsRows_3 : cX3_readsRows.data.toList.drop 69 = dktX3_readsRows_3 := dk_seg dksX3_readsRows_2 23 rfl rfl
theorem dX3_readsRows_0 : decode cX3_readsRows 0 = .ok (.aload_n 0, 1) := dk_42 (dk_at dksX3_readsRows_0 0 rfl rfl)
theorem dX3_readsRows_1 : decode cX3_readsRows 1 = .ok (.iconst 0, 1) := dk_3 (dk_at dksX3_readsRows_0 1 rfl rfl)
theorem dX3_readsRows_2 : decode cX3_readsRows 2 = .ok (.putfield 233, 3) := dk_181 0 233 (dk_at dksX3_readsRows_0 2 rfl rfl)
theorem dX3_readsRows_5 : decode cX3_readsRows 5 = .ok (.iconst 1, 1) := dk_4 (dk_at dksX3_readsRows_0 5 rfl rfl)
theorem dX3_readsRows_6 : decode cX3_readsRows 6 = .ok (.istore_n 1, 1) := dk_60 (dk_at dksX3_readsRows_0 6 rfl rfl)
theorem dX3_readsRows_7 : decode cX3_readsRows 7 = .ok (.iload_n 1, 1) := dk_27 (dk_at dksX3_readsRows_0 7 rfl rfl)
theorem dX3_readsRows_8 : decode cX3_readsRows 8 = .ok (.ifCond .eq 64, 3) := dk_153 0 64 (dk_at dksX3_readsRows_0 8 rfl rfl)
theorem dX3_readsRows_11 : decode cX3_readsRows 11 = .ok (.aload_n 0, 1) := dk_42 (dk_at dksX3_readsRows_0 11 rfl rfl)
theorem dX3_readsRows_12 : decode cX3_readsRows 12 = .ok (.getfield 162, 3) := dk_180 0 162 (dk_at dksX3_readsRows_0 12 rfl rfl)
theorem dX3_readsRows_15 : decode cX3_readsRows 15 = .ok (.ifCond .eq 57, 3) := dk_153 0 57 (dk_at dksX3_readsRows_0 15 rfl rfl)
theorem dX3_readsRows_18 : decode cX3_readsRows 18 = .ok (.aload_n 0, 1) := dk_42 (dk_at dksX3_readsRows_0 18 rfl rfl)
theorem dX3_readsRows_19 : decode cX3_readsRows 19 = .ok (.invokevirtual 249, 3) := dk_182 0 249 (dk_at dksX3_readsRows_0 19 rfl rfl)
theorem dX3_readsRows_22 : decode cX3_readsRows 22 = .ok (.ifCond .ne 9, 3) := dk_154 0 9 (dk_at dksX3_readsRows_1 0 rfl rfl)
theorem dX3_readsRows_25 : decode cX3_readsRows 25 = .ok (.aload_n 0, 1) := dk_42 (dk_at dksX3_readsRows_1 3 rfl rfl)
theorem dX3_readsRows_26 : decode cX3_readsRows 26 = .ok (.iconst 1, 1) := dk_4 (dk_at dksX3_readsRows_1 4 rfl rfl)
theorem dX3_readsRows_27 : decode cX3_readsRows 27 = .ok (.invokevirtual 183, 3) := dk_182 0 183 (dk_at dksX3_readsRows_1 5 rfl rfl)
theorem dX3_readsRows_30 : decode cX3_readsRows 30 = .ok (.ireturn, 1) := dk_172 (dk_at dksX3_readsRows_1 8 rfl rfl)
theorem dX3_readsRows_31 : decode cX3_readsRows 31 = .ok (.aload_n 0, 1) := dk_42 (dk_at dksX3_readsRows_1 9 rfl rfl)
theorem dX3_readsRows_32 : decode cX3_readsRows 32 = .ok (.getfield 233, 3) := dk_180 0 233 (dk_at dksX3_readsRows_1 10 rfl rfl)
theorem dX3_readsRows_35 : decode cX3_readsRows 35 = .ok (.bipush 16, 2) := dk_16 16 (dk_at dksX3_readsRows_1 13 rfl rfl)
theorem dX3_readsRows_37 : decode cX3_readsRows 37 = .ok (.if_icmp .ne 9, 3) := dk_160 0 9 (dk_at dksX3_readsRows_1 15 rfl rfl)
theorem dX3_readsRows_40 : decode cX3_readsRows 40 = .ok (.aload_n 0, 1) := dk_42 (dk_at dksX3_readsRows_1 18 rfl rfl)
theorem dX3_readsRows_41 : decode cX3_readsRows 41 = .ok (.iconst 3, 1) := dk_6 (dk_at dksX3_readsRows_1 19 rfl rfl)
theorem dX3_readsRows_42 : decode cX3_readsRows 42 = .ok (.invokevirtual 183, 3) := dk_182 0 183 (dk_at dksX3_readsRows_1 20 rfl rfl)
theorem dX3_readsRows_45 : decode cX3_readsRows 45 = .ok (.ireturn, 1) := dk_172 (dk_at dksX3_readsRows_1 23 rfl rfl)
theorem dX3_readsRows_46 : decode cX3_readsRows 46 = .ok (.aload_n 0, 1) := dk_42 (dk_at dksX3_readsRows_2 0 rfl rfl)
theorem dX3_readsRows_47 : decode cX3_readsRows 47 = .ok (.invokevirtual 252, 3) := dk_182 0 252 (dk_at dksX3_readsRows_2 1 rfl rfl)
theorem dX3_readsRows_50 : decode cX3_readsRows 50 = .ok (.istore_n 1, 1) := dk_60 (dk_at dksX3_readsRows_2 4 rfl rfl)
theorem dX3_readsRows_51 : decode cX3_readsRows 51 = .ok (.aload_n 0, 1) := dk_42 (dk_at dksX3_readsRows_2 5 rfl rfl)
theorem dX3_readsRows_52 : decode cX3_readsRows 52 = .ok (.dup, 1) := dk_89 (dk_at dksX3_readsRows_2 6 rfl rfl)
theorem dX3_readsRows_53 : decode cX3_readsRows 53 = .ok (.getfield 233, 3) := dk_180 0 233 (dk_at dksX3_readsRows_2 7 rfl rfl)
theorem dX3_readsRows_56 : decode cX3_readsRows 56 = .ok (.iload_n 1, 1) := dk_27 (dk_at dksX3_readsRows_2 10 rfl rfl)
theorem dX3_readsRows_57 : decode cX3_readsRows 57 = .ok (.ifCond .eq 7, 3) := dk_153 0 7 (dk_at dksX3_readsRows_2 11 rfl rfl)
theorem dX3_readsRows_60 : decode cX3_readsRows 60 = .ok (.iconst 1, 1) := dk_4 (dk_at dksX3_readsRows_2 14 rfl rfl)
theorem dX3_readsRows_61 : decode cX3_readsRows 61 = .ok (.goto 4, 3) := dk_167 0 4 (dk_at dksX3_readsRows_2 15 rfl rfl)
theorem dX3_readsRows_64 : decode cX3_readsRows 64 = .ok (.iconst 0, 1) := dk_3 (dk_at dksX3_readsRows_2 18 rfl rfl)
theorem dX3_readsRows_65 : decode cX3_readsRows 65 = .ok (.iadd, 1) := dk_96 (dk_at dksX3_readsRows_2 19 rfl rfl)
theorem dX3_readsRows_66 : decode cX3_readsRows 66 = .ok (.putfield 233, 3) := dk_181 0 233 (dk_at dksX3_readsRows_2 20 rfl rfl)
theorem dX3_readsRows_69 : decode cX3_readsRows 69 = .ok (.goto (-62), 3) := dk_167 255 194 (dk_at dksX3_readsRows_3 0 rfl rfl)
theorem dX3_readsRows_72 : decode cX3_readsRows 72 = .ok (.iload_n 1, 1) := dk_27 (dk_at dksX3_readsRows_3 3 rfl rfl)
theorem dX3_readsRows_73 : decode cX3_readsRows 73 = .ok (.ireturn, 1) := dk_172 (dk_at dksX3_readsRows_3 4 rfl rfl)
abbrev cX3_begins : ByteArray := prog_17_method_47_code
def yX3_begins : MethodName := ⟨RX3, "begins", "()Z"⟩
def dkwX3_begins_2 : List UInt8 := [167, 0, 4, 3, 172]
abbrev dktX3_begins_2 : List UInt8 := dkwX3_begins_2 ++ []
def dkwX3_begins_1 : List UInt8 := [180, 0, 162, 42, 180, 0, 146, 5, 160, 0, 8, 16, 12, 167, 0, 5, 16, 14, 160, 0, 7, 4]
abbrev dktX3_begins_1 : List UInt8 := dkwX3_begins_1 ++ dktX3_begins_2
def dkwX3_begins_0 : List UInt8 := [42, 180, 0, 146, 4, 160, 0, 17, 42, 180, 0, 162, 16, 7, 16, 10, 184, 0, 56, 167, 0, 30, 42]
abbrev dktX3_begins_0 : List UInt8 := dkwX3_begins_0 ++ dktX3_begins_1
theorem dksX3_begins_0 : cX3_begins.data.toList.drop 0 = dktX3_begins_0 := by decide +kernel
theorem dksX3_begins_1 : cX3_begins.data.toList.drop 23 = dktX3_begins_1 := dk_seg dksX3_begins_0 23 rfl rfl
theorem dksX3_begins_2 : cX3_begins.data.toList.drop 45 = dktX3_begins_2 := dk_seg dksX3_begins_1 22 rfl rfl
theorem dX3_begins_0 : decode cX3_begins 0 = .ok (.aload_n 0, 1) := dk_42 (dk_at dksX3_begins_0 0 rfl rfl)
theorem dX3_begins_1 : decode cX3_begins 1 = .ok (.getfield 146, 3) := dk_180 0 146 (dk_at dksX3_begins_0 1 rfl rfl)
theorem dX3_begins_4 : decode cX3_begins 4 = .ok (.iconst 1, 1) := dk_4 (dk_at dksX3_begins_0 4 rfl rfl)
theorem dX3_begins_5 : decode cX3_begins 5 = .ok (.if_icmp .ne 17, 3) := dk_160 0 17 (dk_at dksX3_begins_0 5 rfl rfl)
theorem dX3_begins_8 : decode cX3_begins 8 = .ok (.aload_n 0, 1) := dk_42 (dk_at dksX3_begins_0 8 rfl rfl)
theorem dX3_begins_9 : decode cX3_begins 9 = .ok (.getfield 162, 3) := dk_180 0 162 (dk_at dksX3_begins_0 9 rfl rfl)
theorem dX3_begins_12 : decode cX3_begins 12 = .ok (.bipush 7, 2) := dk_16 7 (dk_at dksX3_begins_0 12 rfl rfl)
theorem dX3_begins_14 : decode cX3_begins 14 = .ok (.bipush 10, 2) := dk_16 10 (dk_at dksX3_begins_0 14 rfl rfl)
theorem dX3_begins_16 : decode cX3_begins 16 = .ok (.invokestatic 56, 3) := dk_184 0 56 (dk_at dksX3_begins_0 16 rfl rfl)
theorem dX3_begins_19 : decode cX3_begins 19 = .ok (.goto 30, 3) := dk_167 0 30 (dk_at dksX3_begins_0 19 rfl rfl)
theorem dX3_begins_22 : decode cX3_begins 22 = .ok (.aload_n 0, 1) := dk_42 (dk_at dksX3_begins_0 22 rfl rfl)
theorem dX3_begins_23 : decode cX3_begins 23 = .ok (.getfield 162, 3) := dk_180 0 162 (dk_at dksX3_begins_1 0 rfl rfl)
theorem dX3_begins_26 : decode cX3_begins 26 = .ok (.aload_n 0, 1) := dk_42 (dk_at dksX3_begins_1 3 rfl rfl)
theorem dX3_begins_27 : decode cX3_begins 27 = .ok (.getfield 146, 3) := dk_180 0 146 (dk_at dksX3_begins_1 4 rfl rfl)
theorem dX3_begins_30 : decode cX3_begins 30 = .ok (.iconst 2, 1) := dk_5 (dk_at dksX3_begins_1 7 rfl rfl)
theorem dX3_begins_31 : decode cX3_begins 31 = .ok (.if_icmp .ne 8, 3) := dk_160 0 8 (dk_at dksX3_begins_1 8 rfl rfl)
theorem dX3_begins_34 : decode cX3_begins 34 = .ok (.bipush 12, 2) := dk_16 12 (dk_at dksX3_begins_1 11 rfl rfl)
theorem dX3_begins_36 : decode cX3_begins 36 = .ok (.goto 5, 3) := dk_167 0 5 (dk_at dksX3_begins_1 13 rfl rfl)
theorem dX3_begins_39 : decode cX3_begins 39 = .ok (.bipush 14, 2) := dk_16 14 (dk_at dksX3_begins_1 16 rfl rfl)
theorem dX3_begins_41 : decode cX3_begins 41 = .ok (.if_icmp .ne 7, 3) := dk_160 0 7 (dk_at dksX3_begins_1 18 rfl rfl)
theorem dX3_begins_44 : decode cX3_begins 44 = .ok (.iconst 1, 1) := dk_4 (dk_at dksX3_begins_1 21 rfl rfl)
theorem dX3_begins_45 : decode cX3_begins 45 = .ok (.goto 4, 3) := dk_167 0 4 (dk_at dksX3_begins_2 0 rfl rfl)
theorem dX3_begins_48 : decode cX3_begins 48 = .ok (.iconst 0, 1) := dk_3 (dk_at dksX3_begins_2 3 rfl rfl)
theorem dX3_begins_49 : decode cX3_begins 49 = .ok (.ireturn, 1) := dk_172 (dk_at dksX3_begins_2 4 rfl rfl)
abbrev cX3_aRow : ByteArray := prog_17_method_46_code
def yX3_aRow : MethodName := ⟨RX3, "aRow", "()Z"⟩
def dkwX3_aRow_2 : List UInt8 := [182, 0, 218, 153, 0, 7, 4, 167, 0, 4, 3, 172]
abbrev dktX3_aRow_2 : List UInt8 := dkwX3_aRow_2 ++ []
def dkwX3_aRow_1 : List UInt8 := [160, 0, 13, 42, 182, 0, 243, 153, 0, 27, 167, 0, 10, 42, 182, 0, 246, 153, 0, 17, 42, 17, 0, 159]
abbrev dktX3_aRow_1 : List UInt8 := dkwX3_aRow_1 ++ dktX3_aRow_2
def dkwX3_aRow_0 : List UInt8 := [42, 180, 0, 146, 4, 160, 0, 13, 42, 182, 0, 240, 153, 0, 45, 167, 0, 28, 42, 180, 0, 146, 5]
abbrev dktX3_aRow_0 : List UInt8 := dkwX3_aRow_0 ++ dktX3_aRow_1
theorem dksX3_aRow_0 : cX3_aRow.data.toList.drop 0 = dktX3_aRow_0 := by decide +kernel
theorem dksX3_aRow_1 : cX3_aRow.data.toList.drop 23 = dktX3_aRow_1 := dk_seg dksX3_aRow_0 23 rfl rfl
theorem dksX3_aRow_2 : cX3_aRow.data.toList.drop 47 = dktX3_aRow_2 := dk_seg dksX3_aRow_1 24 rfl rfl
theorem dX3_aRow_0 : decode cX3_aRow 0 = .ok (.aload_n 0, 1) := dk_42 (dk_at dksX3_aRow_0 0 rfl rfl)
theorem dX3_aRow_1 : decode cX3_aRow 1 = .ok (.getfield 146, 3) := dk_180 0 146 (dk_at dksX3_aRow_0 1 rfl rfl)
theorem dX3_aRow_4 : decode cX3_aRow 4 = .ok (.iconst 1, 1) := dk_4 (dk_at dksX3_aRow_0 4 rfl rfl)
theorem dX3_aRow_5 : decode cX3_aRow 5 = .ok (.if_icmp .ne 13, 3) := dk_160 0 13 (dk_at dksX3_aRow_0 5 rfl rfl)
theorem dX3_aRow_8 : decode cX3_aRow 8 = .ok (.aload_n 0, 1) := dk_42 (dk_at dksX3_aRow_0 8 rfl rfl)
theorem dX3_aRow_9 : decode cX3_aRow 9 = .ok (.invokevirtual 240, 3) := dk_182 0 240 (dk_at dksX3_aRow_0 9 rfl rfl)
theorem dX3_aRow_12 : decode cX3_aRow 12 = .ok (.ifCond .eq 45, 3) := dk_153 0 45 (dk_at dksX3_aRow_0 12 rfl rfl)
theorem dX3_aRow_15 : decode cX3_aRow 15 = .ok (.goto 28, 3) := dk_167 0 28 (dk_at dksX3_aRow_0 15 rfl rfl)
theorem dX3_aRow_18 : decode cX3_aRow 18 = .ok (.aload_n 0, 1) := dk_42 (dk_at dksX3_aRow_0 18 rfl rfl)
theorem dX3_aRow_19 : decode cX3_aRow 19 = .ok (.getfield 146, 3) := dk_180 0 146 (dk_at dksX3_aRow_0 19 rfl rfl)
theorem dX3_aRow_22 : decode cX3_aRow 22 = .ok (.iconst 2, 1) := dk_5 (dk_at dksX3_aRow_0 22 rfl rfl)
theorem dX3_aRow_23 : decode cX3_aRow 23 = .ok (.if_icmp .ne 13, 3) := dk_160 0 13 (dk_at dksX3_aRow_1 0 rfl rfl)
theorem dX3_aRow_26 : decode cX3_aRow 26 = .ok (.aload_n 0, 1) := dk_42 (dk_at dksX3_aRow_1 3 rfl rfl)
theorem dX3_aRow_27 : decode cX3_aRow 27 = .ok (.invokevirtual 243, 3) := dk_182 0 243 (dk_at dksX3_aRow_1 4 rfl rfl)
theorem dX3_aRow_30 : decode cX3_aRow 30 = .ok (.ifCond .eq 27, 3) := dk_153 0 27 (dk_at dksX3_aRow_1 7 rfl rfl)
theorem dX3_aRow_33 : decode cX3_aRow 33 = .ok (.goto 10, 3) := dk_167 0 10 (dk_at dksX3_aRow_1 10 rfl rfl)
theorem dX3_aRow_36 : decode cX3_aRow 36 = .ok (.aload_n 0, 1) := dk_42 (dk_at dksX3_aRow_1 13 rfl rfl)
theorem dX3_aRow_37 : decode cX3_aRow 37 = .ok (.invokevirtual 246, 3) := dk_182 0 246 (dk_at dksX3_aRow_1 14 rfl rfl)
theorem dX3_aRow_40 : decode cX3_aRow 40 = .ok (.ifCond .eq 17, 3) := dk_153 0 17 (dk_at dksX3_aRow_1 17 rfl rfl)
theorem dX3_aRow_43 : decode cX3_aRow 43 = .ok (.aload_n 0, 1) := dk_42 (dk_at dksX3_aRow_1 20 rfl rfl)
theorem dX3_aRow_44 : decode cX3_aRow 44 = .ok (.sipush 159, 3) := dk_17 0 159 (dk_at dksX3_aRow_1 21 rfl rfl)
theorem dX3_aRow_47 : decode cX3_aRow 47 = .ok (.invokevirtual 218, 3) := dk_182 0 218 (dk_at dksX3_aRow_2 0 rfl rfl)
theorem dX3_aRow_50 : decode cX3_aRow 50 = .ok (.ifCond .eq 7, 3) := dk_153 0 7 (dk_at dksX3_aRow_2 3 rfl rfl)
theorem dX3_aRow_53 : decode cX3_aRow 53 = .ok (.iconst 1, 1) := dk_4 (dk_at dksX3_aRow_2 6 rfl rfl)
theorem dX3_aRow_54 : decode cX3_aRow 54 = .ok (.goto 4, 3) := dk_167 0 4 (dk_at dksX3_aRow_2 7 rfl rfl)
theorem dX3_aRow_57 : decode cX3_aRow 57 = .ok (.iconst 0, 1) := dk_3 (dk_at dksX3_aRow_2 10 rfl rfl)
theorem dX3_aRow_58 : decode cX3_aRow 58 = .ok (.ireturn, 1) := dk_172 (dk_at dksX3_aRow_2 11 rfl rfl)
abbrev cX3_aRule : ByteArray := prog_17_method_43_code
def yX3_aRule : MethodName := ⟨RX3, "aRule", "()Z"⟩
def dkwX3_aRule_6 : List UInt8 := [17, 39, 15, 182, 0, 230, 172]
abbrev dktX3_aRule_6 : List UInt8 := dkwX3_aRule_6 ++ []
def dkwX3_aRule_5 : List UInt8 := [27, 4, 96, 3, 42, 180, 0, 7, 16, 37, 46, 4, 100, 182, 0, 230, 172, 42, 27, 4, 96, 4]
abbrev dktX3_aRule_5 : List UInt8 := dkwX3_aRule_5 ++ dktX3_aRule_6
def dkwX3_aRule_4 : List UInt8 := [182, 0, 236, 153, 0, 7, 4, 167, 0, 4, 3, 172, 42, 27, 4, 96, 3, 16, 20, 182, 0, 230, 172, 42]
abbrev dktX3_aRule_4 : List UInt8 := dkwX3_aRule_4 ++ dktX3_aRule_5
def dkwX3_aRule_3 : List UInt8 := [42, 27, 4, 96, 4, 16, 99, 182, 0, 230, 153, 0, 23, 42, 27, 5, 96, 16, 11, 3, 17, 39, 15]
abbrev dktX3_aRule_3 : List UInt8 := dkwX3_aRule_3 ++ dktX3_aRule_4
def dkwX3_aRule_2 : List UInt8 := [170, 0, 0, 0, 0, 0, 91, 0, 0, 0, 7, 0, 0, 0, 9, 0, 0, 0, 27, 0, 0, 0, 62, 0, 0, 0, 73]
abbrev dktX3_aRule_2 : List UInt8 := dkwX3_aRule_2 ++ dktX3_aRule_3
def dkwX3_aRule_1 : List UInt8 := [5, 96, 3, 79, 42, 182, 0, 186, 28]
abbrev dktX3_aRule_1 : List UInt8 := dkwX3_aRule_1 ++ dktX3_aRule_2
def dkwX3_aRule_0 : List UInt8 := [6, 42, 180, 0, 233, 104, 60, 42, 180, 0, 162, 61, 42, 180, 0, 28, 27, 28, 79, 42, 180, 0, 28, 27]
abbrev dktX3_aRule_0 : List UInt8 := dkwX3_aRule_0 ++ dktX3_aRule_1
theorem dksX3_aRule_0 : cX3_aRule.data.toList.drop 0 = dktX3_aRule_0 := by decide +kernel
theorem dksX3_aRule_1 : cX3_aRule.data.toList.drop 24 = dktX3_aRule_1 := dk_seg dksX3_aRule_0 24 rfl rfl
theorem dksX3_aRule_2 : cX3_aRule.data.toList.drop 33 = dktX3_aRule_2 := dk_seg dksX3_aRule_1 9 rfl rfl
theorem dksX3_aRule_3 : cX3_aRule.data.toList.drop 60 = dktX3_aRule_3 := dk_seg dksX3_aRule_2 27 rfl rfl
theorem dksX3_aRule_4 : cX3_aRule.data.toList.drop 83 = dktX3_aRule_4 := dk_seg dksX3_aRule_3 23 rfl rfl
theorem dksX3_aRule_5 : cX3_aRule.data.toList.drop 107 = dktX3_aRule_5 := dk_seg dksX3_aRule_4 24 rfl rfl
theorem dksX3_aRule_6 : cX3_aRule.data.toList.drop 129 = dktX3_aRule_6 := dk_seg dksX3_aRule_5 22 rfl rfl
theorem dX3_aRule_0 : decode cX3_aRule 0 = .ok (.iconst 3, 1) := dk_6 (dk_at dksX3_aRule_0 0 rfl rfl)
theorem dX3_aRule_1 : decode cX3_aRule 1 = .ok (.aload_n 0, 1) := dk_42 (dk_at dksX3_aRule_0 1 rfl rfl)
theorem dX3_aRule_2 : decode cX3_aRule 2 = .ok (.getfield 233, 3) := dk_180 0 233 (dk_at dksX3_aRule_0 2 rfl rfl)
theorem dX3_aRule_5 : decode cX3_aRule 5 = .ok (.imul, 1) := dk_104 (dk_at dksX3_aRule_0 5 rfl rfl)
theorem dX3_aRule_6 : decode cX3_aRule 6 = .ok (.istore_n 1, 1) := dk_60 (dk_at dksX3_aRule_0 6 rfl rfl)
theorem dX3_aRule_7 : decode cX3_aRule 7 = .ok (.aload_n 0, 1) := dk_42 (dk_at dksX3_aRule_0 7 rfl rfl)
theorem dX3_aRule_8 : decode cX3_aRule 8 = .ok (.getfield 162, 3) := dk_180 0 162 (dk_at dksX3_aRule_0 8 rfl rfl)
theorem dX3_aRule_11 : decode cX3_aRule 11 = .ok (.istore_n 2, 1) := dk_61 (dk_at dksX3_aRule_0 11 rfl rfl)
theorem dX3_aRule_12 : decode cX3_aRule 12 = .ok (.aload_n 0, 1) := dk_42 (dk_at dksX3_aRule_0 12 rfl rfl)
theorem dX3_aRule_13 : decode cX3_aRule 13 = .ok (.getfield 28, 3) := dk_180 0 28 (dk_at dksX3_aRule_0 13 rfl rfl)
theorem dX3_aRule_16 : decode cX3_aRule 16 = .ok (.iload_n 1, 1) := dk_27 (dk_at dksX3_aRule_0 16 rfl rfl)
theorem dX3_aRule_17 : decode cX3_aRule 17 = .ok (.iload_n 2, 1) := dk_28 (dk_at dksX3_aRule_0 17 rfl rfl)
theorem dX3_aRule_18 : decode cX3_aRule 18 = .ok (.iastore, 1) := dk_79 (dk_at dksX3_aRule_0 18 rfl rfl)
theorem dX3_aRule_19 : decode cX3_aRule 19 = .ok (.aload_n 0, 1) := dk_42 (dk_at dksX3_aRule_0 19 rfl rfl)
theorem dX3_aRule_20 : decode cX3_aRule 20 = .ok (.getfield 28, 3) := dk_180 0 28 (dk_at dksX3_aRule_0 20 rfl rfl)
theorem dX3_aRule_23 : decode cX3_aRule 23 = .ok (.iload_n 1, 1) := dk_27 (dk_at dksX3_aRule_0 23 rfl rfl)
theorem dX3_aRule_24 : decode cX3_aRule 24 = .ok (.iconst 2, 1) := dk_5 (dk_at dksX3_aRule_1 0 rfl rfl)
theorem dX3_aRule_25 : decode cX3_aRule 25 = .ok (.iadd, 1) := dk_96 (dk_at dksX3_aRule_1 1 rfl rfl)
theorem dX3_aRule_26 : decode cX3_aRule 26 = .ok (.iconst 0, 1) := dk_3 (dk_at dksX3_aRule_1 2 rfl rfl)
theorem dX3_aRule_27 : decode cX3_aRule 27 = .ok (.iastore, 1) := dk_79 (dk_at dksX3_aRule_1 3 rfl rfl)
theorem dX3_aRule_28 : decode cX3_aRule 28 = .ok (.aload_n 0, 1) := dk_42 (dk_at dksX3_aRule_1 4 rfl rfl)
theorem dX3_aRule_29 : decode cX3_aRule 29 = .ok (.invokevirtual 186, 3) := dk_182 0 186 (dk_at dksX3_aRule_1 5 rfl rfl)
theorem dX3_aRule_32 : decode cX3_aRule 32 = .ok (.iload_n 2, 1) := dk_28 (dk_at dksX3_aRule_1 8 rfl rfl)
theorem dX3_aRule_33 : decode cX3_aRule 33 = .ok (.tableswitch 91 7 9 #[27, 62, 73], 27) := by decide +kernel
theorem dX3_aRule_60 : decode cX3_aRule 60 = .ok (.aload_n 0, 1) := dk_42 (dk_at dksX3_aRule_3 0 rfl rfl)
theorem dX3_aRule_61 : decode cX3_aRule 61 = .ok (.iload_n 1, 1) := dk_27 (dk_at dksX3_aRule_3 1 rfl rfl)
theorem dX3_aRule_62 : decode cX3_aRule 62 = .ok (.iconst 1, 1) := dk_4 (dk_at dksX3_aRule_3 2 rfl rfl)
theorem dX3_aRule_63 : decode cX3_aRule 63 = .ok (.iadd, 1) := dk_96 (dk_at dksX3_aRule_3 3 rfl rfl)
theorem dX3_aRule_64 : decode cX3_aRule 64 = .ok (.iconst 1, 1) := dk_4 (dk_at dksX3_aRule_3 4 rfl rfl)
theorem dX3_aRule_65 : decode cX3_aRule 65 = .ok (.bipush 99, 2) := dk_16 99 (dk_at dksX3_aRule_3 5 rfl rfl)
theorem dX3_aRule_67 : decode cX3_aRule 67 = .ok (.invokevirtual 230, 3) := dk_182 0 230 (dk_at dksX3_aRule_3 7 rfl rfl)
theorem dX3_aRule_70 : decode cX3_aRule 70 = .ok (.ifCond .eq 23, 3) := dk_153 0 23 (dk_at dksX3_aRule_3 10 rfl rfl)
theorem dX3_aRule_73 : decode cX3_aRule 73 = .ok (.aload_n 0, 1) := dk_42 (dk_at dksX3_aRule_3 13 rfl rfl)
theorem dX3_aRule_74 : decode cX3_aRule 74 = .ok (.iload_n 1, 1) := dk_27 (dk_at dksX3_aRule_3 14 rfl rfl)
theorem dX3_aRule_75 : decode cX3_aRule 75 = .ok (.iconst 2, 1) := dk_5 (dk_at dksX3_aRule_3 15 rfl rfl)
theorem dX3_aRule_76 : decode cX3_aRule 76 = .ok (.iadd, 1) := dk_96 (dk_at dksX3_aRule_3 16 rfl rfl)
theorem dX3_aRule_77 : decode cX3_aRule 77 = .ok (.bipush 11, 2) := dk_16 11 (dk_at dksX3_aRule_3 17 rfl rfl)
theorem dX3_aRule_79 : decode cX3_aRule 79 = .ok (.iconst 0, 1) := dk_3 (dk_at dksX3_aRule_3 19 rfl rfl)
theorem dX3_aRule_80 : decode cX3_aRule 80 = .ok (.sipush 9999, 3) := dk_17 39 15 (dk_at dksX3_aRule_3 20 rfl rfl)
theorem dX3_aRule_83 : decode cX3_aRule 83 = .ok (.invokevirtual 236, 3) := dk_182 0 236 (dk_at dksX3_aRule_4 0 rfl rfl)
theorem dX3_aRule_86 : decode cX3_aRule 86 = .ok (.ifCond .eq 7, 3) := dk_153 0 7 (dk_at dksX3_aRule_4 3 rfl rfl)
theorem dX3_aRule_89 : decode cX3_aRule 89 = .ok (.iconst 1, 1) := dk_4 (dk_at dksX3_aRule_4 6 rfl rfl)
theorem dX3_aRule_90 : decode cX3_aRule 90 = .ok (.goto 4, 3) := dk_167 0 4 (dk_at dksX3_aRule_4 7 rfl rfl)
theorem dX3_aRule_93 : decode cX3_aRule 93 = .ok (.iconst 0, 1) := dk_3 (dk_at dksX3_aRule_4 10 rfl rfl)
theorem dX3_aRule_94 : decode cX3_aRule 94 = .ok (.ireturn, 1) := dk_172 (dk_at dksX3_aRule_4 11 rfl rfl)
theorem dX3_aRule_95 : decode cX3_aRule 95 = .ok (.aload_n 0, 1) := dk_42 (dk_at dksX3_aRule_4 12 rfl rfl)
theorem dX3_aRule_96 : decode cX3_aRule 96 = .ok (.iload_n 1, 1) := dk_27 (dk_at dksX3_aRule_4 13 rfl rfl)
theorem dX3_aRule_97 : decode cX3_aRule 97 = .ok (.iconst 1, 1) := dk_4 (dk_at dksX3_aRule_4 14 rfl rfl)
theorem dX3_aRule_98 : decode cX3_aRule 98 = .ok (.iadd, 1) := dk_96 (dk_at dksX3_aRule_4 15 rfl rfl)
theorem dX3_aRule_99 : decode cX3_aRule 99 = .ok (.iconst 0, 1) := dk_3 (dk_at dksX3_aRule_4 16 rfl rfl)
theorem dX3_aRule_100 : decode cX3_aRule 100 = .ok (.bipush 20, 2) := dk_16 20 (dk_at dksX3_aRule_4 17 rfl rfl)
theorem dX3_aRule_102 : decode cX3_aRule 102 = .ok (.invokevirtual 230, 3) := dk_182 0 230 (dk_at dksX3_aRule_4 19 rfl rfl)
theorem dX3_aRule_105 : decode cX3_aRule 105 = .ok (.ireturn, 1) := dk_172 (dk_at dksX3_aRule_4 22 rfl rfl)
theorem dX3_aRule_106 : decode cX3_aRule 106 = .ok (.aload_n 0, 1) := dk_42 (dk_at dksX3_aRule_4 23 rfl rfl)
theorem dX3_aRule_107 : decode cX3_aRule 107 = .ok (.iload_n 1, 1) := dk_27 (dk_at dksX3_aRule_5 0 rfl rfl)
theorem dX3_aRule_108 : decode cX3_aRule 108 = .ok (.iconst 1, 1) := dk_4 (dk_at dksX3_aRule_5 1 rfl rfl)
theorem dX3_aRule_109 : decode cX3_aRule 109 = .ok (.iadd, 1) := dk_96 (dk_at dksX3_aRule_5 2 rfl rfl)
theorem dX3_aRule_110 : decode cX3_aRule 110 = .ok (.iconst 0, 1) := dk_3 (dk_at dksX3_aRule_5 3 rfl rfl)
theorem dX3_aRule_111 : decode cX3_aRule 111 = .ok (.aload_n 0, 1) := dk_42 (dk_at dksX3_aRule_5 4 rfl rfl)
theorem dX3_aRule_112 : decode cX3_aRule 112 = .ok (.getfield 7, 3) := dk_180 0 7 (dk_at dksX3_aRule_5 5 rfl rfl)
theorem dX3_aRule_115 : decode cX3_aRule 115 = .ok (.bipush 37, 2) := dk_16 37 (dk_at dksX3_aRule_5 8 rfl rfl)
theorem dX3_aRule_117 : decode cX3_aRule 117 = .ok (.iaload, 1) := dk_46 (dk_at dksX3_aRule_5 10 rfl rfl)
theorem dX3_aRule_118 : decode cX3_aRule 118 = .ok (.iconst 1, 1) := dk_4 (dk_at dksX3_aRule_5 11 rfl rfl)
theorem dX3_aRule_119 : decode cX3_aRule 119 = .ok (.isub, 1) := dk_100 (dk_at dksX3_aRule_5 12 rfl rfl)
theorem dX3_aRule_120 : decode cX3_aRule 120 = .ok (.invokevirtual 230, 3) := dk_182 0 230 (dk_at dksX3_aRule_5 13 rfl rfl)
theorem dX3_aRule_123 : decode cX3_aRule 123 = .ok (.ireturn, 1) := dk_172 (dk_at dksX3_aRule_5 16 rfl rfl)
theorem dX3_aRule_124 : decode cX3_aRule 124 = .ok (.aload_n 0, 1) := dk_42 (dk_at dksX3_aRule_5 17 rfl rfl)
theorem dX3_aRule_125 : decode cX3_aRule 125 = .ok (.iload_n 1, 1) := dk_27 (dk_at dksX3_aRule_5 18 rfl rfl)
theorem dX3_aRule_126 : decode cX3_aRule 126 = .ok (.iconst 1, 1) := dk_4 (dk_at dksX3_aRule_5 19 rfl rfl)
theorem dX3_aRule_127 : decode cX3_aRule 127 = .ok (.iadd, 1) := dk_96 (dk_at dksX3_aRule_5 20 rfl rfl)
theorem dX3_aRule_128 : decode cX3_aRule 128 = .ok (.iconst 1, 1) := dk_4 (dk_at dksX3_aRule_5 21 rfl rfl)
theorem dX3_aRule_129 : decode cX3_aRule 129 = .ok (.sipush 9999, 3) := dk_17 39 15 (dk_at dksX3_aRule_6 0 rfl rfl)
theorem dX3_aRule_132 : decode cX3_aRule 132 = .ok (.invokevirtual 230, 3) := dk_182 0 230 (dk_at dksX3_aRule_6 3 rfl rfl)
theorem dX3_aRule_135 : decode cX3_aRule 135 = .ok (.ireturn, 1) := dk_172 (dk_at dksX3_aRule_6 6 rfl rfl)
abbrev cX3_number : ByteArray := prog_17_method_41_code
def yX3_number : MethodName := ⟨RX3, "number", "(III)Z"⟩
def dkwX3_number_2 : List UInt8 := [172]
abbrev dktX3_number_2 : List UInt8 := dkwX3_number_2 ++ []
def dkwX3_number_1 : List UInt8 := [154, 0, 9, 42, 5, 182, 0, 183, 172, 42, 180, 0, 28, 27, 42, 180, 0, 174, 79, 42, 182, 0, 186, 4]
abbrev dktX3_number_1 : List UInt8 := dkwX3_number_1 ++ dktX3_number_2
def dkwX3_number_0 : List UInt8 := [42, 180, 0, 162, 5, 159, 0, 9, 42, 4, 182, 0, 183, 172, 42, 180, 0, 174, 28, 29, 184, 0, 56]
abbrev dktX3_number_0 : List UInt8 := dkwX3_number_0 ++ dktX3_number_1
theorem dksX3_number_0 : cX3_number.data.toList.drop 0 = dktX3_number_0 := by decide +kernel
theorem dksX3_number_1 : cX3_number.data.toList.drop 23 = dktX3_number_1 := dk_seg dksX3_number_0 23 rfl rfl
theorem dksX3_number_2 : cX3_number.data.toList.drop 47 = dktX3_number_2 := dk_seg dksX3_number_1 24 rfl rfl
theorem dX3_number_0 : decode cX3_number 0 = .ok (.aload_n 0, 1) := dk_42 (dk_at dksX3_number_0 0 rfl rfl)
theorem dX3_number_1 : decode cX3_number 1 = .ok (.getfield 162, 3) := dk_180 0 162 (dk_at dksX3_number_0 1 rfl rfl)
theorem dX3_number_4 : decode cX3_number 4 = .ok (.iconst 2, 1) := dk_5 (dk_at dksX3_number_0 4 rfl rfl)
theorem dX3_number_5 : decode cX3_number 5 = .ok (.if_icmp .eq 9, 3) := dk_159 0 9 (dk_at dksX3_number_0 5 rfl rfl)
theorem dX3_number_8 : decode cX3_number 8 = .ok (.aload_n 0, 1) := dk_42 (dk_at dksX3_number_0 8 rfl rfl)
theorem dX3_number_9 : decode cX3_number 9 = .ok (.iconst 1, 1) := dk_4 (dk_at dksX3_number_0 9 rfl rfl)
theorem dX3_number_10 : decode cX3_number 10 = .ok (.invokevirtual 183, 3) := dk_182 0 183 (dk_at dksX3_number_0 10 rfl rfl)
theorem dX3_number_13 : decode cX3_number 13 = .ok (.ireturn, 1) := dk_172 (dk_at dksX3_number_0 13 rfl rfl)
theorem dX3_number_14 : decode cX3_number 14 = .ok (.aload_n 0, 1) := dk_42 (dk_at dksX3_number_0 14 rfl rfl)
theorem dX3_number_15 : decode cX3_number 15 = .ok (.getfield 174, 3) := dk_180 0 174 (dk_at dksX3_number_0 15 rfl rfl)
theorem dX3_number_18 : decode cX3_number 18 = .ok (.iload_n 2, 1) := dk_28 (dk_at dksX3_number_0 18 rfl rfl)
theorem dX3_number_19 : decode cX3_number 19 = .ok (.iload_n 3, 1) := dk_29 (dk_at dksX3_number_0 19 rfl rfl)
theorem dX3_number_20 : decode cX3_number 20 = .ok (.invokestatic 56, 3) := dk_184 0 56 (dk_at dksX3_number_0 20 rfl rfl)
theorem dX3_number_23 : decode cX3_number 23 = .ok (.ifCond .ne 9, 3) := dk_154 0 9 (dk_at dksX3_number_1 0 rfl rfl)
theorem dX3_number_26 : decode cX3_number 26 = .ok (.aload_n 0, 1) := dk_42 (dk_at dksX3_number_1 3 rfl rfl)
theorem dX3_number_27 : decode cX3_number 27 = .ok (.iconst 2, 1) := dk_5 (dk_at dksX3_number_1 4 rfl rfl)
theorem dX3_number_28 : decode cX3_number 28 = .ok (.invokevirtual 183, 3) := dk_182 0 183 (dk_at dksX3_number_1 5 rfl rfl)
theorem dX3_number_31 : decode cX3_number 31 = .ok (.ireturn, 1) := dk_172 (dk_at dksX3_number_1 8 rfl rfl)
theorem dX3_number_32 : decode cX3_number 32 = .ok (.aload_n 0, 1) := dk_42 (dk_at dksX3_number_1 9 rfl rfl)
theorem dX3_number_33 : decode cX3_number 33 = .ok (.getfield 28, 3) := dk_180 0 28 (dk_at dksX3_number_1 10 rfl rfl)
theorem dX3_number_36 : decode cX3_number 36 = .ok (.iload_n 1, 1) := dk_27 (dk_at dksX3_number_1 13 rfl rfl)
theorem dX3_number_37 : decode cX3_number 37 = .ok (.aload_n 0, 1) := dk_42 (dk_at dksX3_number_1 14 rfl rfl)
theorem dX3_number_38 : decode cX3_number 38 = .ok (.getfield 174, 3) := dk_180 0 174 (dk_at dksX3_number_1 15 rfl rfl)
theorem dX3_number_41 : decode cX3_number 41 = .ok (.iastore, 1) := dk_79 (dk_at dksX3_number_1 18 rfl rfl)
theorem dX3_number_42 : decode cX3_number 42 = .ok (.aload_n 0, 1) := dk_42 (dk_at dksX3_number_1 19 rfl rfl)
theorem dX3_number_43 : decode cX3_number 43 = .ok (.invokevirtual 186, 3) := dk_182 0 186 (dk_at dksX3_number_1 20 rfl rfl)
theorem dX3_number_46 : decode cX3_number 46 = .ok (.iconst 1, 1) := dk_4 (dk_at dksX3_number_1 23 rfl rfl)
theorem dX3_number_47 : decode cX3_number 47 = .ok (.ireturn, 1) := dk_172 (dk_at dksX3_number_2 0 rfl rfl)
abbrev cX3_told : ByteArray := prog_17_method_42_code
def yX3_told : MethodName := ⟨RX3, "told", "(IIII)Z"⟩
def dkwX3_told_1 : List UInt8 := [172]
abbrev dktX3_told_1 : List UInt8 := dkwX3_told_1 ++ []
def dkwX3_told_0 : List UInt8 := [42, 28, 182, 0, 218, 153, 0, 18, 42, 27, 29, 21, 4, 182, 0, 230, 153, 0, 7, 4, 167, 0, 4, 3]
abbrev dktX3_told_0 : List UInt8 := dkwX3_told_0 ++ dktX3_told_1
theorem dksX3_told_0 : cX3_told.data.toList.drop 0 = dktX3_told_0 := by decide +kernel
theorem dksX3_told_1 : cX3_told.data.toList.drop 24 = dktX3_told_1 := dk_seg dksX3_told_0 24 rfl rfl
theorem dX3_told_0 : decode cX3_told 0 = .ok (.aload_n 0, 1) := dk_42 (dk_at dksX3_told_0 0 rfl rfl)
theorem dX3_told_1 : decode cX3_told 1 = .ok (.iload_n 2, 1) := dk_28 (dk_at dksX3_told_0 1 rfl rfl)
theorem dX3_told_2 : decode cX3_told 2 = .ok (.invokevirtual 218, 3) := dk_182 0 218 (dk_at dksX3_told_0 2 rfl rfl)
theorem dX3_told_5 : decode cX3_told 5 = .ok (.ifCond .eq 18, 3) := dk_153 0 18 (dk_at dksX3_told_0 5 rfl rfl)
theorem dX3_told_8 : decode cX3_told 8 = .ok (.aload_n 0, 1) := dk_42 (dk_at dksX3_told_0 8 rfl rfl)
theorem dX3_told_9 : decode cX3_told 9 = .ok (.iload_n 1, 1) := dk_27 (dk_at dksX3_told_0 9 rfl rfl)
theorem dX3_told_10 : decode cX3_told 10 = .ok (.iload_n 3, 1) := dk_29 (dk_at dksX3_told_0 10 rfl rfl)
theorem dX3_told_11 : decode cX3_told 11 = .ok (.iload 4, 2) := dk_21 4 (dk_at dksX3_told_0 11 rfl rfl)
theorem dX3_told_13 : decode cX3_told 13 = .ok (.invokevirtual 230, 3) := dk_182 0 230 (dk_at dksX3_told_0 13 rfl rfl)
theorem dX3_told_16 : decode cX3_told 16 = .ok (.ifCond .eq 7, 3) := dk_153 0 7 (dk_at dksX3_told_0 16 rfl rfl)
theorem dX3_told_19 : decode cX3_told 19 = .ok (.iconst 1, 1) := dk_4 (dk_at dksX3_told_0 19 rfl rfl)
theorem dX3_told_20 : decode cX3_told 20 = .ok (.goto 4, 3) := dk_167 0 4 (dk_at dksX3_told_0 20 rfl rfl)
theorem dX3_told_23 : decode cX3_told 23 = .ok (.iconst 0, 1) := dk_3 (dk_at dksX3_told_0 23 rfl rfl)
theorem dX3_told_24 : decode cX3_told 24 = .ok (.ireturn, 1) := dk_172 (dk_at dksX3_told_1 0 rfl rfl)
abbrev cX3_aPiece : ByteArray := prog_17_method_44_code
def yX3_aPiece : MethodName := ⟨RX3, "aPiece", "()Z"⟩
def dkwX3_aPiece_2 : List UInt8 := [4, 167, 0, 4, 3, 172]
abbrev dktX3_aPiece_2 : List UInt8 := dkwX3_aPiece_2 ++ []
def dkwX3_aPiece_1 : List UInt8 := [180, 0, 233, 104, 4, 96, 16, 13, 3, 42, 180, 0, 7, 16, 38, 46, 4, 100, 182, 0, 236, 153, 0, 7]
abbrev dktX3_aPiece_1 : List UInt8 := dkwX3_aPiece_1 ++ dktX3_aPiece_2
def dkwX3_aPiece_0 : List UInt8 := [42, 5, 42, 180, 0, 233, 104, 16, 12, 3, 17, 39, 15, 182, 0, 236, 153, 0, 34, 42, 5, 42]
abbrev dktX3_aPiece_0 : List UInt8 := dkwX3_aPiece_0 ++ dktX3_aPiece_1
theorem dksX3_aPiece_0 : cX3_aPiece.data.toList.drop 0 = dktX3_aPiece_0 := by decide +kernel
theorem dksX3_aPiece_1 : cX3_aPiece.data.toList.drop 22 = dktX3_aPiece_1 := dk_seg dksX3_aPiece_0 22 rfl rfl
theorem dksX3_aPiece_2 : cX3_aPiece.data.toList.drop 46 = dktX3_aPiece_2 := dk_seg dksX3_aPiece_1 24 rfl rfl
theorem dX3_aPiece_0 : decode cX3_aPiece 0 = .ok (.aload_n 0, 1) := dk_42 (dk_at dksX3_aPiece_0 0 rfl rfl)
theorem dX3_aPiece_1 : decode cX3_aPiece 1 = .ok (.iconst 2, 1) := dk_5 (dk_at dksX3_aPiece_0 1 rfl rfl)
theorem dX3_aPiece_2 : decode cX3_aPiece 2 = .ok (.aload_n 0, 1) := dk_42 (dk_at dksX3_aPiece_0 2 rfl rfl)
theorem dX3_aPiece_3 : decode cX3_aPiece 3 = .ok (.getfield 233, 3) := dk_180 0 233 (dk_at dksX3_aPiece_0 3 rfl rfl)
theorem dX3_aPiece_6 : decode cX3_aPiece 6 = .ok (.imul, 1) := dk_104 (dk_at dksX3_aPiece_0 6 rfl rfl)
theorem dX3_aPiece_7 : decode cX3_aPiece 7 = .ok (.bipush 12, 2) := dk_16 12 (dk_at dksX3_aPiece_0 7 rfl rfl)
theorem dX3_aPiece_9 : decode cX3_aPiece 9 = .ok (.iconst 0, 1) := dk_3 (dk_at dksX3_aPiece_0 9 rfl rfl)
theorem dX3_aPiece_10 : decode cX3_aPiece 10 = .ok (.sipush 9999, 3) := dk_17 39 15 (dk_at dksX3_aPiece_0 10 rfl rfl)
theorem dX3_aPiece_13 : decode cX3_aPiece 13 = .ok (.invokevirtual 236, 3) := dk_182 0 236 (dk_at dksX3_aPiece_0 13 rfl rfl)
theorem dX3_aPiece_16 : decode cX3_aPiece 16 = .ok (.ifCond .eq 34, 3) := dk_153 0 34 (dk_at dksX3_aPiece_0 16 rfl rfl)
theorem dX3_aPiece_19 : decode cX3_aPiece 19 = .ok (.aload_n 0, 1) := dk_42 (dk_at dksX3_aPiece_0 19 rfl rfl)
theorem dX3_aPiece_20 : decode cX3_aPiece 20 = .ok (.iconst 2, 1) := dk_5 (dk_at dksX3_aPiece_0 20 rfl rfl)
theorem dX3_aPiece_21 : decode cX3_aPiece 21 = .ok (.aload_n 0, 1) := dk_42 (dk_at dksX3_aPiece_0 21 rfl rfl)
theorem dX3_aPiece_22 : decode cX3_aPiece 22 = .ok (.getfield 233, 3) := dk_180 0 233 (dk_at dksX3_aPiece_1 0 rfl rfl)
theorem dX3_aPiece_25 : decode cX3_aPiece 25 = .ok (.imul, 1) := dk_104 (dk_at dksX3_aPiece_1 3 rfl rfl)
theorem dX3_aPiece_26 : decode cX3_aPiece 26 = .ok (.iconst 1, 1) := dk_4 (dk_at dksX3_aPiece_1 4 rfl rfl)
theorem dX3_aPiece_27 : decode cX3_aPiece 27 = .ok (.iadd, 1) := dk_96 (dk_at dksX3_aPiece_1 5 rfl rfl)
theorem dX3_aPiece_28 : decode cX3_aPiece 28 = .ok (.bipush 13, 2) := dk_16 13 (dk_at dksX3_aPiece_1 6 rfl rfl)
theorem dX3_aPiece_30 : decode cX3_aPiece 30 = .ok (.iconst 0, 1) := dk_3 (dk_at dksX3_aPiece_1 8 rfl rfl)
theorem dX3_aPiece_31 : decode cX3_aPiece 31 = .ok (.aload_n 0, 1) := dk_42 (dk_at dksX3_aPiece_1 9 rfl rfl)
theorem dX3_aPiece_32 : decode cX3_aPiece 32 = .ok (.getfield 7, 3) := dk_180 0 7 (dk_at dksX3_aPiece_1 10 rfl rfl)
theorem dX3_aPiece_35 : decode cX3_aPiece 35 = .ok (.bipush 38, 2) := dk_16 38 (dk_at dksX3_aPiece_1 13 rfl rfl)
theorem dX3_aPiece_37 : decode cX3_aPiece 37 = .ok (.iaload, 1) := dk_46 (dk_at dksX3_aPiece_1 15 rfl rfl)
theorem dX3_aPiece_38 : decode cX3_aPiece 38 = .ok (.iconst 1, 1) := dk_4 (dk_at dksX3_aPiece_1 16 rfl rfl)
theorem dX3_aPiece_39 : decode cX3_aPiece 39 = .ok (.isub, 1) := dk_100 (dk_at dksX3_aPiece_1 17 rfl rfl)
theorem dX3_aPiece_40 : decode cX3_aPiece 40 = .ok (.invokevirtual 236, 3) := dk_182 0 236 (dk_at dksX3_aPiece_1 18 rfl rfl)
theorem dX3_aPiece_43 : decode cX3_aPiece 43 = .ok (.ifCond .eq 7, 3) := dk_153 0 7 (dk_at dksX3_aPiece_1 21 rfl rfl)
theorem dX3_aPiece_46 : decode cX3_aPiece 46 = .ok (.iconst 1, 1) := dk_4 (dk_at dksX3_aPiece_2 0 rfl rfl)
theorem dX3_aPiece_47 : decode cX3_aPiece 47 = .ok (.goto 4, 3) := dk_167 0 4 (dk_at dksX3_aPiece_2 1 rfl rfl)
theorem dX3_aPiece_50 : decode cX3_aPiece 50 = .ok (.iconst 0, 1) := dk_3 (dk_at dksX3_aPiece_2 4 rfl rfl)
theorem dX3_aPiece_51 : decode cX3_aPiece 51 = .ok (.ireturn, 1) := dk_172 (dk_at dksX3_aPiece_2 5 rfl rfl)
abbrev cX3_aSeat : ByteArray := prog_17_method_45_code
def yX3_aSeat : MethodName := ⟨RX3, "aSeat", "()Z"⟩
def dkwX3_aSeat_3 : List UInt8 := [180, 0, 7, 16, 37, 46, 4, 100, 182, 0, 230, 172]
abbrev dktX3_aSeat_3 : List UInt8 := dkwX3_aSeat_3 ++ []
def dkwX3_aSeat_2 : List UInt8 := [180, 0, 174, 42, 180, 0, 28, 27, 46, 160, 0, 9, 42, 5, 182, 0, 183, 172, 42, 27, 4, 96, 3, 42]
abbrev dktX3_aSeat_2 : List UInt8 := dkwX3_aSeat_2 ++ dktX3_aSeat_3
def dkwX3_aSeat_1 : List UInt8 := [153, 0, 12, 42, 16, 15, 182, 0, 218, 154, 0, 5, 3, 172, 42, 180, 0, 162, 5, 160, 0, 22, 42]
abbrev dktX3_aSeat_1 : List UInt8 := dkwX3_aSeat_1 ++ dktX3_aSeat_2
def dkwX3_aSeat_0 : List UInt8 := [5, 42, 180, 0, 233, 104, 60, 42, 27, 16, 14, 3, 42, 180, 0, 7, 16, 37, 46, 4, 100, 182, 0, 236]
abbrev dktX3_aSeat_0 : List UInt8 := dkwX3_aSeat_0 ++ dktX3_aSeat_1
theorem dksX3_aSeat_0 : cX3_aSeat.data.toList.drop 0 = dktX3_aSeat_0 := by decide +kernel
theorem dksX3_aSeat_1 : cX3_aSeat.data.toList.drop 24 = dktX3_aSeat_1 := dk_seg dksX3_aSeat_0 24 rfl rfl
theorem dksX3_aSeat_2 : cX3_aSeat.data.toList.drop 47 = dktX3_aSeat_2 := dk_seg dksX3_aSeat_1 23 rfl rfl
theorem dksX3_aSeat_3 : cX3_aSeat.data.toList.drop 71 = dktX3_aSeat_3 := dk_seg dksX3_aSeat_2 24 rfl rfl
theorem dX3_aSeat_0 : decode cX3_aSeat 0 = .ok (.iconst 2, 1) := dk_5 (dk_at dksX3_aSeat_0 0 rfl rfl)
theorem dX3_aSeat_1 : decode cX3_aSeat 1 = .ok (.aload_n 0, 1) := dk_42 (dk_at dksX3_aSeat_0 1 rfl rfl)
theorem dX3_aSeat_2 : decode cX3_aSeat 2 = .ok (.getfield 233, 3) := dk_180 0 233 (dk_at dksX3_aSeat_0 2 rfl rfl)
theorem dX3_aSeat_5 : decode cX3_aSeat 5 = .ok (.imul, 1) := dk_104 (dk_at dksX3_aSeat_0 5 rfl rfl)
theorem dX3_aSeat_6 : decode cX3_aSeat 6 = .ok (.istore_n 1, 1) := dk_60 (dk_at dksX3_aSeat_0 6 rfl rfl)
theorem dX3_aSeat_7 : decode cX3_aSeat 7 = .ok (.aload_n 0, 1) := dk_42 (dk_at dksX3_aSeat_0 7 rfl rfl)
theorem dX3_aSeat_8 : decode cX3_aSeat 8 = .ok (.iload_n 1, 1) := dk_27 (dk_at dksX3_aSeat_0 8 rfl rfl)
theorem dX3_aSeat_9 : decode cX3_aSeat 9 = .ok (.bipush 14, 2) := dk_16 14 (dk_at dksX3_aSeat_0 9 rfl rfl)
theorem dX3_aSeat_11 : decode cX3_aSeat 11 = .ok (.iconst 0, 1) := dk_3 (dk_at dksX3_aSeat_0 11 rfl rfl)
theorem dX3_aSeat_12 : decode cX3_aSeat 12 = .ok (.aload_n 0, 1) := dk_42 (dk_at dksX3_aSeat_0 12 rfl rfl)
theorem dX3_aSeat_13 : decode cX3_aSeat 13 = .ok (.getfield 7, 3) := dk_180 0 7 (dk_at dksX3_aSeat_0 13 rfl rfl)
theorem dX3_aSeat_16 : decode cX3_aSeat 16 = .ok (.bipush 37, 2) := dk_16 37 (dk_at dksX3_aSeat_0 16 rfl rfl)
theorem dX3_aSeat_18 : decode cX3_aSeat 18 = .ok (.iaload, 1) := dk_46 (dk_at dksX3_aSeat_0 18 rfl rfl)
theorem dX3_aSeat_19 : decode cX3_aSeat 19 = .ok (.iconst 1, 1) := dk_4 (dk_at dksX3_aSeat_0 19 rfl rfl)
theorem dX3_aSeat_20 : decode cX3_aSeat 20 = .ok (.isub, 1) := dk_100 (dk_at dksX3_aSeat_0 20 rfl rfl)
theorem dX3_aSeat_21 : decode cX3_aSeat 21 = .ok (.invokevirtual 236, 3) := dk_182 0 236 (dk_at dksX3_aSeat_0 21 rfl rfl)
theorem dX3_aSeat_24 : decode cX3_aSeat 24 = .ok (.ifCond .eq 12, 3) := dk_153 0 12 (dk_at dksX3_aSeat_1 0 rfl rfl)
theorem dX3_aSeat_27 : decode cX3_aSeat 27 = .ok (.aload_n 0, 1) := dk_42 (dk_at dksX3_aSeat_1 3 rfl rfl)
theorem dX3_aSeat_28 : decode cX3_aSeat 28 = .ok (.bipush 15, 2) := dk_16 15 (dk_at dksX3_aSeat_1 4 rfl rfl)
theorem dX3_aSeat_30 : decode cX3_aSeat 30 = .ok (.invokevirtual 218, 3) := dk_182 0 218 (dk_at dksX3_aSeat_1 6 rfl rfl)
theorem dX3_aSeat_33 : decode cX3_aSeat 33 = .ok (.ifCond .ne 5, 3) := dk_154 0 5 (dk_at dksX3_aSeat_1 9 rfl rfl)
theorem dX3_aSeat_36 : decode cX3_aSeat 36 = .ok (.iconst 0, 1) := dk_3 (dk_at dksX3_aSeat_1 12 rfl rfl)
theorem dX3_aSeat_37 : decode cX3_aSeat 37 = .ok (.ireturn, 1) := dk_172 (dk_at dksX3_aSeat_1 13 rfl rfl)
theorem dX3_aSeat_38 : decode cX3_aSeat 38 = .ok (.aload_n 0, 1) := dk_42 (dk_at dksX3_aSeat_1 14 rfl rfl)
theorem dX3_aSeat_39 : decode cX3_aSeat 39 = .ok (.getfield 162, 3) := dk_180 0 162 (dk_at dksX3_aSeat_1 15 rfl rfl)
theorem dX3_aSeat_42 : decode cX3_aSeat 42 = .ok (.iconst 2, 1) := dk_5 (dk_at dksX3_aSeat_1 18 rfl rfl)
theorem dX3_aSeat_43 : decode cX3_aSeat 43 = .ok (.if_icmp .ne 22, 3) := dk_160 0 22 (dk_at dksX3_aSeat_1 19 rfl rfl)
theorem dX3_aSeat_46 : decode cX3_aSeat 46 = .ok (.aload_n 0, 1) := dk_42 (dk_at dksX3_aSeat_1 22 rfl rfl)
theorem dX3_aSeat_47 : decode cX3_aSeat 47 = .ok (.getfield 174, 3) := dk_180 0 174 (dk_at dksX3_aSeat_2 0 rfl rfl)
theorem dX3_aSeat_50 : decode cX3_aSeat 50 = .ok (.aload_n 0, 1) := dk_42 (dk_at dksX3_aSeat_2 3 rfl rfl)
theorem dX3_aSeat_51 : decode cX3_aSeat 51 = .ok (.getfield 28, 3) := dk_180 0 28 (dk_at dksX3_aSeat_2 4 rfl rfl)
theorem dX3_aSeat_54 : decode cX3_aSeat 54 = .ok (.iload_n 1, 1) := dk_27 (dk_at dksX3_aSeat_2 7 rfl rfl)
theorem dX3_aSeat_55 : decode cX3_aSeat 55 = .ok (.iaload, 1) := dk_46 (dk_at dksX3_aSeat_2 8 rfl rfl)
theorem dX3_aSeat_56 : decode cX3_aSeat 56 = .ok (.if_icmp .ne 9, 3) := dk_160 0 9 (dk_at dksX3_aSeat_2 9 rfl rfl)
theorem dX3_aSeat_59 : decode cX3_aSeat 59 = .ok (.aload_n 0, 1) := dk_42 (dk_at dksX3_aSeat_2 12 rfl rfl)
theorem dX3_aSeat_60 : decode cX3_aSeat 60 = .ok (.iconst 2, 1) := dk_5 (dk_at dksX3_aSeat_2 13 rfl rfl)
theorem dX3_aSeat_61 : decode cX3_aSeat 61 = .ok (.invokevirtual 183, 3) := dk_182 0 183 (dk_at dksX3_aSeat_2 14 rfl rfl)
theorem dX3_aSeat_64 : decode cX3_aSeat 64 = .ok (.ireturn, 1) := dk_172 (dk_at dksX3_aSeat_2 17 rfl rfl)
theorem dX3_aSeat_65 : decode cX3_aSeat 65 = .ok (.aload_n 0, 1) := dk_42 (dk_at dksX3_aSeat_2 18 rfl rfl)
theorem dX3_aSeat_66 : decode cX3_aSeat 66 = .ok (.iload_n 1, 1) := dk_27 (dk_at dksX3_aSeat_2 19 rfl rfl)
theorem dX3_aSeat_67 : decode cX3_aSeat 67 = .ok (.iconst 1, 1) := dk_4 (dk_at dksX3_aSeat_2 20 rfl rfl)
theorem dX3_aSeat_68 : decode cX3_aSeat 68 = .ok (.iadd, 1) := dk_96 (dk_at dksX3_aSeat_2 21 rfl rfl)
theorem dX3_aSeat_69 : decode cX3_aSeat 69 = .ok (.iconst 0, 1) := dk_3 (dk_at dksX3_aSeat_2 22 rfl rfl)
theorem dX3_aSeat_70 : decode cX3_aSeat 70 = .ok (.aload_n 0, 1) := dk_42 (dk_at dksX3_aSeat_2 23 rfl rfl)
theorem dX3_aSeat_71 : decode cX3_aSeat 71 = .ok (.getfield 7, 3) := dk_180 0 7 (dk_at dksX3_aSeat_3 0 rfl rfl)
theorem dX3_aSeat_74 : decode cX3_aSeat 74 = .ok (.bipush 37, 2) := dk_16 37 (dk_at dksX3_aSeat_3 3 rfl rfl)
theorem dX3_aSeat_76 : decode cX3_aSeat 76 = .ok (.iaload, 1) := dk_46 (dk_at dksX3_aSeat_3 5 rfl rfl)
theorem dX3_aSeat_77 : decode cX3_aSeat 77 = .ok (.iconst 1, 1) := dk_4 (dk_at dksX3_aSeat_3 6 rfl rfl)
theorem dX3_aSeat_78 : decode cX3_aSeat 78 = .ok (.isub, 1) := dk_100 (dk_at dksX3_aSeat_3 7 rfl rfl)
theorem dX3_aSeat_79 : decode cX3_aSeat 79 = .ok (.invokevirtual 230, 3) := dk_182 0 230 (dk_at dksX3_aSeat_3 8 rfl rfl)
theorem dX3_aSeat_82 : decode cX3_aSeat 82 = .ok (.ireturn, 1) := dk_172 (dk_at dksX3_aSeat_3 11 rfl rfl)
abbrev cX3_putsText : ByteArray := prog_17_method_52_code
def yX3_putsText : MethodName := ⟨RX3, "putsText", "(I)I"⟩
def dkwX3_putsText_2 : List UInt8 := [42, 182, 1, 6, 172]
abbrev dktX3_putsText_2 : List UInt8 := dkwX3_putsText_2 ++ []
def dkwX3_putsText_1 : List UInt8 := [182, 1, 2, 167, 0, 25, 27, 5, 160, 0, 16, 42, 16, 42, 17, 0, 153, 5, 182, 1, 2, 167, 0, 7]
abbrev dktX3_putsText_1 : List UInt8 := dkwX3_putsText_1 ++ dktX3_putsText_2
def dkwX3_putsText_0 : List UInt8 := [27, 154, 0, 8, 42, 182, 0, 255, 172, 42, 182, 0, 63, 27, 4, 160, 0, 15, 42, 16, 41, 16, 105, 6]
abbrev dktX3_putsText_0 : List UInt8 := dkwX3_putsText_0 ++ dktX3_putsText_1
theorem dksX3_putsText_0 : cX3_putsText.data.toList.drop 0 = dktX3_putsText_0 := by decide +kernel
theorem dksX3_putsText_1 : cX3_putsText.data.toList.drop 24 = dktX3_putsText_1 := dk_seg dksX3_putsText_0 24 rfl rfl
theorem dksX3_putsText_2 : cX3_putsText.data.toList.drop 48 = dktX3_putsText_2 := dk_seg dksX3_putsText_1 24 rfl rfl
theorem dX3_putsText_0 : decode cX3_putsText 0 = .ok (.iload_n 1, 1) := dk_27 (dk_at dksX3_putsText_0 0 rfl rfl)
theorem dX3_putsText_1 : decode cX3_putsText 1 = .ok (.ifCond .ne 8, 3) := dk_154 0 8 (dk_at dksX3_putsText_0 1 rfl rfl)
theorem dX3_putsText_4 : decode cX3_putsText 4 = .ok (.aload_n 0, 1) := dk_42 (dk_at dksX3_putsText_0 4 rfl rfl)
theorem dX3_putsText_5 : decode cX3_putsText 5 = .ok (.invokevirtual 255, 3) := dk_182 0 255 (dk_at dksX3_putsText_0 5 rfl rfl)
theorem dX3_putsText_8 : decode cX3_putsText 8 = .ok (.ireturn, 1) := dk_172 (dk_at dksX3_putsText_0 8 rfl rfl)
theorem dX3_putsText_9 : decode cX3_putsText 9 = .ok (.aload_n 0, 1) := dk_42 (dk_at dksX3_putsText_0 9 rfl rfl)
theorem dX3_putsText_10 : decode cX3_putsText 10 = .ok (.invokevirtual 63, 3) := dk_182 0 63 (dk_at dksX3_putsText_0 10 rfl rfl)
theorem dX3_putsText_13 : decode cX3_putsText 13 = .ok (.iload_n 1, 1) := dk_27 (dk_at dksX3_putsText_0 13 rfl rfl)
theorem dX3_putsText_14 : decode cX3_putsText 14 = .ok (.iconst 1, 1) := dk_4 (dk_at dksX3_putsText_0 14 rfl rfl)
theorem dX3_putsText_15 : decode cX3_putsText 15 = .ok (.if_icmp .ne 15, 3) := dk_160 0 15 (dk_at dksX3_putsText_0 15 rfl rfl)
theorem dX3_putsText_18 : decode cX3_putsText 18 = .ok (.aload_n 0, 1) := dk_42 (dk_at dksX3_putsText_0 18 rfl rfl)
theorem dX3_putsText_19 : decode cX3_putsText 19 = .ok (.bipush 41, 2) := dk_16 41 (dk_at dksX3_putsText_0 19 rfl rfl)
theorem dX3_putsText_21 : decode cX3_putsText 21 = .ok (.bipush 105, 2) := dk_16 105 (dk_at dksX3_putsText_0 21 rfl rfl)
theorem dX3_putsText_23 : decode cX3_putsText 23 = .ok (.iconst 3, 1) := dk_6 (dk_at dksX3_putsText_0 23 rfl rfl)
theorem dX3_putsText_24 : decode cX3_putsText 24 = .ok (.invokevirtual 258, 3) := dk_182 1 2 (dk_at dksX3_putsText_1 0 rfl rfl)
theorem dX3_putsText_27 : decode cX3_putsText 27 = .ok (.goto 25, 3) := dk_167 0 25 (dk_at dksX3_putsText_1 3 rfl rfl)
theorem dX3_putsText_30 : decode cX3_putsText 30 = .ok (.iload_n 1, 1) := dk_27 (dk_at dksX3_putsText_1 6 rfl rfl)
theorem dX3_putsText_31 : decode cX3_putsText 31 = .ok (.iconst 2, 1) := dk_5 (dk_at dksX3_putsText_1 7 rfl rfl)
theorem dX3_putsText_32 : decode cX3_putsText 32 = .ok (.if_icmp .ne 16, 3) := dk_160 0 16 (dk_at dksX3_putsText_1 8 rfl rfl)
theorem dX3_putsText_35 : decode cX3_putsText 35 = .ok (.aload_n 0, 1) := dk_42 (dk_at dksX3_putsText_1 11 rfl rfl)
theorem dX3_putsText_36 : decode cX3_putsText 36 = .ok (.bipush 42, 2) := dk_16 42 (dk_at dksX3_putsText_1 12 rfl rfl)
theorem dX3_putsText_38 : decode cX3_putsText 38 = .ok (.sipush 153, 3) := dk_17 0 153 (dk_at dksX3_putsText_1 14 rfl rfl)
theorem dX3_putsText_41 : decode cX3_putsText 41 = .ok (.iconst 2, 1) := dk_5 (dk_at dksX3_putsText_1 17 rfl rfl)
theorem dX3_putsText_42 : decode cX3_putsText 42 = .ok (.invokevirtual 258, 3) := dk_182 1 2 (dk_at dksX3_putsText_1 18 rfl rfl)
theorem dX3_putsText_45 : decode cX3_putsText 45 = .ok (.goto 7, 3) := dk_167 0 7 (dk_at dksX3_putsText_1 21 rfl rfl)
theorem dX3_putsText_48 : decode cX3_putsText 48 = .ok (.aload_n 0, 1) := dk_42 (dk_at dksX3_putsText_2 0 rfl rfl)
theorem dX3_putsText_49 : decode cX3_putsText 49 = .ok (.invokevirtual 262, 3) := dk_182 1 6 (dk_at dksX3_putsText_2 1 rfl rfl)
theorem dX3_putsText_52 : decode cX3_putsText 52 = .ok (.ireturn, 1) := dk_172 (dk_at dksX3_putsText_2 4 rfl rfl)
abbrev cX3_putsLaw : ByteArray := prog_17_method_49_code
def yX3_putsLaw : MethodName := ⟨RX3, "putsLaw", "()I"⟩
def dkwX3_putsLaw_6 : List UInt8 := [180, 0, 224, 172]
abbrev dktX3_putsLaw_6 : List UInt8 := dkwX3_putsLaw_6 ++ []
def dkwX3_putsLaw_5 : List UInt8 := [42, 180, 0, 7, 17, 3, 119, 27, 96, 42, 180, 0, 25, 27, 46, 79, 132, 1, 1, 167, 255, 227, 42]
abbrev dktX3_putsLaw_5 : List UInt8 := dkwX3_putsLaw_5 ++ dktX3_putsLaw_6
def dkwX3_putsLaw_4 : List UInt8 := [27, 104, 6, 96, 46, 79, 132, 1, 1, 167, 255, 167, 3, 60, 27, 5, 42, 180, 0, 189, 104, 162, 0, 25]
abbrev dktX3_putsLaw_4 : List UInt8 := dkwX3_putsLaw_4 ++ dktX3_putsLaw_5
def dkwX3_putsLaw_3 : List UInt8 := [180, 0, 22, 7, 27, 104, 5, 96, 46, 79, 42, 180, 0, 7, 17, 3, 103, 27, 96, 42, 180, 0, 22, 7]
abbrev dktX3_putsLaw_3 : List UInt8 := dkwX3_putsLaw_3 ++ dktX3_putsLaw_4
def dkwX3_putsLaw_2 : List UInt8 := [27, 96, 42, 180, 0, 22, 7, 27, 104, 4, 96, 46, 79, 42, 180, 0, 7, 17, 3, 87, 27, 96, 42]
abbrev dktX3_putsLaw_2 : List UInt8 := dkwX3_putsLaw_2 ++ dktX3_putsLaw_3
def dkwX3_putsLaw_1 : List UInt8 := [180, 0, 7, 17, 3, 55, 27, 96, 42, 180, 0, 22, 7, 27, 104, 46, 79, 42, 180, 0, 7, 17, 3, 71]
abbrev dktX3_putsLaw_1 : List UInt8 := dkwX3_putsLaw_1 ++ dktX3_putsLaw_2
def dkwX3_putsLaw_0 : List UInt8 := [42, 180, 0, 7, 16, 40, 42, 180, 0, 224, 79, 3, 60, 27, 42, 180, 0, 224, 162, 0, 87, 42]
abbrev dktX3_putsLaw_0 : List UInt8 := dkwX3_putsLaw_0 ++ dktX3_putsLaw_1
theorem dksX3_putsLaw_0 : cX3_putsLaw.data.toList.drop 0 = dktX3_putsLaw_0 := by decide +kernel
theorem dksX3_putsLaw_1 : cX3_putsLaw.data.toList.drop 22 = dktX3_putsLaw_1 := dk_seg dksX3_putsLaw_0 22 rfl rfl
theorem dksX3_putsLaw_2 : cX3_putsLaw.data.toList.drop 46 = dktX3_putsLaw_2 := dk_seg dksX3_putsLaw_1 24 rfl rfl
theorem dksX3_putsLaw_3 : cX3_putsLaw.data.toList.drop 69 = dktX3_putsLaw_3 := dk_seg dksX3_putsLaw_2 23 rfl rfl
theorem dksX3_putsLaw_4 : cX3_putsLaw.data.toList.drop 93 = dktX3_putsLaw_4 := dk_seg dksX3_putsLaw_3 24 rfl rfl
theorem dksX3_putsLaw_5 : cX3_putsLaw.data.toList.drop 117 = dktX3_putsLaw_5 := dk_seg dksX3_putsLaw_4 24 rfl rfl
theorem dksX3_putsLaw_6 : cX3_putsLaw.data.toList.drop 140 = dktX3_putsLaw_6 := dk_seg dksX3_putsLaw_5 23 rfl rfl
theorem dX3_putsLaw_0 : decode cX3_putsLaw 0 = .ok (.aload_n 0, 1) := dk_42 (dk_at dksX3_putsLaw_0 0 rfl rfl)
theorem dX3_putsLaw_1 : decode cX3_putsLaw 1 = .ok (.getfield 7, 3) := dk_180 0 7 (dk_at dksX3_putsLaw_0 1 rfl rfl)
theorem dX3_putsLaw_4 : decode cX3_putsLaw 4 = .ok (.bipush 40, 2) := dk_16 40 (dk_at dksX3_putsLaw_0 4 rfl rfl)
theorem dX3_putsLaw_6 : decode cX3_putsLaw 6 = .ok (.aload_n 0, 1) := dk_42 (dk_at dksX3_putsLaw_0 6 rfl rfl)
theorem dX3_putsLaw_7 : decode cX3_putsLaw 7 = .ok (.getfield 224, 3) := dk_180 0 224 (dk_at dksX3_putsLaw_0 7 rfl rfl)
theorem dX3_putsLaw_10 : decode cX3_putsLaw 10 = .ok (.iastore, 1) := dk_79 (dk_at dksX3_putsLaw_0 10 rfl rfl)
theorem dX3_putsLaw_11 : decode cX3_putsLaw 11 = .ok (.iconst 0, 1) := dk_3 (dk_at dksX3_putsLaw_0 11 rfl rfl)
theorem dX3_putsLaw_12 : decode cX3_putsLaw 12 = .ok (.istore_n 1, 1) := dk_60 (dk_at dksX3_putsLaw_0 12 rfl rfl)
theorem dX3_putsLaw_13 : decode cX3_putsLaw 13 = .ok (.iload_n 1, 1) := dk_27 (dk_at dksX3_putsLaw_0 13 rfl rfl)
theorem dX3_putsLaw_14 : decode cX3_putsLaw 14 = .ok (.aload_n 0, 1) := dk_42 (dk_at dksX3_putsLaw_0 14 rfl rfl)
theorem dX3_putsLaw_15 : decode cX3_putsLaw 15 = .ok (.getfield 224, 3) := dk_180 0 224 (dk_at dksX3_putsLaw_0 15 rfl rfl)
theorem dX3_putsLaw_18 : decode cX3_putsLaw 18 = .ok (.if_icmp .ge 87, 3) := dk_162 0 87 (dk_at dksX3_putsLaw_0 18 rfl rfl)
theorem dX3_putsLaw_21 : decode cX3_putsLaw 21 = .ok (.aload_n 0, 1) := dk_42 (dk_at dksX3_putsLaw_0 21 rfl rfl)
theorem dX3_putsLaw_22 : decode cX3_putsLaw 22 = .ok (.getfield 7, 3) := dk_180 0 7 (dk_at dksX3_putsLaw_1 0 rfl rfl)
theorem dX3_putsLaw_25 : decode cX3_putsLaw 25 = .ok (.sipush 823, 3) := dk_17 3 55 (dk_at dksX3_putsLaw_1 3 rfl rfl)
theorem dX3_putsLaw_28 : decode cX3_putsLaw 28 = .ok (.iload_n 1, 1) := dk_27 (dk_at dksX3_putsLaw_1 6 rfl rfl)
theorem dX3_putsLaw_29 : decode cX3_putsLaw 29 = .ok (.iadd, 1) := dk_96 (dk_at dksX3_putsLaw_1 7 rfl rfl)
theorem dX3_putsLaw_30 : decode cX3_putsLaw 30 = .ok (.aload_n 0, 1) := dk_42 (dk_at dksX3_putsLaw_1 8 rfl rfl)
theorem dX3_putsLaw_31 : decode cX3_putsLaw 31 = .ok (.getfield 22, 3) := dk_180 0 22 (dk_at dksX3_putsLaw_1 9 rfl rfl)
theorem dX3_putsLaw_34 : decode cX3_putsLaw 34 = .ok (.iconst 4, 1) := dk_7 (dk_at dksX3_putsLaw_1 12 rfl rfl)
theorem dX3_putsLaw_35 : decode cX3_putsLaw 35 = .ok (.iload_n 1, 1) := dk_27 (dk_at dksX3_putsLaw_1 13 rfl rfl)
theorem dX3_putsLaw_36 : decode cX3_putsLaw 36 = .ok (.imul, 1) := dk_104 (dk_at dksX3_putsLaw_1 14 rfl rfl)
theorem dX3_putsLaw_37 : decode cX3_putsLaw 37 = .ok (.iaload, 1) := dk_46 (dk_at dksX3_putsLaw_1 15 rfl rfl)
theorem dX3_putsLaw_38 : decode cX3_putsLaw 38 = .ok (.iastore, 1) := dk_79 (dk_at dksX3_putsLaw_1 16 rfl rfl)
theorem dX3_putsLaw_39 : decode cX3_putsLaw 39 = .ok (.aload_n 0, 1) := dk_42 (dk_at dksX3_putsLaw_1 17 rfl rfl)
theorem dX3_putsLaw_40 : decode cX3_putsLaw 40 = .ok (.getfield 7, 3) := dk_180 0 7 (dk_at dksX3_putsLaw_1 18 rfl rfl)
theorem dX3_putsLaw_43 : decode cX3_putsLaw 43 = .ok (.sipush 839, 3) := dk_17 3 71 (dk_at dksX3_putsLaw_1 21 rfl rfl)
theorem dX3_putsLaw_46 : decode cX3_putsLaw 46 = .ok (.iload_n 1, 1) := dk_27 (dk_at dksX3_putsLaw_2 0 rfl rfl)
theorem dX3_putsLaw_47 : decode cX3_putsLaw 47 = .ok (.iadd, 1) := dk_96 (dk_at dksX3_putsLaw_2 1 rfl rfl)
theorem dX3_putsLaw_48 : decode cX3_putsLaw 48 = .ok (.aload_n 0, 1) := dk_42 (dk_at dksX3_putsLaw_2 2 rfl rfl)
theorem dX3_putsLaw_49 : decode cX3_putsLaw 49 = .ok (.getfield 22, 3) := dk_180 0 22 (dk_at dksX3_putsLaw_2 3 rfl rfl)
theorem dX3_putsLaw_52 : decode cX3_putsLaw 52 = .ok (.iconst 4, 1) := dk_7 (dk_at dksX3_putsLaw_2 6 rfl rfl)
theorem dX3_putsLaw_53 : decode cX3_putsLaw 53 = .ok (.iload_n 1, 1) := dk_27 (dk_at dksX3_putsLaw_2 7 rfl rfl)
theorem dX3_putsLaw_54 : decode cX3_putsLaw 54 = .ok (.imul, 1) := dk_104 (dk_at dksX3_putsLaw_2 8 rfl rfl)
theorem dX3_putsLaw_55 : decode cX3_putsLaw 55 = .ok (.iconst 1, 1) := dk_4 (dk_at dksX3_putsLaw_2 9 rfl rfl)
theorem dX3_putsLaw_56 : decode cX3_putsLaw 56 = .ok (.iadd, 1) := dk_96 (dk_at dksX3_putsLaw_2 10 rfl rfl)
theorem dX3_putsLaw_57 : decode cX3_putsLaw 57 = .ok (.iaload, 1) := dk_46 (dk_at dksX3_putsLaw_2 11 rfl rfl)
theorem dX3_putsLaw_58 : decode cX3_putsLaw 58 = .ok (.iastore, 1) := dk_79 (dk_at dksX3_putsLaw_2 12 rfl rfl)
theorem dX3_putsLaw_59 : decode cX3_putsLaw 59 = .ok (.aload_n 0, 1) := dk_42 (dk_at dksX3_putsLaw_2 13 rfl rfl)
theorem dX3_putsLaw_60 : decode cX3_putsLaw 60 = .ok (.getfield 7, 3) := dk_180 0 7 (dk_at dksX3_putsLaw_2 14 rfl rfl)
theorem dX3_putsLaw_63 : decode cX3_putsLaw 63 = .ok (.sipush 855, 3) := dk_17 3 87 (dk_at dksX3_putsLaw_2 17 rfl rfl)
theorem dX3_putsLaw_66 : decode cX3_putsLaw 66 = .ok (.iload_n 1, 1) := dk_27 (dk_at dksX3_putsLaw_2 20 rfl rfl)
theorem dX3_putsLaw_67 : decode cX3_putsLaw 67 = .ok (.iadd, 1) := dk_96 (dk_at dksX3_putsLaw_2 21 rfl rfl)
theorem dX3_putsLaw_68 : decode cX3_putsLaw 68 = .ok (.aload_n 0, 1) := dk_42 (dk_at dksX3_putsLaw_2 22 rfl rfl)
theorem dX3_putsLaw_69 : decode cX3_putsLaw 69 = .ok (.getfield 22, 3) := dk_180 0 22 (dk_at dksX3_putsLaw_3 0 rfl rfl)
theorem dX3_putsLaw_72 : decode cX3_putsLaw 72 = .ok (.iconst 4, 1) := dk_7 (dk_at dksX3_putsLaw_3 3 rfl rfl)
theorem dX3_putsLaw_73 : decode cX3_putsLaw 73 = .ok (.iload_n 1, 1) := dk_27 (dk_at dksX3_putsLaw_3 4 rfl rfl)
theorem dX3_putsLaw_74 : decode cX3_putsLaw 74 = .ok (.imul, 1) := dk_104 (dk_at dksX3_putsLaw_3 5 rfl rfl)
theorem dX3_putsLaw_75 : decode cX3_putsLaw 75 = .ok (.iconst 2, 1) := dk_5 (dk_at dksX3_putsLaw_3 6 rfl rfl)
theorem dX3_putsLaw_76 : decode cX3_putsLaw 76 = .ok (.iadd, 1) := dk_96 (dk_at dksX3_putsLaw_3 7 rfl rfl)
theorem dX3_putsLaw_77 : decode cX3_putsLaw 77 = .ok (.iaload, 1) := dk_46 (dk_at dksX3_putsLaw_3 8 rfl rfl)
theorem dX3_putsLaw_78 : decode cX3_putsLaw 78 = .ok (.iastore, 1) := dk_79 (dk_at dksX3_putsLaw_3 9 rfl rfl)
theorem dX3_putsLaw_79 : decode cX3_putsLaw 79 = .ok (.aload_n 0, 1) := dk_42 (dk_at dksX3_putsLaw_3 10 rfl rfl)
theorem dX3_putsLaw_80 : decode cX3_putsLaw 80 = .ok (.getfield 7, 3) := dk_180 0 7 (dk_at dksX3_putsLaw_3 11 rfl rfl)
theorem dX3_putsLaw_83 : decode cX3_putsLaw 83 = .ok (.sipush 871, 3) := dk_17 3 103 (dk_at dksX3_putsLaw_3 14 rfl rfl)
theorem dX3_putsLaw_86 : decode cX3_putsLaw 86 = .ok (.iload_n 1, 1) := dk_27 (dk_at dksX3_putsLaw_3 17 rfl rfl)
theorem dX3_putsLaw_87 : decode cX3_putsLaw 87 = .ok (.iadd, 1) := dk_96 (dk_at dksX3_putsLaw_3 18 rfl rfl)
theorem dX3_putsLaw_88 : decode cX3_putsLaw 88 = .ok (.aload_n 0, 1) := dk_42 (dk_at dksX3_putsLaw_3 19 rfl rfl)
theorem dX3_putsLaw_89 : decode cX3_putsLaw 89 = .ok (.getfield 22, 3) := dk_180 0 22 (dk_at dksX3_putsLaw_3 20 rfl rfl)
theorem dX3_putsLaw_92 : decode cX3_putsLaw 92 = .ok (.iconst 4, 1) := dk_7 (dk_at dksX3_putsLaw_3 23 rfl rfl)
theorem dX3_putsLaw_93 : decode cX3_putsLaw 93 = .ok (.iload_n 1, 1) := dk_27 (dk_at dksX3_putsLaw_4 0 rfl rfl)
theorem dX3_putsLaw_94 : decode cX3_putsLaw 94 = .ok (.imul, 1) := dk_104 (dk_at dksX3_putsLaw_4 1 rfl rfl)
theorem dX3_putsLaw_95 : decode cX3_putsLaw 95 = .ok (.iconst 3, 1) := dk_6 (dk_at dksX3_putsLaw_4 2 rfl rfl)
theorem dX3_putsLaw_96 : decode cX3_putsLaw 96 = .ok (.iadd, 1) := dk_96 (dk_at dksX3_putsLaw_4 3 rfl rfl)
theorem dX3_putsLaw_97 : decode cX3_putsLaw 97 = .ok (.iaload, 1) := dk_46 (dk_at dksX3_putsLaw_4 4 rfl rfl)
theorem dX3_putsLaw_98 : decode cX3_putsLaw 98 = .ok (.iastore, 1) := dk_79 (dk_at dksX3_putsLaw_4 5 rfl rfl)
theorem dX3_putsLaw_99 : decode cX3_putsLaw 99 = .ok (.iinc 1 1, 3) := dk_132 1 1 (dk_at dksX3_putsLaw_4 6 rfl rfl)
theorem dX3_putsLaw_102 : decode cX3_putsLaw 102 = .ok (.goto (-89), 3) := dk_167 255 167 (dk_at dksX3_putsLaw_4 9 rfl rfl)
theorem dX3_putsLaw_105 : decode cX3_putsLaw 105 = .ok (.iconst 0, 1) := dk_3 (dk_at dksX3_putsLaw_4 12 rfl rfl)
theorem dX3_putsLaw_106 : decode cX3_putsLaw 106 = .ok (.istore_n 1, 1) := dk_60 (dk_at dksX3_putsLaw_4 13 rfl rfl)
theorem dX3_putsLaw_107 : decode cX3_putsLaw 107 = .ok (.iload_n 1, 1) := dk_27 (dk_at dksX3_putsLaw_4 14 rfl rfl)
theorem dX3_putsLaw_108 : decode cX3_putsLaw 108 = .ok (.iconst 2, 1) := dk_5 (dk_at dksX3_putsLaw_4 15 rfl rfl)
theorem dX3_putsLaw_109 : decode cX3_putsLaw 109 = .ok (.aload_n 0, 1) := dk_42 (dk_at dksX3_putsLaw_4 16 rfl rfl)
theorem dX3_putsLaw_110 : decode cX3_putsLaw 110 = .ok (.getfield 189, 3) := dk_180 0 189 (dk_at dksX3_putsLaw_4 17 rfl rfl)
theorem dX3_putsLaw_113 : decode cX3_putsLaw 113 = .ok (.imul, 1) := dk_104 (dk_at dksX3_putsLaw_4 20 rfl rfl)
theorem dX3_putsLaw_114 : decode cX3_putsLaw 114 = .ok (.if_icmp .ge 25, 3) := dk_162 0 25 (dk_at dksX3_putsLaw_4 21 rfl rfl)
theorem dX3_putsLaw_117 : decode cX3_putsLaw 117 = .ok (.aload_n 0, 1) := dk_42 (dk_at dksX3_putsLaw_5 0 rfl rfl)
theorem dX3_putsLaw_118 : decode cX3_putsLaw 118 = .ok (.getfield 7, 3) := dk_180 0 7 (dk_at dksX3_putsLaw_5 1 rfl rfl)
theorem dX3_putsLaw_121 : decode cX3_putsLaw 121 = .ok (.sipush 887, 3) := dk_17 3 119 (dk_at dksX3_putsLaw_5 4 rfl rfl)
theorem dX3_putsLaw_124 : decode cX3_putsLaw 124 = .ok (.iload_n 1, 1) := dk_27 (dk_at dksX3_putsLaw_5 7 rfl rfl)
theorem dX3_putsLaw_125 : decode cX3_putsLaw 125 = .ok (.iadd, 1) := dk_96 (dk_at dksX3_putsLaw_5 8 rfl rfl)
theorem dX3_putsLaw_126 : decode cX3_putsLaw 126 = .ok (.aload_n 0, 1) := dk_42 (dk_at dksX3_putsLaw_5 9 rfl rfl)
theorem dX3_putsLaw_127 : decode cX3_putsLaw 127 = .ok (.getfield 25, 3) := dk_180 0 25 (dk_at dksX3_putsLaw_5 10 rfl rfl)
theorem dX3_putsLaw_130 : decode cX3_putsLaw 130 = .ok (.iload_n 1, 1) := dk_27 (dk_at dksX3_putsLaw_5 13 rfl rfl)
theorem dX3_putsLaw_131 : decode cX3_putsLaw 131 = .ok (.iaload, 1) := dk_46 (dk_at dksX3_putsLaw_5 14 rfl rfl)
theorem dX3_putsLaw_132 : decode cX3_putsLaw 132 = .ok (.iastore, 1) := dk_79 (dk_at dksX3_putsLaw_5 15 rfl rfl)
theorem dX3_putsLaw_133 : decode cX3_putsLaw 133 = .ok (.iinc 1 1, 3) := dk_132 1 1 (dk_at dksX3_putsLaw_5 16 rfl rfl)
theorem dX3_putsLaw_136 : decode cX3_putsLaw 136 = .ok (.goto (-29), 3) := dk_167 255 227 (dk_at dksX3_putsLaw_5 19 rfl rfl)
theorem dX3_putsLaw_139 : decode cX3_putsLaw 139 = .ok (.aload_n 0, 1) := dk_42 (dk_at dksX3_putsLaw_5 22 rfl rfl)
theorem dX3_putsLaw_140 : decode cX3_putsLaw 140 = .ok (.getfield 224, 3) := dk_180 0 224 (dk_at dksX3_putsLaw_6 0 rfl rfl)
theorem dX3_putsLaw_143 : decode cX3_putsLaw 143 = .ok (.ireturn, 1) := dk_172 (dk_at dksX3_putsLaw_6 3 rfl rfl)
abbrev cX3_puts : ByteArray := prog_17_method_50_code
def yX3_puts : MethodName := ⟨RX3, "puts", "(III)I"⟩
def dkwX3_puts_2 : List UInt8 := [180, 0, 233, 172]
abbrev dktX3_puts_2 : List UInt8 := dkwX3_puts_2 ++ []
def dkwX3_puts_1 : List UInt8 := [42, 180, 0, 7, 28, 21, 4, 96, 42, 180, 0, 28, 21, 4, 46, 79, 132, 4, 1, 167, 255, 226, 42]
abbrev dktX3_puts_1 : List UInt8 := dkwX3_puts_1 ++ dktX3_puts_2
def dkwX3_puts_0 : List UInt8 := [42, 180, 0, 7, 27, 42, 180, 0, 233, 79, 3, 54, 4, 21, 4, 29, 42, 180, 0, 233, 104, 162, 0, 25]
abbrev dktX3_puts_0 : List UInt8 := dkwX3_puts_0 ++ dktX3_puts_1
theorem dksX3_puts_0 : cX3_puts.data.toList.drop 0 = dktX3_puts_0 := by decide +kernel
theorem dksX3_puts_1 : cX3_puts.data.toList.drop 24 = dktX3_puts_1 := dk_seg dksX3_puts_0 24 rfl rfl
theorem dksX3_puts_2 : cX3_puts.data.toList.drop 47 = dktX3_puts_2 := dk_seg dksX3_puts_1 23 rfl rfl
theorem dX3_puts_0 : decode cX3_puts 0 = .ok (.aload_n 0, 1) := dk_42 (dk_at dksX3_puts_0 0 rfl rfl)
theorem dX3_puts_1 : decode cX3_puts 1 = .ok (.getfield 7, 3) := dk_180 0 7 (dk_at dksX3_puts_0 1 rfl rfl)
theorem dX3_puts_4 : decode cX3_puts 4 = .ok (.iload_n 1, 1) := dk_27 (dk_at dksX3_puts_0 4 rfl rfl)
theorem dX3_puts_5 : decode cX3_puts 5 = .ok (.aload_n 0, 1) := dk_42 (dk_at dksX3_puts_0 5 rfl rfl)
theorem dX3_puts_6 : decode cX3_puts 6 = .ok (.getfield 233, 3) := dk_180 0 233 (dk_at dksX3_puts_0 6 rfl rfl)
theorem dX3_puts_9 : decode cX3_puts 9 = .ok (.iastore, 1) := dk_79 (dk_at dksX3_puts_0 9 rfl rfl)
theorem dX3_puts_10 : decode cX3_puts 10 = .ok (.iconst 0, 1) := dk_3 (dk_at dksX3_puts_0 10 rfl rfl)
theorem dX3_puts_11 : decode cX3_puts 11 = .ok (.istore 4, 2) := dk_54 4 (dk_at dksX3_puts_0 11 rfl rfl)
theorem dX3_puts_13 : decode cX3_puts 13 = .ok (.iload 4, 2) := dk_21 4 (dk_at dksX3_puts_0 13 rfl rfl)
theorem dX3_puts_15 : decode cX3_puts 15 = .ok (.iload_n 3, 1) := dk_29 (dk_at dksX3_puts_0 15 rfl rfl)
theorem dX3_puts_16 : decode cX3_puts 16 = .ok (.aload_n 0, 1) := dk_42 (dk_at dksX3_puts_0 16 rfl rfl)
theorem dX3_puts_17 : decode cX3_puts 17 = .ok (.getfield 233, 3) := dk_180 0 233 (dk_at dksX3_puts_0 17 rfl rfl)
theorem dX3_puts_20 : decode cX3_puts 20 = .ok (.imul, 1) := dk_104 (dk_at dksX3_puts_0 20 rfl rfl)
theorem dX3_puts_21 : decode cX3_puts 21 = .ok (.if_icmp .ge 25, 3) := dk_162 0 25 (dk_at dksX3_puts_0 21 rfl rfl)
theorem dX3_puts_24 : decode cX3_puts 24 = .ok (.aload_n 0, 1) := dk_42 (dk_at dksX3_puts_1 0 rfl rfl)
theorem dX3_puts_25 : decode cX3_puts 25 = .ok (.getfield 7, 3) := dk_180 0 7 (dk_at dksX3_puts_1 1 rfl rfl)
theorem dX3_puts_28 : decode cX3_puts 28 = .ok (.iload_n 2, 1) := dk_28 (dk_at dksX3_puts_1 4 rfl rfl)
theorem dX3_puts_29 : decode cX3_puts 29 = .ok (.iload 4, 2) := dk_21 4 (dk_at dksX3_puts_1 5 rfl rfl)
theorem dX3_puts_31 : decode cX3_puts 31 = .ok (.iadd, 1) := dk_96 (dk_at dksX3_puts_1 7 rfl rfl)
theorem dX3_puts_32 : decode cX3_puts 32 = .ok (.aload_n 0, 1) := dk_42 (dk_at dksX3_puts_1 8 rfl rfl)
theorem dX3_puts_33 : decode cX3_puts 33 = .ok (.getfield 28, 3) := dk_180 0 28 (dk_at dksX3_puts_1 9 rfl rfl)
theorem dX3_puts_36 : decode cX3_puts 36 = .ok (.iload 4, 2) := dk_21 4 (dk_at dksX3_puts_1 12 rfl rfl)
theorem dX3_puts_38 : decode cX3_puts 38 = .ok (.iaload, 1) := dk_46 (dk_at dksX3_puts_1 14 rfl rfl)
theorem dX3_puts_39 : decode cX3_puts 39 = .ok (.iastore, 1) := dk_79 (dk_at dksX3_puts_1 15 rfl rfl)
theorem dX3_puts_40 : decode cX3_puts 40 = .ok (.iinc 4 1, 3) := dk_132 4 1 (dk_at dksX3_puts_1 16 rfl rfl)
theorem dX3_puts_43 : decode cX3_puts 43 = .ok (.goto (-30), 3) := dk_167 255 226 (dk_at dksX3_puts_1 19 rfl rfl)
theorem dX3_puts_46 : decode cX3_puts 46 = .ok (.aload_n 0, 1) := dk_42 (dk_at dksX3_puts_1 22 rfl rfl)
theorem dX3_puts_47 : decode cX3_puts 47 = .ok (.getfield 233, 3) := dk_180 0 233 (dk_at dksX3_puts_2 0 rfl rfl)
theorem dX3_puts_50 : decode cX3_puts 50 = .ok (.ireturn, 1) := dk_172 (dk_at dksX3_puts_2 3 rfl rfl)
abbrev cX3_putsGallery : ByteArray := prog_17_method_51_code
def yX3_putsGallery : MethodName := ⟨RX3, "putsGallery", "()I"⟩
def dkwX3_putsGallery_5 : List UInt8 := [180, 0, 233, 172]
abbrev dktX3_putsGallery_5 : List UInt8 := dkwX3_putsGallery_5 ++ []
def dkwX3_putsGallery_4 : List UInt8 := [96, 92, 46, 4, 42, 180, 0, 28, 5, 27, 104, 46, 120, 128, 79, 132, 1, 1, 167, 255, 181, 42]
abbrev dktX3_putsGallery_4 : List UInt8 := dkwX3_putsGallery_4 ++ dktX3_putsGallery_5
def dkwX3_putsGallery_3 : List UInt8 := [104, 4, 96, 46, 120, 128, 79, 42, 180, 0, 7, 17, 0, 185, 42, 180, 0, 28, 5, 27, 104, 4, 96, 46]
abbrev dktX3_putsGallery_3 : List UInt8 := dkwX3_putsGallery_3 ++ dktX3_putsGallery_4
def dkwX3_putsGallery_2 : List UInt8 := [180, 0, 7, 17, 0, 185, 42, 180, 0, 28, 5, 27, 104, 46, 96, 92, 46, 4, 42, 180, 0, 28, 5, 27]
abbrev dktX3_putsGallery_2 : List UInt8 := dkwX3_putsGallery_2 ++ dktX3_putsGallery_3
def dkwX3_putsGallery_1 : List UInt8 := [17, 0, 185, 27, 96, 3, 79, 132, 1, 1, 167, 255, 236, 3, 60, 27, 42, 180, 0, 233, 162, 0, 73, 42]
abbrev dktX3_putsGallery_1 : List UInt8 := dkwX3_putsGallery_1 ++ dktX3_putsGallery_2
def dkwX3_putsGallery_0 : List UInt8 := [42, 180, 0, 7, 16, 43, 42, 180, 0, 233, 79, 3, 60, 27, 16, 12, 162, 0, 20, 42, 180, 0, 7]
abbrev dktX3_putsGallery_0 : List UInt8 := dkwX3_putsGallery_0 ++ dktX3_putsGallery_1
theorem dksX3_putsGallery_0 : cX3_putsGallery.data.toList.drop 0 = dktX3_putsGallery_0 := by decide +kernel
theorem dksX3_putsGallery_1 : cX3_putsGallery.data.toList.drop 23 = dktX3_putsGallery_1 := dk_seg dksX3_putsGallery_0 23 rfl rfl
theorem dksX3_putsGallery_2 : cX3_putsGallery.data.toList.drop 47 = dktX3_putsGallery_2 := dk_seg dksX3_putsGallery_1 24 rfl rfl
theorem dksX3_putsGallery_3 : cX3_putsGallery.data.toList.drop 71 = dktX3_putsGallery_3 := dk_seg dksX3_putsGallery_2 24 rfl rfl
theorem dksX3_putsGallery_4 : cX3_putsGallery.data.toList.drop 95 = dktX3_putsGallery_4 := dk_seg dksX3_putsGallery_3 24 rfl rfl
theorem dksX3_putsGallery_5 : cX3_putsGallery.data.toList.drop 117 = dktX3_putsGallery_5 := dk_seg dksX3_putsGallery_4 22 rfl rfl
theorem dX3_putsGallery_0 : decode cX3_putsGallery 0 = .ok (.aload_n 0, 1) := dk_42 (dk_at dksX3_putsGallery_0 0 rfl rfl)
theorem dX3_putsGallery_1 : decode cX3_putsGallery 1 = .ok (.getfield 7, 3) := dk_180 0 7 (dk_at dksX3_putsGallery_0 1 rfl rfl)
theorem dX3_putsGallery_4 : decode cX3_putsGallery 4 = .ok (.bipush 43, 2) := dk_16 43 (dk_at dksX3_putsGallery_0 4 rfl rfl)
theorem dX3_putsGallery_6 : decode cX3_putsGallery 6 = .ok (.aload_n 0, 1) := dk_42 (dk_at dksX3_putsGallery_0 6 rfl rfl)
theorem dX3_putsGallery_7 : decode cX3_putsGallery 7 = .ok (.getfield 233, 3) := dk_180 0 233 (dk_at dksX3_putsGallery_0 7 rfl rfl)
theorem dX3_putsGallery_10 : decode cX3_putsGallery 10 = .ok (.iastore, 1) := dk_79 (dk_at dksX3_putsGallery_0 10 rfl rfl)
theorem dX3_putsGallery_11 : decode cX3_putsGallery 11 = .ok (.iconst 0, 1) := dk_3 (dk_at dksX3_putsGallery_0 11 rfl rfl)
theorem dX3_putsGallery_12 : decode cX3_putsGallery 12 = .ok (.istore_n 1, 1) := dk_60 (dk_at dksX3_putsGallery_0 12 rfl rfl)
theorem dX3_putsGallery_13 : decode cX3_putsGallery 13 = .ok (.iload_n 1, 1) := dk_27 (dk_at dksX3_putsGallery_0 13 rfl rfl)
theorem dX3_putsGallery_14 : decode cX3_putsGallery 14 = .ok (.bipush 12, 2) := dk_16 12 (dk_at dksX3_putsGallery_0 14 rfl rfl)
theorem dX3_putsGallery_16 : decode cX3_putsGallery 16 = .ok (.if_icmp .ge 20, 3) := dk_162 0 20 (dk_at dksX3_putsGallery_0 16 rfl rfl)
theorem dX3_putsGallery_19 : decode cX3_putsGallery 19 = .ok (.aload_n 0, 1) := dk_42 (dk_at dksX3_putsGallery_0 19 rfl rfl)
theorem dX3_putsGallery_20 : decode cX3_putsGallery 20 = .ok (.getfield 7, 3) := dk_180 0 7 (dk_at dksX3_putsGallery_0 20 rfl rfl)
theorem dX3_putsGallery_23 : decode cX3_putsGallery 23 = .ok (.sipush 185, 3) := dk_17 0 185 (dk_at dksX3_putsGallery_1 0 rfl rfl)
theorem dX3_putsGallery_26 : decode cX3_putsGallery 26 = .ok (.iload_n 1, 1) := dk_27 (dk_at dksX3_putsGallery_1 3 rfl rfl)
theorem dX3_putsGallery_27 : decode cX3_putsGallery 27 = .ok (.iadd, 1) := dk_96 (dk_at dksX3_putsGallery_1 4 rfl rfl)
theorem dX3_putsGallery_28 : decode cX3_putsGallery 28 = .ok (.iconst 0, 1) := dk_3 (dk_at dksX3_putsGallery_1 5 rfl rfl)
theorem dX3_putsGallery_29 : decode cX3_putsGallery 29 = .ok (.iastore, 1) := dk_79 (dk_at dksX3_putsGallery_1 6 rfl rfl)
theorem dX3_putsGallery_30 : decode cX3_putsGallery 30 = .ok (.iinc 1 1, 3) := dk_132 1 1 (dk_at dksX3_putsGallery_1 7 rfl rfl)
theorem dX3_putsGallery_33 : decode cX3_putsGallery 33 = .ok (.goto (-20), 3) := dk_167 255 236 (dk_at dksX3_putsGallery_1 10 rfl rfl)
theorem dX3_putsGallery_36 : decode cX3_putsGallery 36 = .ok (.iconst 0, 1) := dk_3 (dk_at dksX3_putsGallery_1 13 rfl rfl)
theorem dX3_putsGallery_37 : decode cX3_putsGallery 37 = .ok (.istore_n 1, 1) := dk_60 (dk_at dksX3_putsGallery_1 14 rfl rfl)
theorem dX3_putsGallery_38 : decode cX3_putsGallery 38 = .ok (.iload_n 1, 1) := dk_27 (dk_at dksX3_putsGallery_1 15 rfl rfl)
theorem dX3_putsGallery_39 : decode cX3_putsGallery 39 = .ok (.aload_n 0, 1) := dk_42 (dk_at dksX3_putsGallery_1 16 rfl rfl)
theorem dX3_putsGallery_40 : decode cX3_putsGallery 40 = .ok (.getfield 233, 3) := dk_180 0 233 (dk_at dksX3_putsGallery_1 17 rfl rfl)
theorem dX3_putsGallery_43 : decode cX3_putsGallery 43 = .ok (.if_icmp .ge 73, 3) := dk_162 0 73 (dk_at dksX3_putsGallery_1 20 rfl rfl)
theorem dX3_putsGallery_46 : decode cX3_putsGallery 46 = .ok (.aload_n 0, 1) := dk_42 (dk_at dksX3_putsGallery_1 23 rfl rfl)
theorem dX3_putsGallery_47 : decode cX3_putsGallery 47 = .ok (.getfield 7, 3) := dk_180 0 7 (dk_at dksX3_putsGallery_2 0 rfl rfl)
theorem dX3_putsGallery_50 : decode cX3_putsGallery 50 = .ok (.sipush 185, 3) := dk_17 0 185 (dk_at dksX3_putsGallery_2 3 rfl rfl)
theorem dX3_putsGallery_53 : decode cX3_putsGallery 53 = .ok (.aload_n 0, 1) := dk_42 (dk_at dksX3_putsGallery_2 6 rfl rfl)
theorem dX3_putsGallery_54 : decode cX3_putsGallery 54 = .ok (.getfield 28, 3) := dk_180 0 28 (dk_at dksX3_putsGallery_2 7 rfl rfl)
theorem dX3_putsGallery_57 : decode cX3_putsGallery 57 = .ok (.iconst 2, 1) := dk_5 (dk_at dksX3_putsGallery_2 10 rfl rfl)
theorem dX3_putsGallery_58 : decode cX3_putsGallery 58 = .ok (.iload_n 1, 1) := dk_27 (dk_at dksX3_putsGallery_2 11 rfl rfl)
theorem dX3_putsGallery_59 : decode cX3_putsGallery 59 = .ok (.imul, 1) := dk_104 (dk_at dksX3_putsGallery_2 12 rfl rfl)
theorem dX3_putsGallery_60 : decode cX3_putsGallery 60 = .ok (.iaload, 1) := dk_46 (dk_at dksX3_putsGallery_2 13 rfl rfl)
theorem dX3_putsGallery_61 : decode cX3_putsGallery 61 = .ok (.iadd, 1) := dk_96 (dk_at dksX3_putsGallery_2 14 rfl rfl)
theorem dX3_putsGallery_62 : decode cX3_putsGallery 62 = .ok (.dup2, 1) := dk_92 (dk_at dksX3_putsGallery_2 15 rfl rfl)
theorem dX3_putsGallery_63 : decode cX3_putsGallery 63 = .ok (.iaload, 1) := dk_46 (dk_at dksX3_putsGallery_2 16 rfl rfl)
theorem dX3_putsGallery_64 : decode cX3_putsGallery 64 = .ok (.iconst 1, 1) := dk_4 (dk_at dksX3_putsGallery_2 17 rfl rfl)
theorem dX3_putsGallery_65 : decode cX3_putsGallery 65 = .ok (.aload_n 0, 1) := dk_42 (dk_at dksX3_putsGallery_2 18 rfl rfl)
theorem dX3_putsGallery_66 : decode cX3_putsGallery 66 = .ok (.getfield 28, 3) := dk_180 0 28 (dk_at dksX3_putsGallery_2 19 rfl rfl)
theorem dX3_putsGallery_69 : decode cX3_putsGallery 69 = .ok (.iconst 2, 1) := dk_5 (dk_at dksX3_putsGallery_2 22 rfl rfl)
theorem dX3_putsGallery_70 : decode cX3_putsGallery 70 = .ok (.iload_n 1, 1) := dk_27 (dk_at dksX3_putsGallery_2 23 rfl rfl)
theorem dX3_putsGallery_71 : decode cX3_putsGallery 71 = .ok (.imul, 1) := dk_104 (dk_at dksX3_putsGallery_3 0 rfl rfl)
theorem dX3_putsGallery_72 : decode cX3_putsGallery 72 = .ok (.iconst 1, 1) := dk_4 (dk_at dksX3_putsGallery_3 1 rfl rfl)
theorem dX3_putsGallery_73 : decode cX3_putsGallery 73 = .ok (.iadd, 1) := dk_96 (dk_at dksX3_putsGallery_3 2 rfl rfl)
theorem dX3_putsGallery_74 : decode cX3_putsGallery 74 = .ok (.iaload, 1) := dk_46 (dk_at dksX3_putsGallery_3 3 rfl rfl)
theorem dX3_putsGallery_75 : decode cX3_putsGallery 75 = .ok (.ishl, 1) := dk_120 (dk_at dksX3_putsGallery_3 4 rfl rfl)
theorem dX3_putsGallery_76 : decode cX3_putsGallery 76 = .ok (.ior, 1) := dk_128 (dk_at dksX3_putsGallery_3 5 rfl rfl)
theorem dX3_putsGallery_77 : decode cX3_putsGallery 77 = .ok (.iastore, 1) := dk_79 (dk_at dksX3_putsGallery_3 6 rfl rfl)
theorem dX3_putsGallery_78 : decode cX3_putsGallery 78 = .ok (.aload_n 0, 1) := dk_42 (dk_at dksX3_putsGallery_3 7 rfl rfl)
theorem dX3_putsGallery_79 : decode cX3_putsGallery 79 = .ok (.getfield 7, 3) := dk_180 0 7 (dk_at dksX3_putsGallery_3 8 rfl rfl)
theorem dX3_putsGallery_82 : decode cX3_putsGallery 82 = .ok (.sipush 185, 3) := dk_17 0 185 (dk_at dksX3_putsGallery_3 11 rfl rfl)
theorem dX3_putsGallery_85 : decode cX3_putsGallery 85 = .ok (.aload_n 0, 1) := dk_42 (dk_at dksX3_putsGallery_3 14 rfl rfl)
theorem dX3_putsGallery_86 : decode cX3_putsGallery 86 = .ok (.getfield 28, 3) := dk_180 0 28 (dk_at dksX3_putsGallery_3 15 rfl rfl)
theorem dX3_putsGallery_89 : decode cX3_putsGallery 89 = .ok (.iconst 2, 1) := dk_5 (dk_at dksX3_putsGallery_3 18 rfl rfl)
theorem dX3_putsGallery_90 : decode cX3_putsGallery 90 = .ok (.iload_n 1, 1) := dk_27 (dk_at dksX3_putsGallery_3 19 rfl rfl)
theorem dX3_putsGallery_91 : decode cX3_putsGallery 91 = .ok (.imul, 1) := dk_104 (dk_at dksX3_putsGallery_3 20 rfl rfl)
theorem dX3_putsGallery_92 : decode cX3_putsGallery 92 = .ok (.iconst 1, 1) := dk_4 (dk_at dksX3_putsGallery_3 21 rfl rfl)
theorem dX3_putsGallery_93 : decode cX3_putsGallery 93 = .ok (.iadd, 1) := dk_96 (dk_at dksX3_putsGallery_3 22 rfl rfl)
theorem dX3_putsGallery_94 : decode cX3_putsGallery 94 = .ok (.iaload, 1) := dk_46 (dk_at dksX3_putsGallery_3 23 rfl rfl)
theorem dX3_putsGallery_95 : decode cX3_putsGallery 95 = .ok (.iadd, 1) := dk_96 (dk_at dksX3_putsGallery_4 0 rfl rfl)
theorem dX3_putsGallery_96 : decode cX3_putsGallery 96 = .ok (.dup2, 1) := dk_92 (dk_at dksX3_putsGallery_4 1 rfl rfl)
theorem dX3_putsGallery_97 : decode cX3_putsGallery 97 = .ok (.iaload, 1) := dk_46 (dk_at dksX3_putsGallery_4 2 rfl rfl)
theorem dX3_putsGallery_98 : decode cX3_putsGallery 98 = .ok (.iconst 1, 1) := dk_4 (dk_at dksX3_putsGallery_4 3 rfl rfl)
theorem dX3_putsGallery_99 : decode cX3_putsGallery 99 = .ok (.aload_n 0, 1) := dk_42 (dk_at dksX3_putsGallery_4 4 rfl rfl)
theorem dX3_putsGallery_100 : decode cX3_putsGallery 100 = .ok (.getfield 28, 3) := dk_180 0 28 (dk_at dksX3_putsGallery_4 5 rfl rfl)
theorem dX3_putsGallery_103 : decode cX3_putsGallery 103 = .ok (.iconst 2, 1) := dk_5 (dk_at dksX3_putsGallery_4 8 rfl rfl)
theorem dX3_putsGallery_104 : decode cX3_putsGallery 104 = .ok (.iload_n 1, 1) := dk_27 (dk_at dksX3_putsGallery_4 9 rfl rfl)
theorem dX3_putsGallery_105 : decode cX3_putsGallery 105 = .ok (.imul, 1) := dk_104 (dk_at dksX3_putsGallery_4 10 rfl rfl)
theorem dX3_putsGallery_106 : decode cX3_putsGallery 106 = .ok (.iaload, 1) := dk_46 (dk_at dksX3_putsGallery_4 11 rfl rfl)
theorem dX3_putsGallery_107 : decode cX3_putsGallery 107 = .ok (.ishl, 1) := dk_120 (dk_at dksX3_putsGallery_4 12 rfl rfl)
theorem dX3_putsGallery_108 : decode cX3_putsGallery 108 = .ok (.ior, 1) := dk_128 (dk_at dksX3_putsGallery_4 13 rfl rfl)
theorem dX3_putsGallery_109 : decode cX3_putsGallery 109 = .ok (.iastore, 1) := dk_79 (dk_at dksX3_putsGallery_4 14 rfl rfl)
theorem dX3_putsGallery_110 : decode cX3_putsGallery 110 = .ok (.iinc 1 1, 3) := dk_132 1 1 (dk_at dksX3_putsGallery_4 15 rfl rfl)
theorem dX3_putsGallery_113 : decode cX3_putsGallery 113 = .ok (.goto (-75), 3) := dk_167 255 181 (dk_at dksX3_putsGallery_4 18 rfl rfl)
theorem dX3_putsGallery_116 : decode cX3_putsGallery 116 = .ok (.aload_n 0, 1) := dk_42 (dk_at dksX3_putsGallery_4 21 rfl rfl)
theorem dX3_putsGallery_117 : decode cX3_putsGallery 117 = .ok (.getfield 233, 3) := dk_180 0 233 (dk_at dksX3_putsGallery_5 0 rfl rfl)
theorem dX3_putsGallery_120 : decode cX3_putsGallery 120 = .ok (.ireturn, 1) := dk_172 (dk_at dksX3_putsGallery_5 3 rfl rfl)
abbrev cX3_fault : ByteArray := prog_17_method_54_code
def yX3_fault : MethodName := ⟨RX3, "fault", "(I)I"⟩
def dkwX3_fault_1 : List UInt8 := [172]
abbrev dktX3_fault_1 : List UInt8 := dkwX3_fault_1 ++ []
def dkwX3_fault_0 : List UInt8 := [27, 154, 0, 10, 42, 180, 1, 9, 167, 0, 16, 27, 4, 160, 0, 10, 42, 180, 0, 40, 167, 0, 4, 2]
abbrev dktX3_fault_0 : List UInt8 := dkwX3_fault_0 ++ dktX3_fault_1
theorem dksX3_fault_0 : cX3_fault.data.toList.drop 0 = dktX3_fault_0 := by decide +kernel
theorem dksX3_fault_1 : cX3_fault.data.toList.drop 24 = dktX3_fault_1 := dk_seg dksX3_fault_0 24 rfl rfl
theorem dX3_fault_0 : decode cX3_fault 0 = .ok (.iload_n 1, 1) := dk_27 (dk_at dksX3_fault_0 0 rfl rfl)
theorem dX3_fault_1 : decode cX3_fault 1 = .ok (.ifCond .ne 10, 3) := dk_154 0 10 (dk_at dksX3_fault_0 1 rfl rfl)
theorem dX3_fault_4 : decode cX3_fault 4 = .ok (.aload_n 0, 1) := dk_42 (dk_at dksX3_fault_0 4 rfl rfl)
theorem dX3_fault_5 : decode cX3_fault 5 = .ok (.getfield 265, 3) := dk_180 1 9 (dk_at dksX3_fault_0 5 rfl rfl)
theorem dX3_fault_8 : decode cX3_fault 8 = .ok (.goto 16, 3) := dk_167 0 16 (dk_at dksX3_fault_0 8 rfl rfl)
theorem dX3_fault_11 : decode cX3_fault 11 = .ok (.iload_n 1, 1) := dk_27 (dk_at dksX3_fault_0 11 rfl rfl)
theorem dX3_fault_12 : decode cX3_fault 12 = .ok (.iconst 1, 1) := dk_4 (dk_at dksX3_fault_0 12 rfl rfl)
theorem dX3_fault_13 : decode cX3_fault 13 = .ok (.if_icmp .ne 10, 3) := dk_160 0 10 (dk_at dksX3_fault_0 13 rfl rfl)
theorem dX3_fault_16 : decode cX3_fault 16 = .ok (.aload_n 0, 1) := dk_42 (dk_at dksX3_fault_0 16 rfl rfl)
theorem dX3_fault_17 : decode cX3_fault 17 = .ok (.getfield 40, 3) := dk_180 0 40 (dk_at dksX3_fault_0 17 rfl rfl)
theorem dX3_fault_20 : decode cX3_fault 20 = .ok (.goto 4, 3) := dk_167 0 4 (dk_at dksX3_fault_0 20 rfl rfl)
theorem dX3_fault_23 : decode cX3_fault 23 = .ok (.iconst (-1), 1) := dk_2 (dk_at dksX3_fault_0 23 rfl rfl)
theorem dX3_fault_24 : decode cX3_fault 24 = .ok (.ireturn, 1) := dk_172 (dk_at dksX3_fault_1 0 rfl rfl)
abbrev cX3_undo : ByteArray := prog_17_method_69_code
def yX3_undo : MethodName := ⟨RX3, "undo", "()Z"⟩
def dkwX3_undo_2 : List UInt8 := [132, 1, 1, 167, 255, 227, 4, 172]
abbrev dktX3_undo_2 : List UInt8 := dkwX3_undo_2 ++ []
def dkwX3_undo_1 : List UInt8 := [162, 0, 29, 42, 180, 0, 7, 27, 42, 180, 0, 16, 16, 37, 42, 180, 0, 60, 104, 27, 96, 46, 79]
abbrev dktX3_undo_1 : List UInt8 := dkwX3_undo_1 ++ dktX3_undo_2
def dkwX3_undo_0 : List UInt8 := [42, 180, 0, 60, 154, 0, 5, 3, 172, 42, 89, 180, 0, 60, 4, 100, 181, 0, 60, 3, 60, 27, 16, 37]
abbrev dktX3_undo_0 : List UInt8 := dkwX3_undo_0 ++ dktX3_undo_1
theorem dksX3_undo_0 : cX3_undo.data.toList.drop 0 = dktX3_undo_0 := by decide +kernel
theorem dksX3_undo_1 : cX3_undo.data.toList.drop 24 = dktX3_undo_1 := dk_seg dksX3_undo_0 24 rfl rfl
theorem dksX3_undo_2 : cX3_undo.data.toList.drop 47 = dktX3_undo_2 := dk_seg dksX3_undo_1 23 rfl rfl
theorem dX3_undo_0 : decode cX3_undo 0 = .ok (.aload_n 0, 1) := dk_42 (dk_at dksX3_undo_0 0 rfl rfl)
theorem dX3_undo_1 : decode cX3_undo 1 = .ok (.getfield 60, 3) := dk_180 0 60 (dk_at dksX3_undo_0 1 rfl rfl)
theorem dX3_undo_4 : decode cX3_undo 4 = .ok (.ifCond .ne 5, 3) := dk_154 0 5 (dk_at dksX3_undo_0 4 rfl rfl)
theorem dX3_undo_7 : decode cX3_undo 7 = .ok (.iconst 0, 1) := dk_3 (dk_at dksX3_undo_0 7 rfl rfl)
theorem dX3_undo_8 : decode cX3_undo 8 = .ok (.ireturn, 1) := dk_172 (dk_at dksX3_undo_0 8 rfl rfl)
theorem dX3_undo_9 : decode cX3_undo 9 = .ok (.aload_n 0, 1) := dk_42 (dk_at dksX3_undo_0 9 rfl rfl)
theorem dX3_undo_10 : decode cX3_undo 10 = .ok (.dup, 1) := dk_89 (dk_at dksX3_undo_0 10 rfl rfl)
theorem dX3_undo_11 : decode cX3_undo 11 = .ok (.getfield 60, 3) := dk_180 0 60 (dk_at dksX3_undo_0 11 rfl rfl)
theorem dX3_undo_14 : decode cX3_undo 14 = .ok (.iconst 1, 1) := dk_4 (dk_at dksX3_undo_0 14 rfl rfl)
theorem dX3_undo_15 : decode cX3_undo 15 = .ok (.isub, 1) := dk_100 (dk_at dksX3_undo_0 15 rfl rfl)
theorem dX3_undo_16 : decode cX3_undo 16 = .ok (.putfield 60, 3) := dk_181 0 60 (dk_at dksX3_undo_0 16 rfl rfl)
theorem dX3_undo_19 : decode cX3_undo 19 = .ok (.iconst 0, 1) := dk_3 (dk_at dksX3_undo_0 19 rfl rfl)
theorem dX3_undo_20 : decode cX3_undo 20 = .ok (.istore_n 1, 1) := dk_60 (dk_at dksX3_undo_0 20 rfl rfl)
theorem dX3_undo_21 : decode cX3_undo 21 = .ok (.iload_n 1, 1) := dk_27 (dk_at dksX3_undo_0 21 rfl rfl)
theorem dX3_undo_22 : decode cX3_undo 22 = .ok (.bipush 37, 2) := dk_16 37 (dk_at dksX3_undo_0 22 rfl rfl)
theorem dX3_undo_24 : decode cX3_undo 24 = .ok (.if_icmp .ge 29, 3) := dk_162 0 29 (dk_at dksX3_undo_1 0 rfl rfl)
theorem dX3_undo_27 : decode cX3_undo 27 = .ok (.aload_n 0, 1) := dk_42 (dk_at dksX3_undo_1 3 rfl rfl)
theorem dX3_undo_28 : decode cX3_undo 28 = .ok (.getfield 7, 3) := dk_180 0 7 (dk_at dksX3_undo_1 4 rfl rfl)
theorem dX3_undo_31 : decode cX3_undo 31 = .ok (.iload_n 1, 1) := dk_27 (dk_at dksX3_undo_1 7 rfl rfl)
theorem dX3_undo_32 : decode cX3_undo 32 = .ok (.aload_n 0, 1) := dk_42 (dk_at dksX3_undo_1 8 rfl rfl)
theorem dX3_undo_33 : decode cX3_undo 33 = .ok (.getfield 16, 3) := dk_180 0 16 (dk_at dksX3_undo_1 9 rfl rfl)
theorem dX3_undo_36 : decode cX3_undo 36 = .ok (.bipush 37, 2) := dk_16 37 (dk_at dksX3_undo_1 12 rfl rfl)
theorem dX3_undo_38 : decode cX3_undo 38 = .ok (.aload_n 0, 1) := dk_42 (dk_at dksX3_undo_1 14 rfl rfl)
theorem dX3_undo_39 : decode cX3_undo 39 = .ok (.getfield 60, 3) := dk_180 0 60 (dk_at dksX3_undo_1 15 rfl rfl)
theorem dX3_undo_42 : decode cX3_undo 42 = .ok (.imul, 1) := dk_104 (dk_at dksX3_undo_1 18 rfl rfl)
theorem dX3_undo_43 : decode cX3_undo 43 = .ok (.iload_n 1, 1) := dk_27 (dk_at dksX3_undo_1 19 rfl rfl)
theorem dX3_undo_44 : decode cX3_undo 44 = .ok (.iadd, 1) := dk_96 (dk_at dksX3_undo_1 20 rfl rfl)
theorem dX3_undo_45 : decode cX3_undo 45 = .ok (.iaload, 1) := dk_46 (dk_at dksX3_undo_1 21 rfl rfl)
theorem dX3_undo_46 : decode cX3_undo 46 = .ok (.iastore, 1) := dk_79 (dk_at dksX3_undo_1 22 rfl rfl)
theorem dX3_undo_47 : decode cX3_undo 47 = .ok (.iinc 1 1, 3) := dk_132 1 1 (dk_at dksX3_undo_2 0 rfl rfl)
theorem dX3_undo_50 : decode cX3_undo 50 = .ok (.goto (-29), 3) := dk_167 255 227 (dk_at dksX3_undo_2 3 rfl rfl)
theorem dX3_undo_53 : decode cX3_undo 53 = .ok (.iconst 1, 1) := dk_4 (dk_at dksX3_undo_2 6 rfl rfl)
theorem dX3_undo_54 : decode cX3_undo 54 = .ok (.ireturn, 1) := dk_172 (dk_at dksX3_undo_2 7 rfl rfl)
abbrev cX3_perform : ByteArray := prog_17_method_76_code
def yX3_perform : MethodName := ⟨RX3, "perform", "(I)I"⟩
def dkwX3_perform_1 : List UInt8 := [46, 104, 96, 17, 39, 15, 161, 0, 5, 2, 172, 42, 182, 1, 111, 42, 27, 182, 1, 114, 172]
abbrev dktX3_perform_1 : List UInt8 := dkwX3_perform_1 ++ []
def dkwX3_perform_0 : List UInt8 := [42, 27, 182, 0, 72, 153, 0, 28, 42, 180, 0, 7, 3, 46, 16, 21, 42, 180, 0, 7, 16, 89, 27, 96]
abbrev dktX3_perform_0 : List UInt8 := dkwX3_perform_0 ++ dktX3_perform_1
theorem dksX3_perform_0 : cX3_perform.data.toList.drop 0 = dktX3_perform_0 := by decide +kernel
theorem dksX3_perform_1 : cX3_perform.data.toList.drop 24 = dktX3_perform_1 := dk_seg dksX3_perform_0 24 rfl rfl
theorem dX3_perform_0 : decode cX3_perform 0 = .ok (.aload_n 0, 1) := dk_42 (dk_at dksX3_perform_0 0 rfl rfl)
theorem dX3_perform_1 : decode cX3_perform 1 = .ok (.iload_n 1, 1) := dk_27 (dk_at dksX3_perform_0 1 rfl rfl)
theorem dX3_perform_2 : decode cX3_perform 2 = .ok (.invokevirtual 72, 3) := dk_182 0 72 (dk_at dksX3_perform_0 2 rfl rfl)
theorem dX3_perform_5 : decode cX3_perform 5 = .ok (.ifCond .eq 28, 3) := dk_153 0 28 (dk_at dksX3_perform_0 5 rfl rfl)
theorem dX3_perform_8 : decode cX3_perform 8 = .ok (.aload_n 0, 1) := dk_42 (dk_at dksX3_perform_0 8 rfl rfl)
theorem dX3_perform_9 : decode cX3_perform 9 = .ok (.getfield 7, 3) := dk_180 0 7 (dk_at dksX3_perform_0 9 rfl rfl)
theorem dX3_perform_12 : decode cX3_perform 12 = .ok (.iconst 0, 1) := dk_3 (dk_at dksX3_perform_0 12 rfl rfl)
theorem dX3_perform_13 : decode cX3_perform 13 = .ok (.iaload, 1) := dk_46 (dk_at dksX3_perform_0 13 rfl rfl)
theorem dX3_perform_14 : decode cX3_perform 14 = .ok (.bipush 21, 2) := dk_16 21 (dk_at dksX3_perform_0 14 rfl rfl)
theorem dX3_perform_16 : decode cX3_perform 16 = .ok (.aload_n 0, 1) := dk_42 (dk_at dksX3_perform_0 16 rfl rfl)
theorem dX3_perform_17 : decode cX3_perform 17 = .ok (.getfield 7, 3) := dk_180 0 7 (dk_at dksX3_perform_0 17 rfl rfl)
theorem dX3_perform_20 : decode cX3_perform 20 = .ok (.bipush 89, 2) := dk_16 89 (dk_at dksX3_perform_0 20 rfl rfl)
theorem dX3_perform_22 : decode cX3_perform 22 = .ok (.iload_n 1, 1) := dk_27 (dk_at dksX3_perform_0 22 rfl rfl)
theorem dX3_perform_23 : decode cX3_perform 23 = .ok (.iadd, 1) := dk_96 (dk_at dksX3_perform_0 23 rfl rfl)
theorem dX3_perform_24 : decode cX3_perform 24 = .ok (.iaload, 1) := dk_46 (dk_at dksX3_perform_1 0 rfl rfl)
theorem dX3_perform_25 : decode cX3_perform 25 = .ok (.imul, 1) := dk_104 (dk_at dksX3_perform_1 1 rfl rfl)
theorem dX3_perform_26 : decode cX3_perform 26 = .ok (.iadd, 1) := dk_96 (dk_at dksX3_perform_1 2 rfl rfl)
theorem dX3_perform_27 : decode cX3_perform 27 = .ok (.sipush 9999, 3) := dk_17 39 15 (dk_at dksX3_perform_1 3 rfl rfl)
theorem dX3_perform_30 : decode cX3_perform 30 = .ok (.if_icmp .lt 5, 3) := dk_161 0 5 (dk_at dksX3_perform_1 6 rfl rfl)
theorem dX3_perform_33 : decode cX3_perform 33 = .ok (.iconst (-1), 1) := dk_2 (dk_at dksX3_perform_1 9 rfl rfl)
theorem dX3_perform_34 : decode cX3_perform 34 = .ok (.ireturn, 1) := dk_172 (dk_at dksX3_perform_1 10 rfl rfl)
theorem dX3_perform_35 : decode cX3_perform 35 = .ok (.aload_n 0, 1) := dk_42 (dk_at dksX3_perform_1 11 rfl rfl)
theorem dX3_perform_36 : decode cX3_perform 36 = .ok (.invokevirtual 367, 3) := dk_182 1 111 (dk_at dksX3_perform_1 12 rfl rfl)
theorem dX3_perform_39 : decode cX3_perform 39 = .ok (.aload_n 0, 1) := dk_42 (dk_at dksX3_perform_1 15 rfl rfl)
theorem dX3_perform_40 : decode cX3_perform 40 = .ok (.iload_n 1, 1) := dk_27 (dk_at dksX3_perform_1 16 rfl rfl)
theorem dX3_perform_41 : decode cX3_perform 41 = .ok (.invokevirtual 370, 3) := dk_182 1 114 (dk_at dksX3_perform_1 17 rfl rfl)
theorem dX3_perform_44 : decode cX3_perform 44 = .ok (.ireturn, 1) := dk_172 (dk_at dksX3_perform_1 20 rfl rfl)
abbrev cX3_keeps : ByteArray := prog_17_method_68_code
def yX3_keeps : MethodName := ⟨RX3, "keeps", "()V"⟩
def dkwX3_keeps_4 : List UInt8 := [4, 181, 1, 47, 177]
abbrev dktX3_keeps_4 : List UInt8 := dkwX3_keeps_4 ++ []
def dkwX3_keeps_3 : List UInt8 := [42, 180, 0, 7, 27, 46, 79, 132, 1, 1, 167, 255, 227, 42, 89, 180, 0, 60, 4, 96, 181, 0, 60, 42]
abbrev dktX3_keeps_3 : List UInt8 := dkwX3_keeps_3 ++ dktX3_keeps_4
def dkwX3_keeps_2 : List UInt8 := [181, 0, 60, 3, 60, 27, 16, 37, 162, 0, 29, 42, 180, 0, 16, 16, 37, 42, 180, 0, 60, 104, 27, 96]
abbrev dktX3_keeps_2 : List UInt8 := dkwX3_keeps_2 ++ dktX3_keeps_3
def dkwX3_keeps_1 : List UInt8 := [180, 0, 16, 27, 16, 37, 96, 46, 79, 132, 1, 1, 167, 255, 231, 42, 89, 180, 0, 60, 4, 100]
abbrev dktX3_keeps_1 : List UInt8 := dkwX3_keeps_1 ++ dktX3_keeps_2
def dkwX3_keeps_0 : List UInt8 := [42, 180, 0, 60, 16, 6, 160, 0, 43, 3, 60, 27, 17, 0, 185, 162, 0, 24, 42, 180, 0, 16, 27, 42]
abbrev dktX3_keeps_0 : List UInt8 := dkwX3_keeps_0 ++ dktX3_keeps_1
theorem dksX3_keeps_0 : cX3_keeps.data.toList.drop 0 = dktX3_keeps_0 := by decide +kernel
theorem dksX3_keeps_1 : cX3_keeps.data.toList.drop 24 = dktX3_keeps_1 := dk_seg dksX3_keeps_0 24 rfl rfl
theorem dksX3_keeps_2 : cX3_keeps.data.toList.drop 46 = dktX3_keeps_2 := dk_seg dksX3_keeps_1 22 rfl rfl
theorem dksX3_keeps_3 : cX3_keeps.data.toList.drop 70 = dktX3_keeps_3 := dk_seg dksX3_keeps_2 24 rfl rfl
theorem dksX3_keeps_4 : cX3_keeps.data.toList.drop 94 = dktX3_keeps_4 := dk_seg dksX3_keeps_3 24 rfl rfl
theorem dX3_keeps_0 : decode cX3_keeps 0 = .ok (.aload_n 0, 1) := dk_42 (dk_at dksX3_keeps_0 0 rfl rfl)
theorem dX3_keeps_1 : decode cX3_keeps 1 = .ok (.getfield 60, 3) := dk_180 0 60 (dk_at dksX3_keeps_0 1 rfl rfl)
theorem dX3_keeps_4 : decode cX3_keeps 4 = .ok (.bipush 6, 2) := dk_16 6 (dk_at dksX3_keeps_0 4 rfl rfl)
theorem dX3_keeps_6 : decode cX3_keeps 6 = .ok (.if_icmp .ne 43, 3) := dk_160 0 43 (dk_at dksX3_keeps_0 6 rfl rfl)
theorem dX3_keeps_9 : decode cX3_keeps 9 = .ok (.iconst 0, 1) := dk_3 (dk_at dksX3_keeps_0 9 rfl rfl)
theorem dX3_keeps_10 : decode cX3_keeps 10 = .ok (.istore_n 1, 1) := dk_60 (dk_at dksX3_keeps_0 10 rfl rfl)
theorem dX3_keeps_11 : decode cX3_keeps 11 = .ok (.iload_n 1, 1) := dk_27 (dk_at dksX3_keeps_0 11 rfl rfl)
theorem dX3_keeps_12 : decode cX3_keeps 12 = .ok (.sipush 185, 3) := dk_17 0 185 (dk_at dksX3_keeps_0 12 rfl rfl)
theorem dX3_keeps_15 : decode cX3_keeps 15 = .ok (.if_icmp .ge 24, 3) := dk_162 0 24 (dk_at dksX3_keeps_0 15 rfl rfl)
theorem dX3_keeps_18 : decode cX3_keeps 18 = .ok (.aload_n 0, 1) := dk_42 (dk_at dksX3_keeps_0 18 rfl rfl)
theorem dX3_keeps_19 : decode cX3_keeps 19 = .ok (.getfield 16, 3) := dk_180 0 16 (dk_at dksX3_keeps_0 19 rfl rfl)
theorem dX3_keeps_22 : decode cX3_keeps 22 = .ok (.iload_n 1, 1) := dk_27 (dk_at dksX3_keeps_0 22 rfl rfl)
theorem dX3_keeps_23 : decode cX3_keeps 23 = .ok (.aload_n 0, 1) := dk_42 (dk_at dksX3_keeps_0 23 rfl rfl)
theorem dX3_keeps_24 : decode cX3_keeps 24 = .ok (.getfield 16, 3) := dk_180 0 16 (dk_at dksX3_keeps_1 0 rfl rfl)
theorem dX3_keeps_27 : decode cX3_keeps 27 = .ok (.iload_n 1, 1) := dk_27 (dk_at dksX3_keeps_1 3 rfl rfl)
theorem dX3_keeps_28 : decode cX3_keeps 28 = .ok (.bipush 37, 2) := dk_16 37 (dk_at dksX3_keeps_1 4 rfl rfl)
theorem dX3_keeps_30 : decode cX3_keeps 30 = .ok (.iadd, 1) := dk_96 (dk_at dksX3_keeps_1 6 rfl rfl)
theorem dX3_keeps_31 : decode cX3_keeps 31 = .ok (.iaload, 1) := dk_46 (dk_at dksX3_keeps_1 7 rfl rfl)
theorem dX3_keeps_32 : decode cX3_keeps 32 = .ok (.iastore, 1) := dk_79 (dk_at dksX3_keeps_1 8 rfl rfl)
theorem dX3_keeps_33 : decode cX3_keeps 33 = .ok (.iinc 1 1, 3) := dk_132 1 1 (dk_at dksX3_keeps_1 9 rfl rfl)
theorem dX3_keeps_36 : decode cX3_keeps 36 = .ok (.goto (-25), 3) := dk_167 255 231 (dk_at dksX3_keeps_1 12 rfl rfl)
theorem dX3_keeps_39 : decode cX3_keeps 39 = .ok (.aload_n 0, 1) := dk_42 (dk_at dksX3_keeps_1 15 rfl rfl)
theorem dX3_keeps_40 : decode cX3_keeps 40 = .ok (.dup, 1) := dk_89 (dk_at dksX3_keeps_1 16 rfl rfl)
theorem dX3_keeps_41 : decode cX3_keeps 41 = .ok (.getfield 60, 3) := dk_180 0 60 (dk_at dksX3_keeps_1 17 rfl rfl)
theorem dX3_keeps_44 : decode cX3_keeps 44 = .ok (.iconst 1, 1) := dk_4 (dk_at dksX3_keeps_1 20 rfl rfl)
theorem dX3_keeps_45 : decode cX3_keeps 45 = .ok (.isub, 1) := dk_100 (dk_at dksX3_keeps_1 21 rfl rfl)
theorem dX3_keeps_46 : decode cX3_keeps 46 = .ok (.putfield 60, 3) := dk_181 0 60 (dk_at dksX3_keeps_2 0 rfl rfl)
theorem dX3_keeps_49 : decode cX3_keeps 49 = .ok (.iconst 0, 1) := dk_3 (dk_at dksX3_keeps_2 3 rfl rfl)
theorem dX3_keeps_50 : decode cX3_keeps 50 = .ok (.istore_n 1, 1) := dk_60 (dk_at dksX3_keeps_2 4 rfl rfl)
theorem dX3_keeps_51 : decode cX3_keeps 51 = .ok (.iload_n 1, 1) := dk_27 (dk_at dksX3_keeps_2 5 rfl rfl)
theorem dX3_keeps_52 : decode cX3_keeps 52 = .ok (.bipush 37, 2) := dk_16 37 (dk_at dksX3_keeps_2 6 rfl rfl)
theorem dX3_keeps_54 : decode cX3_keeps 54 = .ok (.if_icmp .ge 29, 3) := dk_162 0 29 (dk_at dksX3_keeps_2 8 rfl rfl)
theorem dX3_keeps_57 : decode cX3_keeps 57 = .ok (.aload_n 0, 1) := dk_42 (dk_at dksX3_keeps_2 11 rfl rfl)
theorem dX3_keeps_58 : decode cX3_keeps 58 = .ok (.getfield 16, 3) := dk_180 0 16 (dk_at dksX3_keeps_2 12 rfl rfl)
theorem dX3_keeps_61 : decode cX3_keeps 61 = .ok (.bipush 37, 2) := dk_16 37 (dk_at dksX3_keeps_2 15 rfl rfl)
theorem dX3_keeps_63 : decode cX3_keeps 63 = .ok (.aload_n 0, 1) := dk_42 (dk_at dksX3_keeps_2 17 rfl rfl)
theorem dX3_keeps_64 : decode cX3_keeps 64 = .ok (.getfield 60, 3) := dk_180 0 60 (dk_at dksX3_keeps_2 18 rfl rfl)
theorem dX3_keeps_67 : decode cX3_keeps 67 = .ok (.imul, 1) := dk_104 (dk_at dksX3_keeps_2 21 rfl rfl)
theorem dX3_keeps_68 : decode cX3_keeps 68 = .ok (.iload_n 1, 1) := dk_27 (dk_at dksX3_keeps_2 22 rfl rfl)
theorem dX3_keeps_69 : decode cX3_keeps 69 = .ok (.iadd, 1) := dk_96 (dk_at dksX3_keeps_2 23 rfl rfl)
theorem dX3_keeps_70 : decode cX3_keeps 70 = .ok (.aload_n 0, 1) := dk_42 (dk_at dksX3_keeps_3 0 rfl rfl)
theorem dX3_keeps_71 : decode cX3_keeps 71 = .ok (.getfield 7, 3) := dk_180 0 7 (dk_at dksX3_keeps_3 1 rfl rfl)
theorem dX3_keeps_74 : decode cX3_keeps 74 = .ok (.iload_n 1, 1) := dk_27 (dk_at dksX3_keeps_3 4 rfl rfl)
theorem dX3_keeps_75 : decode cX3_keeps 75 = .ok (.iaload, 1) := dk_46 (dk_at dksX3_keeps_3 5 rfl rfl)
theorem dX3_keeps_76 : decode cX3_keeps 76 = .ok (.iastore, 1) := dk_79 (dk_at dksX3_keeps_3 6 rfl rfl)
theorem dX3_keeps_77 : decode cX3_keeps 77 = .ok (.iinc 1 1, 3) := dk_132 1 1 (dk_at dksX3_keeps_3 7 rfl rfl)
theorem dX3_keeps_80 : decode cX3_keeps 80 = .ok (.goto (-29), 3) := dk_167 255 227 (dk_at dksX3_keeps_3 10 rfl rfl)
theorem dX3_keeps_83 : decode cX3_keeps 83 = .ok (.aload_n 0, 1) := dk_42 (dk_at dksX3_keeps_3 13 rfl rfl)
theorem dX3_keeps_84 : decode cX3_keeps 84 = .ok (.dup, 1) := dk_89 (dk_at dksX3_keeps_3 14 rfl rfl)
theorem dX3_keeps_85 : decode cX3_keeps 85 = .ok (.getfield 60, 3) := dk_180 0 60 (dk_at dksX3_keeps_3 15 rfl rfl)
theorem dX3_keeps_88 : decode cX3_keeps 88 = .ok (.iconst 1, 1) := dk_4 (dk_at dksX3_keeps_3 18 rfl rfl)
theorem dX3_keeps_89 : decode cX3_keeps 89 = .ok (.iadd, 1) := dk_96 (dk_at dksX3_keeps_3 19 rfl rfl)
theorem dX3_keeps_90 : decode cX3_keeps 90 = .ok (.putfield 60, 3) := dk_181 0 60 (dk_at dksX3_keeps_3 20 rfl rfl)
theorem dX3_keeps_93 : decode cX3_keeps 93 = .ok (.aload_n 0, 1) := dk_42 (dk_at dksX3_keeps_3 23 rfl rfl)
theorem dX3_keeps_94 : decode cX3_keeps 94 = .ok (.iconst 1, 1) := dk_4 (dk_at dksX3_keeps_4 0 rfl rfl)
theorem dX3_keeps_95 : decode cX3_keeps 95 = .ok (.putfield 303, 3) := dk_181 1 47 (dk_at dksX3_keeps_4 1 rfl rfl)
theorem dX3_keeps_98 : decode cX3_keeps 98 = .ok (.return_, 1) := dk_177 (dk_at dksX3_keeps_4 4 rfl rfl)
abbrev cX3_does : ByteArray := prog_17_method_75_code
def yX3_does : MethodName := ⟨RX3, "does", "(I)I"⟩
def dkwX3_does_1 : List UInt8 := [132, 2, 1, 167, 255, 236, 28, 172]
abbrev dktX3_does_1 : List UInt8 := dkwX3_does_1 ++ []
def dkwX3_does_0 : List UInt8 := [3, 61, 42, 4, 181, 1, 102, 42, 180, 1, 102, 153, 0, 19, 42, 27, 182, 1, 105, 42, 27, 182, 1, 108]
abbrev dktX3_does_0 : List UInt8 := dkwX3_does_0 ++ dktX3_does_1
theorem dksX3_does_0 : cX3_does.data.toList.drop 0 = dktX3_does_0 := by decide +kernel
theorem dksX3_does_1 : cX3_does.data.toList.drop 24 = dktX3_does_1 := dk_seg dksX3_does_0 24 rfl rfl
theorem dX3_does_0 : decode cX3_does 0 = .ok (.iconst 0, 1) := dk_3 (dk_at dksX3_does_0 0 rfl rfl)
theorem dX3_does_1 : decode cX3_does 1 = .ok (.istore_n 2, 1) := dk_61 (dk_at dksX3_does_0 1 rfl rfl)
theorem dX3_does_2 : decode cX3_does 2 = .ok (.aload_n 0, 1) := dk_42 (dk_at dksX3_does_0 2 rfl rfl)
theorem dX3_does_3 : decode cX3_does 3 = .ok (.iconst 1, 1) := dk_4 (dk_at dksX3_does_0 3 rfl rfl)
theorem dX3_does_4 : decode cX3_does 4 = .ok (.putfield 358, 3) := dk_181 1 102 (dk_at dksX3_does_0 4 rfl rfl)
theorem dX3_does_7 : decode cX3_does 7 = .ok (.aload_n 0, 1) := dk_42 (dk_at dksX3_does_0 7 rfl rfl)
theorem dX3_does_8 : decode cX3_does 8 = .ok (.getfield 358, 3) := dk_180 1 102 (dk_at dksX3_does_0 8 rfl rfl)
theorem dX3_does_11 : decode cX3_does 11 = .ok (.ifCond .eq 19, 3) := dk_153 0 19 (dk_at dksX3_does_0 11 rfl rfl)
theorem dX3_does_14 : decode cX3_does 14 = .ok (.aload_n 0, 1) := dk_42 (dk_at dksX3_does_0 14 rfl rfl)
theorem dX3_does_15 : decode cX3_does 15 = .ok (.iload_n 1, 1) := dk_27 (dk_at dksX3_does_0 15 rfl rfl)
theorem dX3_does_16 : decode cX3_does 16 = .ok (.invokevirtual 361, 3) := dk_182 1 105 (dk_at dksX3_does_0 16 rfl rfl)
theorem dX3_does_19 : decode cX3_does 19 = .ok (.aload_n 0, 1) := dk_42 (dk_at dksX3_does_0 19 rfl rfl)
theorem dX3_does_20 : decode cX3_does 20 = .ok (.iload_n 1, 1) := dk_27 (dk_at dksX3_does_0 20 rfl rfl)
theorem dX3_does_21 : decode cX3_does 21 = .ok (.invokevirtual 364, 3) := dk_182 1 108 (dk_at dksX3_does_0 21 rfl rfl)
theorem dX3_does_24 : decode cX3_does 24 = .ok (.iinc 2 1, 3) := dk_132 2 1 (dk_at dksX3_does_1 0 rfl rfl)
theorem dX3_does_27 : decode cX3_does 27 = .ok (.goto (-20), 3) := dk_167 255 236 (dk_at dksX3_does_1 3 rfl rfl)
theorem dX3_does_30 : decode cX3_does 30 = .ok (.iload_n 2, 1) := dk_28 (dk_at dksX3_does_1 6 rfl rfl)
theorem dX3_does_31 : decode cX3_does 31 = .ok (.ireturn, 1) := dk_172 (dk_at dksX3_does_1 7 rfl rfl)
abbrev cX3_begins0 : ByteArray := prog_17_method_71_code
def yX3_begins0 : MethodName := ⟨RX3, "begins0", "(I)V"⟩
def dkwX3_begins0_4 : List UInt8 := [16, 21, 27, 96, 16, 99, 42, 180, 0, 7, 16, 21, 27, 96, 46, 28, 96, 184, 1, 30, 79, 177]
abbrev dktX3_begins0_4 : List UInt8 := dkwX3_begins0_4 ++ []
def dkwX3_begins0_3 : List UInt8 := [16, 97, 27, 96, 46, 100, 79, 42, 180, 0, 7, 16, 29, 27, 96, 92, 46, 4, 96, 79, 42, 180, 0, 7]
abbrev dktX3_begins0_3 : List UInt8 := dkwX3_begins0_3 ++ dktX3_begins0_4
def dkwX3_begins0_2 : List UInt8 := [46, 42, 180, 0, 7, 16, 89, 27, 96, 46, 96, 79, 42, 180, 0, 7, 5, 92, 46, 42, 180, 0, 7]
abbrev dktX3_begins0_2 : List UInt8 := dkwX3_begins0_2 ++ dktX3_begins0_3
def dkwX3_begins0_1 : List UInt8 := [167, 0, 4, 3, 79, 42, 180, 0, 7, 6, 27, 79, 42, 27, 182, 1, 51, 61, 42, 180, 0, 7, 3, 92]
abbrev dktX3_begins0_1 : List UInt8 := dkwX3_begins0_1 ++ dktX3_begins0_2
def dkwX3_begins0_0 : List UInt8 := [42, 180, 0, 7, 7, 42, 180, 0, 7, 6, 46, 27, 160, 0, 14, 42, 180, 0, 7, 7, 46, 4, 96]
abbrev dktX3_begins0_0 : List UInt8 := dkwX3_begins0_0 ++ dktX3_begins0_1
theorem dksX3_begins0_0 : cX3_begins0.data.toList.drop 0 = dktX3_begins0_0 := by decide +kernel
theorem dksX3_begins0_1 : cX3_begins0.data.toList.drop 23 = dktX3_begins0_1 := dk_seg dksX3_begins0_0 23 rfl rfl
theorem dksX3_begins0_2 : cX3_begins0.data.toList.drop 47 = dktX3_begins0_2 := dk_seg dksX3_begins0_1 24 rfl rfl
theorem dksX3_begins0_3 : cX3_begins0.data.toList.drop 70 = dktX3_begins0_3 := dk_seg dksX3_begins0_2 23 rfl rfl
theorem dksX3_begins0_4 : cX3_begins0.data.toList.drop 94 = dktX3_begins0_4 := dk_seg dksX3_begins0_3 24 rfl rfl
theorem dX3_begins0_0 : decode cX3_begins0 0 = .ok (.aload_n 0, 1) := dk_42 (dk_at dksX3_begins0_0 0 rfl rfl)
theorem dX3_begins0_1 : decode cX3_begins0 1 = .ok (.getfield 7, 3) := dk_180 0 7 (dk_at dksX3_begins0_0 1 rfl rfl)
theorem dX3_begins0_4 : decode cX3_begins0 4 = .ok (.iconst 4, 1) := dk_7 (dk_at dksX3_begins0_0 4 rfl rfl)
theorem dX3_begins0_5 : decode cX3_begins0 5 = .ok (.aload_n 0, 1) := dk_42 (dk_at dksX3_begins0_0 5 rfl rfl)
theorem dX3_begins0_6 : decode cX3_begins0 6 = .ok (.getfield 7, 3) := dk_180 0 7 (dk_at dksX3_begins0_0 6 rfl rfl)
theorem dX3_begins0_9 : decode cX3_begins0 9 = .ok (.iconst 3, 1) := dk_6 (dk_at dksX3_begins0_0 9 rfl rfl)
theorem dX3_begins0_10 : decode cX3_begins0 10 = .ok (.iaload, 1) := dk_46 (dk_at dksX3_begins0_0 10 rfl rfl)
theorem dX3_begins0_11 : decode cX3_begins0 11 = .ok (.iload_n 1, 1) := dk_27 (dk_at dksX3_begins0_0 11 rfl rfl)
theorem dX3_begins0_12 : decode cX3_begins0 12 = .ok (.if_icmp .ne 14, 3) := dk_160 0 14 (dk_at dksX3_begins0_0 12 rfl rfl)
theorem dX3_begins0_15 : decode cX3_begins0 15 = .ok (.aload_n 0, 1) := dk_42 (dk_at dksX3_begins0_0 15 rfl rfl)
theorem dX3_begins0_16 : decode cX3_begins0 16 = .ok (.getfield 7, 3) := dk_180 0 7 (dk_at dksX3_begins0_0 16 rfl rfl)
theorem dX3_begins0_19 : decode cX3_begins0 19 = .ok (.iconst 4, 1) := dk_7 (dk_at dksX3_begins0_0 19 rfl rfl)
theorem dX3_begins0_20 : decode cX3_begins0 20 = .ok (.iaload, 1) := dk_46 (dk_at dksX3_begins0_0 20 rfl rfl)
theorem dX3_begins0_21 : decode cX3_begins0 21 = .ok (.iconst 1, 1) := dk_4 (dk_at dksX3_begins0_0 21 rfl rfl)
theorem dX3_begins0_22 : decode cX3_begins0 22 = .ok (.iadd, 1) := dk_96 (dk_at dksX3_begins0_0 22 rfl rfl)
theorem dX3_begins0_23 : decode cX3_begins0 23 = .ok (.goto 4, 3) := dk_167 0 4 (dk_at dksX3_begins0_1 0 rfl rfl)
theorem dX3_begins0_26 : decode cX3_begins0 26 = .ok (.iconst 0, 1) := dk_3 (dk_at dksX3_begins0_1 3 rfl rfl)
theorem dX3_begins0_27 : decode cX3_begins0 27 = .ok (.iastore, 1) := dk_79 (dk_at dksX3_begins0_1 4 rfl rfl)
theorem dX3_begins0_28 : decode cX3_begins0 28 = .ok (.aload_n 0, 1) := dk_42 (dk_at dksX3_begins0_1 5 rfl rfl)
theorem dX3_begins0_29 : decode cX3_begins0 29 = .ok (.getfield 7, 3) := dk_180 0 7 (dk_at dksX3_begins0_1 6 rfl rfl)
theorem dX3_begins0_32 : decode cX3_begins0 32 = .ok (.iconst 3, 1) := dk_6 (dk_at dksX3_begins0_1 9 rfl rfl)
theorem dX3_begins0_33 : decode cX3_begins0 33 = .ok (.iload_n 1, 1) := dk_27 (dk_at dksX3_begins0_1 10 rfl rfl)
theorem dX3_begins0_34 : decode cX3_begins0 34 = .ok (.iastore, 1) := dk_79 (dk_at dksX3_begins0_1 11 rfl rfl)
theorem dX3_begins0_35 : decode cX3_begins0 35 = .ok (.aload_n 0, 1) := dk_42 (dk_at dksX3_begins0_1 12 rfl rfl)
theorem dX3_begins0_36 : decode cX3_begins0 36 = .ok (.iload_n 1, 1) := dk_27 (dk_at dksX3_begins0_1 13 rfl rfl)
theorem dX3_begins0_37 : decode cX3_begins0 37 = .ok (.invokevirtual 307, 3) := dk_182 1 51 (dk_at dksX3_begins0_1 14 rfl rfl)
theorem dX3_begins0_40 : decode cX3_begins0 40 = .ok (.istore_n 2, 1) := dk_61 (dk_at dksX3_begins0_1 17 rfl rfl)
theorem dX3_begins0_41 : decode cX3_begins0 41 = .ok (.aload_n 0, 1) := dk_42 (dk_at dksX3_begins0_1 18 rfl rfl)
theorem dX3_begins0_42 : decode cX3_begins0 42 = .ok (.getfield 7, 3) := dk_180 0 7 (dk_at dksX3_begins0_1 19 rfl rfl)
theorem dX3_begins0_45 : decode cX3_begins0 45 = .ok (.iconst 0, 1) := dk_3 (dk_at dksX3_begins0_1 22 rfl rfl)
theorem dX3_begins0_46 : decode cX3_begins0 46 = .ok (.dup2, 1) := dk_92 (dk_at dksX3_begins0_1 23 rfl rfl)
theorem dX3_begins0_47 : decode cX3_begins0 47 = .ok (.iaload, 1) := dk_46 (dk_at dksX3_begins0_2 0 rfl rfl)
theorem dX3_begins0_48 : decode cX3_begins0 48 = .ok (.aload_n 0, 1) := dk_42 (dk_at dksX3_begins0_2 1 rfl rfl)
theorem dX3_begins0_49 : decode cX3_begins0 49 = .ok (.getfield 7, 3) := dk_180 0 7 (dk_at dksX3_begins0_2 2 rfl rfl)
theorem dX3_begins0_52 : decode cX3_begins0 52 = .ok (.bipush 89, 2) := dk_16 89 (dk_at dksX3_begins0_2 5 rfl rfl)
theorem dX3_begins0_54 : decode cX3_begins0 54 = .ok (.iload_n 1, 1) := dk_27 (dk_at dksX3_begins0_2 7 rfl rfl)
theorem dX3_begins0_55 : decode cX3_begins0 55 = .ok (.iadd, 1) := dk_96 (dk_at dksX3_begins0_2 8 rfl rfl)
theorem dX3_begins0_56 : decode cX3_begins0 56 = .ok (.iaload, 1) := dk_46 (dk_at dksX3_begins0_2 9 rfl rfl)
theorem dX3_begins0_57 : decode cX3_begins0 57 = .ok (.iadd, 1) := dk_96 (dk_at dksX3_begins0_2 10 rfl rfl)
theorem dX3_begins0_58 : decode cX3_begins0 58 = .ok (.iastore, 1) := dk_79 (dk_at dksX3_begins0_2 11 rfl rfl)
theorem dX3_begins0_59 : decode cX3_begins0 59 = .ok (.aload_n 0, 1) := dk_42 (dk_at dksX3_begins0_2 12 rfl rfl)
theorem dX3_begins0_60 : decode cX3_begins0 60 = .ok (.getfield 7, 3) := dk_180 0 7 (dk_at dksX3_begins0_2 13 rfl rfl)
theorem dX3_begins0_63 : decode cX3_begins0 63 = .ok (.iconst 2, 1) := dk_5 (dk_at dksX3_begins0_2 16 rfl rfl)
theorem dX3_begins0_64 : decode cX3_begins0 64 = .ok (.dup2, 1) := dk_92 (dk_at dksX3_begins0_2 17 rfl rfl)
theorem dX3_begins0_65 : decode cX3_begins0 65 = .ok (.iaload, 1) := dk_46 (dk_at dksX3_begins0_2 18 rfl rfl)
theorem dX3_begins0_66 : decode cX3_begins0 66 = .ok (.aload_n 0, 1) := dk_42 (dk_at dksX3_begins0_2 19 rfl rfl)
theorem dX3_begins0_67 : decode cX3_begins0 67 = .ok (.getfield 7, 3) := dk_180 0 7 (dk_at dksX3_begins0_2 20 rfl rfl)
theorem dX3_begins0_70 : decode cX3_begins0 70 = .ok (.bipush 97, 2) := dk_16 97 (dk_at dksX3_begins0_3 0 rfl rfl)
theorem dX3_begins0_72 : decode cX3_begins0 72 = .ok (.iload_n 1, 1) := dk_27 (dk_at dksX3_begins0_3 2 rfl rfl)
theorem dX3_begins0_73 : decode cX3_begins0 73 = .ok (.iadd, 1) := dk_96 (dk_at dksX3_begins0_3 3 rfl rfl)
theorem dX3_begins0_74 : decode cX3_begins0 74 = .ok (.iaload, 1) := dk_46 (dk_at dksX3_begins0_3 4 rfl rfl)
theorem dX3_begins0_75 : decode cX3_begins0 75 = .ok (.isub, 1) := dk_100 (dk_at dksX3_begins0_3 5 rfl rfl)
theorem dX3_begins0_76 : decode cX3_begins0 76 = .ok (.iastore, 1) := dk_79 (dk_at dksX3_begins0_3 6 rfl rfl)
theorem dX3_begins0_77 : decode cX3_begins0 77 = .ok (.aload_n 0, 1) := dk_42 (dk_at dksX3_begins0_3 7 rfl rfl)
theorem dX3_begins0_78 : decode cX3_begins0 78 = .ok (.getfield 7, 3) := dk_180 0 7 (dk_at dksX3_begins0_3 8 rfl rfl)
theorem dX3_begins0_81 : decode cX3_begins0 81 = .ok (.bipush 29, 2) := dk_16 29 (dk_at dksX3_begins0_3 11 rfl rfl)
theorem dX3_begins0_83 : decode cX3_begins0 83 = .ok (.iload_n 1, 1) := dk_27 (dk_at dksX3_begins0_3 13 rfl rfl)
theorem dX3_begins0_84 : decode cX3_begins0 84 = .ok (.iadd, 1) := dk_96 (dk_at dksX3_begins0_3 14 rfl rfl)
theorem dX3_begins0_85 : decode cX3_begins0 85 = .ok (.dup2, 1) := dk_92 (dk_at dksX3_begins0_3 15 rfl rfl)
theorem dX3_begins0_86 : decode cX3_begins0 86 = .ok (.iaload, 1) := dk_46 (dk_at dksX3_begins0_3 16 rfl rfl)
theorem dX3_begins0_87 : decode cX3_begins0 87 = .ok (.iconst 1, 1) := dk_4 (dk_at dksX3_begins0_3 17 rfl rfl)
theorem dX3_begins0_88 : decode cX3_begins0 88 = .ok (.iadd, 1) := dk_96 (dk_at dksX3_begins0_3 18 rfl rfl)
theorem dX3_begins0_89 : decode cX3_begins0 89 = .ok (.iastore, 1) := dk_79 (dk_at dksX3_begins0_3 19 rfl rfl)
theorem dX3_begins0_90 : decode cX3_begins0 90 = .ok (.aload_n 0, 1) := dk_42 (dk_at dksX3_begins0_3 20 rfl rfl)
theorem dX3_begins0_91 : decode cX3_begins0 91 = .ok (.getfield 7, 3) := dk_180 0 7 (dk_at dksX3_begins0_3 21 rfl rfl)
theorem dX3_begins0_94 : decode cX3_begins0 94 = .ok (.bipush 21, 2) := dk_16 21 (dk_at dksX3_begins0_4 0 rfl rfl)
theorem dX3_begins0_96 : decode cX3_begins0 96 = .ok (.iload_n 1, 1) := dk_27 (dk_at dksX3_begins0_4 2 rfl rfl)
theorem dX3_begins0_97 : decode cX3_begins0 97 = .ok (.iadd, 1) := dk_96 (dk_at dksX3_begins0_4 3 rfl rfl)
theorem dX3_begins0_98 : decode cX3_begins0 98 = .ok (.bipush 99, 2) := dk_16 99 (dk_at dksX3_begins0_4 4 rfl rfl)
theorem dX3_begins0_100 : decode cX3_begins0 100 = .ok (.aload_n 0, 1) := dk_42 (dk_at dksX3_begins0_4 6 rfl rfl)
theorem dX3_begins0_101 : decode cX3_begins0 101 = .ok (.getfield 7, 3) := dk_180 0 7 (dk_at dksX3_begins0_4 7 rfl rfl)
theorem dX3_begins0_104 : decode cX3_begins0 104 = .ok (.bipush 21, 2) := dk_16 21 (dk_at dksX3_begins0_4 10 rfl rfl)
theorem dX3_begins0_106 : decode cX3_begins0 106 = .ok (.iload_n 1, 1) := dk_27 (dk_at dksX3_begins0_4 12 rfl rfl)
theorem dX3_begins0_107 : decode cX3_begins0 107 = .ok (.iadd, 1) := dk_96 (dk_at dksX3_begins0_4 13 rfl rfl)
theorem dX3_begins0_108 : decode cX3_begins0 108 = .ok (.iaload, 1) := dk_46 (dk_at dksX3_begins0_4 14 rfl rfl)
theorem dX3_begins0_109 : decode cX3_begins0 109 = .ok (.iload_n 2, 1) := dk_28 (dk_at dksX3_begins0_4 15 rfl rfl)
theorem dX3_begins0_110 : decode cX3_begins0 110 = .ok (.iadd, 1) := dk_96 (dk_at dksX3_begins0_4 16 rfl rfl)
theorem dX3_begins0_111 : decode cX3_begins0 111 = .ok (.invokestatic 286, 3) := dk_184 1 30 (dk_at dksX3_begins0_4 17 rfl rfl)
theorem dX3_begins0_114 : decode cX3_begins0 114 = .ok (.iastore, 1) := dk_79 (dk_at dksX3_begins0_4 20 rfl rfl)
theorem dX3_begins0_115 : decode cX3_begins0 115 = .ok (.return_, 1) := dk_177 (dk_at dksX3_begins0_4 21 rfl rfl)
abbrev cX3_wearsOf : ByteArray := prog_17_method_61_code
def yX3_wearsOf : MethodName := ⟨RX3, "wearsOf", "(I)I"⟩
def dkwX3_wearsOf_0 : List UInt8 := [42, 27, 182, 1, 37, 42, 16, 22, 5, 16, 99, 182, 1, 41, 172]
abbrev dktX3_wearsOf_0 : List UInt8 := dkwX3_wearsOf_0 ++ []
theorem dksX3_wearsOf_0 : cX3_wearsOf.data.toList.drop 0 = dktX3_wearsOf_0 := by decide +kernel
theorem dX3_wearsOf_0 : decode cX3_wearsOf 0 = .ok (.aload_n 0, 1) := dk_42 (dk_at dksX3_wearsOf_0 0 rfl rfl)
theorem dX3_wearsOf_1 : decode cX3_wearsOf 1 = .ok (.iload_n 1, 1) := dk_27 (dk_at dksX3_wearsOf_0 1 rfl rfl)
theorem dX3_wearsOf_2 : decode cX3_wearsOf 2 = .ok (.invokevirtual 293, 3) := dk_182 1 37 (dk_at dksX3_wearsOf_0 2 rfl rfl)
theorem dX3_wearsOf_5 : decode cX3_wearsOf 5 = .ok (.aload_n 0, 1) := dk_42 (dk_at dksX3_wearsOf_0 5 rfl rfl)
theorem dX3_wearsOf_6 : decode cX3_wearsOf 6 = .ok (.bipush 22, 2) := dk_16 22 (dk_at dksX3_wearsOf_0 6 rfl rfl)
theorem dX3_wearsOf_8 : decode cX3_wearsOf 8 = .ok (.iconst 2, 1) := dk_5 (dk_at dksX3_wearsOf_0 8 rfl rfl)
theorem dX3_wearsOf_9 : decode cX3_wearsOf 9 = .ok (.bipush 99, 2) := dk_16 99 (dk_at dksX3_wearsOf_0 9 rfl rfl)
theorem dX3_wearsOf_11 : decode cX3_wearsOf 11 = .ok (.invokevirtual 297, 3) := dk_182 1 41 (dk_at dksX3_wearsOf_0 11 rfl rfl)
theorem dX3_wearsOf_14 : decode cX3_wearsOf 14 = .ok (.ireturn, 1) := dk_172 (dk_at dksX3_wearsOf_0 14 rfl rfl)
abbrev cX3_laysDeed : ByteArray := prog_17_method_59_code
def yX3_laysDeed : MethodName := ⟨RX3, "laysDeed", "(I)V"⟩
def dkwX3_laysDeed_3 : List UInt8 := [180, 0, 37, 16, 10, 42, 180, 0, 7, 3, 46, 16, 60, 108, 79, 177]
abbrev dktX3_laysDeed_3 : List UInt8 := dkwX3_laysDeed_3 ++ []
def dkwX3_laysDeed_2 : List UInt8 := [180, 0, 7, 16, 21, 27, 96, 46, 79, 42, 180, 0, 37, 16, 8, 42, 180, 0, 7, 7, 46, 79, 42]
abbrev dktX3_laysDeed_2 : List UInt8 := dkwX3_laysDeed_2 ++ dktX3_laysDeed_3
def dkwX3_laysDeed_1 : List UInt8 := [42, 180, 0, 37, 16, 6, 42, 180, 0, 7, 16, 81, 27, 96, 46, 79, 42, 180, 0, 37, 16, 7, 42]
abbrev dktX3_laysDeed_1 : List UInt8 := dkwX3_laysDeed_1 ++ dktX3_laysDeed_2
def dkwX3_laysDeed_0 : List UInt8 := [3, 61, 28, 42, 180, 0, 37, 190, 162, 0, 16, 42, 180, 0, 37, 28, 3, 79, 132, 2, 1, 167, 255, 237]
abbrev dktX3_laysDeed_0 : List UInt8 := dkwX3_laysDeed_0 ++ dktX3_laysDeed_1
theorem dksX3_laysDeed_0 : cX3_laysDeed.data.toList.drop 0 = dktX3_laysDeed_0 := by decide +kernel
theorem dksX3_laysDeed_1 : cX3_laysDeed.data.toList.drop 24 = dktX3_laysDeed_1 := dk_seg dksX3_laysDeed_0 24 rfl rfl
theorem dksX3_laysDeed_2 : cX3_laysDeed.data.toList.drop 47 = dktX3_laysDeed_2 := dk_seg dksX3_laysDeed_1 23 rfl rfl
theorem dksX3_laysDeed_3 : cX3_laysDeed.data.toList.drop 70 = dktX3_laysDeed_3 := dk_seg dksX3_laysDeed_2 23 rfl rfl
theorem dX3_laysDeed_0 : decode cX3_laysDeed 0 = .ok (.iconst 0, 1) := dk_3 (dk_at dksX3_laysDeed_0 0 rfl rfl)
theorem dX3_laysDeed_1 : decode cX3_laysDeed 1 = .ok (.istore_n 2, 1) := dk_61 (dk_at dksX3_laysDeed_0 1 rfl rfl)
theorem dX3_laysDeed_2 : decode cX3_laysDeed 2 = .ok (.iload_n 2, 1) := dk_28 (dk_at dksX3_laysDeed_0 2 rfl rfl)
theorem dX3_laysDeed_3 : decode cX3_laysDeed 3 = .ok (.aload_n 0, 1) := dk_42 (dk_at dksX3_laysDeed_0 3 rfl rfl)
theorem dX3_laysDeed_4 : decode cX3_laysDeed 4 = .ok (.getfield 37, 3) := dk_180 0 37 (dk_at dksX3_laysDeed_0 4 rfl rfl)
theorem dX3_laysDeed_7 : decode cX3_laysDeed 7 = .ok (.arraylength, 1) := dk_190 (dk_at dksX3_laysDeed_0 7 rfl rfl)
theorem dX3_laysDeed_8 : decode cX3_laysDeed 8 = .ok (.if_icmp .ge 16, 3) := dk_162 0 16 (dk_at dksX3_laysDeed_0 8 rfl rfl)
theorem dX3_laysDeed_11 : decode cX3_laysDeed 11 = .ok (.aload_n 0, 1) := dk_42 (dk_at dksX3_laysDeed_0 11 rfl rfl)
theorem dX3_laysDeed_12 : decode cX3_laysDeed 12 = .ok (.getfield 37, 3) := dk_180 0 37 (dk_at dksX3_laysDeed_0 12 rfl rfl)
theorem dX3_laysDeed_15 : decode cX3_laysDeed 15 = .ok (.iload_n 2, 1) := dk_28 (dk_at dksX3_laysDeed_0 15 rfl rfl)
theorem dX3_laysDeed_16 : decode cX3_laysDeed 16 = .ok (.iconst 0, 1) := dk_3 (dk_at dksX3_laysDeed_0 16 rfl rfl)
theorem dX3_laysDeed_17 : decode cX3_laysDeed 17 = .ok (.iastore, 1) := dk_79 (dk_at dksX3_laysDeed_0 17 rfl rfl)
theorem dX3_laysDeed_18 : decode cX3_laysDeed 18 = .ok (.iinc 2 1, 3) := dk_132 2 1 (dk_at dksX3_laysDeed_0 18 rfl rfl)
theorem dX3_laysDeed_21 : decode cX3_laysDeed 21 = .ok (.goto (-19), 3) := dk_167 255 237 (dk_at dksX3_laysDeed_0 21 rfl rfl)
theorem dX3_laysDeed_24 : decode cX3_laysDeed 24 = .ok (.aload_n 0, 1) := dk_42 (dk_at dksX3_laysDeed_1 0 rfl rfl)
theorem dX3_laysDeed_25 : decode cX3_laysDeed 25 = .ok (.getfield 37, 3) := dk_180 0 37 (dk_at dksX3_laysDeed_1 1 rfl rfl)
theorem dX3_laysDeed_28 : decode cX3_laysDeed 28 = .ok (.bipush 6, 2) := dk_16 6 (dk_at dksX3_laysDeed_1 4 rfl rfl)
theorem dX3_laysDeed_30 : decode cX3_laysDeed 30 = .ok (.aload_n 0, 1) := dk_42 (dk_at dksX3_laysDeed_1 6 rfl rfl)
theorem dX3_laysDeed_31 : decode cX3_laysDeed 31 = .ok (.getfield 7, 3) := dk_180 0 7 (dk_at dksX3_laysDeed_1 7 rfl rfl)
theorem dX3_laysDeed_34 : decode cX3_laysDeed 34 = .ok (.bipush 81, 2) := dk_16 81 (dk_at dksX3_laysDeed_1 10 rfl rfl)
theorem dX3_laysDeed_36 : decode cX3_laysDeed 36 = .ok (.iload_n 1, 1) := dk_27 (dk_at dksX3_laysDeed_1 12 rfl rfl)
theorem dX3_laysDeed_37 : decode cX3_laysDeed 37 = .ok (.iadd, 1) := dk_96 (dk_at dksX3_laysDeed_1 13 rfl rfl)
theorem dX3_laysDeed_38 : decode cX3_laysDeed 38 = .ok (.iaload, 1) := dk_46 (dk_at dksX3_laysDeed_1 14 rfl rfl)
theorem dX3_laysDeed_39 : decode cX3_laysDeed 39 = .ok (.iastore, 1) := dk_79 (dk_at dksX3_laysDeed_1 15 rfl rfl)
theorem dX3_laysDeed_40 : decode cX3_laysDeed 40 = .ok (.aload_n 0, 1) := dk_42 (dk_at dksX3_laysDeed_1 16 rfl rfl)
theorem dX3_laysDeed_41 : decode cX3_laysDeed 41 = .ok (.getfield 37, 3) := dk_180 0 37 (dk_at dksX3_laysDeed_1 17 rfl rfl)
theorem dX3_laysDeed_44 : decode cX3_laysDeed 44 = .ok (.bipush 7, 2) := dk_16 7 (dk_at dksX3_laysDeed_1 20 rfl rfl)
theorem dX3_laysDeed_46 : decode cX3_laysDeed 46 = .ok (.aload_n 0, 1) := dk_42 (dk_at dksX3_laysDeed_1 22 rfl rfl)
theorem dX3_laysDeed_47 : decode cX3_laysDeed 47 = .ok (.getfield 7, 3) := dk_180 0 7 (dk_at dksX3_laysDeed_2 0 rfl rfl)
theorem dX3_laysDeed_50 : decode cX3_laysDeed 50 = .ok (.bipush 21, 2) := dk_16 21 (dk_at dksX3_laysDeed_2 3 rfl rfl)
theorem dX3_laysDeed_52 : decode cX3_laysDeed 52 = .ok (.iload_n 1, 1) := dk_27 (dk_at dksX3_laysDeed_2 5 rfl rfl)
theorem dX3_laysDeed_53 : decode cX3_laysDeed 53 = .ok (.iadd, 1) := dk_96 (dk_at dksX3_laysDeed_2 6 rfl rfl)
theorem dX3_laysDeed_54 : decode cX3_laysDeed 54 = .ok (.iaload, 1) := dk_46 (dk_at dksX3_laysDeed_2 7 rfl rfl)
theorem dX3_laysDeed_55 : decode cX3_laysDeed 55 = .ok (.iastore, 1) := dk_79 (dk_at dksX3_laysDeed_2 8 rfl rfl)
theorem dX3_laysDeed_56 : decode cX3_laysDeed 56 = .ok (.aload_n 0, 1) := dk_42 (dk_at dksX3_laysDeed_2 9 rfl rfl)
theorem dX3_laysDeed_57 : decode cX3_laysDeed 57 = .ok (.getfield 37, 3) := dk_180 0 37 (dk_at dksX3_laysDeed_2 10 rfl rfl)
theorem dX3_laysDeed_60 : decode cX3_laysDeed 60 = .ok (.bipush 8, 2) := dk_16 8 (dk_at dksX3_laysDeed_2 13 rfl rfl)
theorem dX3_laysDeed_62 : decode cX3_laysDeed 62 = .ok (.aload_n 0, 1) := dk_42 (dk_at dksX3_laysDeed_2 15 rfl rfl)
theorem dX3_laysDeed_63 : decode cX3_laysDeed 63 = .ok (.getfield 7, 3) := dk_180 0 7 (dk_at dksX3_laysDeed_2 16 rfl rfl)
theorem dX3_laysDeed_66 : decode cX3_laysDeed 66 = .ok (.iconst 4, 1) := dk_7 (dk_at dksX3_laysDeed_2 19 rfl rfl)
theorem dX3_laysDeed_67 : decode cX3_laysDeed 67 = .ok (.iaload, 1) := dk_46 (dk_at dksX3_laysDeed_2 20 rfl rfl)
theorem dX3_laysDeed_68 : decode cX3_laysDeed 68 = .ok (.iastore, 1) := dk_79 (dk_at dksX3_laysDeed_2 21 rfl rfl)
theorem dX3_laysDeed_69 : decode cX3_laysDeed 69 = .ok (.aload_n 0, 1) := dk_42 (dk_at dksX3_laysDeed_2 22 rfl rfl)
theorem dX3_laysDeed_70 : decode cX3_laysDeed 70 = .ok (.getfield 37, 3) := dk_180 0 37 (dk_at dksX3_laysDeed_3 0 rfl rfl)
theorem dX3_laysDeed_73 : decode cX3_laysDeed 73 = .ok (.bipush 10, 2) := dk_16 10 (dk_at dksX3_laysDeed_3 3 rfl rfl)
theorem dX3_laysDeed_75 : decode cX3_laysDeed 75 = .ok (.aload_n 0, 1) := dk_42 (dk_at dksX3_laysDeed_3 5 rfl rfl)
theorem dX3_laysDeed_76 : decode cX3_laysDeed 76 = .ok (.getfield 7, 3) := dk_180 0 7 (dk_at dksX3_laysDeed_3 6 rfl rfl)
theorem dX3_laysDeed_79 : decode cX3_laysDeed 79 = .ok (.iconst 0, 1) := dk_3 (dk_at dksX3_laysDeed_3 9 rfl rfl)
theorem dX3_laysDeed_80 : decode cX3_laysDeed 80 = .ok (.iaload, 1) := dk_46 (dk_at dksX3_laysDeed_3 10 rfl rfl)
theorem dX3_laysDeed_81 : decode cX3_laysDeed 81 = .ok (.bipush 60, 2) := dk_16 60 (dk_at dksX3_laysDeed_3 11 rfl rfl)
theorem dX3_laysDeed_83 : decode cX3_laysDeed 83 = .ok (.idiv, 1) := dk_108 (dk_at dksX3_laysDeed_3 13 rfl rfl)
theorem dX3_laysDeed_84 : decode cX3_laysDeed 84 = .ok (.iastore, 1) := dk_79 (dk_at dksX3_laysDeed_3 14 rfl rfl)
theorem dX3_laysDeed_85 : decode cX3_laysDeed 85 = .ok (.return_, 1) := dk_177 (dk_at dksX3_laysDeed_3 15 rfl rfl)
abbrev cX3_says : ByteArray := prog_17_method_58_code
def yX3_says : MethodName := ⟨RX3, "says", "(III)I"⟩
def dkwX3_says_3 : List UInt8 := [184, 1, 34, 172, 132, 4, 1, 167, 255, 181, 3, 29, 28, 184, 1, 30, 184, 1, 34, 172]
abbrev dktX3_says_3 : List UInt8 := dkwX3_says_3 ++ []
def dkwX3_says_2 : List UInt8 := [17, 3, 55, 21, 4, 96, 46, 42, 180, 0, 7, 17, 3, 71, 21, 4, 96, 46, 182, 1, 24, 184, 1, 30]
abbrev dktX3_says_2 : List UInt8 := dkwX3_says_2 ++ dktX3_says_3
def dkwX3_says_1 : List UInt8 := [96, 46, 27, 160, 0, 48, 42, 21, 4, 182, 1, 27, 153, 0, 39, 3, 29, 42, 3, 42, 180, 0, 7]
abbrev dktX3_says_1 : List UInt8 := dkwX3_says_1 ++ dktX3_says_2
def dkwX3_says_0 : List UInt8 := [3, 54, 4, 21, 4, 42, 180, 0, 7, 16, 40, 46, 162, 0, 69, 42, 180, 0, 7, 17, 3, 103, 21, 4]
abbrev dktX3_says_0 : List UInt8 := dkwX3_says_0 ++ dktX3_says_1
theorem dksX3_says_0 : cX3_says.data.toList.drop 0 = dktX3_says_0 := by decide +kernel
theorem dksX3_says_1 : cX3_says.data.toList.drop 24 = dktX3_says_1 := dk_seg dksX3_says_0 24 rfl rfl
theorem dksX3_says_2 : cX3_says.data.toList.drop 47 = dktX3_says_2 := dk_seg dksX3_says_1 23 rfl rfl
theorem dksX3_says_3 : cX3_says.data.toList.drop 71 = dktX3_says_3 := dk_seg dksX3_says_2 24 rfl rfl
theorem dX3_says_0 : decode cX3_says 0 = .ok (.iconst 0, 1) := dk_3 (dk_at dksX3_says_0 0 rfl rfl)
theorem dX3_says_1 : decode cX3_says 1 = .ok (.istore 4, 2) := dk_54 4 (dk_at dksX3_says_0 1 rfl rfl)
theorem dX3_says_3 : decode cX3_says 3 = .ok (.iload 4, 2) := dk_21 4 (dk_at dksX3_says_0 3 rfl rfl)
theorem dX3_says_5 : decode cX3_says 5 = .ok (.aload_n 0, 1) := dk_42 (dk_at dksX3_says_0 5 rfl rfl)
theorem dX3_says_6 : decode cX3_says 6 = .ok (.getfield 7, 3) := dk_180 0 7 (dk_at dksX3_says_0 6 rfl rfl)
theorem dX3_says_9 : decode cX3_says 9 = .ok (.bipush 40, 2) := dk_16 40 (dk_at dksX3_says_0 9 rfl rfl)
theorem dX3_says_11 : decode cX3_says 11 = .ok (.iaload, 1) := dk_46 (dk_at dksX3_says_0 11 rfl rfl)
theorem dX3_says_12 : decode cX3_says 12 = .ok (.if_icmp .ge 69, 3) := dk_162 0 69 (dk_at dksX3_says_0 12 rfl rfl)
theorem dX3_says_15 : decode cX3_says 15 = .ok (.aload_n 0, 1) := dk_42 (dk_at dksX3_says_0 15 rfl rfl)
theorem dX3_says_16 : decode cX3_says 16 = .ok (.getfield 7, 3) := dk_180 0 7 (dk_at dksX3_says_0 16 rfl rfl)
theorem dX3_says_19 : decode cX3_says 19 = .ok (.sipush 871, 3) := dk_17 3 103 (dk_at dksX3_says_0 19 rfl rfl)
theorem dX3_says_22 : decode cX3_says 22 = .ok (.iload 4, 2) := dk_21 4 (dk_at dksX3_says_0 22 rfl rfl)
theorem dX3_says_24 : decode cX3_says 24 = .ok (.iadd, 1) := dk_96 (dk_at dksX3_says_1 0 rfl rfl)
theorem dX3_says_25 : decode cX3_says 25 = .ok (.iaload, 1) := dk_46 (dk_at dksX3_says_1 1 rfl rfl)
theorem dX3_says_26 : decode cX3_says 26 = .ok (.iload_n 1, 1) := dk_27 (dk_at dksX3_says_1 2 rfl rfl)
theorem dX3_says_27 : decode cX3_says 27 = .ok (.if_icmp .ne 48, 3) := dk_160 0 48 (dk_at dksX3_says_1 3 rfl rfl)
theorem dX3_says_30 : decode cX3_says 30 = .ok (.aload_n 0, 1) := dk_42 (dk_at dksX3_says_1 6 rfl rfl)
theorem dX3_says_31 : decode cX3_says 31 = .ok (.iload 4, 2) := dk_21 4 (dk_at dksX3_says_1 7 rfl rfl)
theorem dX3_says_33 : decode cX3_says 33 = .ok (.invokevirtual 283, 3) := dk_182 1 27 (dk_at dksX3_says_1 9 rfl rfl)
theorem dX3_says_36 : decode cX3_says 36 = .ok (.ifCond .eq 39, 3) := dk_153 0 39 (dk_at dksX3_says_1 12 rfl rfl)
theorem dX3_says_39 : decode cX3_says 39 = .ok (.iconst 0, 1) := dk_3 (dk_at dksX3_says_1 15 rfl rfl)
theorem dX3_says_40 : decode cX3_says 40 = .ok (.iload_n 3, 1) := dk_29 (dk_at dksX3_says_1 16 rfl rfl)
theorem dX3_says_41 : decode cX3_says 41 = .ok (.aload_n 0, 1) := dk_42 (dk_at dksX3_says_1 17 rfl rfl)
theorem dX3_says_42 : decode cX3_says 42 = .ok (.iconst 0, 1) := dk_3 (dk_at dksX3_says_1 18 rfl rfl)
theorem dX3_says_43 : decode cX3_says 43 = .ok (.aload_n 0, 1) := dk_42 (dk_at dksX3_says_1 19 rfl rfl)
theorem dX3_says_44 : decode cX3_says 44 = .ok (.getfield 7, 3) := dk_180 0 7 (dk_at dksX3_says_1 20 rfl rfl)
theorem dX3_says_47 : decode cX3_says 47 = .ok (.sipush 823, 3) := dk_17 3 55 (dk_at dksX3_says_2 0 rfl rfl)
theorem dX3_says_50 : decode cX3_says 50 = .ok (.iload 4, 2) := dk_21 4 (dk_at dksX3_says_2 3 rfl rfl)
theorem dX3_says_52 : decode cX3_says 52 = .ok (.iadd, 1) := dk_96 (dk_at dksX3_says_2 5 rfl rfl)
theorem dX3_says_53 : decode cX3_says 53 = .ok (.iaload, 1) := dk_46 (dk_at dksX3_says_2 6 rfl rfl)
theorem dX3_says_54 : decode cX3_says 54 = .ok (.aload_n 0, 1) := dk_42 (dk_at dksX3_says_2 7 rfl rfl)
theorem dX3_says_55 : decode cX3_says 55 = .ok (.getfield 7, 3) := dk_180 0 7 (dk_at dksX3_says_2 8 rfl rfl)
theorem dX3_says_58 : decode cX3_says 58 = .ok (.sipush 839, 3) := dk_17 3 71 (dk_at dksX3_says_2 11 rfl rfl)
theorem dX3_says_61 : decode cX3_says 61 = .ok (.iload 4, 2) := dk_21 4 (dk_at dksX3_says_2 14 rfl rfl)
theorem dX3_says_63 : decode cX3_says 63 = .ok (.iadd, 1) := dk_96 (dk_at dksX3_says_2 16 rfl rfl)
theorem dX3_says_64 : decode cX3_says 64 = .ok (.iaload, 1) := dk_46 (dk_at dksX3_says_2 17 rfl rfl)
theorem dX3_says_65 : decode cX3_says 65 = .ok (.invokevirtual 280, 3) := dk_182 1 24 (dk_at dksX3_says_2 18 rfl rfl)
theorem dX3_says_68 : decode cX3_says 68 = .ok (.invokestatic 286, 3) := dk_184 1 30 (dk_at dksX3_says_2 21 rfl rfl)
theorem dX3_says_71 : decode cX3_says 71 = .ok (.invokestatic 290, 3) := dk_184 1 34 (dk_at dksX3_says_3 0 rfl rfl)
theorem dX3_says_74 : decode cX3_says 74 = .ok (.ireturn, 1) := dk_172 (dk_at dksX3_says_3 3 rfl rfl)
theorem dX3_says_75 : decode cX3_says 75 = .ok (.iinc 4 1, 3) := dk_132 4 1 (dk_at dksX3_says_3 4 rfl rfl)
theorem dX3_says_78 : decode cX3_says 78 = .ok (.goto (-75), 3) := dk_167 255 181 (dk_at dksX3_says_3 7 rfl rfl)
theorem dX3_says_81 : decode cX3_says 81 = .ok (.iconst 0, 1) := dk_3 (dk_at dksX3_says_3 10 rfl rfl)
theorem dX3_says_82 : decode cX3_says 82 = .ok (.iload_n 3, 1) := dk_29 (dk_at dksX3_says_3 11 rfl rfl)
theorem dX3_says_83 : decode cX3_says 83 = .ok (.iload_n 2, 1) := dk_28 (dk_at dksX3_says_3 12 rfl rfl)
theorem dX3_says_84 : decode cX3_says 84 = .ok (.invokestatic 286, 3) := dk_184 1 30 (dk_at dksX3_says_3 13 rfl rfl)
theorem dX3_says_87 : decode cX3_says 87 = .ok (.invokestatic 290, 3) := dk_184 1 34 (dk_at dksX3_says_3 16 rfl rfl)
theorem dX3_says_90 : decode cX3_says 90 = .ok (.ireturn, 1) := dk_172 (dk_at dksX3_says_3 19 rfl rfl)
abbrev cX3_isSo : ByteArray := prog_17_method_57_code
def yX3_isSo : MethodName := ⟨RX3, "isSo", "(I)Z"⟩
def dkwX3_isSo_2 : List UInt8 := [4, 160, 0, 7, 4, 167, 0, 4, 3, 172]
abbrev dktX3_isSo_2 : List UInt8 := dkwX3_isSo_2 ++ []
def dkwX3_isSo_1 : List UInt8 := [3, 42, 180, 0, 7, 17, 3, 71, 27, 96, 46, 42, 180, 0, 7, 17, 3, 87, 27, 96, 46, 182, 1, 24]
abbrev dktX3_isSo_1 : List UInt8 := dkwX3_isSo_1 ++ dktX3_isSo_2
def dkwX3_isSo_0 : List UInt8 := [42, 180, 0, 7, 17, 3, 87, 27, 96, 46, 42, 180, 0, 7, 17, 3, 71, 27, 96, 46, 159, 0, 32, 42]
abbrev dktX3_isSo_0 : List UInt8 := dkwX3_isSo_0 ++ dktX3_isSo_1
theorem dksX3_isSo_0 : cX3_isSo.data.toList.drop 0 = dktX3_isSo_0 := by decide +kernel
theorem dksX3_isSo_1 : cX3_isSo.data.toList.drop 24 = dktX3_isSo_1 := dk_seg dksX3_isSo_0 24 rfl rfl
theorem dksX3_isSo_2 : cX3_isSo.data.toList.drop 48 = dktX3_isSo_2 := dk_seg dksX3_isSo_1 24 rfl rfl
theorem dX3_isSo_0 : decode cX3_isSo 0 = .ok (.aload_n 0, 1) := dk_42 (dk_at dksX3_isSo_0 0 rfl rfl)
theorem dX3_isSo_1 : decode cX3_isSo 1 = .ok (.getfield 7, 3) := dk_180 0 7 (dk_at dksX3_isSo_0 1 rfl rfl)
theorem dX3_isSo_4 : decode cX3_isSo 4 = .ok (.sipush 855, 3) := dk_17 3 87 (dk_at dksX3_isSo_0 4 rfl rfl)
theorem dX3_isSo_7 : decode cX3_isSo 7 = .ok (.iload_n 1, 1) := dk_27 (dk_at dksX3_isSo_0 7 rfl rfl)
theorem dX3_isSo_8 : decode cX3_isSo 8 = .ok (.iadd, 1) := dk_96 (dk_at dksX3_isSo_0 8 rfl rfl)
theorem dX3_isSo_9 : decode cX3_isSo 9 = .ok (.iaload, 1) := dk_46 (dk_at dksX3_isSo_0 9 rfl rfl)
theorem dX3_isSo_10 : decode cX3_isSo 10 = .ok (.aload_n 0, 1) := dk_42 (dk_at dksX3_isSo_0 10 rfl rfl)
theorem dX3_isSo_11 : decode cX3_isSo 11 = .ok (.getfield 7, 3) := dk_180 0 7 (dk_at dksX3_isSo_0 11 rfl rfl)
theorem dX3_isSo_14 : decode cX3_isSo 14 = .ok (.sipush 839, 3) := dk_17 3 71 (dk_at dksX3_isSo_0 14 rfl rfl)
theorem dX3_isSo_17 : decode cX3_isSo 17 = .ok (.iload_n 1, 1) := dk_27 (dk_at dksX3_isSo_0 17 rfl rfl)
theorem dX3_isSo_18 : decode cX3_isSo 18 = .ok (.iadd, 1) := dk_96 (dk_at dksX3_isSo_0 18 rfl rfl)
theorem dX3_isSo_19 : decode cX3_isSo 19 = .ok (.iaload, 1) := dk_46 (dk_at dksX3_isSo_0 19 rfl rfl)
theorem dX3_isSo_20 : decode cX3_isSo 20 = .ok (.if_icmp .eq 32, 3) := dk_159 0 32 (dk_at dksX3_isSo_0 20 rfl rfl)
theorem dX3_isSo_23 : decode cX3_isSo 23 = .ok (.aload_n 0, 1) := dk_42 (dk_at dksX3_isSo_0 23 rfl rfl)
theorem dX3_isSo_24 : decode cX3_isSo 24 = .ok (.iconst 0, 1) := dk_3 (dk_at dksX3_isSo_1 0 rfl rfl)
theorem dX3_isSo_25 : decode cX3_isSo 25 = .ok (.aload_n 0, 1) := dk_42 (dk_at dksX3_isSo_1 1 rfl rfl)
theorem dX3_isSo_26 : decode cX3_isSo 26 = .ok (.getfield 7, 3) := dk_180 0 7 (dk_at dksX3_isSo_1 2 rfl rfl)
theorem dX3_isSo_29 : decode cX3_isSo 29 = .ok (.sipush 839, 3) := dk_17 3 71 (dk_at dksX3_isSo_1 5 rfl rfl)
theorem dX3_isSo_32 : decode cX3_isSo 32 = .ok (.iload_n 1, 1) := dk_27 (dk_at dksX3_isSo_1 8 rfl rfl)
theorem dX3_isSo_33 : decode cX3_isSo 33 = .ok (.iadd, 1) := dk_96 (dk_at dksX3_isSo_1 9 rfl rfl)
theorem dX3_isSo_34 : decode cX3_isSo 34 = .ok (.iaload, 1) := dk_46 (dk_at dksX3_isSo_1 10 rfl rfl)
theorem dX3_isSo_35 : decode cX3_isSo 35 = .ok (.aload_n 0, 1) := dk_42 (dk_at dksX3_isSo_1 11 rfl rfl)
theorem dX3_isSo_36 : decode cX3_isSo 36 = .ok (.getfield 7, 3) := dk_180 0 7 (dk_at dksX3_isSo_1 12 rfl rfl)
theorem dX3_isSo_39 : decode cX3_isSo 39 = .ok (.sipush 855, 3) := dk_17 3 87 (dk_at dksX3_isSo_1 15 rfl rfl)
theorem dX3_isSo_42 : decode cX3_isSo 42 = .ok (.iload_n 1, 1) := dk_27 (dk_at dksX3_isSo_1 18 rfl rfl)
theorem dX3_isSo_43 : decode cX3_isSo 43 = .ok (.iadd, 1) := dk_96 (dk_at dksX3_isSo_1 19 rfl rfl)
theorem dX3_isSo_44 : decode cX3_isSo 44 = .ok (.iaload, 1) := dk_46 (dk_at dksX3_isSo_1 20 rfl rfl)
theorem dX3_isSo_45 : decode cX3_isSo 45 = .ok (.invokevirtual 280, 3) := dk_182 1 24 (dk_at dksX3_isSo_1 21 rfl rfl)
theorem dX3_isSo_48 : decode cX3_isSo 48 = .ok (.iconst 1, 1) := dk_4 (dk_at dksX3_isSo_2 0 rfl rfl)
theorem dX3_isSo_49 : decode cX3_isSo 49 = .ok (.if_icmp .ne 7, 3) := dk_160 0 7 (dk_at dksX3_isSo_2 1 rfl rfl)
theorem dX3_isSo_52 : decode cX3_isSo 52 = .ok (.iconst 1, 1) := dk_4 (dk_at dksX3_isSo_2 4 rfl rfl)
theorem dX3_isSo_53 : decode cX3_isSo 53 = .ok (.goto 4, 3) := dk_167 0 4 (dk_at dksX3_isSo_2 5 rfl rfl)
theorem dX3_isSo_56 : decode cX3_isSo 56 = .ok (.iconst 0, 1) := dk_3 (dk_at dksX3_isSo_2 8 rfl rfl)
theorem dX3_isSo_57 : decode cX3_isSo 57 = .ok (.ireturn, 1) := dk_172 (dk_at dksX3_isSo_2 9 rfl rfl)
abbrev cX3_comesTo : ByteArray := prog_17_method_56_code
def yX3_comesTo : MethodName := ⟨RX3, "comesTo", "(III)I"⟩
def dkwX3_comesTo_8 : List UInt8 := [46, 172]
abbrev dktX3_comesTo_8 : List UInt8 := dkwX3_comesTo_8 ++ []
def dkwX3_comesTo_7 : List UInt8 := [100, 46, 42, 180, 0, 34, 21, 4, 46, 184, 1, 21, 79, 132, 5, 1, 167, 255, 79, 42, 180, 0, 34, 3]
abbrev dktX3_comesTo_7 : List UInt8 := dkwX3_comesTo_7 ++ dktX3_comesTo_8
def dkwX3_comesTo_6 : List UInt8 := [79, 167, 0, 36, 132, 4, 255, 42, 180, 0, 34, 21, 4, 4, 100, 21, 6, 42, 180, 0, 34, 21, 4, 4]
abbrev dktX3_comesTo_6 : List UInt8 := dkwX3_comesTo_6 ++ dktX3_comesTo_7
def dkwX3_comesTo_5 : List UInt8 := [16, 30, 160, 0, 26, 42, 180, 0, 34, 21, 4, 4, 100, 4, 42, 180, 0, 34, 21, 4, 4, 100, 46, 100]
abbrev dktX3_comesTo_5 : List UInt8 := dkwX3_comesTo_5 ++ dktX3_comesTo_6
def dkwX3_comesTo_4 : List UInt8 := [16, 26, 160, 0, 20, 42, 180, 0, 34, 21, 4, 4, 100, 92, 46, 21, 7, 108, 79, 167, 0, 66, 21, 6]
abbrev dktX3_comesTo_4 : List UInt8 := dkwX3_comesTo_4 ++ dktX3_comesTo_5
def dkwX3_comesTo_3 : List UInt8 := [154, 0, 8, 21, 7, 167, 0, 10, 42, 180, 0, 37, 21, 6, 46, 79, 132, 4, 1, 167, 0, 90, 21, 6]
abbrev dktX3_comesTo_3 : List UInt8 := dkwX3_comesTo_3 ++ dktX3_comesTo_4
def dkwX3_comesTo_2 : List UInt8 := [21, 5, 104, 96, 4, 96, 46, 54, 7, 21, 6, 16, 23, 162, 0, 33, 42, 180, 0, 34, 21, 4, 21, 6]
abbrev dktX3_comesTo_2 : List UInt8 := dkwX3_comesTo_2 ++ dktX3_comesTo_3
def dkwX3_comesTo_1 : List UInt8 := [96, 5, 21, 5, 104, 96, 46, 54, 6, 42, 180, 0, 7, 17, 3, 119, 17, 3, 52, 27, 104, 96, 5]
abbrev dktX3_comesTo_1 : List UInt8 := dkwX3_comesTo_1 ++ dktX3_comesTo_2
def dkwX3_comesTo_0 : List UInt8 := [3, 54, 4, 28, 54, 5, 21, 5, 29, 162, 0, 177, 42, 180, 0, 7, 17, 3, 119, 17, 3, 52, 27, 104]
abbrev dktX3_comesTo_0 : List UInt8 := dkwX3_comesTo_0 ++ dktX3_comesTo_1
theorem dksX3_comesTo_0 : cX3_comesTo.data.toList.drop 0 = dktX3_comesTo_0 := by decide +kernel
theorem dksX3_comesTo_1 : cX3_comesTo.data.toList.drop 24 = dktX3_comesTo_1 := dk_seg dksX3_comesTo_0 24 rfl rfl
theorem dksX3_comesTo_2 : cX3_comesTo.data.toList.drop 47 = dktX3_comesTo_2 := dk_seg dksX3_comesTo_1 23 rfl rfl
theorem dksX3_comesTo_3 : cX3_comesTo.data.toList.drop 71 = dktX3_comesTo_3 := dk_seg dksX3_comesTo_2 24 rfl rfl
theorem dksX3_comesTo_4 : cX3_comesTo.data.toList.drop 95 = dktX3_comesTo_4 := dk_seg dksX3_comesTo_3 24 rfl rfl
theorem dksX3_comesTo_5 : cX3_comesTo.data.toList.drop 119 = dktX3_comesTo_5 := dk_seg dksX3_comesTo_4 24 rfl rfl
theorem dksX3_comesTo_6 : cX3_comesTo.data.toList.drop 143 = dktX3_comesTo_6 := dk_seg dksX3_comesTo_5 24 rfl rfl
theorem dksX3_comesTo_7 : cX3_comesTo.data.toList.drop 167 = dktX3_comesTo_7 := dk_seg dksX3_comesTo_6 24 rfl rfl
theorem dksX3_comesTo_8 : cX3_comesTo.data.toList.drop 191 = dktX3_comesTo_8 := dk_seg dksX3_comesTo_7 24 rfl rfl
theorem dX3_comesTo_0 : decode cX3_comesTo 0 = .ok (.iconst 0, 1) := dk_3 (dk_at dksX3_comesTo_0 0 rfl rfl)
theorem dX3_comesTo_1 : decode cX3_comesTo 1 = .ok (.istore 4, 2) := dk_54 4 (dk_at dksX3_comesTo_0 1 rfl rfl)
theorem dX3_comesTo_3 : decode cX3_comesTo 3 = .ok (.iload_n 2, 1) := dk_28 (dk_at dksX3_comesTo_0 3 rfl rfl)
theorem dX3_comesTo_4 : decode cX3_comesTo 4 = .ok (.istore 5, 2) := dk_54 5 (dk_at dksX3_comesTo_0 4 rfl rfl)
theorem dX3_comesTo_6 : decode cX3_comesTo 6 = .ok (.iload 5, 2) := dk_21 5 (dk_at dksX3_comesTo_0 6 rfl rfl)
theorem dX3_comesTo_8 : decode cX3_comesTo 8 = .ok (.iload_n 3, 1) := dk_29 (dk_at dksX3_comesTo_0 8 rfl rfl)
theorem dX3_comesTo_9 : decode cX3_comesTo 9 = .ok (.if_icmp .ge 177, 3) := dk_162 0 177 (dk_at dksX3_comesTo_0 9 rfl rfl)
theorem dX3_comesTo_12 : decode cX3_comesTo 12 = .ok (.aload_n 0, 1) := dk_42 (dk_at dksX3_comesTo_0 12 rfl rfl)
theorem dX3_comesTo_13 : decode cX3_comesTo 13 = .ok (.getfield 7, 3) := dk_180 0 7 (dk_at dksX3_comesTo_0 13 rfl rfl)
theorem dX3_comesTo_16 : decode cX3_comesTo 16 = .ok (.sipush 887, 3) := dk_17 3 119 (dk_at dksX3_comesTo_0 16 rfl rfl)
theorem dX3_comesTo_19 : decode cX3_comesTo 19 = .ok (.sipush 820, 3) := dk_17 3 52 (dk_at dksX3_comesTo_0 19 rfl rfl)
theorem dX3_comesTo_22 : decode cX3_comesTo 22 = .ok (.iload_n 1, 1) := dk_27 (dk_at dksX3_comesTo_0 22 rfl rfl)
theorem dX3_comesTo_23 : decode cX3_comesTo 23 = .ok (.imul, 1) := dk_104 (dk_at dksX3_comesTo_0 23 rfl rfl)
theorem dX3_comesTo_24 : decode cX3_comesTo 24 = .ok (.iadd, 1) := dk_96 (dk_at dksX3_comesTo_1 0 rfl rfl)
theorem dX3_comesTo_25 : decode cX3_comesTo 25 = .ok (.iconst 2, 1) := dk_5 (dk_at dksX3_comesTo_1 1 rfl rfl)
theorem dX3_comesTo_26 : decode cX3_comesTo 26 = .ok (.iload 5, 2) := dk_21 5 (dk_at dksX3_comesTo_1 2 rfl rfl)
theorem dX3_comesTo_28 : decode cX3_comesTo 28 = .ok (.imul, 1) := dk_104 (dk_at dksX3_comesTo_1 4 rfl rfl)
theorem dX3_comesTo_29 : decode cX3_comesTo 29 = .ok (.iadd, 1) := dk_96 (dk_at dksX3_comesTo_1 5 rfl rfl)
theorem dX3_comesTo_30 : decode cX3_comesTo 30 = .ok (.iaload, 1) := dk_46 (dk_at dksX3_comesTo_1 6 rfl rfl)
theorem dX3_comesTo_31 : decode cX3_comesTo 31 = .ok (.istore 6, 2) := dk_54 6 (dk_at dksX3_comesTo_1 7 rfl rfl)
theorem dX3_comesTo_33 : decode cX3_comesTo 33 = .ok (.aload_n 0, 1) := dk_42 (dk_at dksX3_comesTo_1 9 rfl rfl)
theorem dX3_comesTo_34 : decode cX3_comesTo 34 = .ok (.getfield 7, 3) := dk_180 0 7 (dk_at dksX3_comesTo_1 10 rfl rfl)
theorem dX3_comesTo_37 : decode cX3_comesTo 37 = .ok (.sipush 887, 3) := dk_17 3 119 (dk_at dksX3_comesTo_1 13 rfl rfl)
theorem dX3_comesTo_40 : decode cX3_comesTo 40 = .ok (.sipush 820, 3) := dk_17 3 52 (dk_at dksX3_comesTo_1 16 rfl rfl)
theorem dX3_comesTo_43 : decode cX3_comesTo 43 = .ok (.iload_n 1, 1) := dk_27 (dk_at dksX3_comesTo_1 19 rfl rfl)
theorem dX3_comesTo_44 : decode cX3_comesTo 44 = .ok (.imul, 1) := dk_104 (dk_at dksX3_comesTo_1 20 rfl rfl)
theorem dX3_comesTo_45 : decode cX3_comesTo 45 = .ok (.iadd, 1) := dk_96 (dk_at dksX3_comesTo_1 21 rfl rfl)
theorem dX3_comesTo_46 : decode cX3_comesTo 46 = .ok (.iconst 2, 1) := dk_5 (dk_at dksX3_comesTo_1 22 rfl rfl)
theorem dX3_comesTo_47 : decode cX3_comesTo 47 = .ok (.iload 5, 2) := dk_21 5 (dk_at dksX3_comesTo_2 0 rfl rfl)
theorem dX3_comesTo_49 : decode cX3_comesTo 49 = .ok (.imul, 1) := dk_104 (dk_at dksX3_comesTo_2 2 rfl rfl)
theorem dX3_comesTo_50 : decode cX3_comesTo 50 = .ok (.iadd, 1) := dk_96 (dk_at dksX3_comesTo_2 3 rfl rfl)
theorem dX3_comesTo_51 : decode cX3_comesTo 51 = .ok (.iconst 1, 1) := dk_4 (dk_at dksX3_comesTo_2 4 rfl rfl)
theorem dX3_comesTo_52 : decode cX3_comesTo 52 = .ok (.iadd, 1) := dk_96 (dk_at dksX3_comesTo_2 5 rfl rfl)
theorem dX3_comesTo_53 : decode cX3_comesTo 53 = .ok (.iaload, 1) := dk_46 (dk_at dksX3_comesTo_2 6 rfl rfl)
theorem dX3_comesTo_54 : decode cX3_comesTo 54 = .ok (.istore 7, 2) := dk_54 7 (dk_at dksX3_comesTo_2 7 rfl rfl)
theorem dX3_comesTo_56 : decode cX3_comesTo 56 = .ok (.iload 6, 2) := dk_21 6 (dk_at dksX3_comesTo_2 9 rfl rfl)
theorem dX3_comesTo_58 : decode cX3_comesTo 58 = .ok (.bipush 23, 2) := dk_16 23 (dk_at dksX3_comesTo_2 11 rfl rfl)
theorem dX3_comesTo_60 : decode cX3_comesTo 60 = .ok (.if_icmp .ge 33, 3) := dk_162 0 33 (dk_at dksX3_comesTo_2 13 rfl rfl)
theorem dX3_comesTo_63 : decode cX3_comesTo 63 = .ok (.aload_n 0, 1) := dk_42 (dk_at dksX3_comesTo_2 16 rfl rfl)
theorem dX3_comesTo_64 : decode cX3_comesTo 64 = .ok (.getfield 34, 3) := dk_180 0 34 (dk_at dksX3_comesTo_2 17 rfl rfl)
theorem dX3_comesTo_67 : decode cX3_comesTo 67 = .ok (.iload 4, 2) := dk_21 4 (dk_at dksX3_comesTo_2 20 rfl rfl)
theorem dX3_comesTo_69 : decode cX3_comesTo 69 = .ok (.iload 6, 2) := dk_21 6 (dk_at dksX3_comesTo_2 22 rfl rfl)
theorem dX3_comesTo_71 : decode cX3_comesTo 71 = .ok (.ifCond .ne 8, 3) := dk_154 0 8 (dk_at dksX3_comesTo_3 0 rfl rfl)
theorem dX3_comesTo_74 : decode cX3_comesTo 74 = .ok (.iload 7, 2) := dk_21 7 (dk_at dksX3_comesTo_3 3 rfl rfl)
theorem dX3_comesTo_76 : decode cX3_comesTo 76 = .ok (.goto 10, 3) := dk_167 0 10 (dk_at dksX3_comesTo_3 5 rfl rfl)
theorem dX3_comesTo_79 : decode cX3_comesTo 79 = .ok (.aload_n 0, 1) := dk_42 (dk_at dksX3_comesTo_3 8 rfl rfl)
theorem dX3_comesTo_80 : decode cX3_comesTo 80 = .ok (.getfield 37, 3) := dk_180 0 37 (dk_at dksX3_comesTo_3 9 rfl rfl)
theorem dX3_comesTo_83 : decode cX3_comesTo 83 = .ok (.iload 6, 2) := dk_21 6 (dk_at dksX3_comesTo_3 12 rfl rfl)
theorem dX3_comesTo_85 : decode cX3_comesTo 85 = .ok (.iaload, 1) := dk_46 (dk_at dksX3_comesTo_3 14 rfl rfl)
theorem dX3_comesTo_86 : decode cX3_comesTo 86 = .ok (.iastore, 1) := dk_79 (dk_at dksX3_comesTo_3 15 rfl rfl)
theorem dX3_comesTo_87 : decode cX3_comesTo 87 = .ok (.iinc 4 1, 3) := dk_132 4 1 (dk_at dksX3_comesTo_3 16 rfl rfl)
theorem dX3_comesTo_90 : decode cX3_comesTo 90 = .ok (.goto 90, 3) := dk_167 0 90 (dk_at dksX3_comesTo_3 19 rfl rfl)
theorem dX3_comesTo_93 : decode cX3_comesTo 93 = .ok (.iload 6, 2) := dk_21 6 (dk_at dksX3_comesTo_3 22 rfl rfl)
theorem dX3_comesTo_95 : decode cX3_comesTo 95 = .ok (.bipush 26, 2) := dk_16 26 (dk_at dksX3_comesTo_4 0 rfl rfl)
theorem dX3_comesTo_97 : decode cX3_comesTo 97 = .ok (.if_icmp .ne 20, 3) := dk_160 0 20 (dk_at dksX3_comesTo_4 2 rfl rfl)
theorem dX3_comesTo_100 : decode cX3_comesTo 100 = .ok (.aload_n 0, 1) := dk_42 (dk_at dksX3_comesTo_4 5 rfl rfl)
theorem dX3_comesTo_101 : decode cX3_comesTo 101 = .ok (.getfield 34, 3) := dk_180 0 34 (dk_at dksX3_comesTo_4 6 rfl rfl)
theorem dX3_comesTo_104 : decode cX3_comesTo 104 = .ok (.iload 4, 2) := dk_21 4 (dk_at dksX3_comesTo_4 9 rfl rfl)
theorem dX3_comesTo_106 : decode cX3_comesTo 106 = .ok (.iconst 1, 1) := dk_4 (dk_at dksX3_comesTo_4 11 rfl rfl)
theorem dX3_comesTo_107 : decode cX3_comesTo 107 = .ok (.isub, 1) := dk_100 (dk_at dksX3_comesTo_4 12 rfl rfl)
theorem dX3_comesTo_108 : decode cX3_comesTo 108 = .ok (.dup2, 1) := dk_92 (dk_at dksX3_comesTo_4 13 rfl rfl)
theorem dX3_comesTo_109 : decode cX3_comesTo 109 = .ok (.iaload, 1) := dk_46 (dk_at dksX3_comesTo_4 14 rfl rfl)
theorem dX3_comesTo_110 : decode cX3_comesTo 110 = .ok (.iload 7, 2) := dk_21 7 (dk_at dksX3_comesTo_4 15 rfl rfl)
theorem dX3_comesTo_112 : decode cX3_comesTo 112 = .ok (.idiv, 1) := dk_108 (dk_at dksX3_comesTo_4 17 rfl rfl)
theorem dX3_comesTo_113 : decode cX3_comesTo 113 = .ok (.iastore, 1) := dk_79 (dk_at dksX3_comesTo_4 18 rfl rfl)
theorem dX3_comesTo_114 : decode cX3_comesTo 114 = .ok (.goto 66, 3) := dk_167 0 66 (dk_at dksX3_comesTo_4 19 rfl rfl)
theorem dX3_comesTo_117 : decode cX3_comesTo 117 = .ok (.iload 6, 2) := dk_21 6 (dk_at dksX3_comesTo_4 22 rfl rfl)
theorem dX3_comesTo_119 : decode cX3_comesTo 119 = .ok (.bipush 30, 2) := dk_16 30 (dk_at dksX3_comesTo_5 0 rfl rfl)
theorem dX3_comesTo_121 : decode cX3_comesTo 121 = .ok (.if_icmp .ne 26, 3) := dk_160 0 26 (dk_at dksX3_comesTo_5 2 rfl rfl)
theorem dX3_comesTo_124 : decode cX3_comesTo 124 = .ok (.aload_n 0, 1) := dk_42 (dk_at dksX3_comesTo_5 5 rfl rfl)
theorem dX3_comesTo_125 : decode cX3_comesTo 125 = .ok (.getfield 34, 3) := dk_180 0 34 (dk_at dksX3_comesTo_5 6 rfl rfl)
theorem dX3_comesTo_128 : decode cX3_comesTo 128 = .ok (.iload 4, 2) := dk_21 4 (dk_at dksX3_comesTo_5 9 rfl rfl)
theorem dX3_comesTo_130 : decode cX3_comesTo 130 = .ok (.iconst 1, 1) := dk_4 (dk_at dksX3_comesTo_5 11 rfl rfl)
theorem dX3_comesTo_131 : decode cX3_comesTo 131 = .ok (.isub, 1) := dk_100 (dk_at dksX3_comesTo_5 12 rfl rfl)
theorem dX3_comesTo_132 : decode cX3_comesTo 132 = .ok (.iconst 1, 1) := dk_4 (dk_at dksX3_comesTo_5 13 rfl rfl)
theorem dX3_comesTo_133 : decode cX3_comesTo 133 = .ok (.aload_n 0, 1) := dk_42 (dk_at dksX3_comesTo_5 14 rfl rfl)
theorem dX3_comesTo_134 : decode cX3_comesTo 134 = .ok (.getfield 34, 3) := dk_180 0 34 (dk_at dksX3_comesTo_5 15 rfl rfl)
theorem dX3_comesTo_137 : decode cX3_comesTo 137 = .ok (.iload 4, 2) := dk_21 4 (dk_at dksX3_comesTo_5 18 rfl rfl)
theorem dX3_comesTo_139 : decode cX3_comesTo 139 = .ok (.iconst 1, 1) := dk_4 (dk_at dksX3_comesTo_5 20 rfl rfl)
theorem dX3_comesTo_140 : decode cX3_comesTo 140 = .ok (.isub, 1) := dk_100 (dk_at dksX3_comesTo_5 21 rfl rfl)
theorem dX3_comesTo_141 : decode cX3_comesTo 141 = .ok (.iaload, 1) := dk_46 (dk_at dksX3_comesTo_5 22 rfl rfl)
theorem dX3_comesTo_142 : decode cX3_comesTo 142 = .ok (.isub, 1) := dk_100 (dk_at dksX3_comesTo_5 23 rfl rfl)
theorem dX3_comesTo_143 : decode cX3_comesTo 143 = .ok (.iastore, 1) := dk_79 (dk_at dksX3_comesTo_6 0 rfl rfl)
theorem dX3_comesTo_144 : decode cX3_comesTo 144 = .ok (.goto 36, 3) := dk_167 0 36 (dk_at dksX3_comesTo_6 1 rfl rfl)
theorem dX3_comesTo_147 : decode cX3_comesTo 147 = .ok (.iinc 4 (-1), 3) := dk_132 4 255 (dk_at dksX3_comesTo_6 4 rfl rfl)
theorem dX3_comesTo_150 : decode cX3_comesTo 150 = .ok (.aload_n 0, 1) := dk_42 (dk_at dksX3_comesTo_6 7 rfl rfl)
theorem dX3_comesTo_151 : decode cX3_comesTo 151 = .ok (.getfield 34, 3) := dk_180 0 34 (dk_at dksX3_comesTo_6 8 rfl rfl)
theorem dX3_comesTo_154 : decode cX3_comesTo 154 = .ok (.iload 4, 2) := dk_21 4 (dk_at dksX3_comesTo_6 11 rfl rfl)
theorem dX3_comesTo_156 : decode cX3_comesTo 156 = .ok (.iconst 1, 1) := dk_4 (dk_at dksX3_comesTo_6 13 rfl rfl)
theorem dX3_comesTo_157 : decode cX3_comesTo 157 = .ok (.isub, 1) := dk_100 (dk_at dksX3_comesTo_6 14 rfl rfl)
theorem dX3_comesTo_158 : decode cX3_comesTo 158 = .ok (.iload 6, 2) := dk_21 6 (dk_at dksX3_comesTo_6 15 rfl rfl)
theorem dX3_comesTo_160 : decode cX3_comesTo 160 = .ok (.aload_n 0, 1) := dk_42 (dk_at dksX3_comesTo_6 17 rfl rfl)
theorem dX3_comesTo_161 : decode cX3_comesTo 161 = .ok (.getfield 34, 3) := dk_180 0 34 (dk_at dksX3_comesTo_6 18 rfl rfl)
theorem dX3_comesTo_164 : decode cX3_comesTo 164 = .ok (.iload 4, 2) := dk_21 4 (dk_at dksX3_comesTo_6 21 rfl rfl)
theorem dX3_comesTo_166 : decode cX3_comesTo 166 = .ok (.iconst 1, 1) := dk_4 (dk_at dksX3_comesTo_6 23 rfl rfl)
theorem dX3_comesTo_167 : decode cX3_comesTo 167 = .ok (.isub, 1) := dk_100 (dk_at dksX3_comesTo_7 0 rfl rfl)
theorem dX3_comesTo_168 : decode cX3_comesTo 168 = .ok (.iaload, 1) := dk_46 (dk_at dksX3_comesTo_7 1 rfl rfl)
theorem dX3_comesTo_169 : decode cX3_comesTo 169 = .ok (.aload_n 0, 1) := dk_42 (dk_at dksX3_comesTo_7 2 rfl rfl)
theorem dX3_comesTo_170 : decode cX3_comesTo 170 = .ok (.getfield 34, 3) := dk_180 0 34 (dk_at dksX3_comesTo_7 3 rfl rfl)
theorem dX3_comesTo_173 : decode cX3_comesTo 173 = .ok (.iload 4, 2) := dk_21 4 (dk_at dksX3_comesTo_7 6 rfl rfl)
theorem dX3_comesTo_175 : decode cX3_comesTo 175 = .ok (.iaload, 1) := dk_46 (dk_at dksX3_comesTo_7 8 rfl rfl)
theorem dX3_comesTo_176 : decode cX3_comesTo 176 = .ok (.invokestatic 277, 3) := dk_184 1 21 (dk_at dksX3_comesTo_7 9 rfl rfl)
theorem dX3_comesTo_179 : decode cX3_comesTo 179 = .ok (.iastore, 1) := dk_79 (dk_at dksX3_comesTo_7 12 rfl rfl)
theorem dX3_comesTo_180 : decode cX3_comesTo 180 = .ok (.iinc 5 1, 3) := dk_132 5 1 (dk_at dksX3_comesTo_7 13 rfl rfl)
theorem dX3_comesTo_183 : decode cX3_comesTo 183 = .ok (.goto (-177), 3) := dk_167 255 79 (dk_at dksX3_comesTo_7 16 rfl rfl)
theorem dX3_comesTo_186 : decode cX3_comesTo 186 = .ok (.aload_n 0, 1) := dk_42 (dk_at dksX3_comesTo_7 19 rfl rfl)
theorem dX3_comesTo_187 : decode cX3_comesTo 187 = .ok (.getfield 34, 3) := dk_180 0 34 (dk_at dksX3_comesTo_7 20 rfl rfl)
theorem dX3_comesTo_190 : decode cX3_comesTo 190 = .ok (.iconst 0, 1) := dk_3 (dk_at dksX3_comesTo_7 23 rfl rfl)
theorem dX3_comesTo_191 : decode cX3_comesTo 191 = .ok (.iaload, 1) := dk_46 (dk_at dksX3_comesTo_8 0 rfl rfl)
theorem dX3_comesTo_192 : decode cX3_comesTo 192 = .ok (.ireturn, 1) := dk_172 (dk_at dksX3_comesTo_8 1 rfl rfl)
abbrev cX3_both : ByteArray := prog_17_method_55_code
def yX3_both : MethodName := ⟨RX3, "both", "(III)I"⟩
def dkwX3_both_4 : List UInt8 := [172, 27, 28, 128, 172]
abbrev dktX3_both_4 : List UInt8 := dkwX3_both_4 ++ []
def dkwX3_both_3 : List UInt8 := [28, 160, 0, 7, 4, 167, 0, 4, 3, 172, 27, 28, 164, 0, 7, 4, 167, 0, 4, 3, 172, 27, 28, 126]
abbrev dktX3_both_3 : List UInt8 := dkwX3_both_3 ++ dktX3_both_4
def dkwX3_both_2 : List UInt8 := [27, 28, 96, 172, 27, 28, 100, 172, 27, 28, 104, 172, 27, 28, 162, 0, 7, 4, 167, 0, 4, 3, 172, 27]
abbrev dktX3_both_2 : List UInt8 := dkwX3_both_2 ++ dktX3_both_3
def dkwX3_both_1 : List UInt8 := [170, 0, 0, 0, 0, 0, 100, 0, 0, 0, 23, 0, 0, 0, 31, 0, 0, 0, 51, 0, 0, 0, 55, 0, 0, 0, 59, 0, 0, 0, 100, 0, 0, 0, 63, 0, 0, 0, 74, 0, 0, 0, 85, 0, 0, 0, 100, 0, 0, 0, 96]
abbrev dktX3_both_1 : List UInt8 := dkwX3_both_1 ++ dktX3_both_2
def dkwX3_both_0 : List UInt8 := [26]
abbrev dktX3_both_0 : List UInt8 := dkwX3_both_0 ++ dktX3_both_1
theorem dksX3_both_0 : cX3_both.data.toList.drop 0 = dktX3_both_0 := by decide +kernel
theorem dksX3_both_1 : cX3_both.data.toList.drop 1 = dktX3_both_1 := dk_seg dksX3_both_0 1 rfl rfl
theorem dksX3_both_2 : cX3_both.data.toList.drop 52 = dktX3_both_2 := dk_seg dksX3_both_1 51 rfl rfl
theorem dksX3_both_3 : cX3_both.data.toList.drop 76 = dktX3_both_3 := dk_seg dksX3_both_2 24 rfl rfl
theorem dksX3_both_4 : cX3_both.data.toList.drop 100 = dktX3_both_4 := dk_seg dksX3_both_3 24 rfl rfl
theorem dX3_both_0 : decode cX3_both 0 = .ok (.iload_n 0, 1) := dk_26 (dk_at dksX3_both_0 0 rfl rfl)
theorem dX3_both_1 : decode cX3_both 1 = .ok (.tableswitch 100 23 31 #[51, 55, 59, 100, 63, 74, 85, 100, 96], 51) := by decide +kernel
theorem dX3_both_52 : decode cX3_both 52 = .ok (.iload_n 1, 1) := dk_27 (dk_at dksX3_both_2 0 rfl rfl)
theorem dX3_both_53 : decode cX3_both 53 = .ok (.iload_n 2, 1) := dk_28 (dk_at dksX3_both_2 1 rfl rfl)
theorem dX3_both_54 : decode cX3_both 54 = .ok (.iadd, 1) := dk_96 (dk_at dksX3_both_2 2 rfl rfl)
theorem dX3_both_55 : decode cX3_both 55 = .ok (.ireturn, 1) := dk_172 (dk_at dksX3_both_2 3 rfl rfl)
theorem dX3_both_56 : decode cX3_both 56 = .ok (.iload_n 1, 1) := dk_27 (dk_at dksX3_both_2 4 rfl rfl)
theorem dX3_both_57 : decode cX3_both 57 = .ok (.iload_n 2, 1) := dk_28 (dk_at dksX3_both_2 5 rfl rfl)
theorem dX3_both_58 : decode cX3_both 58 = .ok (.isub, 1) := dk_100 (dk_at dksX3_both_2 6 rfl rfl)
theorem dX3_both_59 : decode cX3_both 59 = .ok (.ireturn, 1) := dk_172 (dk_at dksX3_both_2 7 rfl rfl)
theorem dX3_both_60 : decode cX3_both 60 = .ok (.iload_n 1, 1) := dk_27 (dk_at dksX3_both_2 8 rfl rfl)
theorem dX3_both_61 : decode cX3_both 61 = .ok (.iload_n 2, 1) := dk_28 (dk_at dksX3_both_2 9 rfl rfl)
theorem dX3_both_62 : decode cX3_both 62 = .ok (.imul, 1) := dk_104 (dk_at dksX3_both_2 10 rfl rfl)
theorem dX3_both_63 : decode cX3_both 63 = .ok (.ireturn, 1) := dk_172 (dk_at dksX3_both_2 11 rfl rfl)
theorem dX3_both_64 : decode cX3_both 64 = .ok (.iload_n 1, 1) := dk_27 (dk_at dksX3_both_2 12 rfl rfl)
theorem dX3_both_65 : decode cX3_both 65 = .ok (.iload_n 2, 1) := dk_28 (dk_at dksX3_both_2 13 rfl rfl)
theorem dX3_both_66 : decode cX3_both 66 = .ok (.if_icmp .ge 7, 3) := dk_162 0 7 (dk_at dksX3_both_2 14 rfl rfl)
theorem dX3_both_69 : decode cX3_both 69 = .ok (.iconst 1, 1) := dk_4 (dk_at dksX3_both_2 17 rfl rfl)
theorem dX3_both_70 : decode cX3_both 70 = .ok (.goto 4, 3) := dk_167 0 4 (dk_at dksX3_both_2 18 rfl rfl)
theorem dX3_both_73 : decode cX3_both 73 = .ok (.iconst 0, 1) := dk_3 (dk_at dksX3_both_2 21 rfl rfl)
theorem dX3_both_74 : decode cX3_both 74 = .ok (.ireturn, 1) := dk_172 (dk_at dksX3_both_2 22 rfl rfl)
theorem dX3_both_75 : decode cX3_both 75 = .ok (.iload_n 1, 1) := dk_27 (dk_at dksX3_both_2 23 rfl rfl)
theorem dX3_both_76 : decode cX3_both 76 = .ok (.iload_n 2, 1) := dk_28 (dk_at dksX3_both_3 0 rfl rfl)
theorem dX3_both_77 : decode cX3_both 77 = .ok (.if_icmp .ne 7, 3) := dk_160 0 7 (dk_at dksX3_both_3 1 rfl rfl)
theorem dX3_both_80 : decode cX3_both 80 = .ok (.iconst 1, 1) := dk_4 (dk_at dksX3_both_3 4 rfl rfl)
theorem dX3_both_81 : decode cX3_both 81 = .ok (.goto 4, 3) := dk_167 0 4 (dk_at dksX3_both_3 5 rfl rfl)
theorem dX3_both_84 : decode cX3_both 84 = .ok (.iconst 0, 1) := dk_3 (dk_at dksX3_both_3 8 rfl rfl)
theorem dX3_both_85 : decode cX3_both 85 = .ok (.ireturn, 1) := dk_172 (dk_at dksX3_both_3 9 rfl rfl)
theorem dX3_both_86 : decode cX3_both 86 = .ok (.iload_n 1, 1) := dk_27 (dk_at dksX3_both_3 10 rfl rfl)
theorem dX3_both_87 : decode cX3_both 87 = .ok (.iload_n 2, 1) := dk_28 (dk_at dksX3_both_3 11 rfl rfl)
theorem dX3_both_88 : decode cX3_both 88 = .ok (.if_icmp .le 7, 3) := dk_164 0 7 (dk_at dksX3_both_3 12 rfl rfl)
theorem dX3_both_91 : decode cX3_both 91 = .ok (.iconst 1, 1) := dk_4 (dk_at dksX3_both_3 15 rfl rfl)
theorem dX3_both_92 : decode cX3_both 92 = .ok (.goto 4, 3) := dk_167 0 4 (dk_at dksX3_both_3 16 rfl rfl)
theorem dX3_both_95 : decode cX3_both 95 = .ok (.iconst 0, 1) := dk_3 (dk_at dksX3_both_3 19 rfl rfl)
theorem dX3_both_96 : decode cX3_both 96 = .ok (.ireturn, 1) := dk_172 (dk_at dksX3_both_3 20 rfl rfl)
theorem dX3_both_97 : decode cX3_both 97 = .ok (.iload_n 1, 1) := dk_27 (dk_at dksX3_both_3 21 rfl rfl)
theorem dX3_both_98 : decode cX3_both 98 = .ok (.iload_n 2, 1) := dk_28 (dk_at dksX3_both_3 22 rfl rfl)
theorem dX3_both_99 : decode cX3_both 99 = .ok (.iand, 1) := dk_126 (dk_at dksX3_both_3 23 rfl rfl)
theorem dX3_both_100 : decode cX3_both 100 = .ok (.ireturn, 1) := dk_172 (dk_at dksX3_both_4 0 rfl rfl)
theorem dX3_both_101 : decode cX3_both 101 = .ok (.iload_n 1, 1) := dk_27 (dk_at dksX3_both_4 1 rfl rfl)
theorem dX3_both_102 : decode cX3_both 102 = .ok (.iload_n 2, 1) := dk_28 (dk_at dksX3_both_4 2 rfl rfl)
theorem dX3_both_103 : decode cX3_both 103 = .ok (.ior, 1) := dk_128 (dk_at dksX3_both_4 3 rfl rfl)
theorem dX3_both_104 : decode cX3_both 104 = .ok (.ireturn, 1) := dk_172 (dk_at dksX3_both_4 4 rfl rfl)
abbrev cX3_lesser : ByteArray := prog_17_method_3_code
def yX3_lesser : MethodName := ⟨RX3, "lesser", "(II)I"⟩
def dkwX3_lesser_0 : List UInt8 := [26, 27, 162, 0, 7, 26, 167, 0, 4, 27, 172]
abbrev dktX3_lesser_0 : List UInt8 := dkwX3_lesser_0 ++ []
theorem dksX3_lesser_0 : cX3_lesser.data.toList.drop 0 = dktX3_lesser_0 := by decide +kernel
theorem dX3_lesser_0 : decode cX3_lesser 0 = .ok (.iload_n 0, 1) := dk_26 (dk_at dksX3_lesser_0 0 rfl rfl)
theorem dX3_lesser_1 : decode cX3_lesser 1 = .ok (.iload_n 1, 1) := dk_27 (dk_at dksX3_lesser_0 1 rfl rfl)
theorem dX3_lesser_2 : decode cX3_lesser 2 = .ok (.if_icmp .ge 7, 3) := dk_162 0 7 (dk_at dksX3_lesser_0 2 rfl rfl)
theorem dX3_lesser_5 : decode cX3_lesser 5 = .ok (.iload_n 0, 1) := dk_26 (dk_at dksX3_lesser_0 5 rfl rfl)
theorem dX3_lesser_6 : decode cX3_lesser 6 = .ok (.goto 4, 3) := dk_167 0 4 (dk_at dksX3_lesser_0 6 rfl rfl)
theorem dX3_lesser_9 : decode cX3_lesser 9 = .ok (.iload_n 1, 1) := dk_27 (dk_at dksX3_lesser_0 9 rfl rfl)
theorem dX3_lesser_10 : decode cX3_lesser 10 = .ok (.ireturn, 1) := dk_172 (dk_at dksX3_lesser_0 10 rfl rfl)
abbrev cX3_greater : ByteArray := prog_17_method_4_code
def yX3_greater : MethodName := ⟨RX3, "greater", "(II)I"⟩
def dkwX3_greater_0 : List UInt8 := [26, 27, 164, 0, 7, 26, 167, 0, 4, 27, 172]
abbrev dktX3_greater_0 : List UInt8 := dkwX3_greater_0 ++ []
theorem dksX3_greater_0 : cX3_greater.data.toList.drop 0 = dktX3_greater_0 := by decide +kernel
theorem dX3_greater_0 : decode cX3_greater 0 = .ok (.iload_n 0, 1) := dk_26 (dk_at dksX3_greater_0 0 rfl rfl)
theorem dX3_greater_1 : decode cX3_greater 1 = .ok (.iload_n 1, 1) := dk_27 (dk_at dksX3_greater_0 1 rfl rfl)
theorem dX3_greater_2 : decode cX3_greater 2 = .ok (.if_icmp .le 7, 3) := dk_164 0 7 (dk_at dksX3_greater_0 2 rfl rfl)
theorem dX3_greater_5 : decode cX3_greater 5 = .ok (.iload_n 0, 1) := dk_26 (dk_at dksX3_greater_0 5 rfl rfl)
theorem dX3_greater_6 : decode cX3_greater 6 = .ok (.goto 4, 3) := dk_167 0 4 (dk_at dksX3_greater_0 6 rfl rfl)
theorem dX3_greater_9 : decode cX3_greater 9 = .ok (.iload_n 1, 1) := dk_27 (dk_at dksX3_greater_0 9 rfl rfl)
theorem dX3_greater_10 : decode cX3_greater 10 = .ok (.ireturn, 1) := dk_172 (dk_at dksX3_greater_0 10 rfl rfl)
abbrev cX3_claps : ByteArray := prog_17_method_74_code
def yX3_claps : MethodName := ⟨RX3, "claps", "(I)V"⟩
def dkwX3_claps_9 : List UInt8 := [42, 42, 180, 0, 7, 7, 46, 154, 0, 7, 3, 167, 0, 4, 4, 27, 42, 180, 1, 91, 182, 1, 81, 177]
abbrev dktX3_claps_9 : List UInt8 := dkwX3_claps_9 ++ []
def dkwX3_claps_8 : List UInt8 := [162, 0, 20, 42, 180, 0, 7, 3, 46, 42, 182, 1, 99, 162, 0, 7, 4, 167, 0, 4, 3, 181, 1, 102]
abbrev dktX3_claps_8 : List UInt8 := dkwX3_claps_8 ++ dktX3_claps_9
def dkwX3_claps_7 : List UInt8 := [154, 0, 44, 42, 180, 1, 91, 42, 182, 1, 93, 161, 0, 33, 42, 180, 0, 7, 7, 46, 42, 182, 1, 96]
abbrev dktX3_claps_7 : List UInt8 := dkwX3_claps_7 ++ dktX3_claps_8
def dkwX3_claps_6 : List UInt8 := [153, 0, 7, 3, 167, 0, 13, 42, 27, 182, 1, 85, 42, 182, 1, 88, 96, 181, 1, 91, 42, 28]
abbrev dktX3_claps_6 : List UInt8 := dkwX3_claps_6 ++ dktX3_claps_7
def dkwX3_claps_5 : List UInt8 := [162, 0, 7, 4, 167, 0, 4, 3, 61, 28, 153, 0, 10, 42, 5, 27, 3, 182, 1, 81, 42, 28]
abbrev dktX3_claps_5 : List UInt8 := dkwX3_claps_5 ++ dktX3_claps_6
def dkwX3_claps_4 : List UInt8 := [180, 0, 7, 16, 39, 46, 158, 0, 24, 42, 17, 3, 232, 182, 1, 72, 42, 180, 0, 7, 16, 39, 46]
abbrev dktX3_claps_4 : List UInt8 := dkwX3_claps_4 ++ dktX3_claps_5
def dkwX3_claps_3 : List UInt8 := [153, 0, 16, 42, 89, 180, 1, 75, 4, 96, 181, 1, 75, 167, 255, 238, 42, 180, 1, 47, 153, 0, 34, 42]
abbrev dktX3_claps_3 : List UInt8 := dkwX3_claps_3 ++ dktX3_claps_4
def dkwX3_claps_2 : List UInt8 := [79, 132, 2, 1, 167, 255, 208, 42, 3, 181, 1, 60, 42, 3, 181, 1, 75, 42, 27, 182, 1, 78]
abbrev dktX3_claps_2 : List UInt8 := dkwX3_claps_2 ++ dktX3_claps_3
def dkwX3_claps_1 : List UInt8 := [180, 0, 44, 28, 42, 180, 1, 47, 153, 0, 13, 42, 17, 3, 232, 182, 1, 72, 167, 0, 6, 17, 1, 244]
abbrev dktX3_claps_1 : List UInt8 := dkwX3_claps_1 ++ dktX3_claps_2
def dkwX3_claps_0 : List UInt8 := [3, 61, 28, 42, 180, 0, 7, 16, 37, 46, 162, 0, 43, 42, 28, 182, 1, 54, 153, 0, 29, 42]
abbrev dktX3_claps_0 : List UInt8 := dkwX3_claps_0 ++ dktX3_claps_1
theorem dksX3_claps_0 : cX3_claps.data.toList.drop 0 = dktX3_claps_0 := by decide +kernel
theorem dksX3_claps_1 : cX3_claps.data.toList.drop 22 = dktX3_claps_1 := dk_seg dksX3_claps_0 22 rfl rfl
theorem dksX3_claps_2 : cX3_claps.data.toList.drop 46 = dktX3_claps_2 := dk_seg dksX3_claps_1 24 rfl rfl
theorem dksX3_claps_3 : cX3_claps.data.toList.drop 68 = dktX3_claps_3 := dk_seg dksX3_claps_2 22 rfl rfl
theorem dksX3_claps_4 : cX3_claps.data.toList.drop 92 = dktX3_claps_4 := dk_seg dksX3_claps_3 24 rfl rfl
theorem dksX3_claps_5 : cX3_claps.data.toList.drop 115 = dktX3_claps_5 := dk_seg dksX3_claps_4 23 rfl rfl
theorem dksX3_claps_6 : cX3_claps.data.toList.drop 137 = dktX3_claps_6 := dk_seg dksX3_claps_5 22 rfl rfl
theorem dksX3_claps_7 : cX3_claps.data.toList.drop 159 = dktX3_claps_7 := dk_seg dksX3_claps_6 22 rfl rfl
theorem dksX3_claps_8 : cX3_claps.data.toList.drop 183 = dktX3_claps_8 := dk_seg dksX3_claps_7 24 rfl rfl
theorem dksX3_claps_9 : cX3_claps.data.toList.drop 207 = dktX3_claps_9 := dk_seg dksX3_claps_8 24 rfl rfl
theorem dX3_claps_0 : decode cX3_claps 0 = .ok (.iconst 0, 1) := dk_3 (dk_at dksX3_claps_0 0 rfl rfl)
theorem dX3_claps_1 : decode cX3_claps 1 = .ok (.istore_n 2, 1) := dk_61 (dk_at dksX3_claps_0 1 rfl rfl)
theorem dX3_claps_2 : decode cX3_claps 2 = .ok (.iload_n 2, 1) := dk_28 (dk_at dksX3_claps_0 2 rfl rfl)
theorem dX3_claps_3 : decode cX3_claps 3 = .ok (.aload_n 0, 1) := dk_42 (dk_at dksX3_claps_0 3 rfl rfl)
theorem dX3_claps_4 : decode cX3_claps 4 = .ok (.getfield 7, 3) := dk_180 0 7 (dk_at dksX3_claps_0 4 rfl rfl)
theorem dX3_claps_7 : decode cX3_claps 7 = .ok (.bipush 37, 2) := dk_16 37 (dk_at dksX3_claps_0 7 rfl rfl)
theorem dX3_claps_9 : decode cX3_claps 9 = .ok (.iaload, 1) := dk_46 (dk_at dksX3_claps_0 9 rfl rfl)
theorem dX3_claps_10 : decode cX3_claps 10 = .ok (.if_icmp .ge 43, 3) := dk_162 0 43 (dk_at dksX3_claps_0 10 rfl rfl)
theorem dX3_claps_13 : decode cX3_claps 13 = .ok (.aload_n 0, 1) := dk_42 (dk_at dksX3_claps_0 13 rfl rfl)
theorem dX3_claps_14 : decode cX3_claps 14 = .ok (.iload_n 2, 1) := dk_28 (dk_at dksX3_claps_0 14 rfl rfl)
theorem dX3_claps_15 : decode cX3_claps 15 = .ok (.invokevirtual 310, 3) := dk_182 1 54 (dk_at dksX3_claps_0 15 rfl rfl)
theorem dX3_claps_18 : decode cX3_claps 18 = .ok (.ifCond .eq 29, 3) := dk_153 0 29 (dk_at dksX3_claps_0 18 rfl rfl)
theorem dX3_claps_21 : decode cX3_claps 21 = .ok (.aload_n 0, 1) := dk_42 (dk_at dksX3_claps_0 21 rfl rfl)
theorem dX3_claps_22 : decode cX3_claps 22 = .ok (.getfield 44, 3) := dk_180 0 44 (dk_at dksX3_claps_1 0 rfl rfl)
theorem dX3_claps_25 : decode cX3_claps 25 = .ok (.iload_n 2, 1) := dk_28 (dk_at dksX3_claps_1 3 rfl rfl)
theorem dX3_claps_26 : decode cX3_claps 26 = .ok (.aload_n 0, 1) := dk_42 (dk_at dksX3_claps_1 4 rfl rfl)
theorem dX3_claps_27 : decode cX3_claps 27 = .ok (.getfield 303, 3) := dk_180 1 47 (dk_at dksX3_claps_1 5 rfl rfl)
theorem dX3_claps_30 : decode cX3_claps 30 = .ok (.ifCond .eq 13, 3) := dk_153 0 13 (dk_at dksX3_claps_1 8 rfl rfl)
theorem dX3_claps_33 : decode cX3_claps 33 = .ok (.aload_n 0, 1) := dk_42 (dk_at dksX3_claps_1 11 rfl rfl)
theorem dX3_claps_34 : decode cX3_claps 34 = .ok (.sipush 1000, 3) := dk_17 3 232 (dk_at dksX3_claps_1 12 rfl rfl)
theorem dX3_claps_37 : decode cX3_claps 37 = .ok (.invokevirtual 328, 3) := dk_182 1 72 (dk_at dksX3_claps_1 15 rfl rfl)
theorem dX3_claps_40 : decode cX3_claps 40 = .ok (.goto 6, 3) := dk_167 0 6 (dk_at dksX3_claps_1 18 rfl rfl)
theorem dX3_claps_43 : decode cX3_claps 43 = .ok (.sipush 500, 3) := dk_17 1 244 (dk_at dksX3_claps_1 21 rfl rfl)
theorem dX3_claps_46 : decode cX3_claps 46 = .ok (.iastore, 1) := dk_79 (dk_at dksX3_claps_2 0 rfl rfl)
theorem dX3_claps_47 : decode cX3_claps 47 = .ok (.iinc 2 1, 3) := dk_132 2 1 (dk_at dksX3_claps_2 1 rfl rfl)
theorem dX3_claps_50 : decode cX3_claps 50 = .ok (.goto (-48), 3) := dk_167 255 208 (dk_at dksX3_claps_2 4 rfl rfl)
theorem dX3_claps_53 : decode cX3_claps 53 = .ok (.aload_n 0, 1) := dk_42 (dk_at dksX3_claps_2 7 rfl rfl)
theorem dX3_claps_54 : decode cX3_claps 54 = .ok (.iconst 0, 1) := dk_3 (dk_at dksX3_claps_2 8 rfl rfl)
theorem dX3_claps_55 : decode cX3_claps 55 = .ok (.putfield 316, 3) := dk_181 1 60 (dk_at dksX3_claps_2 9 rfl rfl)
theorem dX3_claps_58 : decode cX3_claps 58 = .ok (.aload_n 0, 1) := dk_42 (dk_at dksX3_claps_2 12 rfl rfl)
theorem dX3_claps_59 : decode cX3_claps 59 = .ok (.iconst 0, 1) := dk_3 (dk_at dksX3_claps_2 13 rfl rfl)
theorem dX3_claps_60 : decode cX3_claps 60 = .ok (.putfield 331, 3) := dk_181 1 75 (dk_at dksX3_claps_2 14 rfl rfl)
theorem dX3_claps_63 : decode cX3_claps 63 = .ok (.aload_n 0, 1) := dk_42 (dk_at dksX3_claps_2 17 rfl rfl)
theorem dX3_claps_64 : decode cX3_claps 64 = .ok (.iload_n 1, 1) := dk_27 (dk_at dksX3_claps_2 18 rfl rfl)
theorem dX3_claps_65 : decode cX3_claps 65 = .ok (.invokevirtual 334, 3) := dk_182 1 78 (dk_at dksX3_claps_2 19 rfl rfl)
theorem dX3_claps_68 : decode cX3_claps 68 = .ok (.ifCond .eq 16, 3) := dk_153 0 16 (dk_at dksX3_claps_3 0 rfl rfl)
theorem dX3_claps_71 : decode cX3_claps 71 = .ok (.aload_n 0, 1) := dk_42 (dk_at dksX3_claps_3 3 rfl rfl)
theorem dX3_claps_72 : decode cX3_claps 72 = .ok (.dup, 1) := dk_89 (dk_at dksX3_claps_3 4 rfl rfl)
theorem dX3_claps_73 : decode cX3_claps 73 = .ok (.getfield 331, 3) := dk_180 1 75 (dk_at dksX3_claps_3 5 rfl rfl)
theorem dX3_claps_76 : decode cX3_claps 76 = .ok (.iconst 1, 1) := dk_4 (dk_at dksX3_claps_3 8 rfl rfl)
theorem dX3_claps_77 : decode cX3_claps 77 = .ok (.iadd, 1) := dk_96 (dk_at dksX3_claps_3 9 rfl rfl)
theorem dX3_claps_78 : decode cX3_claps 78 = .ok (.putfield 331, 3) := dk_181 1 75 (dk_at dksX3_claps_3 10 rfl rfl)
theorem dX3_claps_81 : decode cX3_claps 81 = .ok (.goto (-18), 3) := dk_167 255 238 (dk_at dksX3_claps_3 13 rfl rfl)
theorem dX3_claps_84 : decode cX3_claps 84 = .ok (.aload_n 0, 1) := dk_42 (dk_at dksX3_claps_3 16 rfl rfl)
theorem dX3_claps_85 : decode cX3_claps 85 = .ok (.getfield 303, 3) := dk_180 1 47 (dk_at dksX3_claps_3 17 rfl rfl)
theorem dX3_claps_88 : decode cX3_claps 88 = .ok (.ifCond .eq 34, 3) := dk_153 0 34 (dk_at dksX3_claps_3 20 rfl rfl)
theorem dX3_claps_91 : decode cX3_claps 91 = .ok (.aload_n 0, 1) := dk_42 (dk_at dksX3_claps_3 23 rfl rfl)
theorem dX3_claps_92 : decode cX3_claps 92 = .ok (.getfield 7, 3) := dk_180 0 7 (dk_at dksX3_claps_4 0 rfl rfl)
theorem dX3_claps_95 : decode cX3_claps 95 = .ok (.bipush 39, 2) := dk_16 39 (dk_at dksX3_claps_4 3 rfl rfl)
theorem dX3_claps_97 : decode cX3_claps 97 = .ok (.iaload, 1) := dk_46 (dk_at dksX3_claps_4 5 rfl rfl)
theorem dX3_claps_98 : decode cX3_claps 98 = .ok (.ifCond .le 24, 3) := dk_158 0 24 (dk_at dksX3_claps_4 6 rfl rfl)
theorem dX3_claps_101 : decode cX3_claps 101 = .ok (.aload_n 0, 1) := dk_42 (dk_at dksX3_claps_4 9 rfl rfl)
theorem dX3_claps_102 : decode cX3_claps 102 = .ok (.sipush 1000, 3) := dk_17 3 232 (dk_at dksX3_claps_4 10 rfl rfl)
theorem dX3_claps_105 : decode cX3_claps 105 = .ok (.invokevirtual 328, 3) := dk_182 1 72 (dk_at dksX3_claps_4 13 rfl rfl)
theorem dX3_claps_108 : decode cX3_claps 108 = .ok (.aload_n 0, 1) := dk_42 (dk_at dksX3_claps_4 16 rfl rfl)
theorem dX3_claps_109 : decode cX3_claps 109 = .ok (.getfield 7, 3) := dk_180 0 7 (dk_at dksX3_claps_4 17 rfl rfl)
theorem dX3_claps_112 : decode cX3_claps 112 = .ok (.bipush 39, 2) := dk_16 39 (dk_at dksX3_claps_4 20 rfl rfl)
theorem dX3_claps_114 : decode cX3_claps 114 = .ok (.iaload, 1) := dk_46 (dk_at dksX3_claps_4 22 rfl rfl)
theorem dX3_claps_115 : decode cX3_claps 115 = .ok (.if_icmp .ge 7, 3) := dk_162 0 7 (dk_at dksX3_claps_5 0 rfl rfl)
theorem dX3_claps_118 : decode cX3_claps 118 = .ok (.iconst 1, 1) := dk_4 (dk_at dksX3_claps_5 3 rfl rfl)
theorem dX3_claps_119 : decode cX3_claps 119 = .ok (.goto 4, 3) := dk_167 0 4 (dk_at dksX3_claps_5 4 rfl rfl)
theorem dX3_claps_122 : decode cX3_claps 122 = .ok (.iconst 0, 1) := dk_3 (dk_at dksX3_claps_5 7 rfl rfl)
theorem dX3_claps_123 : decode cX3_claps 123 = .ok (.istore_n 2, 1) := dk_61 (dk_at dksX3_claps_5 8 rfl rfl)
theorem dX3_claps_124 : decode cX3_claps 124 = .ok (.iload_n 2, 1) := dk_28 (dk_at dksX3_claps_5 9 rfl rfl)
theorem dX3_claps_125 : decode cX3_claps 125 = .ok (.ifCond .eq 10, 3) := dk_153 0 10 (dk_at dksX3_claps_5 10 rfl rfl)
theorem dX3_claps_128 : decode cX3_claps 128 = .ok (.aload_n 0, 1) := dk_42 (dk_at dksX3_claps_5 13 rfl rfl)
theorem dX3_claps_129 : decode cX3_claps 129 = .ok (.iconst 2, 1) := dk_5 (dk_at dksX3_claps_5 14 rfl rfl)
theorem dX3_claps_130 : decode cX3_claps 130 = .ok (.iload_n 1, 1) := dk_27 (dk_at dksX3_claps_5 15 rfl rfl)
theorem dX3_claps_131 : decode cX3_claps 131 = .ok (.iconst 0, 1) := dk_3 (dk_at dksX3_claps_5 16 rfl rfl)
theorem dX3_claps_132 : decode cX3_claps 132 = .ok (.invokevirtual 337, 3) := dk_182 1 81 (dk_at dksX3_claps_5 17 rfl rfl)
theorem dX3_claps_135 : decode cX3_claps 135 = .ok (.aload_n 0, 1) := dk_42 (dk_at dksX3_claps_5 20 rfl rfl)
theorem dX3_claps_136 : decode cX3_claps 136 = .ok (.iload_n 2, 1) := dk_28 (dk_at dksX3_claps_5 21 rfl rfl)
theorem dX3_claps_137 : decode cX3_claps 137 = .ok (.ifCond .eq 7, 3) := dk_153 0 7 (dk_at dksX3_claps_6 0 rfl rfl)
theorem dX3_claps_140 : decode cX3_claps 140 = .ok (.iconst 0, 1) := dk_3 (dk_at dksX3_claps_6 3 rfl rfl)
theorem dX3_claps_141 : decode cX3_claps 141 = .ok (.goto 13, 3) := dk_167 0 13 (dk_at dksX3_claps_6 4 rfl rfl)
theorem dX3_claps_144 : decode cX3_claps 144 = .ok (.aload_n 0, 1) := dk_42 (dk_at dksX3_claps_6 7 rfl rfl)
theorem dX3_claps_145 : decode cX3_claps 145 = .ok (.iload_n 1, 1) := dk_27 (dk_at dksX3_claps_6 8 rfl rfl)
theorem dX3_claps_146 : decode cX3_claps 146 = .ok (.invokevirtual 341, 3) := dk_182 1 85 (dk_at dksX3_claps_6 9 rfl rfl)
theorem dX3_claps_149 : decode cX3_claps 149 = .ok (.aload_n 0, 1) := dk_42 (dk_at dksX3_claps_6 12 rfl rfl)
theorem dX3_claps_150 : decode cX3_claps 150 = .ok (.invokevirtual 344, 3) := dk_182 1 88 (dk_at dksX3_claps_6 13 rfl rfl)
theorem dX3_claps_153 : decode cX3_claps 153 = .ok (.iadd, 1) := dk_96 (dk_at dksX3_claps_6 16 rfl rfl)
theorem dX3_claps_154 : decode cX3_claps 154 = .ok (.putfield 347, 3) := dk_181 1 91 (dk_at dksX3_claps_6 17 rfl rfl)
theorem dX3_claps_157 : decode cX3_claps 157 = .ok (.aload_n 0, 1) := dk_42 (dk_at dksX3_claps_6 20 rfl rfl)
theorem dX3_claps_158 : decode cX3_claps 158 = .ok (.iload_n 2, 1) := dk_28 (dk_at dksX3_claps_6 21 rfl rfl)
theorem dX3_claps_159 : decode cX3_claps 159 = .ok (.ifCond .ne 44, 3) := dk_154 0 44 (dk_at dksX3_claps_7 0 rfl rfl)
theorem dX3_claps_162 : decode cX3_claps 162 = .ok (.aload_n 0, 1) := dk_42 (dk_at dksX3_claps_7 3 rfl rfl)
theorem dX3_claps_163 : decode cX3_claps 163 = .ok (.getfield 347, 3) := dk_180 1 91 (dk_at dksX3_claps_7 4 rfl rfl)
theorem dX3_claps_166 : decode cX3_claps 166 = .ok (.aload_n 0, 1) := dk_42 (dk_at dksX3_claps_7 7 rfl rfl)
theorem dX3_claps_167 : decode cX3_claps 167 = .ok (.invokevirtual 349, 3) := dk_182 1 93 (dk_at dksX3_claps_7 8 rfl rfl)
theorem dX3_claps_170 : decode cX3_claps 170 = .ok (.if_icmp .lt 33, 3) := dk_161 0 33 (dk_at dksX3_claps_7 11 rfl rfl)
theorem dX3_claps_173 : decode cX3_claps 173 = .ok (.aload_n 0, 1) := dk_42 (dk_at dksX3_claps_7 14 rfl rfl)
theorem dX3_claps_174 : decode cX3_claps 174 = .ok (.getfield 7, 3) := dk_180 0 7 (dk_at dksX3_claps_7 15 rfl rfl)
theorem dX3_claps_177 : decode cX3_claps 177 = .ok (.iconst 4, 1) := dk_7 (dk_at dksX3_claps_7 18 rfl rfl)
theorem dX3_claps_178 : decode cX3_claps 178 = .ok (.iaload, 1) := dk_46 (dk_at dksX3_claps_7 19 rfl rfl)
theorem dX3_claps_179 : decode cX3_claps 179 = .ok (.aload_n 0, 1) := dk_42 (dk_at dksX3_claps_7 20 rfl rfl)
theorem dX3_claps_180 : decode cX3_claps 180 = .ok (.invokevirtual 352, 3) := dk_182 1 96 (dk_at dksX3_claps_7 21 rfl rfl)
theorem dX3_claps_183 : decode cX3_claps 183 = .ok (.if_icmp .ge 20, 3) := dk_162 0 20 (dk_at dksX3_claps_8 0 rfl rfl)
theorem dX3_claps_186 : decode cX3_claps 186 = .ok (.aload_n 0, 1) := dk_42 (dk_at dksX3_claps_8 3 rfl rfl)
theorem dX3_claps_187 : decode cX3_claps 187 = .ok (.getfield 7, 3) := dk_180 0 7 (dk_at dksX3_claps_8 4 rfl rfl)
theorem dX3_claps_190 : decode cX3_claps 190 = .ok (.iconst 0, 1) := dk_3 (dk_at dksX3_claps_8 7 rfl rfl)
theorem dX3_claps_191 : decode cX3_claps 191 = .ok (.iaload, 1) := dk_46 (dk_at dksX3_claps_8 8 rfl rfl)
theorem dX3_claps_192 : decode cX3_claps 192 = .ok (.aload_n 0, 1) := dk_42 (dk_at dksX3_claps_8 9 rfl rfl)
theorem dX3_claps_193 : decode cX3_claps 193 = .ok (.invokevirtual 355, 3) := dk_182 1 99 (dk_at dksX3_claps_8 10 rfl rfl)
theorem dX3_claps_196 : decode cX3_claps 196 = .ok (.if_icmp .ge 7, 3) := dk_162 0 7 (dk_at dksX3_claps_8 13 rfl rfl)
theorem dX3_claps_199 : decode cX3_claps 199 = .ok (.iconst 1, 1) := dk_4 (dk_at dksX3_claps_8 16 rfl rfl)
theorem dX3_claps_200 : decode cX3_claps 200 = .ok (.goto 4, 3) := dk_167 0 4 (dk_at dksX3_claps_8 17 rfl rfl)
theorem dX3_claps_203 : decode cX3_claps 203 = .ok (.iconst 0, 1) := dk_3 (dk_at dksX3_claps_8 20 rfl rfl)
theorem dX3_claps_204 : decode cX3_claps 204 = .ok (.putfield 358, 3) := dk_181 1 102 (dk_at dksX3_claps_8 21 rfl rfl)
theorem dX3_claps_207 : decode cX3_claps 207 = .ok (.aload_n 0, 1) := dk_42 (dk_at dksX3_claps_9 0 rfl rfl)
theorem dX3_claps_208 : decode cX3_claps 208 = .ok (.aload_n 0, 1) := dk_42 (dk_at dksX3_claps_9 1 rfl rfl)
theorem dX3_claps_209 : decode cX3_claps 209 = .ok (.getfield 7, 3) := dk_180 0 7 (dk_at dksX3_claps_9 2 rfl rfl)
theorem dX3_claps_212 : decode cX3_claps 212 = .ok (.iconst 4, 1) := dk_7 (dk_at dksX3_claps_9 5 rfl rfl)
theorem dX3_claps_213 : decode cX3_claps 213 = .ok (.iaload, 1) := dk_46 (dk_at dksX3_claps_9 6 rfl rfl)
theorem dX3_claps_214 : decode cX3_claps 214 = .ok (.ifCond .ne 7, 3) := dk_154 0 7 (dk_at dksX3_claps_9 7 rfl rfl)
theorem dX3_claps_217 : decode cX3_claps 217 = .ok (.iconst 0, 1) := dk_3 (dk_at dksX3_claps_9 10 rfl rfl)
theorem dX3_claps_218 : decode cX3_claps 218 = .ok (.goto 4, 3) := dk_167 0 4 (dk_at dksX3_claps_9 11 rfl rfl)
theorem dX3_claps_221 : decode cX3_claps 221 = .ok (.iconst 1, 1) := dk_4 (dk_at dksX3_claps_9 14 rfl rfl)
theorem dX3_claps_222 : decode cX3_claps 222 = .ok (.iload_n 1, 1) := dk_27 (dk_at dksX3_claps_9 15 rfl rfl)
theorem dX3_claps_223 : decode cX3_claps 223 = .ok (.aload_n 0, 1) := dk_42 (dk_at dksX3_claps_9 16 rfl rfl)
theorem dX3_claps_224 : decode cX3_claps 224 = .ok (.getfield 347, 3) := dk_180 1 91 (dk_at dksX3_claps_9 17 rfl rfl)
theorem dX3_claps_227 : decode cX3_claps 227 = .ok (.invokevirtual 337, 3) := dk_182 1 81 (dk_at dksX3_claps_9 20 rfl rfl)
theorem dX3_claps_230 : decode cX3_claps 230 = .ok (.return_, 1) := dk_177 (dk_at dksX3_claps_9 23 rfl rfl)
abbrev cX3_isThere : ByteArray := prog_17_method_7_code
def yX3_isThere : MethodName := ⟨RX3, "isThere", "(I)Z"⟩
def dkwX3_isThere_0 : List UInt8 := [42, 180, 0, 7, 16, 7, 46, 27, 122, 4, 126, 4, 160, 0, 7, 4, 167, 0, 4, 3, 172]
abbrev dktX3_isThere_0 : List UInt8 := dkwX3_isThere_0 ++ []
theorem dksX3_isThere_0 : cX3_isThere.data.toList.drop 0 = dktX3_isThere_0 := by decide +kernel
theorem dX3_isThere_0 : decode cX3_isThere 0 = .ok (.aload_n 0, 1) := dk_42 (dk_at dksX3_isThere_0 0 rfl rfl)
theorem dX3_isThere_1 : decode cX3_isThere 1 = .ok (.getfield 7, 3) := dk_180 0 7 (dk_at dksX3_isThere_0 1 rfl rfl)
theorem dX3_isThere_4 : decode cX3_isThere 4 = .ok (.bipush 7, 2) := dk_16 7 (dk_at dksX3_isThere_0 4 rfl rfl)
theorem dX3_isThere_6 : decode cX3_isThere 6 = .ok (.iaload, 1) := dk_46 (dk_at dksX3_isThere_0 6 rfl rfl)
theorem dX3_isThere_7 : decode cX3_isThere 7 = .ok (.iload_n 1, 1) := dk_27 (dk_at dksX3_isThere_0 7 rfl rfl)
theorem dX3_isThere_8 : decode cX3_isThere 8 = .ok (.ishr, 1) := dk_122 (dk_at dksX3_isThere_0 8 rfl rfl)
theorem dX3_isThere_9 : decode cX3_isThere 9 = .ok (.iconst 1, 1) := dk_4 (dk_at dksX3_isThere_0 9 rfl rfl)
theorem dX3_isThere_10 : decode cX3_isThere 10 = .ok (.iand, 1) := dk_126 (dk_at dksX3_isThere_0 10 rfl rfl)
theorem dX3_isThere_11 : decode cX3_isThere 11 = .ok (.iconst 1, 1) := dk_4 (dk_at dksX3_isThere_0 11 rfl rfl)
theorem dX3_isThere_12 : decode cX3_isThere 12 = .ok (.if_icmp .ne 7, 3) := dk_160 0 7 (dk_at dksX3_isThere_0 12 rfl rfl)
theorem dX3_isThere_15 : decode cX3_isThere 15 = .ok (.iconst 1, 1) := dk_4 (dk_at dksX3_isThere_0 15 rfl rfl)
theorem dX3_isThere_16 : decode cX3_isThere 16 = .ok (.goto 4, 3) := dk_167 0 4 (dk_at dksX3_isThere_0 16 rfl rfl)
theorem dX3_isThere_19 : decode cX3_isThere 19 = .ok (.iconst 0, 1) := dk_3 (dk_at dksX3_isThere_0 19 rfl rfl)
theorem dX3_isThere_20 : decode cX3_isThere 20 = .ok (.ireturn, 1) := dk_172 (dk_at dksX3_isThere_0 20 rfl rfl)
abbrev cX3_draw : ByteArray := prog_17_method_13_code
def yX3_draw : MethodName := ⟨RX3, "draw", "(I)I"⟩
def dkwX3_draw_1 : List UInt8 := [16, 8, 124, 27, 112, 172]
abbrev dktX3_draw_1 : List UInt8 := dkwX3_draw_1 ++ []
def dkwX3_draw_0 : List UInt8 := [42, 180, 0, 7, 8, 18, 66, 42, 180, 0, 7, 8, 46, 104, 18, 67, 96, 79, 42, 180, 0, 7, 8, 46]
abbrev dktX3_draw_0 : List UInt8 := dkwX3_draw_0 ++ dktX3_draw_1
theorem dksX3_draw_0 : cX3_draw.data.toList.drop 0 = dktX3_draw_0 := by decide +kernel
theorem dksX3_draw_1 : cX3_draw.data.toList.drop 24 = dktX3_draw_1 := dk_seg dksX3_draw_0 24 rfl rfl
theorem dX3_draw_0 : decode cX3_draw 0 = .ok (.aload_n 0, 1) := dk_42 (dk_at dksX3_draw_0 0 rfl rfl)
theorem dX3_draw_1 : decode cX3_draw 1 = .ok (.getfield 7, 3) := dk_180 0 7 (dk_at dksX3_draw_0 1 rfl rfl)
theorem dX3_draw_4 : decode cX3_draw 4 = .ok (.iconst 5, 1) := dk_8 (dk_at dksX3_draw_0 4 rfl rfl)
theorem dX3_draw_5 : decode cX3_draw 5 = .ok (.ldc 66, 2) := dk_18 66 (dk_at dksX3_draw_0 5 rfl rfl)
theorem dX3_draw_7 : decode cX3_draw 7 = .ok (.aload_n 0, 1) := dk_42 (dk_at dksX3_draw_0 7 rfl rfl)
theorem dX3_draw_8 : decode cX3_draw 8 = .ok (.getfield 7, 3) := dk_180 0 7 (dk_at dksX3_draw_0 8 rfl rfl)
theorem dX3_draw_11 : decode cX3_draw 11 = .ok (.iconst 5, 1) := dk_8 (dk_at dksX3_draw_0 11 rfl rfl)
theorem dX3_draw_12 : decode cX3_draw 12 = .ok (.iaload, 1) := dk_46 (dk_at dksX3_draw_0 12 rfl rfl)
theorem dX3_draw_13 : decode cX3_draw 13 = .ok (.imul, 1) := dk_104 (dk_at dksX3_draw_0 13 rfl rfl)
theorem dX3_draw_14 : decode cX3_draw 14 = .ok (.ldc 67, 2) := dk_18 67 (dk_at dksX3_draw_0 14 rfl rfl)
theorem dX3_draw_16 : decode cX3_draw 16 = .ok (.iadd, 1) := dk_96 (dk_at dksX3_draw_0 16 rfl rfl)
theorem dX3_draw_17 : decode cX3_draw 17 = .ok (.iastore, 1) := dk_79 (dk_at dksX3_draw_0 17 rfl rfl)
theorem dX3_draw_18 : decode cX3_draw 18 = .ok (.aload_n 0, 1) := dk_42 (dk_at dksX3_draw_0 18 rfl rfl)
theorem dX3_draw_19 : decode cX3_draw 19 = .ok (.getfield 7, 3) := dk_180 0 7 (dk_at dksX3_draw_0 19 rfl rfl)
theorem dX3_draw_22 : decode cX3_draw 22 = .ok (.iconst 5, 1) := dk_8 (dk_at dksX3_draw_0 22 rfl rfl)
theorem dX3_draw_23 : decode cX3_draw 23 = .ok (.iaload, 1) := dk_46 (dk_at dksX3_draw_0 23 rfl rfl)
theorem dX3_draw_24 : decode cX3_draw 24 = .ok (.bipush 8, 2) := dk_16 8 (dk_at dksX3_draw_1 0 rfl rfl)
theorem dX3_draw_26 : decode cX3_draw 26 = .ok (.iushr, 1) := dk_124 (dk_at dksX3_draw_1 2 rfl rfl)
theorem dX3_draw_27 : decode cX3_draw 27 = .ok (.iload_n 1, 1) := dk_27 (dk_at dksX3_draw_1 3 rfl rfl)
theorem dX3_draw_28 : decode cX3_draw 28 = .ok (.irem, 1) := dk_112 (dk_at dksX3_draw_1 4 rfl rfl)
theorem dX3_draw_29 : decode cX3_draw 29 = .ok (.ireturn, 1) := dk_172 (dk_at dksX3_draw_1 5 rfl rfl)
abbrev cX3_aRound : ByteArray := prog_17_method_72_code
def yX3_aRound : MethodName := ⟨RX3, "aRound", "(I)Z"⟩
def dkwX3_aRound_4 : List UInt8 := [4, 61, 132, 3, 1, 167, 255, 161, 28, 172]
abbrev dktX3_aRound_4 : List UInt8 := dkwX3_aRound_4 ++ []
def dkwX3_aRound_3 : List UInt8 := [184, 1, 63, 182, 1, 66, 161, 0, 6, 167, 0, 17, 42, 89, 180, 1, 60, 4, 29, 120, 128, 181, 1, 60]
abbrev dktX3_aRound_3 : List UInt8 := dkwX3_aRound_3 ++ dktX3_aRound_4
def dkwX3_aRound_2 : List UInt8 := [180, 0, 44, 29, 46, 42, 29, 27, 42, 180, 0, 7, 17, 0, 185, 29, 96, 46, 42, 180, 1, 60, 126]
abbrev dktX3_aRound_2 : List UInt8 := dkwX3_aRound_2 ++ dktX3_aRound_3
def dkwX3_aRound_1 : List UInt8 := [29, 182, 1, 57, 154, 0, 68, 42, 180, 1, 60, 29, 122, 4, 126, 4, 160, 0, 6, 167, 0, 53, 42]
abbrev dktX3_aRound_1 : List UInt8 := dkwX3_aRound_1 ++ dktX3_aRound_2
def dkwX3_aRound_0 : List UInt8 := [3, 61, 3, 62, 29, 42, 180, 0, 7, 16, 37, 46, 162, 0, 90, 42, 29, 182, 1, 54, 153, 0, 76, 42]
abbrev dktX3_aRound_0 : List UInt8 := dkwX3_aRound_0 ++ dktX3_aRound_1
theorem dksX3_aRound_0 : cX3_aRound.data.toList.drop 0 = dktX3_aRound_0 := by decide +kernel
theorem dksX3_aRound_1 : cX3_aRound.data.toList.drop 24 = dktX3_aRound_1 := dk_seg dksX3_aRound_0 24 rfl rfl
theorem dksX3_aRound_2 : cX3_aRound.data.toList.drop 47 = dktX3_aRound_2 := dk_seg dksX3_aRound_1 23 rfl rfl
theorem dksX3_aRound_3 : cX3_aRound.data.toList.drop 70 = dktX3_aRound_3 := dk_seg dksX3_aRound_2 23 rfl rfl
theorem dksX3_aRound_4 : cX3_aRound.data.toList.drop 94 = dktX3_aRound_4 := dk_seg dksX3_aRound_3 24 rfl rfl
theorem dX3_aRound_0 : decode cX3_aRound 0 = .ok (.iconst 0, 1) := dk_3 (dk_at dksX3_aRound_0 0 rfl rfl)
theorem dX3_aRound_1 : decode cX3_aRound 1 = .ok (.istore_n 2, 1) := dk_61 (dk_at dksX3_aRound_0 1 rfl rfl)
theorem dX3_aRound_2 : decode cX3_aRound 2 = .ok (.iconst 0, 1) := dk_3 (dk_at dksX3_aRound_0 2 rfl rfl)
theorem dX3_aRound_3 : decode cX3_aRound 3 = .ok (.istore_n 3, 1) := dk_62 (dk_at dksX3_aRound_0 3 rfl rfl)
theorem dX3_aRound_4 : decode cX3_aRound 4 = .ok (.iload_n 3, 1) := dk_29 (dk_at dksX3_aRound_0 4 rfl rfl)
theorem dX3_aRound_5 : decode cX3_aRound 5 = .ok (.aload_n 0, 1) := dk_42 (dk_at dksX3_aRound_0 5 rfl rfl)
theorem dX3_aRound_6 : decode cX3_aRound 6 = .ok (.getfield 7, 3) := dk_180 0 7 (dk_at dksX3_aRound_0 6 rfl rfl)
theorem dX3_aRound_9 : decode cX3_aRound 9 = .ok (.bipush 37, 2) := dk_16 37 (dk_at dksX3_aRound_0 9 rfl rfl)
theorem dX3_aRound_11 : decode cX3_aRound 11 = .ok (.iaload, 1) := dk_46 (dk_at dksX3_aRound_0 11 rfl rfl)
theorem dX3_aRound_12 : decode cX3_aRound 12 = .ok (.if_icmp .ge 90, 3) := dk_162 0 90 (dk_at dksX3_aRound_0 12 rfl rfl)
theorem dX3_aRound_15 : decode cX3_aRound 15 = .ok (.aload_n 0, 1) := dk_42 (dk_at dksX3_aRound_0 15 rfl rfl)
theorem dX3_aRound_16 : decode cX3_aRound 16 = .ok (.iload_n 3, 1) := dk_29 (dk_at dksX3_aRound_0 16 rfl rfl)
theorem dX3_aRound_17 : decode cX3_aRound 17 = .ok (.invokevirtual 310, 3) := dk_182 1 54 (dk_at dksX3_aRound_0 17 rfl rfl)
theorem dX3_aRound_20 : decode cX3_aRound 20 = .ok (.ifCond .eq 76, 3) := dk_153 0 76 (dk_at dksX3_aRound_0 20 rfl rfl)
theorem dX3_aRound_23 : decode cX3_aRound 23 = .ok (.aload_n 0, 1) := dk_42 (dk_at dksX3_aRound_0 23 rfl rfl)
theorem dX3_aRound_24 : decode cX3_aRound 24 = .ok (.iload_n 3, 1) := dk_29 (dk_at dksX3_aRound_1 0 rfl rfl)
theorem dX3_aRound_25 : decode cX3_aRound 25 = .ok (.invokevirtual 313, 3) := dk_182 1 57 (dk_at dksX3_aRound_1 1 rfl rfl)
theorem dX3_aRound_28 : decode cX3_aRound 28 = .ok (.ifCond .ne 68, 3) := dk_154 0 68 (dk_at dksX3_aRound_1 4 rfl rfl)
theorem dX3_aRound_31 : decode cX3_aRound 31 = .ok (.aload_n 0, 1) := dk_42 (dk_at dksX3_aRound_1 7 rfl rfl)
theorem dX3_aRound_32 : decode cX3_aRound 32 = .ok (.getfield 316, 3) := dk_180 1 60 (dk_at dksX3_aRound_1 8 rfl rfl)
theorem dX3_aRound_35 : decode cX3_aRound 35 = .ok (.iload_n 3, 1) := dk_29 (dk_at dksX3_aRound_1 11 rfl rfl)
theorem dX3_aRound_36 : decode cX3_aRound 36 = .ok (.ishr, 1) := dk_122 (dk_at dksX3_aRound_1 12 rfl rfl)
theorem dX3_aRound_37 : decode cX3_aRound 37 = .ok (.iconst 1, 1) := dk_4 (dk_at dksX3_aRound_1 13 rfl rfl)
theorem dX3_aRound_38 : decode cX3_aRound 38 = .ok (.iand, 1) := dk_126 (dk_at dksX3_aRound_1 14 rfl rfl)
theorem dX3_aRound_39 : decode cX3_aRound 39 = .ok (.iconst 1, 1) := dk_4 (dk_at dksX3_aRound_1 15 rfl rfl)
theorem dX3_aRound_40 : decode cX3_aRound 40 = .ok (.if_icmp .ne 6, 3) := dk_160 0 6 (dk_at dksX3_aRound_1 16 rfl rfl)
theorem dX3_aRound_43 : decode cX3_aRound 43 = .ok (.goto 53, 3) := dk_167 0 53 (dk_at dksX3_aRound_1 19 rfl rfl)
theorem dX3_aRound_46 : decode cX3_aRound 46 = .ok (.aload_n 0, 1) := dk_42 (dk_at dksX3_aRound_1 22 rfl rfl)
theorem dX3_aRound_47 : decode cX3_aRound 47 = .ok (.getfield 44, 3) := dk_180 0 44 (dk_at dksX3_aRound_2 0 rfl rfl)
theorem dX3_aRound_50 : decode cX3_aRound 50 = .ok (.iload_n 3, 1) := dk_29 (dk_at dksX3_aRound_2 3 rfl rfl)
theorem dX3_aRound_51 : decode cX3_aRound 51 = .ok (.iaload, 1) := dk_46 (dk_at dksX3_aRound_2 4 rfl rfl)
theorem dX3_aRound_52 : decode cX3_aRound 52 = .ok (.aload_n 0, 1) := dk_42 (dk_at dksX3_aRound_2 5 rfl rfl)
theorem dX3_aRound_53 : decode cX3_aRound 53 = .ok (.iload_n 3, 1) := dk_29 (dk_at dksX3_aRound_2 6 rfl rfl)
theorem dX3_aRound_54 : decode cX3_aRound 54 = .ok (.iload_n 1, 1) := dk_27 (dk_at dksX3_aRound_2 7 rfl rfl)
theorem dX3_aRound_55 : decode cX3_aRound 55 = .ok (.aload_n 0, 1) := dk_42 (dk_at dksX3_aRound_2 8 rfl rfl)
theorem dX3_aRound_56 : decode cX3_aRound 56 = .ok (.getfield 7, 3) := dk_180 0 7 (dk_at dksX3_aRound_2 9 rfl rfl)
theorem dX3_aRound_59 : decode cX3_aRound 59 = .ok (.sipush 185, 3) := dk_17 0 185 (dk_at dksX3_aRound_2 12 rfl rfl)
theorem dX3_aRound_62 : decode cX3_aRound 62 = .ok (.iload_n 3, 1) := dk_29 (dk_at dksX3_aRound_2 15 rfl rfl)
theorem dX3_aRound_63 : decode cX3_aRound 63 = .ok (.iadd, 1) := dk_96 (dk_at dksX3_aRound_2 16 rfl rfl)
theorem dX3_aRound_64 : decode cX3_aRound 64 = .ok (.iaload, 1) := dk_46 (dk_at dksX3_aRound_2 17 rfl rfl)
theorem dX3_aRound_65 : decode cX3_aRound 65 = .ok (.aload_n 0, 1) := dk_42 (dk_at dksX3_aRound_2 18 rfl rfl)
theorem dX3_aRound_66 : decode cX3_aRound 66 = .ok (.getfield 316, 3) := dk_180 1 60 (dk_at dksX3_aRound_2 19 rfl rfl)
theorem dX3_aRound_69 : decode cX3_aRound 69 = .ok (.iand, 1) := dk_126 (dk_at dksX3_aRound_2 22 rfl rfl)
theorem dX3_aRound_70 : decode cX3_aRound 70 = .ok (.invokestatic 319, 3) := dk_184 1 63 (dk_at dksX3_aRound_3 0 rfl rfl)
theorem dX3_aRound_73 : decode cX3_aRound 73 = .ok (.invokevirtual 322, 3) := dk_182 1 66 (dk_at dksX3_aRound_3 3 rfl rfl)
theorem dX3_aRound_76 : decode cX3_aRound 76 = .ok (.if_icmp .lt 6, 3) := dk_161 0 6 (dk_at dksX3_aRound_3 6 rfl rfl)
theorem dX3_aRound_79 : decode cX3_aRound 79 = .ok (.goto 17, 3) := dk_167 0 17 (dk_at dksX3_aRound_3 9 rfl rfl)
theorem dX3_aRound_82 : decode cX3_aRound 82 = .ok (.aload_n 0, 1) := dk_42 (dk_at dksX3_aRound_3 12 rfl rfl)
theorem dX3_aRound_83 : decode cX3_aRound 83 = .ok (.dup, 1) := dk_89 (dk_at dksX3_aRound_3 13 rfl rfl)
theorem dX3_aRound_84 : decode cX3_aRound 84 = .ok (.getfield 316, 3) := dk_180 1 60 (dk_at dksX3_aRound_3 14 rfl rfl)
theorem dX3_aRound_87 : decode cX3_aRound 87 = .ok (.iconst 1, 1) := dk_4 (dk_at dksX3_aRound_3 17 rfl rfl)
theorem dX3_aRound_88 : decode cX3_aRound 88 = .ok (.iload_n 3, 1) := dk_29 (dk_at dksX3_aRound_3 18 rfl rfl)
theorem dX3_aRound_89 : decode cX3_aRound 89 = .ok (.ishl, 1) := dk_120 (dk_at dksX3_aRound_3 19 rfl rfl)
theorem dX3_aRound_90 : decode cX3_aRound 90 = .ok (.ior, 1) := dk_128 (dk_at dksX3_aRound_3 20 rfl rfl)
theorem dX3_aRound_91 : decode cX3_aRound 91 = .ok (.putfield 316, 3) := dk_181 1 60 (dk_at dksX3_aRound_3 21 rfl rfl)
theorem dX3_aRound_94 : decode cX3_aRound 94 = .ok (.iconst 1, 1) := dk_4 (dk_at dksX3_aRound_4 0 rfl rfl)
theorem dX3_aRound_95 : decode cX3_aRound 95 = .ok (.istore_n 2, 1) := dk_61 (dk_at dksX3_aRound_4 1 rfl rfl)
theorem dX3_aRound_96 : decode cX3_aRound 96 = .ok (.iinc 3 1, 3) := dk_132 3 1 (dk_at dksX3_aRound_4 2 rfl rfl)
theorem dX3_aRound_99 : decode cX3_aRound 99 = .ok (.goto (-95), 3) := dk_167 255 161 (dk_at dksX3_aRound_4 5 rfl rfl)
theorem dX3_aRound_102 : decode cX3_aRound 102 = .ok (.iload_n 2, 1) := dk_28 (dk_at dksX3_aRound_4 8 rfl rfl)
theorem dX3_aRound_103 : decode cX3_aRound 103 = .ok (.ireturn, 1) := dk_172 (dk_at dksX3_aRound_4 9 rfl rfl)
abbrev cX3_isGloved : ByteArray := prog_17_method_8_code
def yX3_isGloved : MethodName := ⟨RX3, "isGloved", "(I)Z"⟩
def dkwX3_isGloved_0 : List UInt8 := [42, 180, 0, 7, 16, 8, 46, 27, 122, 4, 126, 4, 160, 0, 7, 4, 167, 0, 4, 3, 172]
abbrev dktX3_isGloved_0 : List UInt8 := dkwX3_isGloved_0 ++ []
theorem dksX3_isGloved_0 : cX3_isGloved.data.toList.drop 0 = dktX3_isGloved_0 := by decide +kernel
theorem dX3_isGloved_0 : decode cX3_isGloved 0 = .ok (.aload_n 0, 1) := dk_42 (dk_at dksX3_isGloved_0 0 rfl rfl)
theorem dX3_isGloved_1 : decode cX3_isGloved 1 = .ok (.getfield 7, 3) := dk_180 0 7 (dk_at dksX3_isGloved_0 1 rfl rfl)
theorem dX3_isGloved_4 : decode cX3_isGloved 4 = .ok (.bipush 8, 2) := dk_16 8 (dk_at dksX3_isGloved_0 4 rfl rfl)
theorem dX3_isGloved_6 : decode cX3_isGloved 6 = .ok (.iaload, 1) := dk_46 (dk_at dksX3_isGloved_0 6 rfl rfl)
theorem dX3_isGloved_7 : decode cX3_isGloved 7 = .ok (.iload_n 1, 1) := dk_27 (dk_at dksX3_isGloved_0 7 rfl rfl)
theorem dX3_isGloved_8 : decode cX3_isGloved 8 = .ok (.ishr, 1) := dk_122 (dk_at dksX3_isGloved_0 8 rfl rfl)
theorem dX3_isGloved_9 : decode cX3_isGloved 9 = .ok (.iconst 1, 1) := dk_4 (dk_at dksX3_isGloved_0 9 rfl rfl)
theorem dX3_isGloved_10 : decode cX3_isGloved 10 = .ok (.iand, 1) := dk_126 (dk_at dksX3_isGloved_0 10 rfl rfl)
theorem dX3_isGloved_11 : decode cX3_isGloved 11 = .ok (.iconst 1, 1) := dk_4 (dk_at dksX3_isGloved_0 11 rfl rfl)
theorem dX3_isGloved_12 : decode cX3_isGloved 12 = .ok (.if_icmp .ne 7, 3) := dk_160 0 7 (dk_at dksX3_isGloved_0 12 rfl rfl)
theorem dX3_isGloved_15 : decode cX3_isGloved 15 = .ok (.iconst 1, 1) := dk_4 (dk_at dksX3_isGloved_0 15 rfl rfl)
theorem dX3_isGloved_16 : decode cX3_isGloved 16 = .ok (.goto 4, 3) := dk_167 0 4 (dk_at dksX3_isGloved_0 16 rfl rfl)
theorem dX3_isGloved_19 : decode cX3_isGloved 19 = .ok (.iconst 0, 1) := dk_3 (dk_at dksX3_isGloved_0 19 rfl rfl)
theorem dX3_isGloved_20 : decode cX3_isGloved 20 = .ok (.ireturn, 1) := dk_172 (dk_at dksX3_isGloved_0 20 rfl rfl)
abbrev cX3_count : ByteArray := prog_17_method_10_code
def yX3_count : MethodName := ⟨RX3, "count", "(I)I"⟩
def dkwX3_count_1 : List UInt8 := [27, 172]
abbrev dktX3_count_1 : List UInt8 := dkwX3_count_1 ++ []
def dkwX3_count_0 : List UInt8 := [3, 60, 3, 61, 28, 16, 12, 162, 0, 17, 27, 26, 28, 122, 4, 126, 96, 60, 132, 2, 1, 167, 255, 239]
abbrev dktX3_count_0 : List UInt8 := dkwX3_count_0 ++ dktX3_count_1
theorem dksX3_count_0 : cX3_count.data.toList.drop 0 = dktX3_count_0 := by decide +kernel
theorem dksX3_count_1 : cX3_count.data.toList.drop 24 = dktX3_count_1 := dk_seg dksX3_count_0 24 rfl rfl
theorem dX3_count_0 : decode cX3_count 0 = .ok (.iconst 0, 1) := dk_3 (dk_at dksX3_count_0 0 rfl rfl)
theorem dX3_count_1 : decode cX3_count 1 = .ok (.istore_n 1, 1) := dk_60 (dk_at dksX3_count_0 1 rfl rfl)
theorem dX3_count_2 : decode cX3_count 2 = .ok (.iconst 0, 1) := dk_3 (dk_at dksX3_count_0 2 rfl rfl)
theorem dX3_count_3 : decode cX3_count 3 = .ok (.istore_n 2, 1) := dk_61 (dk_at dksX3_count_0 3 rfl rfl)
theorem dX3_count_4 : decode cX3_count 4 = .ok (.iload_n 2, 1) := dk_28 (dk_at dksX3_count_0 4 rfl rfl)
theorem dX3_count_5 : decode cX3_count 5 = .ok (.bipush 12, 2) := dk_16 12 (dk_at dksX3_count_0 5 rfl rfl)
theorem dX3_count_7 : decode cX3_count 7 = .ok (.if_icmp .ge 17, 3) := dk_162 0 17 (dk_at dksX3_count_0 7 rfl rfl)
theorem dX3_count_10 : decode cX3_count 10 = .ok (.iload_n 1, 1) := dk_27 (dk_at dksX3_count_0 10 rfl rfl)
theorem dX3_count_11 : decode cX3_count 11 = .ok (.iload_n 0, 1) := dk_26 (dk_at dksX3_count_0 11 rfl rfl)
theorem dX3_count_12 : decode cX3_count 12 = .ok (.iload_n 2, 1) := dk_28 (dk_at dksX3_count_0 12 rfl rfl)
theorem dX3_count_13 : decode cX3_count 13 = .ok (.ishr, 1) := dk_122 (dk_at dksX3_count_0 13 rfl rfl)
theorem dX3_count_14 : decode cX3_count 14 = .ok (.iconst 1, 1) := dk_4 (dk_at dksX3_count_0 14 rfl rfl)
theorem dX3_count_15 : decode cX3_count 15 = .ok (.iand, 1) := dk_126 (dk_at dksX3_count_0 15 rfl rfl)
theorem dX3_count_16 : decode cX3_count 16 = .ok (.iadd, 1) := dk_96 (dk_at dksX3_count_0 16 rfl rfl)
theorem dX3_count_17 : decode cX3_count 17 = .ok (.istore_n 1, 1) := dk_60 (dk_at dksX3_count_0 17 rfl rfl)
theorem dX3_count_18 : decode cX3_count 18 = .ok (.iinc 2 1, 3) := dk_132 2 1 (dk_at dksX3_count_0 18 rfl rfl)
theorem dX3_count_21 : decode cX3_count 21 = .ok (.goto (-17), 3) := dk_167 255 239 (dk_at dksX3_count_0 21 rfl rfl)
theorem dX3_count_24 : decode cX3_count 24 = .ok (.iload_n 1, 1) := dk_27 (dk_at dksX3_count_1 0 rfl rfl)
theorem dX3_count_25 : decode cX3_count 25 = .ok (.ireturn, 1) := dk_172 (dk_at dksX3_count_1 1 rfl rfl)
abbrev cX3_clapOf : ByteArray := prog_17_method_62_code
def yX3_clapOf : MethodName := ⟨RX3, "clapOf", "(III)I"⟩
def dkwX3_clapOf_4 : List UInt8 := [17, 3, 232, 182, 1, 41, 172]
abbrev dktX3_clapOf_4 : List UInt8 := dkwX3_clapOf_4 ++ []
def dkwX3_clapOf_3 : List UInt8 := [42, 180, 0, 37, 16, 9, 29, 79, 42, 16, 21, 16, 100, 42, 180, 0, 7, 16, 57, 27, 96, 46, 104]
abbrev dktX3_clapOf_3 : List UInt8 := dkwX3_clapOf_3 ++ dktX3_clapOf_4
def dkwX3_clapOf_2 : List UInt8 := [180, 0, 7, 16, 69, 27, 96, 46, 79, 42, 180, 0, 37, 8, 42, 180, 0, 7, 16, 9, 27, 96, 46, 79]
abbrev dktX3_clapOf_2 : List UInt8 := dkwX3_clapOf_2 ++ dktX3_clapOf_3
def dkwX3_clapOf_1 : List UInt8 := [96, 46, 79, 42, 180, 0, 37, 6, 42, 180, 0, 7, 16, 57, 27, 96, 46, 79, 42, 180, 0, 37, 7, 42]
abbrev dktX3_clapOf_1 : List UInt8 := dkwX3_clapOf_1 ++ dktX3_clapOf_2
def dkwX3_clapOf_0 : List UInt8 := [42, 28, 182, 1, 37, 42, 180, 0, 37, 4, 27, 79, 42, 180, 0, 37, 5, 42, 180, 0, 7, 16, 45, 27]
abbrev dktX3_clapOf_0 : List UInt8 := dkwX3_clapOf_0 ++ dktX3_clapOf_1
theorem dksX3_clapOf_0 : cX3_clapOf.data.toList.drop 0 = dktX3_clapOf_0 := by decide +kernel
theorem dksX3_clapOf_1 : cX3_clapOf.data.toList.drop 24 = dktX3_clapOf_1 := dk_seg dksX3_clapOf_0 24 rfl rfl
theorem dksX3_clapOf_2 : cX3_clapOf.data.toList.drop 48 = dktX3_clapOf_2 := dk_seg dksX3_clapOf_1 24 rfl rfl
theorem dksX3_clapOf_3 : cX3_clapOf.data.toList.drop 72 = dktX3_clapOf_3 := dk_seg dksX3_clapOf_2 24 rfl rfl
theorem dksX3_clapOf_4 : cX3_clapOf.data.toList.drop 95 = dktX3_clapOf_4 := dk_seg dksX3_clapOf_3 23 rfl rfl
theorem dX3_clapOf_0 : decode cX3_clapOf 0 = .ok (.aload_n 0, 1) := dk_42 (dk_at dksX3_clapOf_0 0 rfl rfl)
theorem dX3_clapOf_1 : decode cX3_clapOf 1 = .ok (.iload_n 2, 1) := dk_28 (dk_at dksX3_clapOf_0 1 rfl rfl)
theorem dX3_clapOf_2 : decode cX3_clapOf 2 = .ok (.invokevirtual 293, 3) := dk_182 1 37 (dk_at dksX3_clapOf_0 2 rfl rfl)
theorem dX3_clapOf_5 : decode cX3_clapOf 5 = .ok (.aload_n 0, 1) := dk_42 (dk_at dksX3_clapOf_0 5 rfl rfl)
theorem dX3_clapOf_6 : decode cX3_clapOf 6 = .ok (.getfield 37, 3) := dk_180 0 37 (dk_at dksX3_clapOf_0 6 rfl rfl)
theorem dX3_clapOf_9 : decode cX3_clapOf 9 = .ok (.iconst 1, 1) := dk_4 (dk_at dksX3_clapOf_0 9 rfl rfl)
theorem dX3_clapOf_10 : decode cX3_clapOf 10 = .ok (.iload_n 1, 1) := dk_27 (dk_at dksX3_clapOf_0 10 rfl rfl)
theorem dX3_clapOf_11 : decode cX3_clapOf 11 = .ok (.iastore, 1) := dk_79 (dk_at dksX3_clapOf_0 11 rfl rfl)
theorem dX3_clapOf_12 : decode cX3_clapOf 12 = .ok (.aload_n 0, 1) := dk_42 (dk_at dksX3_clapOf_0 12 rfl rfl)
theorem dX3_clapOf_13 : decode cX3_clapOf 13 = .ok (.getfield 37, 3) := dk_180 0 37 (dk_at dksX3_clapOf_0 13 rfl rfl)
theorem dX3_clapOf_16 : decode cX3_clapOf 16 = .ok (.iconst 2, 1) := dk_5 (dk_at dksX3_clapOf_0 16 rfl rfl)
theorem dX3_clapOf_17 : decode cX3_clapOf 17 = .ok (.aload_n 0, 1) := dk_42 (dk_at dksX3_clapOf_0 17 rfl rfl)
theorem dX3_clapOf_18 : decode cX3_clapOf 18 = .ok (.getfield 7, 3) := dk_180 0 7 (dk_at dksX3_clapOf_0 18 rfl rfl)
theorem dX3_clapOf_21 : decode cX3_clapOf 21 = .ok (.bipush 45, 2) := dk_16 45 (dk_at dksX3_clapOf_0 21 rfl rfl)
theorem dX3_clapOf_23 : decode cX3_clapOf 23 = .ok (.iload_n 1, 1) := dk_27 (dk_at dksX3_clapOf_0 23 rfl rfl)
theorem dX3_clapOf_24 : decode cX3_clapOf 24 = .ok (.iadd, 1) := dk_96 (dk_at dksX3_clapOf_1 0 rfl rfl)
theorem dX3_clapOf_25 : decode cX3_clapOf 25 = .ok (.iaload, 1) := dk_46 (dk_at dksX3_clapOf_1 1 rfl rfl)
theorem dX3_clapOf_26 : decode cX3_clapOf 26 = .ok (.iastore, 1) := dk_79 (dk_at dksX3_clapOf_1 2 rfl rfl)
theorem dX3_clapOf_27 : decode cX3_clapOf 27 = .ok (.aload_n 0, 1) := dk_42 (dk_at dksX3_clapOf_1 3 rfl rfl)
theorem dX3_clapOf_28 : decode cX3_clapOf 28 = .ok (.getfield 37, 3) := dk_180 0 37 (dk_at dksX3_clapOf_1 4 rfl rfl)
theorem dX3_clapOf_31 : decode cX3_clapOf 31 = .ok (.iconst 3, 1) := dk_6 (dk_at dksX3_clapOf_1 7 rfl rfl)
theorem dX3_clapOf_32 : decode cX3_clapOf 32 = .ok (.aload_n 0, 1) := dk_42 (dk_at dksX3_clapOf_1 8 rfl rfl)
theorem dX3_clapOf_33 : decode cX3_clapOf 33 = .ok (.getfield 7, 3) := dk_180 0 7 (dk_at dksX3_clapOf_1 9 rfl rfl)
theorem dX3_clapOf_36 : decode cX3_clapOf 36 = .ok (.bipush 57, 2) := dk_16 57 (dk_at dksX3_clapOf_1 12 rfl rfl)
theorem dX3_clapOf_38 : decode cX3_clapOf 38 = .ok (.iload_n 1, 1) := dk_27 (dk_at dksX3_clapOf_1 14 rfl rfl)
theorem dX3_clapOf_39 : decode cX3_clapOf 39 = .ok (.iadd, 1) := dk_96 (dk_at dksX3_clapOf_1 15 rfl rfl)
theorem dX3_clapOf_40 : decode cX3_clapOf 40 = .ok (.iaload, 1) := dk_46 (dk_at dksX3_clapOf_1 16 rfl rfl)
theorem dX3_clapOf_41 : decode cX3_clapOf 41 = .ok (.iastore, 1) := dk_79 (dk_at dksX3_clapOf_1 17 rfl rfl)
theorem dX3_clapOf_42 : decode cX3_clapOf 42 = .ok (.aload_n 0, 1) := dk_42 (dk_at dksX3_clapOf_1 18 rfl rfl)
theorem dX3_clapOf_43 : decode cX3_clapOf 43 = .ok (.getfield 37, 3) := dk_180 0 37 (dk_at dksX3_clapOf_1 19 rfl rfl)
theorem dX3_clapOf_46 : decode cX3_clapOf 46 = .ok (.iconst 4, 1) := dk_7 (dk_at dksX3_clapOf_1 22 rfl rfl)
theorem dX3_clapOf_47 : decode cX3_clapOf 47 = .ok (.aload_n 0, 1) := dk_42 (dk_at dksX3_clapOf_1 23 rfl rfl)
theorem dX3_clapOf_48 : decode cX3_clapOf 48 = .ok (.getfield 7, 3) := dk_180 0 7 (dk_at dksX3_clapOf_2 0 rfl rfl)
theorem dX3_clapOf_51 : decode cX3_clapOf 51 = .ok (.bipush 69, 2) := dk_16 69 (dk_at dksX3_clapOf_2 3 rfl rfl)
theorem dX3_clapOf_53 : decode cX3_clapOf 53 = .ok (.iload_n 1, 1) := dk_27 (dk_at dksX3_clapOf_2 5 rfl rfl)
theorem dX3_clapOf_54 : decode cX3_clapOf 54 = .ok (.iadd, 1) := dk_96 (dk_at dksX3_clapOf_2 6 rfl rfl)
theorem dX3_clapOf_55 : decode cX3_clapOf 55 = .ok (.iaload, 1) := dk_46 (dk_at dksX3_clapOf_2 7 rfl rfl)
theorem dX3_clapOf_56 : decode cX3_clapOf 56 = .ok (.iastore, 1) := dk_79 (dk_at dksX3_clapOf_2 8 rfl rfl)
theorem dX3_clapOf_57 : decode cX3_clapOf 57 = .ok (.aload_n 0, 1) := dk_42 (dk_at dksX3_clapOf_2 9 rfl rfl)
theorem dX3_clapOf_58 : decode cX3_clapOf 58 = .ok (.getfield 37, 3) := dk_180 0 37 (dk_at dksX3_clapOf_2 10 rfl rfl)
theorem dX3_clapOf_61 : decode cX3_clapOf 61 = .ok (.iconst 5, 1) := dk_8 (dk_at dksX3_clapOf_2 13 rfl rfl)
theorem dX3_clapOf_62 : decode cX3_clapOf 62 = .ok (.aload_n 0, 1) := dk_42 (dk_at dksX3_clapOf_2 14 rfl rfl)
theorem dX3_clapOf_63 : decode cX3_clapOf 63 = .ok (.getfield 7, 3) := dk_180 0 7 (dk_at dksX3_clapOf_2 15 rfl rfl)
theorem dX3_clapOf_66 : decode cX3_clapOf 66 = .ok (.bipush 9, 2) := dk_16 9 (dk_at dksX3_clapOf_2 18 rfl rfl)
theorem dX3_clapOf_68 : decode cX3_clapOf 68 = .ok (.iload_n 1, 1) := dk_27 (dk_at dksX3_clapOf_2 20 rfl rfl)
theorem dX3_clapOf_69 : decode cX3_clapOf 69 = .ok (.iadd, 1) := dk_96 (dk_at dksX3_clapOf_2 21 rfl rfl)
theorem dX3_clapOf_70 : decode cX3_clapOf 70 = .ok (.iaload, 1) := dk_46 (dk_at dksX3_clapOf_2 22 rfl rfl)
theorem dX3_clapOf_71 : decode cX3_clapOf 71 = .ok (.iastore, 1) := dk_79 (dk_at dksX3_clapOf_2 23 rfl rfl)
theorem dX3_clapOf_72 : decode cX3_clapOf 72 = .ok (.aload_n 0, 1) := dk_42 (dk_at dksX3_clapOf_3 0 rfl rfl)
theorem dX3_clapOf_73 : decode cX3_clapOf 73 = .ok (.getfield 37, 3) := dk_180 0 37 (dk_at dksX3_clapOf_3 1 rfl rfl)
theorem dX3_clapOf_76 : decode cX3_clapOf 76 = .ok (.bipush 9, 2) := dk_16 9 (dk_at dksX3_clapOf_3 4 rfl rfl)
theorem dX3_clapOf_78 : decode cX3_clapOf 78 = .ok (.iload_n 3, 1) := dk_29 (dk_at dksX3_clapOf_3 6 rfl rfl)
theorem dX3_clapOf_79 : decode cX3_clapOf 79 = .ok (.iastore, 1) := dk_79 (dk_at dksX3_clapOf_3 7 rfl rfl)
theorem dX3_clapOf_80 : decode cX3_clapOf 80 = .ok (.aload_n 0, 1) := dk_42 (dk_at dksX3_clapOf_3 8 rfl rfl)
theorem dX3_clapOf_81 : decode cX3_clapOf 81 = .ok (.bipush 21, 2) := dk_16 21 (dk_at dksX3_clapOf_3 9 rfl rfl)
theorem dX3_clapOf_83 : decode cX3_clapOf 83 = .ok (.bipush 100, 2) := dk_16 100 (dk_at dksX3_clapOf_3 11 rfl rfl)
theorem dX3_clapOf_85 : decode cX3_clapOf 85 = .ok (.aload_n 0, 1) := dk_42 (dk_at dksX3_clapOf_3 13 rfl rfl)
theorem dX3_clapOf_86 : decode cX3_clapOf 86 = .ok (.getfield 7, 3) := dk_180 0 7 (dk_at dksX3_clapOf_3 14 rfl rfl)
theorem dX3_clapOf_89 : decode cX3_clapOf 89 = .ok (.bipush 57, 2) := dk_16 57 (dk_at dksX3_clapOf_3 17 rfl rfl)
theorem dX3_clapOf_91 : decode cX3_clapOf 91 = .ok (.iload_n 1, 1) := dk_27 (dk_at dksX3_clapOf_3 19 rfl rfl)
theorem dX3_clapOf_92 : decode cX3_clapOf 92 = .ok (.iadd, 1) := dk_96 (dk_at dksX3_clapOf_3 20 rfl rfl)
theorem dX3_clapOf_93 : decode cX3_clapOf 93 = .ok (.iaload, 1) := dk_46 (dk_at dksX3_clapOf_3 21 rfl rfl)
theorem dX3_clapOf_94 : decode cX3_clapOf 94 = .ok (.imul, 1) := dk_104 (dk_at dksX3_clapOf_3 22 rfl rfl)
theorem dX3_clapOf_95 : decode cX3_clapOf 95 = .ok (.sipush 1000, 3) := dk_17 3 232 (dk_at dksX3_clapOf_4 0 rfl rfl)
theorem dX3_clapOf_98 : decode cX3_clapOf 98 = .ok (.invokevirtual 297, 3) := dk_182 1 41 (dk_at dksX3_clapOf_4 3 rfl rfl)
theorem dX3_clapOf_101 : decode cX3_clapOf 101 = .ok (.ireturn, 1) := dk_172 (dk_at dksX3_clapOf_4 6 rfl rfl)
abbrev cX3_notes : ByteArray := prog_17_method_70_code
def yX3_notes : MethodName := ⟨RX3, "notes", "(III)V"⟩
def dkwX3_notes_3 : List UInt8 := [180, 0, 7, 21, 4, 6, 96, 29, 79, 42, 180, 0, 7, 16, 6, 92, 46, 4, 96, 79, 177]
abbrev dktX3_notes_3 : List UInt8 := dkwX3_notes_3 ++ []
def dkwX3_notes_2 : List UInt8 := [79, 42, 180, 0, 7, 21, 4, 4, 96, 27, 79, 42, 180, 0, 7, 21, 4, 5, 96, 28, 79, 42]
abbrev dktX3_notes_2 : List UInt8 := dkwX3_notes_2 ++ dktX3_notes_3
def dkwX3_notes_1 : List UInt8 := [7, 42, 180, 0, 7, 16, 6, 46, 104, 96, 54, 4, 42, 180, 0, 7, 21, 4, 42, 180, 0, 7, 4, 46]
abbrev dktX3_notes_1 : List UInt8 := dkwX3_notes_1 ++ dktX3_notes_2
def dkwX3_notes_0 : List UInt8 := [42, 180, 1, 47, 153, 0, 16, 42, 180, 0, 7, 16, 6, 46, 17, 0, 150, 160, 0, 4, 177, 17, 0, 223]
abbrev dktX3_notes_0 : List UInt8 := dkwX3_notes_0 ++ dktX3_notes_1
theorem dksX3_notes_0 : cX3_notes.data.toList.drop 0 = dktX3_notes_0 := by decide +kernel
theorem dksX3_notes_1 : cX3_notes.data.toList.drop 24 = dktX3_notes_1 := dk_seg dksX3_notes_0 24 rfl rfl
theorem dksX3_notes_2 : cX3_notes.data.toList.drop 48 = dktX3_notes_2 := dk_seg dksX3_notes_1 24 rfl rfl
theorem dksX3_notes_3 : cX3_notes.data.toList.drop 70 = dktX3_notes_3 := dk_seg dksX3_notes_2 22 rfl rfl
theorem dX3_notes_0 : decode cX3_notes 0 = .ok (.aload_n 0, 1) := dk_42 (dk_at dksX3_notes_0 0 rfl rfl)
theorem dX3_notes_1 : decode cX3_notes 1 = .ok (.getfield 303, 3) := dk_180 1 47 (dk_at dksX3_notes_0 1 rfl rfl)
theorem dX3_notes_4 : decode cX3_notes 4 = .ok (.ifCond .eq 16, 3) := dk_153 0 16 (dk_at dksX3_notes_0 4 rfl rfl)
theorem dX3_notes_7 : decode cX3_notes 7 = .ok (.aload_n 0, 1) := dk_42 (dk_at dksX3_notes_0 7 rfl rfl)
theorem dX3_notes_8 : decode cX3_notes 8 = .ok (.getfield 7, 3) := dk_180 0 7 (dk_at dksX3_notes_0 8 rfl rfl)
theorem dX3_notes_11 : decode cX3_notes 11 = .ok (.bipush 6, 2) := dk_16 6 (dk_at dksX3_notes_0 11 rfl rfl)
theorem dX3_notes_13 : decode cX3_notes 13 = .ok (.iaload, 1) := dk_46 (dk_at dksX3_notes_0 13 rfl rfl)
theorem dX3_notes_14 : decode cX3_notes 14 = .ok (.sipush 150, 3) := dk_17 0 150 (dk_at dksX3_notes_0 14 rfl rfl)
theorem dX3_notes_17 : decode cX3_notes 17 = .ok (.if_icmp .ne 4, 3) := dk_160 0 4 (dk_at dksX3_notes_0 17 rfl rfl)
theorem dX3_notes_20 : decode cX3_notes 20 = .ok (.return_, 1) := dk_177 (dk_at dksX3_notes_0 20 rfl rfl)
theorem dX3_notes_21 : decode cX3_notes 21 = .ok (.sipush 223, 3) := dk_17 0 223 (dk_at dksX3_notes_0 21 rfl rfl)
theorem dX3_notes_24 : decode cX3_notes 24 = .ok (.iconst 4, 1) := dk_7 (dk_at dksX3_notes_1 0 rfl rfl)
theorem dX3_notes_25 : decode cX3_notes 25 = .ok (.aload_n 0, 1) := dk_42 (dk_at dksX3_notes_1 1 rfl rfl)
theorem dX3_notes_26 : decode cX3_notes 26 = .ok (.getfield 7, 3) := dk_180 0 7 (dk_at dksX3_notes_1 2 rfl rfl)
theorem dX3_notes_29 : decode cX3_notes 29 = .ok (.bipush 6, 2) := dk_16 6 (dk_at dksX3_notes_1 5 rfl rfl)
theorem dX3_notes_31 : decode cX3_notes 31 = .ok (.iaload, 1) := dk_46 (dk_at dksX3_notes_1 7 rfl rfl)
theorem dX3_notes_32 : decode cX3_notes 32 = .ok (.imul, 1) := dk_104 (dk_at dksX3_notes_1 8 rfl rfl)
theorem dX3_notes_33 : decode cX3_notes 33 = .ok (.iadd, 1) := dk_96 (dk_at dksX3_notes_1 9 rfl rfl)
theorem dX3_notes_34 : decode cX3_notes 34 = .ok (.istore 4, 2) := dk_54 4 (dk_at dksX3_notes_1 10 rfl rfl)
theorem dX3_notes_36 : decode cX3_notes 36 = .ok (.aload_n 0, 1) := dk_42 (dk_at dksX3_notes_1 12 rfl rfl)
theorem dX3_notes_37 : decode cX3_notes 37 = .ok (.getfield 7, 3) := dk_180 0 7 (dk_at dksX3_notes_1 13 rfl rfl)
theorem dX3_notes_40 : decode cX3_notes 40 = .ok (.iload 4, 2) := dk_21 4 (dk_at dksX3_notes_1 16 rfl rfl)
theorem dX3_notes_42 : decode cX3_notes 42 = .ok (.aload_n 0, 1) := dk_42 (dk_at dksX3_notes_1 18 rfl rfl)
theorem dX3_notes_43 : decode cX3_notes 43 = .ok (.getfield 7, 3) := dk_180 0 7 (dk_at dksX3_notes_1 19 rfl rfl)
theorem dX3_notes_46 : decode cX3_notes 46 = .ok (.iconst 1, 1) := dk_4 (dk_at dksX3_notes_1 22 rfl rfl)
theorem dX3_notes_47 : decode cX3_notes 47 = .ok (.iaload, 1) := dk_46 (dk_at dksX3_notes_1 23 rfl rfl)
theorem dX3_notes_48 : decode cX3_notes 48 = .ok (.iastore, 1) := dk_79 (dk_at dksX3_notes_2 0 rfl rfl)
theorem dX3_notes_49 : decode cX3_notes 49 = .ok (.aload_n 0, 1) := dk_42 (dk_at dksX3_notes_2 1 rfl rfl)
theorem dX3_notes_50 : decode cX3_notes 50 = .ok (.getfield 7, 3) := dk_180 0 7 (dk_at dksX3_notes_2 2 rfl rfl)
theorem dX3_notes_53 : decode cX3_notes 53 = .ok (.iload 4, 2) := dk_21 4 (dk_at dksX3_notes_2 5 rfl rfl)
theorem dX3_notes_55 : decode cX3_notes 55 = .ok (.iconst 1, 1) := dk_4 (dk_at dksX3_notes_2 7 rfl rfl)
theorem dX3_notes_56 : decode cX3_notes 56 = .ok (.iadd, 1) := dk_96 (dk_at dksX3_notes_2 8 rfl rfl)
theorem dX3_notes_57 : decode cX3_notes 57 = .ok (.iload_n 1, 1) := dk_27 (dk_at dksX3_notes_2 9 rfl rfl)
theorem dX3_notes_58 : decode cX3_notes 58 = .ok (.iastore, 1) := dk_79 (dk_at dksX3_notes_2 10 rfl rfl)
theorem dX3_notes_59 : decode cX3_notes 59 = .ok (.aload_n 0, 1) := dk_42 (dk_at dksX3_notes_2 11 rfl rfl)
theorem dX3_notes_60 : decode cX3_notes 60 = .ok (.getfield 7, 3) := dk_180 0 7 (dk_at dksX3_notes_2 12 rfl rfl)
theorem dX3_notes_63 : decode cX3_notes 63 = .ok (.iload 4, 2) := dk_21 4 (dk_at dksX3_notes_2 15 rfl rfl)
theorem dX3_notes_65 : decode cX3_notes 65 = .ok (.iconst 2, 1) := dk_5 (dk_at dksX3_notes_2 17 rfl rfl)
theorem dX3_notes_66 : decode cX3_notes 66 = .ok (.iadd, 1) := dk_96 (dk_at dksX3_notes_2 18 rfl rfl)
theorem dX3_notes_67 : decode cX3_notes 67 = .ok (.iload_n 2, 1) := dk_28 (dk_at dksX3_notes_2 19 rfl rfl)
theorem dX3_notes_68 : decode cX3_notes 68 = .ok (.iastore, 1) := dk_79 (dk_at dksX3_notes_2 20 rfl rfl)
theorem dX3_notes_69 : decode cX3_notes 69 = .ok (.aload_n 0, 1) := dk_42 (dk_at dksX3_notes_2 21 rfl rfl)
theorem dX3_notes_70 : decode cX3_notes 70 = .ok (.getfield 7, 3) := dk_180 0 7 (dk_at dksX3_notes_3 0 rfl rfl)
theorem dX3_notes_73 : decode cX3_notes 73 = .ok (.iload 4, 2) := dk_21 4 (dk_at dksX3_notes_3 3 rfl rfl)
theorem dX3_notes_75 : decode cX3_notes 75 = .ok (.iconst 3, 1) := dk_6 (dk_at dksX3_notes_3 5 rfl rfl)
theorem dX3_notes_76 : decode cX3_notes 76 = .ok (.iadd, 1) := dk_96 (dk_at dksX3_notes_3 6 rfl rfl)
theorem dX3_notes_77 : decode cX3_notes 77 = .ok (.iload_n 3, 1) := dk_29 (dk_at dksX3_notes_3 7 rfl rfl)
theorem dX3_notes_78 : decode cX3_notes 78 = .ok (.iastore, 1) := dk_79 (dk_at dksX3_notes_3 8 rfl rfl)
theorem dX3_notes_79 : decode cX3_notes 79 = .ok (.aload_n 0, 1) := dk_42 (dk_at dksX3_notes_3 9 rfl rfl)
theorem dX3_notes_80 : decode cX3_notes 80 = .ok (.getfield 7, 3) := dk_180 0 7 (dk_at dksX3_notes_3 10 rfl rfl)
theorem dX3_notes_83 : decode cX3_notes 83 = .ok (.bipush 6, 2) := dk_16 6 (dk_at dksX3_notes_3 13 rfl rfl)
theorem dX3_notes_85 : decode cX3_notes 85 = .ok (.dup2, 1) := dk_92 (dk_at dksX3_notes_3 15 rfl rfl)
theorem dX3_notes_86 : decode cX3_notes 86 = .ok (.iaload, 1) := dk_46 (dk_at dksX3_notes_3 16 rfl rfl)
theorem dX3_notes_87 : decode cX3_notes 87 = .ok (.iconst 1, 1) := dk_4 (dk_at dksX3_notes_3 17 rfl rfl)
theorem dX3_notes_88 : decode cX3_notes 88 = .ok (.iadd, 1) := dk_96 (dk_at dksX3_notes_3 18 rfl rfl)
theorem dX3_notes_89 : decode cX3_notes 89 = .ok (.iastore, 1) := dk_79 (dk_at dksX3_notes_3 19 rfl rfl)
theorem dX3_notes_90 : decode cX3_notes 90 = .ok (.return_, 1) := dk_177 (dk_at dksX3_notes_3 20 rfl rfl)
abbrev cX3_loudOf : ByteArray := prog_17_method_60_code
def yX3_loudOf : MethodName := ⟨RX3, "loudOf", "(I)I"⟩
def dkwX3_loudOf_1 : List UInt8 := [172]
abbrev dktX3_loudOf_1 : List UInt8 := dkwX3_loudOf_1 ++ []
def dkwX3_loudOf_0 : List UInt8 := [42, 27, 182, 1, 37, 42, 16, 20, 42, 180, 0, 7, 16, 81, 27, 96, 46, 6, 108, 16, 99, 182, 1, 41]
abbrev dktX3_loudOf_0 : List UInt8 := dkwX3_loudOf_0 ++ dktX3_loudOf_1
theorem dksX3_loudOf_0 : cX3_loudOf.data.toList.drop 0 = dktX3_loudOf_0 := by decide +kernel
theorem dksX3_loudOf_1 : cX3_loudOf.data.toList.drop 24 = dktX3_loudOf_1 := dk_seg dksX3_loudOf_0 24 rfl rfl
theorem dX3_loudOf_0 : decode cX3_loudOf 0 = .ok (.aload_n 0, 1) := dk_42 (dk_at dksX3_loudOf_0 0 rfl rfl)
theorem dX3_loudOf_1 : decode cX3_loudOf 1 = .ok (.iload_n 1, 1) := dk_27 (dk_at dksX3_loudOf_0 1 rfl rfl)
theorem dX3_loudOf_2 : decode cX3_loudOf 2 = .ok (.invokevirtual 293, 3) := dk_182 1 37 (dk_at dksX3_loudOf_0 2 rfl rfl)
theorem dX3_loudOf_5 : decode cX3_loudOf 5 = .ok (.aload_n 0, 1) := dk_42 (dk_at dksX3_loudOf_0 5 rfl rfl)
theorem dX3_loudOf_6 : decode cX3_loudOf 6 = .ok (.bipush 20, 2) := dk_16 20 (dk_at dksX3_loudOf_0 6 rfl rfl)
theorem dX3_loudOf_8 : decode cX3_loudOf 8 = .ok (.aload_n 0, 1) := dk_42 (dk_at dksX3_loudOf_0 8 rfl rfl)
theorem dX3_loudOf_9 : decode cX3_loudOf 9 = .ok (.getfield 7, 3) := dk_180 0 7 (dk_at dksX3_loudOf_0 9 rfl rfl)
theorem dX3_loudOf_12 : decode cX3_loudOf 12 = .ok (.bipush 81, 2) := dk_16 81 (dk_at dksX3_loudOf_0 12 rfl rfl)
theorem dX3_loudOf_14 : decode cX3_loudOf 14 = .ok (.iload_n 1, 1) := dk_27 (dk_at dksX3_loudOf_0 14 rfl rfl)
theorem dX3_loudOf_15 : decode cX3_loudOf 15 = .ok (.iadd, 1) := dk_96 (dk_at dksX3_loudOf_0 15 rfl rfl)
theorem dX3_loudOf_16 : decode cX3_loudOf 16 = .ok (.iaload, 1) := dk_46 (dk_at dksX3_loudOf_0 16 rfl rfl)
theorem dX3_loudOf_17 : decode cX3_loudOf 17 = .ok (.iconst 3, 1) := dk_6 (dk_at dksX3_loudOf_0 17 rfl rfl)
theorem dX3_loudOf_18 : decode cX3_loudOf 18 = .ok (.idiv, 1) := dk_108 (dk_at dksX3_loudOf_0 18 rfl rfl)
theorem dX3_loudOf_19 : decode cX3_loudOf 19 = .ok (.bipush 99, 2) := dk_16 99 (dk_at dksX3_loudOf_0 19 rfl rfl)
theorem dX3_loudOf_21 : decode cX3_loudOf 21 = .ok (.invokevirtual 297, 3) := dk_182 1 41 (dk_at dksX3_loudOf_0 21 rfl rfl)
theorem dX3_loudOf_24 : decode cX3_loudOf 24 = .ok (.ireturn, 1) := dk_172 (dk_at dksX3_loudOf_1 0 rfl rfl)
abbrev cX3_handsClapping : ByteArray := prog_17_method_73_code
def yX3_handsClapping : MethodName := ⟨RX3, "handsClapping", "()I"⟩
def dkwX3_handsClapping_2 : List UInt8 := [60, 132, 2, 1, 167, 255, 208, 27, 172]
abbrev dktX3_handsClapping_2 : List UInt8 := dkwX3_handsClapping_2 ++ []
def dkwX3_handsClapping_1 : List UInt8 := [4, 160, 0, 21, 42, 180, 0, 7, 16, 45, 28, 96, 46, 42, 28, 182, 1, 69, 104, 167, 0, 4, 3, 96]
abbrev dktX3_handsClapping_1 : List UInt8 := dkwX3_handsClapping_1 ++ dktX3_handsClapping_2
def dkwX3_handsClapping_0 : List UInt8 := [3, 60, 3, 61, 28, 42, 180, 0, 7, 16, 37, 46, 162, 0, 43, 27, 42, 180, 1, 60, 28, 122, 4, 126]
abbrev dktX3_handsClapping_0 : List UInt8 := dkwX3_handsClapping_0 ++ dktX3_handsClapping_1
theorem dksX3_handsClapping_0 : cX3_handsClapping.data.toList.drop 0 = dktX3_handsClapping_0 := by decide +kernel
theorem dksX3_handsClapping_1 : cX3_handsClapping.data.toList.drop 24 = dktX3_handsClapping_1 := dk_seg dksX3_handsClapping_0 24 rfl rfl
theorem dksX3_handsClapping_2 : cX3_handsClapping.data.toList.drop 48 = dktX3_handsClapping_2 := dk_seg dksX3_handsClapping_1 24 rfl rfl
theorem dX3_handsClapping_0 : decode cX3_handsClapping 0 = .ok (.iconst 0, 1) := dk_3 (dk_at dksX3_handsClapping_0 0 rfl rfl)
theorem dX3_handsClapping_1 : decode cX3_handsClapping 1 = .ok (.istore_n 1, 1) := dk_60 (dk_at dksX3_handsClapping_0 1 rfl rfl)
theorem dX3_handsClapping_2 : decode cX3_handsClapping 2 = .ok (.iconst 0, 1) := dk_3 (dk_at dksX3_handsClapping_0 2 rfl rfl)
theorem dX3_handsClapping_3 : decode cX3_handsClapping 3 = .ok (.istore_n 2, 1) := dk_61 (dk_at dksX3_handsClapping_0 3 rfl rfl)
theorem dX3_handsClapping_4 : decode cX3_handsClapping 4 = .ok (.iload_n 2, 1) := dk_28 (dk_at dksX3_handsClapping_0 4 rfl rfl)
theorem dX3_handsClapping_5 : decode cX3_handsClapping 5 = .ok (.aload_n 0, 1) := dk_42 (dk_at dksX3_handsClapping_0 5 rfl rfl)
theorem dX3_handsClapping_6 : decode cX3_handsClapping 6 = .ok (.getfield 7, 3) := dk_180 0 7 (dk_at dksX3_handsClapping_0 6 rfl rfl)
theorem dX3_handsClapping_9 : decode cX3_handsClapping 9 = .ok (.bipush 37, 2) := dk_16 37 (dk_at dksX3_handsClapping_0 9 rfl rfl)
theorem dX3_handsClapping_11 : decode cX3_handsClapping 11 = .ok (.iaload, 1) := dk_46 (dk_at dksX3_handsClapping_0 11 rfl rfl)
theorem dX3_handsClapping_12 : decode cX3_handsClapping 12 = .ok (.if_icmp .ge 43, 3) := dk_162 0 43 (dk_at dksX3_handsClapping_0 12 rfl rfl)
theorem dX3_handsClapping_15 : decode cX3_handsClapping 15 = .ok (.iload_n 1, 1) := dk_27 (dk_at dksX3_handsClapping_0 15 rfl rfl)
theorem dX3_handsClapping_16 : decode cX3_handsClapping 16 = .ok (.aload_n 0, 1) := dk_42 (dk_at dksX3_handsClapping_0 16 rfl rfl)
theorem dX3_handsClapping_17 : decode cX3_handsClapping 17 = .ok (.getfield 316, 3) := dk_180 1 60 (dk_at dksX3_handsClapping_0 17 rfl rfl)
theorem dX3_handsClapping_20 : decode cX3_handsClapping 20 = .ok (.iload_n 2, 1) := dk_28 (dk_at dksX3_handsClapping_0 20 rfl rfl)
theorem dX3_handsClapping_21 : decode cX3_handsClapping 21 = .ok (.ishr, 1) := dk_122 (dk_at dksX3_handsClapping_0 21 rfl rfl)
theorem dX3_handsClapping_22 : decode cX3_handsClapping 22 = .ok (.iconst 1, 1) := dk_4 (dk_at dksX3_handsClapping_0 22 rfl rfl)
theorem dX3_handsClapping_23 : decode cX3_handsClapping 23 = .ok (.iand, 1) := dk_126 (dk_at dksX3_handsClapping_0 23 rfl rfl)
theorem dX3_handsClapping_24 : decode cX3_handsClapping 24 = .ok (.iconst 1, 1) := dk_4 (dk_at dksX3_handsClapping_1 0 rfl rfl)
theorem dX3_handsClapping_25 : decode cX3_handsClapping 25 = .ok (.if_icmp .ne 21, 3) := dk_160 0 21 (dk_at dksX3_handsClapping_1 1 rfl rfl)
theorem dX3_handsClapping_28 : decode cX3_handsClapping 28 = .ok (.aload_n 0, 1) := dk_42 (dk_at dksX3_handsClapping_1 4 rfl rfl)
theorem dX3_handsClapping_29 : decode cX3_handsClapping 29 = .ok (.getfield 7, 3) := dk_180 0 7 (dk_at dksX3_handsClapping_1 5 rfl rfl)
theorem dX3_handsClapping_32 : decode cX3_handsClapping 32 = .ok (.bipush 45, 2) := dk_16 45 (dk_at dksX3_handsClapping_1 8 rfl rfl)
theorem dX3_handsClapping_34 : decode cX3_handsClapping 34 = .ok (.iload_n 2, 1) := dk_28 (dk_at dksX3_handsClapping_1 10 rfl rfl)
theorem dX3_handsClapping_35 : decode cX3_handsClapping 35 = .ok (.iadd, 1) := dk_96 (dk_at dksX3_handsClapping_1 11 rfl rfl)
theorem dX3_handsClapping_36 : decode cX3_handsClapping 36 = .ok (.iaload, 1) := dk_46 (dk_at dksX3_handsClapping_1 12 rfl rfl)
theorem dX3_handsClapping_37 : decode cX3_handsClapping 37 = .ok (.aload_n 0, 1) := dk_42 (dk_at dksX3_handsClapping_1 13 rfl rfl)
theorem dX3_handsClapping_38 : decode cX3_handsClapping 38 = .ok (.iload_n 2, 1) := dk_28 (dk_at dksX3_handsClapping_1 14 rfl rfl)
theorem dX3_handsClapping_39 : decode cX3_handsClapping 39 = .ok (.invokevirtual 325, 3) := dk_182 1 69 (dk_at dksX3_handsClapping_1 15 rfl rfl)
theorem dX3_handsClapping_42 : decode cX3_handsClapping 42 = .ok (.imul, 1) := dk_104 (dk_at dksX3_handsClapping_1 18 rfl rfl)
theorem dX3_handsClapping_43 : decode cX3_handsClapping 43 = .ok (.goto 4, 3) := dk_167 0 4 (dk_at dksX3_handsClapping_1 19 rfl rfl)
theorem dX3_handsClapping_46 : decode cX3_handsClapping 46 = .ok (.iconst 0, 1) := dk_3 (dk_at dksX3_handsClapping_1 22 rfl rfl)
theorem dX3_handsClapping_47 : decode cX3_handsClapping 47 = .ok (.iadd, 1) := dk_96 (dk_at dksX3_handsClapping_1 23 rfl rfl)
theorem dX3_handsClapping_48 : decode cX3_handsClapping 48 = .ok (.istore_n 1, 1) := dk_60 (dk_at dksX3_handsClapping_2 0 rfl rfl)
theorem dX3_handsClapping_49 : decode cX3_handsClapping 49 = .ok (.iinc 2 1, 3) := dk_132 2 1 (dk_at dksX3_handsClapping_2 1 rfl rfl)
theorem dX3_handsClapping_52 : decode cX3_handsClapping 52 = .ok (.goto (-48), 3) := dk_167 255 208 (dk_at dksX3_handsClapping_2 4 rfl rfl)
theorem dX3_handsClapping_55 : decode cX3_handsClapping 55 = .ok (.iload_n 1, 1) := dk_27 (dk_at dksX3_handsClapping_2 7 rfl rfl)
theorem dX3_handsClapping_56 : decode cX3_handsClapping 56 = .ok (.ireturn, 1) := dk_172 (dk_at dksX3_handsClapping_2 8 rfl rfl)
abbrev cX3_countsAs : ByteArray := prog_17_method_67_code
def yX3_countsAs : MethodName := ⟨RX3, "countsAs", "(I)I"⟩
def dkwX3_countsAs_2 : List UInt8 := [132, 2, 1, 167, 255, 207, 4, 172]
abbrev dktX3_countsAs_2 : List UInt8 := dkwX3_countsAs_2 ++ []
def dkwX3_countsAs_1 : List UInt8 := [16, 9, 160, 0, 22, 42, 180, 0, 7, 16, 105, 6, 28, 104, 96, 4, 96, 46, 27, 160, 0, 5, 5, 172]
abbrev dktX3_countsAs_1 : List UInt8 := dkwX3_countsAs_1 ++ dktX3_countsAs_2
def dkwX3_countsAs_0 : List UInt8 := [3, 61, 28, 42, 180, 0, 7, 16, 41, 46, 162, 0, 44, 42, 180, 0, 7, 16, 105, 6, 28, 104, 96, 46]
abbrev dktX3_countsAs_0 : List UInt8 := dkwX3_countsAs_0 ++ dktX3_countsAs_1
theorem dksX3_countsAs_0 : cX3_countsAs.data.toList.drop 0 = dktX3_countsAs_0 := by decide +kernel
theorem dksX3_countsAs_1 : cX3_countsAs.data.toList.drop 24 = dktX3_countsAs_1 := dk_seg dksX3_countsAs_0 24 rfl rfl
theorem dksX3_countsAs_2 : cX3_countsAs.data.toList.drop 48 = dktX3_countsAs_2 := dk_seg dksX3_countsAs_1 24 rfl rfl
theorem dX3_countsAs_0 : decode cX3_countsAs 0 = .ok (.iconst 0, 1) := dk_3 (dk_at dksX3_countsAs_0 0 rfl rfl)
theorem dX3_countsAs_1 : decode cX3_countsAs 1 = .ok (.istore_n 2, 1) := dk_61 (dk_at dksX3_countsAs_0 1 rfl rfl)
theorem dX3_countsAs_2 : decode cX3_countsAs 2 = .ok (.iload_n 2, 1) := dk_28 (dk_at dksX3_countsAs_0 2 rfl rfl)
theorem dX3_countsAs_3 : decode cX3_countsAs 3 = .ok (.aload_n 0, 1) := dk_42 (dk_at dksX3_countsAs_0 3 rfl rfl)
theorem dX3_countsAs_4 : decode cX3_countsAs 4 = .ok (.getfield 7, 3) := dk_180 0 7 (dk_at dksX3_countsAs_0 4 rfl rfl)
theorem dX3_countsAs_7 : decode cX3_countsAs 7 = .ok (.bipush 41, 2) := dk_16 41 (dk_at dksX3_countsAs_0 7 rfl rfl)
theorem dX3_countsAs_9 : decode cX3_countsAs 9 = .ok (.iaload, 1) := dk_46 (dk_at dksX3_countsAs_0 9 rfl rfl)
theorem dX3_countsAs_10 : decode cX3_countsAs 10 = .ok (.if_icmp .ge 44, 3) := dk_162 0 44 (dk_at dksX3_countsAs_0 10 rfl rfl)
theorem dX3_countsAs_13 : decode cX3_countsAs 13 = .ok (.aload_n 0, 1) := dk_42 (dk_at dksX3_countsAs_0 13 rfl rfl)
theorem dX3_countsAs_14 : decode cX3_countsAs 14 = .ok (.getfield 7, 3) := dk_180 0 7 (dk_at dksX3_countsAs_0 14 rfl rfl)
theorem dX3_countsAs_17 : decode cX3_countsAs 17 = .ok (.bipush 105, 2) := dk_16 105 (dk_at dksX3_countsAs_0 17 rfl rfl)
theorem dX3_countsAs_19 : decode cX3_countsAs 19 = .ok (.iconst 3, 1) := dk_6 (dk_at dksX3_countsAs_0 19 rfl rfl)
theorem dX3_countsAs_20 : decode cX3_countsAs 20 = .ok (.iload_n 2, 1) := dk_28 (dk_at dksX3_countsAs_0 20 rfl rfl)
theorem dX3_countsAs_21 : decode cX3_countsAs 21 = .ok (.imul, 1) := dk_104 (dk_at dksX3_countsAs_0 21 rfl rfl)
theorem dX3_countsAs_22 : decode cX3_countsAs 22 = .ok (.iadd, 1) := dk_96 (dk_at dksX3_countsAs_0 22 rfl rfl)
theorem dX3_countsAs_23 : decode cX3_countsAs 23 = .ok (.iaload, 1) := dk_46 (dk_at dksX3_countsAs_0 23 rfl rfl)
theorem dX3_countsAs_24 : decode cX3_countsAs 24 = .ok (.bipush 9, 2) := dk_16 9 (dk_at dksX3_countsAs_1 0 rfl rfl)
theorem dX3_countsAs_26 : decode cX3_countsAs 26 = .ok (.if_icmp .ne 22, 3) := dk_160 0 22 (dk_at dksX3_countsAs_1 2 rfl rfl)
theorem dX3_countsAs_29 : decode cX3_countsAs 29 = .ok (.aload_n 0, 1) := dk_42 (dk_at dksX3_countsAs_1 5 rfl rfl)
theorem dX3_countsAs_30 : decode cX3_countsAs 30 = .ok (.getfield 7, 3) := dk_180 0 7 (dk_at dksX3_countsAs_1 6 rfl rfl)
theorem dX3_countsAs_33 : decode cX3_countsAs 33 = .ok (.bipush 105, 2) := dk_16 105 (dk_at dksX3_countsAs_1 9 rfl rfl)
theorem dX3_countsAs_35 : decode cX3_countsAs 35 = .ok (.iconst 3, 1) := dk_6 (dk_at dksX3_countsAs_1 11 rfl rfl)
theorem dX3_countsAs_36 : decode cX3_countsAs 36 = .ok (.iload_n 2, 1) := dk_28 (dk_at dksX3_countsAs_1 12 rfl rfl)
theorem dX3_countsAs_37 : decode cX3_countsAs 37 = .ok (.imul, 1) := dk_104 (dk_at dksX3_countsAs_1 13 rfl rfl)
theorem dX3_countsAs_38 : decode cX3_countsAs 38 = .ok (.iadd, 1) := dk_96 (dk_at dksX3_countsAs_1 14 rfl rfl)
theorem dX3_countsAs_39 : decode cX3_countsAs 39 = .ok (.iconst 1, 1) := dk_4 (dk_at dksX3_countsAs_1 15 rfl rfl)
theorem dX3_countsAs_40 : decode cX3_countsAs 40 = .ok (.iadd, 1) := dk_96 (dk_at dksX3_countsAs_1 16 rfl rfl)
theorem dX3_countsAs_41 : decode cX3_countsAs 41 = .ok (.iaload, 1) := dk_46 (dk_at dksX3_countsAs_1 17 rfl rfl)
theorem dX3_countsAs_42 : decode cX3_countsAs 42 = .ok (.iload_n 1, 1) := dk_27 (dk_at dksX3_countsAs_1 18 rfl rfl)
theorem dX3_countsAs_43 : decode cX3_countsAs 43 = .ok (.if_icmp .ne 5, 3) := dk_160 0 5 (dk_at dksX3_countsAs_1 19 rfl rfl)
theorem dX3_countsAs_46 : decode cX3_countsAs 46 = .ok (.iconst 2, 1) := dk_5 (dk_at dksX3_countsAs_1 22 rfl rfl)
theorem dX3_countsAs_47 : decode cX3_countsAs 47 = .ok (.ireturn, 1) := dk_172 (dk_at dksX3_countsAs_1 23 rfl rfl)
theorem dX3_countsAs_48 : decode cX3_countsAs 48 = .ok (.iinc 2 1, 3) := dk_132 2 1 (dk_at dksX3_countsAs_2 0 rfl rfl)
theorem dX3_countsAs_51 : decode cX3_countsAs 51 = .ok (.goto (-49), 3) := dk_167 255 207 (dk_at dksX3_countsAs_2 3 rfl rfl)
theorem dX3_countsAs_54 : decode cX3_countsAs 54 = .ok (.iconst 1, 1) := dk_4 (dk_at dksX3_countsAs_2 6 rfl rfl)
theorem dX3_countsAs_55 : decode cX3_countsAs 55 = .ok (.ireturn, 1) := dk_172 (dk_at dksX3_countsAs_2 7 rfl rfl)
abbrev cX3_handsAsked : ByteArray := prog_17_method_63_code
def yX3_handsAsked : MethodName := ⟨RX3, "handsAsked", "()I"⟩
def dkwX3_handsAsked_4 : List UInt8 := [27, 4, 96, 46, 172]
abbrev dktX3_handsAsked_4 : List UInt8 := dkwX3_handsAsked_4 ++ []
def dkwX3_handsAsked_3 : List UInt8 := [161, 0, 5, 29, 60, 132, 2, 1, 167, 255, 181, 27, 2, 160, 0, 7, 8, 167, 0, 11, 42, 180, 0, 7]
abbrev dktX3_handsAsked_3 : List UInt8 := dkwX3_handsAsked_3 ++ dktX3_handsAsked_4
def dkwX3_handsAsked_2 : List UInt8 := [163, 0, 29, 27, 2, 159, 0, 22, 42, 180, 0, 7, 29, 5, 96, 46, 42, 180, 0, 7, 27, 5, 96, 46]
abbrev dktX3_handsAsked_2 : List UInt8 := dkwX3_handsAsked_2 ++ dktX3_handsAsked_3
def dkwX3_handsAsked_1 : List UInt8 := [180, 0, 7, 29, 46, 16, 7, 160, 0, 46, 42, 180, 0, 7, 29, 5, 96, 46, 42, 180, 0, 7, 4, 46]
abbrev dktX3_handsAsked_1 : List UInt8 := dkwX3_handsAsked_1 ++ dktX3_handsAsked_2
def dkwX3_handsAsked_0 : List UInt8 := [2, 60, 3, 61, 28, 42, 180, 0, 7, 16, 41, 46, 162, 0, 70, 16, 105, 6, 28, 104, 96, 62, 42]
abbrev dktX3_handsAsked_0 : List UInt8 := dkwX3_handsAsked_0 ++ dktX3_handsAsked_1
theorem dksX3_handsAsked_0 : cX3_handsAsked.data.toList.drop 0 = dktX3_handsAsked_0 := by decide +kernel
theorem dksX3_handsAsked_1 : cX3_handsAsked.data.toList.drop 23 = dktX3_handsAsked_1 := dk_seg dksX3_handsAsked_0 23 rfl rfl
theorem dksX3_handsAsked_2 : cX3_handsAsked.data.toList.drop 47 = dktX3_handsAsked_2 := dk_seg dksX3_handsAsked_1 24 rfl rfl
theorem dksX3_handsAsked_3 : cX3_handsAsked.data.toList.drop 71 = dktX3_handsAsked_3 := dk_seg dksX3_handsAsked_2 24 rfl rfl
theorem dksX3_handsAsked_4 : cX3_handsAsked.data.toList.drop 95 = dktX3_handsAsked_4 := dk_seg dksX3_handsAsked_3 24 rfl rfl
theorem dX3_handsAsked_0 : decode cX3_handsAsked 0 = .ok (.iconst (-1), 1) := dk_2 (dk_at dksX3_handsAsked_0 0 rfl rfl)
theorem dX3_handsAsked_1 : decode cX3_handsAsked 1 = .ok (.istore_n 1, 1) := dk_60 (dk_at dksX3_handsAsked_0 1 rfl rfl)
theorem dX3_handsAsked_2 : decode cX3_handsAsked 2 = .ok (.iconst 0, 1) := dk_3 (dk_at dksX3_handsAsked_0 2 rfl rfl)
theorem dX3_handsAsked_3 : decode cX3_handsAsked 3 = .ok (.istore_n 2, 1) := dk_61 (dk_at dksX3_handsAsked_0 3 rfl rfl)
theorem dX3_handsAsked_4 : decode cX3_handsAsked 4 = .ok (.iload_n 2, 1) := dk_28 (dk_at dksX3_handsAsked_0 4 rfl rfl)
theorem dX3_handsAsked_5 : decode cX3_handsAsked 5 = .ok (.aload_n 0, 1) := dk_42 (dk_at dksX3_handsAsked_0 5 rfl rfl)
theorem dX3_handsAsked_6 : decode cX3_handsAsked 6 = .ok (.getfield 7, 3) := dk_180 0 7 (dk_at dksX3_handsAsked_0 6 rfl rfl)
theorem dX3_handsAsked_9 : decode cX3_handsAsked 9 = .ok (.bipush 41, 2) := dk_16 41 (dk_at dksX3_handsAsked_0 9 rfl rfl)
theorem dX3_handsAsked_11 : decode cX3_handsAsked 11 = .ok (.iaload, 1) := dk_46 (dk_at dksX3_handsAsked_0 11 rfl rfl)
theorem dX3_handsAsked_12 : decode cX3_handsAsked 12 = .ok (.if_icmp .ge 70, 3) := dk_162 0 70 (dk_at dksX3_handsAsked_0 12 rfl rfl)
theorem dX3_handsAsked_15 : decode cX3_handsAsked 15 = .ok (.bipush 105, 2) := dk_16 105 (dk_at dksX3_handsAsked_0 15 rfl rfl)
theorem dX3_handsAsked_17 : decode cX3_handsAsked 17 = .ok (.iconst 3, 1) := dk_6 (dk_at dksX3_handsAsked_0 17 rfl rfl)
theorem dX3_handsAsked_18 : decode cX3_handsAsked 18 = .ok (.iload_n 2, 1) := dk_28 (dk_at dksX3_handsAsked_0 18 rfl rfl)
theorem dX3_handsAsked_19 : decode cX3_handsAsked 19 = .ok (.imul, 1) := dk_104 (dk_at dksX3_handsAsked_0 19 rfl rfl)
theorem dX3_handsAsked_20 : decode cX3_handsAsked 20 = .ok (.iadd, 1) := dk_96 (dk_at dksX3_handsAsked_0 20 rfl rfl)
theorem dX3_handsAsked_21 : decode cX3_handsAsked 21 = .ok (.istore_n 3, 1) := dk_62 (dk_at dksX3_handsAsked_0 21 rfl rfl)
theorem dX3_handsAsked_22 : decode cX3_handsAsked 22 = .ok (.aload_n 0, 1) := dk_42 (dk_at dksX3_handsAsked_0 22 rfl rfl)
theorem dX3_handsAsked_23 : decode cX3_handsAsked 23 = .ok (.getfield 7, 3) := dk_180 0 7 (dk_at dksX3_handsAsked_1 0 rfl rfl)
theorem dX3_handsAsked_26 : decode cX3_handsAsked 26 = .ok (.iload_n 3, 1) := dk_29 (dk_at dksX3_handsAsked_1 3 rfl rfl)
theorem dX3_handsAsked_27 : decode cX3_handsAsked 27 = .ok (.iaload, 1) := dk_46 (dk_at dksX3_handsAsked_1 4 rfl rfl)
theorem dX3_handsAsked_28 : decode cX3_handsAsked 28 = .ok (.bipush 7, 2) := dk_16 7 (dk_at dksX3_handsAsked_1 5 rfl rfl)
theorem dX3_handsAsked_30 : decode cX3_handsAsked 30 = .ok (.if_icmp .ne 46, 3) := dk_160 0 46 (dk_at dksX3_handsAsked_1 7 rfl rfl)
theorem dX3_handsAsked_33 : decode cX3_handsAsked 33 = .ok (.aload_n 0, 1) := dk_42 (dk_at dksX3_handsAsked_1 10 rfl rfl)
theorem dX3_handsAsked_34 : decode cX3_handsAsked 34 = .ok (.getfield 7, 3) := dk_180 0 7 (dk_at dksX3_handsAsked_1 11 rfl rfl)
theorem dX3_handsAsked_37 : decode cX3_handsAsked 37 = .ok (.iload_n 3, 1) := dk_29 (dk_at dksX3_handsAsked_1 14 rfl rfl)
theorem dX3_handsAsked_38 : decode cX3_handsAsked 38 = .ok (.iconst 2, 1) := dk_5 (dk_at dksX3_handsAsked_1 15 rfl rfl)
theorem dX3_handsAsked_39 : decode cX3_handsAsked 39 = .ok (.iadd, 1) := dk_96 (dk_at dksX3_handsAsked_1 16 rfl rfl)
theorem dX3_handsAsked_40 : decode cX3_handsAsked 40 = .ok (.iaload, 1) := dk_46 (dk_at dksX3_handsAsked_1 17 rfl rfl)
theorem dX3_handsAsked_41 : decode cX3_handsAsked 41 = .ok (.aload_n 0, 1) := dk_42 (dk_at dksX3_handsAsked_1 18 rfl rfl)
theorem dX3_handsAsked_42 : decode cX3_handsAsked 42 = .ok (.getfield 7, 3) := dk_180 0 7 (dk_at dksX3_handsAsked_1 19 rfl rfl)
theorem dX3_handsAsked_45 : decode cX3_handsAsked 45 = .ok (.iconst 1, 1) := dk_4 (dk_at dksX3_handsAsked_1 22 rfl rfl)
theorem dX3_handsAsked_46 : decode cX3_handsAsked 46 = .ok (.iaload, 1) := dk_46 (dk_at dksX3_handsAsked_1 23 rfl rfl)
theorem dX3_handsAsked_47 : decode cX3_handsAsked 47 = .ok (.if_icmp .gt 29, 3) := dk_163 0 29 (dk_at dksX3_handsAsked_2 0 rfl rfl)
theorem dX3_handsAsked_50 : decode cX3_handsAsked 50 = .ok (.iload_n 1, 1) := dk_27 (dk_at dksX3_handsAsked_2 3 rfl rfl)
theorem dX3_handsAsked_51 : decode cX3_handsAsked 51 = .ok (.iconst (-1), 1) := dk_2 (dk_at dksX3_handsAsked_2 4 rfl rfl)
theorem dX3_handsAsked_52 : decode cX3_handsAsked 52 = .ok (.if_icmp .eq 22, 3) := dk_159 0 22 (dk_at dksX3_handsAsked_2 5 rfl rfl)
theorem dX3_handsAsked_55 : decode cX3_handsAsked 55 = .ok (.aload_n 0, 1) := dk_42 (dk_at dksX3_handsAsked_2 8 rfl rfl)
theorem dX3_handsAsked_56 : decode cX3_handsAsked 56 = .ok (.getfield 7, 3) := dk_180 0 7 (dk_at dksX3_handsAsked_2 9 rfl rfl)
theorem dX3_handsAsked_59 : decode cX3_handsAsked 59 = .ok (.iload_n 3, 1) := dk_29 (dk_at dksX3_handsAsked_2 12 rfl rfl)
theorem dX3_handsAsked_60 : decode cX3_handsAsked 60 = .ok (.iconst 2, 1) := dk_5 (dk_at dksX3_handsAsked_2 13 rfl rfl)
theorem dX3_handsAsked_61 : decode cX3_handsAsked 61 = .ok (.iadd, 1) := dk_96 (dk_at dksX3_handsAsked_2 14 rfl rfl)
theorem dX3_handsAsked_62 : decode cX3_handsAsked 62 = .ok (.iaload, 1) := dk_46 (dk_at dksX3_handsAsked_2 15 rfl rfl)
theorem dX3_handsAsked_63 : decode cX3_handsAsked 63 = .ok (.aload_n 0, 1) := dk_42 (dk_at dksX3_handsAsked_2 16 rfl rfl)
theorem dX3_handsAsked_64 : decode cX3_handsAsked 64 = .ok (.getfield 7, 3) := dk_180 0 7 (dk_at dksX3_handsAsked_2 17 rfl rfl)
theorem dX3_handsAsked_67 : decode cX3_handsAsked 67 = .ok (.iload_n 1, 1) := dk_27 (dk_at dksX3_handsAsked_2 20 rfl rfl)
theorem dX3_handsAsked_68 : decode cX3_handsAsked 68 = .ok (.iconst 2, 1) := dk_5 (dk_at dksX3_handsAsked_2 21 rfl rfl)
theorem dX3_handsAsked_69 : decode cX3_handsAsked 69 = .ok (.iadd, 1) := dk_96 (dk_at dksX3_handsAsked_2 22 rfl rfl)
theorem dX3_handsAsked_70 : decode cX3_handsAsked 70 = .ok (.iaload, 1) := dk_46 (dk_at dksX3_handsAsked_2 23 rfl rfl)
theorem dX3_handsAsked_71 : decode cX3_handsAsked 71 = .ok (.if_icmp .lt 5, 3) := dk_161 0 5 (dk_at dksX3_handsAsked_3 0 rfl rfl)
theorem dX3_handsAsked_74 : decode cX3_handsAsked 74 = .ok (.iload_n 3, 1) := dk_29 (dk_at dksX3_handsAsked_3 3 rfl rfl)
theorem dX3_handsAsked_75 : decode cX3_handsAsked 75 = .ok (.istore_n 1, 1) := dk_60 (dk_at dksX3_handsAsked_3 4 rfl rfl)
theorem dX3_handsAsked_76 : decode cX3_handsAsked 76 = .ok (.iinc 2 1, 3) := dk_132 2 1 (dk_at dksX3_handsAsked_3 5 rfl rfl)
theorem dX3_handsAsked_79 : decode cX3_handsAsked 79 = .ok (.goto (-75), 3) := dk_167 255 181 (dk_at dksX3_handsAsked_3 8 rfl rfl)
theorem dX3_handsAsked_82 : decode cX3_handsAsked 82 = .ok (.iload_n 1, 1) := dk_27 (dk_at dksX3_handsAsked_3 11 rfl rfl)
theorem dX3_handsAsked_83 : decode cX3_handsAsked 83 = .ok (.iconst (-1), 1) := dk_2 (dk_at dksX3_handsAsked_3 12 rfl rfl)
theorem dX3_handsAsked_84 : decode cX3_handsAsked 84 = .ok (.if_icmp .ne 7, 3) := dk_160 0 7 (dk_at dksX3_handsAsked_3 13 rfl rfl)
theorem dX3_handsAsked_87 : decode cX3_handsAsked 87 = .ok (.iconst 5, 1) := dk_8 (dk_at dksX3_handsAsked_3 16 rfl rfl)
theorem dX3_handsAsked_88 : decode cX3_handsAsked 88 = .ok (.goto 11, 3) := dk_167 0 11 (dk_at dksX3_handsAsked_3 17 rfl rfl)
theorem dX3_handsAsked_91 : decode cX3_handsAsked 91 = .ok (.aload_n 0, 1) := dk_42 (dk_at dksX3_handsAsked_3 20 rfl rfl)
theorem dX3_handsAsked_92 : decode cX3_handsAsked 92 = .ok (.getfield 7, 3) := dk_180 0 7 (dk_at dksX3_handsAsked_3 21 rfl rfl)
theorem dX3_handsAsked_95 : decode cX3_handsAsked 95 = .ok (.iload_n 1, 1) := dk_27 (dk_at dksX3_handsAsked_4 0 rfl rfl)
theorem dX3_handsAsked_96 : decode cX3_handsAsked 96 = .ok (.iconst 1, 1) := dk_4 (dk_at dksX3_handsAsked_4 1 rfl rfl)
theorem dX3_handsAsked_97 : decode cX3_handsAsked 97 = .ok (.iadd, 1) := dk_96 (dk_at dksX3_handsAsked_4 2 rfl rfl)
theorem dX3_handsAsked_98 : decode cX3_handsAsked 98 = .ok (.iaload, 1) := dk_46 (dk_at dksX3_handsAsked_4 3 rfl rfl)
theorem dX3_handsAsked_99 : decode cX3_handsAsked 99 = .ok (.ireturn, 1) := dk_172 (dk_at dksX3_handsAsked_4 4 rfl rfl)
abbrev cX3_mostAgains : ByteArray := prog_17_method_65_code
def yX3_mostAgains : MethodName := ⟨RX3, "mostAgains", "()I"⟩
def dkwX3_mostAgains_0 : List UInt8 := [42, 16, 8, 16, 9, 182, 1, 44, 172]
abbrev dktX3_mostAgains_0 : List UInt8 := dkwX3_mostAgains_0 ++ []
theorem dksX3_mostAgains_0 : cX3_mostAgains.data.toList.drop 0 = dktX3_mostAgains_0 := by decide +kernel
theorem dX3_mostAgains_0 : decode cX3_mostAgains 0 = .ok (.aload_n 0, 1) := dk_42 (dk_at dksX3_mostAgains_0 0 rfl rfl)
theorem dX3_mostAgains_1 : decode cX3_mostAgains 1 = .ok (.bipush 8, 2) := dk_16 8 (dk_at dksX3_mostAgains_0 1 rfl rfl)
theorem dX3_mostAgains_3 : decode cX3_mostAgains 3 = .ok (.bipush 9, 2) := dk_16 9 (dk_at dksX3_mostAgains_0 3 rfl rfl)
theorem dX3_mostAgains_5 : decode cX3_mostAgains 5 = .ok (.invokevirtual 300, 3) := dk_182 1 44 (dk_at dksX3_mostAgains_0 5 rfl rfl)
theorem dX3_mostAgains_8 : decode cX3_mostAgains 8 = .ok (.ireturn, 1) := dk_172 (dk_at dksX3_mostAgains_0 8 rfl rfl)
abbrev cX3_lastRule : ByteArray := prog_17_method_64_code
def yX3_lastRule : MethodName := ⟨RX3, "lastRule", "(II)I"⟩
def dkwX3_lastRule_2 : List UInt8 := [167, 0, 4, 29, 62, 132, 4, 1, 167, 255, 206, 29, 172]
abbrev dktX3_lastRule_2 : List UInt8 := dkwX3_lastRule_2 ++ []
def dkwX3_lastRule_1 : List UInt8 := [21, 4, 104, 96, 46, 27, 160, 0, 20, 42, 180, 0, 7, 16, 105, 6, 21, 4, 104, 96, 4, 96, 46]
abbrev dktX3_lastRule_1 : List UInt8 := dkwX3_lastRule_1 ++ dktX3_lastRule_2
def dkwX3_lastRule_0 : List UInt8 := [28, 62, 3, 54, 4, 21, 4, 42, 180, 0, 7, 16, 41, 46, 162, 0, 44, 42, 180, 0, 7, 16, 105, 6]
abbrev dktX3_lastRule_0 : List UInt8 := dkwX3_lastRule_0 ++ dktX3_lastRule_1
theorem dksX3_lastRule_0 : cX3_lastRule.data.toList.drop 0 = dktX3_lastRule_0 := by decide +kernel
theorem dksX3_lastRule_1 : cX3_lastRule.data.toList.drop 24 = dktX3_lastRule_1 := dk_seg dksX3_lastRule_0 24 rfl rfl
theorem dksX3_lastRule_2 : cX3_lastRule.data.toList.drop 47 = dktX3_lastRule_2 := dk_seg dksX3_lastRule_1 23 rfl rfl
theorem dX3_lastRule_0 : decode cX3_lastRule 0 = .ok (.iload_n 2, 1) := dk_28 (dk_at dksX3_lastRule_0 0 rfl rfl)
theorem dX3_lastRule_1 : decode cX3_lastRule 1 = .ok (.istore_n 3, 1) := dk_62 (dk_at dksX3_lastRule_0 1 rfl rfl)
theorem dX3_lastRule_2 : decode cX3_lastRule 2 = .ok (.iconst 0, 1) := dk_3 (dk_at dksX3_lastRule_0 2 rfl rfl)
theorem dX3_lastRule_3 : decode cX3_lastRule 3 = .ok (.istore 4, 2) := dk_54 4 (dk_at dksX3_lastRule_0 3 rfl rfl)
theorem dX3_lastRule_5 : decode cX3_lastRule 5 = .ok (.iload 4, 2) := dk_21 4 (dk_at dksX3_lastRule_0 5 rfl rfl)
theorem dX3_lastRule_7 : decode cX3_lastRule 7 = .ok (.aload_n 0, 1) := dk_42 (dk_at dksX3_lastRule_0 7 rfl rfl)
theorem dX3_lastRule_8 : decode cX3_lastRule 8 = .ok (.getfield 7, 3) := dk_180 0 7 (dk_at dksX3_lastRule_0 8 rfl rfl)
theorem dX3_lastRule_11 : decode cX3_lastRule 11 = .ok (.bipush 41, 2) := dk_16 41 (dk_at dksX3_lastRule_0 11 rfl rfl)
theorem dX3_lastRule_13 : decode cX3_lastRule 13 = .ok (.iaload, 1) := dk_46 (dk_at dksX3_lastRule_0 13 rfl rfl)
theorem dX3_lastRule_14 : decode cX3_lastRule 14 = .ok (.if_icmp .ge 44, 3) := dk_162 0 44 (dk_at dksX3_lastRule_0 14 rfl rfl)
theorem dX3_lastRule_17 : decode cX3_lastRule 17 = .ok (.aload_n 0, 1) := dk_42 (dk_at dksX3_lastRule_0 17 rfl rfl)
theorem dX3_lastRule_18 : decode cX3_lastRule 18 = .ok (.getfield 7, 3) := dk_180 0 7 (dk_at dksX3_lastRule_0 18 rfl rfl)
theorem dX3_lastRule_21 : decode cX3_lastRule 21 = .ok (.bipush 105, 2) := dk_16 105 (dk_at dksX3_lastRule_0 21 rfl rfl)
theorem dX3_lastRule_23 : decode cX3_lastRule 23 = .ok (.iconst 3, 1) := dk_6 (dk_at dksX3_lastRule_0 23 rfl rfl)
theorem dX3_lastRule_24 : decode cX3_lastRule 24 = .ok (.iload 4, 2) := dk_21 4 (dk_at dksX3_lastRule_1 0 rfl rfl)
theorem dX3_lastRule_26 : decode cX3_lastRule 26 = .ok (.imul, 1) := dk_104 (dk_at dksX3_lastRule_1 2 rfl rfl)
theorem dX3_lastRule_27 : decode cX3_lastRule 27 = .ok (.iadd, 1) := dk_96 (dk_at dksX3_lastRule_1 3 rfl rfl)
theorem dX3_lastRule_28 : decode cX3_lastRule 28 = .ok (.iaload, 1) := dk_46 (dk_at dksX3_lastRule_1 4 rfl rfl)
theorem dX3_lastRule_29 : decode cX3_lastRule 29 = .ok (.iload_n 1, 1) := dk_27 (dk_at dksX3_lastRule_1 5 rfl rfl)
theorem dX3_lastRule_30 : decode cX3_lastRule 30 = .ok (.if_icmp .ne 20, 3) := dk_160 0 20 (dk_at dksX3_lastRule_1 6 rfl rfl)
theorem dX3_lastRule_33 : decode cX3_lastRule 33 = .ok (.aload_n 0, 1) := dk_42 (dk_at dksX3_lastRule_1 9 rfl rfl)
theorem dX3_lastRule_34 : decode cX3_lastRule 34 = .ok (.getfield 7, 3) := dk_180 0 7 (dk_at dksX3_lastRule_1 10 rfl rfl)
theorem dX3_lastRule_37 : decode cX3_lastRule 37 = .ok (.bipush 105, 2) := dk_16 105 (dk_at dksX3_lastRule_1 13 rfl rfl)
theorem dX3_lastRule_39 : decode cX3_lastRule 39 = .ok (.iconst 3, 1) := dk_6 (dk_at dksX3_lastRule_1 15 rfl rfl)
theorem dX3_lastRule_40 : decode cX3_lastRule 40 = .ok (.iload 4, 2) := dk_21 4 (dk_at dksX3_lastRule_1 16 rfl rfl)
theorem dX3_lastRule_42 : decode cX3_lastRule 42 = .ok (.imul, 1) := dk_104 (dk_at dksX3_lastRule_1 18 rfl rfl)
theorem dX3_lastRule_43 : decode cX3_lastRule 43 = .ok (.iadd, 1) := dk_96 (dk_at dksX3_lastRule_1 19 rfl rfl)
theorem dX3_lastRule_44 : decode cX3_lastRule 44 = .ok (.iconst 1, 1) := dk_4 (dk_at dksX3_lastRule_1 20 rfl rfl)
theorem dX3_lastRule_45 : decode cX3_lastRule 45 = .ok (.iadd, 1) := dk_96 (dk_at dksX3_lastRule_1 21 rfl rfl)
theorem dX3_lastRule_46 : decode cX3_lastRule 46 = .ok (.iaload, 1) := dk_46 (dk_at dksX3_lastRule_1 22 rfl rfl)
theorem dX3_lastRule_47 : decode cX3_lastRule 47 = .ok (.goto 4, 3) := dk_167 0 4 (dk_at dksX3_lastRule_2 0 rfl rfl)
theorem dX3_lastRule_50 : decode cX3_lastRule 50 = .ok (.iload_n 3, 1) := dk_29 (dk_at dksX3_lastRule_2 3 rfl rfl)
theorem dX3_lastRule_51 : decode cX3_lastRule 51 = .ok (.istore_n 3, 1) := dk_62 (dk_at dksX3_lastRule_2 4 rfl rfl)
theorem dX3_lastRule_52 : decode cX3_lastRule 52 = .ok (.iinc 4 1, 3) := dk_132 4 1 (dk_at dksX3_lastRule_2 5 rfl rfl)
theorem dX3_lastRule_55 : decode cX3_lastRule 55 = .ok (.goto (-50), 3) := dk_167 255 206 (dk_at dksX3_lastRule_2 8 rfl rfl)
theorem dX3_lastRule_58 : decode cX3_lastRule 58 = .ok (.iload_n 3, 1) := dk_29 (dk_at dksX3_lastRule_2 11 rfl rfl)
theorem dX3_lastRule_59 : decode cX3_lastRule 59 = .ok (.ireturn, 1) := dk_172 (dk_at dksX3_lastRule_2 12 rfl rfl)
abbrev cX3_endsAt : ByteArray := prog_17_method_66_code
def yX3_endsAt : MethodName := ⟨RX3, "endsAt", "()I"⟩
def dkwX3_endsAt_0 : List UInt8 := [42, 16, 10, 17, 1, 44, 182, 1, 44, 172]
abbrev dktX3_endsAt_0 : List UInt8 := dkwX3_endsAt_0 ++ []
theorem dksX3_endsAt_0 : cX3_endsAt.data.toList.drop 0 = dktX3_endsAt_0 := by decide +kernel
theorem dX3_endsAt_0 : decode cX3_endsAt 0 = .ok (.aload_n 0, 1) := dk_42 (dk_at dksX3_endsAt_0 0 rfl rfl)
theorem dX3_endsAt_1 : decode cX3_endsAt 1 = .ok (.bipush 10, 2) := dk_16 10 (dk_at dksX3_endsAt_0 1 rfl rfl)
theorem dX3_endsAt_3 : decode cX3_endsAt 3 = .ok (.sipush 300, 3) := dk_17 1 44 (dk_at dksX3_endsAt_0 3 rfl rfl)
theorem dX3_endsAt_6 : decode cX3_endsAt 6 = .ok (.invokevirtual 300, 3) := dk_182 1 44 (dk_at dksX3_endsAt_0 6 rfl rfl)
theorem dX3_endsAt_9 : decode cX3_endsAt 9 = .ok (.ireturn, 1) := dk_172 (dk_at dksX3_endsAt_0 9 rfl rfl)
abbrev cX3_pay : ByteArray := prog_17_method_77_code
def yX3_pay : MethodName := ⟨RX3, "pay", "(II)Z"⟩
def dkwX3_pay_2 : List UInt8 := [79, 42, 180, 0, 7, 5, 92, 46, 28, 100, 79, 42, 6, 27, 28, 182, 1, 81, 4, 172]
abbrev dktX3_pay_2 : List UInt8 := dkwX3_pay_2 ++ []
def dkwX3_pay_1 : List UInt8 := [42, 180, 0, 7, 16, 9, 27, 96, 16, 99, 42, 180, 0, 7, 16, 9, 27, 96, 46, 28, 96, 184, 1, 30]
abbrev dktX3_pay_1 : List UInt8 := dkwX3_pay_1 ++ dktX3_pay_2
def dkwX3_pay_0 : List UInt8 := [42, 27, 182, 0, 68, 153, 0, 13, 28, 4, 16, 99, 184, 0, 56, 154, 0, 5, 3, 172, 42, 182, 1, 111]
abbrev dktX3_pay_0 : List UInt8 := dkwX3_pay_0 ++ dktX3_pay_1
theorem dksX3_pay_0 : cX3_pay.data.toList.drop 0 = dktX3_pay_0 := by decide +kernel
theorem dksX3_pay_1 : cX3_pay.data.toList.drop 24 = dktX3_pay_1 := dk_seg dksX3_pay_0 24 rfl rfl
theorem dksX3_pay_2 : cX3_pay.data.toList.drop 48 = dktX3_pay_2 := dk_seg dksX3_pay_1 24 rfl rfl
theorem dX3_pay_0 : decode cX3_pay 0 = .ok (.aload_n 0, 1) := dk_42 (dk_at dksX3_pay_0 0 rfl rfl)
theorem dX3_pay_1 : decode cX3_pay 1 = .ok (.iload_n 1, 1) := dk_27 (dk_at dksX3_pay_0 1 rfl rfl)
theorem dX3_pay_2 : decode cX3_pay 2 = .ok (.invokevirtual 68, 3) := dk_182 0 68 (dk_at dksX3_pay_0 2 rfl rfl)
theorem dX3_pay_5 : decode cX3_pay 5 = .ok (.ifCond .eq 13, 3) := dk_153 0 13 (dk_at dksX3_pay_0 5 rfl rfl)
theorem dX3_pay_8 : decode cX3_pay 8 = .ok (.iload_n 2, 1) := dk_28 (dk_at dksX3_pay_0 8 rfl rfl)
theorem dX3_pay_9 : decode cX3_pay 9 = .ok (.iconst 1, 1) := dk_4 (dk_at dksX3_pay_0 9 rfl rfl)
theorem dX3_pay_10 : decode cX3_pay 10 = .ok (.bipush 99, 2) := dk_16 99 (dk_at dksX3_pay_0 10 rfl rfl)
theorem dX3_pay_12 : decode cX3_pay 12 = .ok (.invokestatic 56, 3) := dk_184 0 56 (dk_at dksX3_pay_0 12 rfl rfl)
theorem dX3_pay_15 : decode cX3_pay 15 = .ok (.ifCond .ne 5, 3) := dk_154 0 5 (dk_at dksX3_pay_0 15 rfl rfl)
theorem dX3_pay_18 : decode cX3_pay 18 = .ok (.iconst 0, 1) := dk_3 (dk_at dksX3_pay_0 18 rfl rfl)
theorem dX3_pay_19 : decode cX3_pay 19 = .ok (.ireturn, 1) := dk_172 (dk_at dksX3_pay_0 19 rfl rfl)
theorem dX3_pay_20 : decode cX3_pay 20 = .ok (.aload_n 0, 1) := dk_42 (dk_at dksX3_pay_0 20 rfl rfl)
theorem dX3_pay_21 : decode cX3_pay 21 = .ok (.invokevirtual 367, 3) := dk_182 1 111 (dk_at dksX3_pay_0 21 rfl rfl)
theorem dX3_pay_24 : decode cX3_pay 24 = .ok (.aload_n 0, 1) := dk_42 (dk_at dksX3_pay_1 0 rfl rfl)
theorem dX3_pay_25 : decode cX3_pay 25 = .ok (.getfield 7, 3) := dk_180 0 7 (dk_at dksX3_pay_1 1 rfl rfl)
theorem dX3_pay_28 : decode cX3_pay 28 = .ok (.bipush 9, 2) := dk_16 9 (dk_at dksX3_pay_1 4 rfl rfl)
theorem dX3_pay_30 : decode cX3_pay 30 = .ok (.iload_n 1, 1) := dk_27 (dk_at dksX3_pay_1 6 rfl rfl)
theorem dX3_pay_31 : decode cX3_pay 31 = .ok (.iadd, 1) := dk_96 (dk_at dksX3_pay_1 7 rfl rfl)
theorem dX3_pay_32 : decode cX3_pay 32 = .ok (.bipush 99, 2) := dk_16 99 (dk_at dksX3_pay_1 8 rfl rfl)
theorem dX3_pay_34 : decode cX3_pay 34 = .ok (.aload_n 0, 1) := dk_42 (dk_at dksX3_pay_1 10 rfl rfl)
theorem dX3_pay_35 : decode cX3_pay 35 = .ok (.getfield 7, 3) := dk_180 0 7 (dk_at dksX3_pay_1 11 rfl rfl)
theorem dX3_pay_38 : decode cX3_pay 38 = .ok (.bipush 9, 2) := dk_16 9 (dk_at dksX3_pay_1 14 rfl rfl)
theorem dX3_pay_40 : decode cX3_pay 40 = .ok (.iload_n 1, 1) := dk_27 (dk_at dksX3_pay_1 16 rfl rfl)
theorem dX3_pay_41 : decode cX3_pay 41 = .ok (.iadd, 1) := dk_96 (dk_at dksX3_pay_1 17 rfl rfl)
theorem dX3_pay_42 : decode cX3_pay 42 = .ok (.iaload, 1) := dk_46 (dk_at dksX3_pay_1 18 rfl rfl)
theorem dX3_pay_43 : decode cX3_pay 43 = .ok (.iload_n 2, 1) := dk_28 (dk_at dksX3_pay_1 19 rfl rfl)
theorem dX3_pay_44 : decode cX3_pay 44 = .ok (.iadd, 1) := dk_96 (dk_at dksX3_pay_1 20 rfl rfl)
theorem dX3_pay_45 : decode cX3_pay 45 = .ok (.invokestatic 286, 3) := dk_184 1 30 (dk_at dksX3_pay_1 21 rfl rfl)
theorem dX3_pay_48 : decode cX3_pay 48 = .ok (.iastore, 1) := dk_79 (dk_at dksX3_pay_2 0 rfl rfl)
theorem dX3_pay_49 : decode cX3_pay 49 = .ok (.aload_n 0, 1) := dk_42 (dk_at dksX3_pay_2 1 rfl rfl)
theorem dX3_pay_50 : decode cX3_pay 50 = .ok (.getfield 7, 3) := dk_180 0 7 (dk_at dksX3_pay_2 2 rfl rfl)
theorem dX3_pay_53 : decode cX3_pay 53 = .ok (.iconst 2, 1) := dk_5 (dk_at dksX3_pay_2 5 rfl rfl)
theorem dX3_pay_54 : decode cX3_pay 54 = .ok (.dup2, 1) := dk_92 (dk_at dksX3_pay_2 6 rfl rfl)
theorem dX3_pay_55 : decode cX3_pay 55 = .ok (.iaload, 1) := dk_46 (dk_at dksX3_pay_2 7 rfl rfl)
theorem dX3_pay_56 : decode cX3_pay 56 = .ok (.iload_n 2, 1) := dk_28 (dk_at dksX3_pay_2 8 rfl rfl)
theorem dX3_pay_57 : decode cX3_pay 57 = .ok (.isub, 1) := dk_100 (dk_at dksX3_pay_2 9 rfl rfl)
theorem dX3_pay_58 : decode cX3_pay 58 = .ok (.iastore, 1) := dk_79 (dk_at dksX3_pay_2 10 rfl rfl)
theorem dX3_pay_59 : decode cX3_pay 59 = .ok (.aload_n 0, 1) := dk_42 (dk_at dksX3_pay_2 11 rfl rfl)
theorem dX3_pay_60 : decode cX3_pay 60 = .ok (.iconst 3, 1) := dk_6 (dk_at dksX3_pay_2 12 rfl rfl)
theorem dX3_pay_61 : decode cX3_pay 61 = .ok (.iload_n 1, 1) := dk_27 (dk_at dksX3_pay_2 13 rfl rfl)
theorem dX3_pay_62 : decode cX3_pay 62 = .ok (.iload_n 2, 1) := dk_28 (dk_at dksX3_pay_2 14 rfl rfl)
theorem dX3_pay_63 : decode cX3_pay 63 = .ok (.invokevirtual 337, 3) := dk_182 1 81 (dk_at dksX3_pay_2 15 rfl rfl)
theorem dX3_pay_66 : decode cX3_pay 66 = .ok (.iconst 1, 1) := dk_4 (dk_at dksX3_pay_2 18 rfl rfl)
theorem dX3_pay_67 : decode cX3_pay 67 = .ok (.ireturn, 1) := dk_172 (dk_at dksX3_pay_2 19 rfl rfl)
abbrev cX3_glove : ByteArray := prog_17_method_78_code
def yX3_glove : MethodName := ⟨RX3, "glove", "(IZ)Z"⟩
def dkwX3_glove_2 : List UInt8 := [182, 1, 81, 4, 172]
abbrev dktX3_glove_2 : List UInt8 := dkwX3_glove_2 ++ []
def dkwX3_glove_1 : List UInt8 := [180, 0, 7, 16, 8, 92, 46, 4, 27, 120, 130, 79, 42, 7, 27, 28, 153, 0, 7, 4, 167, 0, 4, 3]
abbrev dktX3_glove_1 : List UInt8 := dkwX3_glove_1 ++ dktX3_glove_2
def dkwX3_glove_0 : List UInt8 := [42, 27, 182, 0, 68, 153, 0, 12, 42, 27, 182, 1, 57, 28, 160, 0, 5, 3, 172, 42, 182, 1, 111, 42]
abbrev dktX3_glove_0 : List UInt8 := dkwX3_glove_0 ++ dktX3_glove_1
theorem dksX3_glove_0 : cX3_glove.data.toList.drop 0 = dktX3_glove_0 := by decide +kernel
theorem dksX3_glove_1 : cX3_glove.data.toList.drop 24 = dktX3_glove_1 := dk_seg dksX3_glove_0 24 rfl rfl
theorem dksX3_glove_2 : cX3_glove.data.toList.drop 48 = dktX3_glove_2 := dk_seg dksX3_glove_1 24 rfl rfl
theorem dX3_glove_0 : decode cX3_glove 0 = .ok (.aload_n 0, 1) := dk_42 (dk_at dksX3_glove_0 0 rfl rfl)
theorem dX3_glove_1 : decode cX3_glove 1 = .ok (.iload_n 1, 1) := dk_27 (dk_at dksX3_glove_0 1 rfl rfl)
theorem dX3_glove_2 : decode cX3_glove 2 = .ok (.invokevirtual 68, 3) := dk_182 0 68 (dk_at dksX3_glove_0 2 rfl rfl)
theorem dX3_glove_5 : decode cX3_glove 5 = .ok (.ifCond .eq 12, 3) := dk_153 0 12 (dk_at dksX3_glove_0 5 rfl rfl)
theorem dX3_glove_8 : decode cX3_glove 8 = .ok (.aload_n 0, 1) := dk_42 (dk_at dksX3_glove_0 8 rfl rfl)
theorem dX3_glove_9 : decode cX3_glove 9 = .ok (.iload_n 1, 1) := dk_27 (dk_at dksX3_glove_0 9 rfl rfl)
theorem dX3_glove_10 : decode cX3_glove 10 = .ok (.invokevirtual 313, 3) := dk_182 1 57 (dk_at dksX3_glove_0 10 rfl rfl)
theorem dX3_glove_13 : decode cX3_glove 13 = .ok (.iload_n 2, 1) := dk_28 (dk_at dksX3_glove_0 13 rfl rfl)
theorem dX3_glove_14 : decode cX3_glove 14 = .ok (.if_icmp .ne 5, 3) := dk_160 0 5 (dk_at dksX3_glove_0 14 rfl rfl)
theorem dX3_glove_17 : decode cX3_glove 17 = .ok (.iconst 0, 1) := dk_3 (dk_at dksX3_glove_0 17 rfl rfl)
theorem dX3_glove_18 : decode cX3_glove 18 = .ok (.ireturn, 1) := dk_172 (dk_at dksX3_glove_0 18 rfl rfl)
theorem dX3_glove_19 : decode cX3_glove 19 = .ok (.aload_n 0, 1) := dk_42 (dk_at dksX3_glove_0 19 rfl rfl)
theorem dX3_glove_20 : decode cX3_glove 20 = .ok (.invokevirtual 367, 3) := dk_182 1 111 (dk_at dksX3_glove_0 20 rfl rfl)
theorem dX3_glove_23 : decode cX3_glove 23 = .ok (.aload_n 0, 1) := dk_42 (dk_at dksX3_glove_0 23 rfl rfl)
theorem dX3_glove_24 : decode cX3_glove 24 = .ok (.getfield 7, 3) := dk_180 0 7 (dk_at dksX3_glove_1 0 rfl rfl)
theorem dX3_glove_27 : decode cX3_glove 27 = .ok (.bipush 8, 2) := dk_16 8 (dk_at dksX3_glove_1 3 rfl rfl)
theorem dX3_glove_29 : decode cX3_glove 29 = .ok (.dup2, 1) := dk_92 (dk_at dksX3_glove_1 5 rfl rfl)
theorem dX3_glove_30 : decode cX3_glove 30 = .ok (.iaload, 1) := dk_46 (dk_at dksX3_glove_1 6 rfl rfl)
theorem dX3_glove_31 : decode cX3_glove 31 = .ok (.iconst 1, 1) := dk_4 (dk_at dksX3_glove_1 7 rfl rfl)
theorem dX3_glove_32 : decode cX3_glove 32 = .ok (.iload_n 1, 1) := dk_27 (dk_at dksX3_glove_1 8 rfl rfl)
theorem dX3_glove_33 : decode cX3_glove 33 = .ok (.ishl, 1) := dk_120 (dk_at dksX3_glove_1 9 rfl rfl)
theorem dX3_glove_34 : decode cX3_glove 34 = .ok (.ixor, 1) := dk_130 (dk_at dksX3_glove_1 10 rfl rfl)
theorem dX3_glove_35 : decode cX3_glove 35 = .ok (.iastore, 1) := dk_79 (dk_at dksX3_glove_1 11 rfl rfl)
theorem dX3_glove_36 : decode cX3_glove 36 = .ok (.aload_n 0, 1) := dk_42 (dk_at dksX3_glove_1 12 rfl rfl)
theorem dX3_glove_37 : decode cX3_glove 37 = .ok (.iconst 4, 1) := dk_7 (dk_at dksX3_glove_1 13 rfl rfl)
theorem dX3_glove_38 : decode cX3_glove 38 = .ok (.iload_n 1, 1) := dk_27 (dk_at dksX3_glove_1 14 rfl rfl)
theorem dX3_glove_39 : decode cX3_glove 39 = .ok (.iload_n 2, 1) := dk_28 (dk_at dksX3_glove_1 15 rfl rfl)
theorem dX3_glove_40 : decode cX3_glove 40 = .ok (.ifCond .eq 7, 3) := dk_153 0 7 (dk_at dksX3_glove_1 16 rfl rfl)
theorem dX3_glove_43 : decode cX3_glove 43 = .ok (.iconst 1, 1) := dk_4 (dk_at dksX3_glove_1 19 rfl rfl)
theorem dX3_glove_44 : decode cX3_glove 44 = .ok (.goto 4, 3) := dk_167 0 4 (dk_at dksX3_glove_1 20 rfl rfl)
theorem dX3_glove_47 : decode cX3_glove 47 = .ok (.iconst 0, 1) := dk_3 (dk_at dksX3_glove_1 23 rfl rfl)
theorem dX3_glove_48 : decode cX3_glove 48 = .ok (.invokevirtual 337, 3) := dk_182 1 81 (dk_at dksX3_glove_2 0 rfl rfl)
theorem dX3_glove_51 : decode cX3_glove 51 = .ok (.iconst 1, 1) := dk_4 (dk_at dksX3_glove_2 3 rfl rfl)
theorem dX3_glove_52 : decode cX3_glove 52 = .ok (.ireturn, 1) := dk_172 (dk_at dksX3_glove_2 4 rfl rfl)
abbrev cX3_let : ByteArray := prog_17_method_79_code
def yX3_let : MethodName := ⟨RX3, "let", "(IZ)Z"⟩
def dkwX3_let_2 : List UInt8 := [182, 1, 81, 4, 172]
abbrev dktX3_let_2 : List UInt8 := dkwX3_let_2 ++ []
def dkwX3_let_1 : List UInt8 := [180, 0, 7, 16, 7, 92, 46, 4, 27, 120, 130, 79, 42, 8, 27, 28, 153, 0, 7, 4, 167, 0, 4, 3]
abbrev dktX3_let_1 : List UInt8 := dkwX3_let_1 ++ dktX3_let_2
def dkwX3_let_0 : List UInt8 := [42, 27, 182, 0, 68, 153, 0, 12, 42, 27, 182, 1, 54, 28, 160, 0, 5, 3, 172, 42, 182, 1, 111, 42]
abbrev dktX3_let_0 : List UInt8 := dkwX3_let_0 ++ dktX3_let_1
theorem dksX3_let_0 : cX3_let.data.toList.drop 0 = dktX3_let_0 := by decide +kernel
theorem dksX3_let_1 : cX3_let.data.toList.drop 24 = dktX3_let_1 := dk_seg dksX3_let_0 24 rfl rfl
theorem dksX3_let_2 : cX3_let.data.toList.drop 48 = dktX3_let_2 := dk_seg dksX3_let_1 24 rfl rfl
theorem dX3_let_0 : decode cX3_let 0 = .ok (.aload_n 0, 1) := dk_42 (dk_at dksX3_let_0 0 rfl rfl)
theorem dX3_let_1 : decode cX3_let 1 = .ok (.iload_n 1, 1) := dk_27 (dk_at dksX3_let_0 1 rfl rfl)
theorem dX3_let_2 : decode cX3_let 2 = .ok (.invokevirtual 68, 3) := dk_182 0 68 (dk_at dksX3_let_0 2 rfl rfl)
theorem dX3_let_5 : decode cX3_let 5 = .ok (.ifCond .eq 12, 3) := dk_153 0 12 (dk_at dksX3_let_0 5 rfl rfl)
theorem dX3_let_8 : decode cX3_let 8 = .ok (.aload_n 0, 1) := dk_42 (dk_at dksX3_let_0 8 rfl rfl)
theorem dX3_let_9 : decode cX3_let 9 = .ok (.iload_n 1, 1) := dk_27 (dk_at dksX3_let_0 9 rfl rfl)
theorem dX3_let_10 : decode cX3_let 10 = .ok (.invokevirtual 310, 3) := dk_182 1 54 (dk_at dksX3_let_0 10 rfl rfl)
theorem dX3_let_13 : decode cX3_let 13 = .ok (.iload_n 2, 1) := dk_28 (dk_at dksX3_let_0 13 rfl rfl)
theorem dX3_let_14 : decode cX3_let 14 = .ok (.if_icmp .ne 5, 3) := dk_160 0 5 (dk_at dksX3_let_0 14 rfl rfl)
theorem dX3_let_17 : decode cX3_let 17 = .ok (.iconst 0, 1) := dk_3 (dk_at dksX3_let_0 17 rfl rfl)
theorem dX3_let_18 : decode cX3_let 18 = .ok (.ireturn, 1) := dk_172 (dk_at dksX3_let_0 18 rfl rfl)
theorem dX3_let_19 : decode cX3_let 19 = .ok (.aload_n 0, 1) := dk_42 (dk_at dksX3_let_0 19 rfl rfl)
theorem dX3_let_20 : decode cX3_let 20 = .ok (.invokevirtual 367, 3) := dk_182 1 111 (dk_at dksX3_let_0 20 rfl rfl)
theorem dX3_let_23 : decode cX3_let 23 = .ok (.aload_n 0, 1) := dk_42 (dk_at dksX3_let_0 23 rfl rfl)
theorem dX3_let_24 : decode cX3_let 24 = .ok (.getfield 7, 3) := dk_180 0 7 (dk_at dksX3_let_1 0 rfl rfl)
theorem dX3_let_27 : decode cX3_let 27 = .ok (.bipush 7, 2) := dk_16 7 (dk_at dksX3_let_1 3 rfl rfl)
theorem dX3_let_29 : decode cX3_let 29 = .ok (.dup2, 1) := dk_92 (dk_at dksX3_let_1 5 rfl rfl)
theorem dX3_let_30 : decode cX3_let 30 = .ok (.iaload, 1) := dk_46 (dk_at dksX3_let_1 6 rfl rfl)
theorem dX3_let_31 : decode cX3_let 31 = .ok (.iconst 1, 1) := dk_4 (dk_at dksX3_let_1 7 rfl rfl)
theorem dX3_let_32 : decode cX3_let 32 = .ok (.iload_n 1, 1) := dk_27 (dk_at dksX3_let_1 8 rfl rfl)
theorem dX3_let_33 : decode cX3_let 33 = .ok (.ishl, 1) := dk_120 (dk_at dksX3_let_1 9 rfl rfl)
theorem dX3_let_34 : decode cX3_let 34 = .ok (.ixor, 1) := dk_130 (dk_at dksX3_let_1 10 rfl rfl)
theorem dX3_let_35 : decode cX3_let 35 = .ok (.iastore, 1) := dk_79 (dk_at dksX3_let_1 11 rfl rfl)
theorem dX3_let_36 : decode cX3_let 36 = .ok (.aload_n 0, 1) := dk_42 (dk_at dksX3_let_1 12 rfl rfl)
theorem dX3_let_37 : decode cX3_let 37 = .ok (.iconst 5, 1) := dk_8 (dk_at dksX3_let_1 13 rfl rfl)
theorem dX3_let_38 : decode cX3_let 38 = .ok (.iload_n 1, 1) := dk_27 (dk_at dksX3_let_1 14 rfl rfl)
theorem dX3_let_39 : decode cX3_let 39 = .ok (.iload_n 2, 1) := dk_28 (dk_at dksX3_let_1 15 rfl rfl)
theorem dX3_let_40 : decode cX3_let 40 = .ok (.ifCond .eq 7, 3) := dk_153 0 7 (dk_at dksX3_let_1 16 rfl rfl)
theorem dX3_let_43 : decode cX3_let 43 = .ok (.iconst 1, 1) := dk_4 (dk_at dksX3_let_1 19 rfl rfl)
theorem dX3_let_44 : decode cX3_let 44 = .ok (.goto 4, 3) := dk_167 0 4 (dk_at dksX3_let_1 20 rfl rfl)
theorem dX3_let_47 : decode cX3_let 47 = .ok (.iconst 0, 1) := dk_3 (dk_at dksX3_let_1 23 rfl rfl)
theorem dX3_let_48 : decode cX3_let 48 = .ok (.invokevirtual 337, 3) := dk_182 1 81 (dk_at dksX3_let_2 0 rfl rfl)
theorem dX3_let_51 : decode cX3_let 51 = .ok (.iconst 1, 1) := dk_4 (dk_at dksX3_let_2 3 rfl rfl)
theorem dX3_let_52 : decode cX3_let 52 = .ok (.ireturn, 1) := dk_172 (dk_at dksX3_let_2 4 rfl rfl)
abbrev cX3_evenings : ByteArray := prog_17_method_81_code
def yX3_evenings : MethodName := ⟨RX3, "evenings", "(I)I"⟩
def dkwX3_evenings_2 : List UInt8 := [132, 3, 1, 167, 255, 237, 28, 172]
abbrev dktX3_evenings_2 : List UInt8 := dkwX3_evenings_2 ++ []
def dkwX3_evenings_1 : List UInt8 := [2, 172, 3, 61, 3, 62, 29, 27, 162, 0, 20, 42, 182, 1, 111, 28, 42, 182, 1, 117, 96, 61]
abbrev dktX3_evenings_1 : List UInt8 := dkwX3_evenings_1 ++ dktX3_evenings_2
def dkwX3_evenings_0 : List UInt8 := [27, 4, 16, 20, 184, 0, 56, 153, 0, 17, 42, 180, 0, 7, 4, 46, 27, 96, 17, 39, 15, 164, 0, 5]
abbrev dktX3_evenings_0 : List UInt8 := dkwX3_evenings_0 ++ dktX3_evenings_1
theorem dksX3_evenings_0 : cX3_evenings.data.toList.drop 0 = dktX3_evenings_0 := by decide +kernel
theorem dksX3_evenings_1 : cX3_evenings.data.toList.drop 24 = dktX3_evenings_1 := dk_seg dksX3_evenings_0 24 rfl rfl
theorem dksX3_evenings_2 : cX3_evenings.data.toList.drop 46 = dktX3_evenings_2 := dk_seg dksX3_evenings_1 22 rfl rfl
theorem dX3_evenings_0 : decode cX3_evenings 0 = .ok (.iload_n 1, 1) := dk_27 (dk_at dksX3_evenings_0 0 rfl rfl)
theorem dX3_evenings_1 : decode cX3_evenings 1 = .ok (.iconst 1, 1) := dk_4 (dk_at dksX3_evenings_0 1 rfl rfl)
theorem dX3_evenings_2 : decode cX3_evenings 2 = .ok (.bipush 20, 2) := dk_16 20 (dk_at dksX3_evenings_0 2 rfl rfl)
theorem dX3_evenings_4 : decode cX3_evenings 4 = .ok (.invokestatic 56, 3) := dk_184 0 56 (dk_at dksX3_evenings_0 4 rfl rfl)
theorem dX3_evenings_7 : decode cX3_evenings 7 = .ok (.ifCond .eq 17, 3) := dk_153 0 17 (dk_at dksX3_evenings_0 7 rfl rfl)
theorem dX3_evenings_10 : decode cX3_evenings 10 = .ok (.aload_n 0, 1) := dk_42 (dk_at dksX3_evenings_0 10 rfl rfl)
theorem dX3_evenings_11 : decode cX3_evenings 11 = .ok (.getfield 7, 3) := dk_180 0 7 (dk_at dksX3_evenings_0 11 rfl rfl)
theorem dX3_evenings_14 : decode cX3_evenings 14 = .ok (.iconst 1, 1) := dk_4 (dk_at dksX3_evenings_0 14 rfl rfl)
theorem dX3_evenings_15 : decode cX3_evenings 15 = .ok (.iaload, 1) := dk_46 (dk_at dksX3_evenings_0 15 rfl rfl)
theorem dX3_evenings_16 : decode cX3_evenings 16 = .ok (.iload_n 1, 1) := dk_27 (dk_at dksX3_evenings_0 16 rfl rfl)
theorem dX3_evenings_17 : decode cX3_evenings 17 = .ok (.iadd, 1) := dk_96 (dk_at dksX3_evenings_0 17 rfl rfl)
theorem dX3_evenings_18 : decode cX3_evenings 18 = .ok (.sipush 9999, 3) := dk_17 39 15 (dk_at dksX3_evenings_0 18 rfl rfl)
theorem dX3_evenings_21 : decode cX3_evenings 21 = .ok (.if_icmp .le 5, 3) := dk_164 0 5 (dk_at dksX3_evenings_0 21 rfl rfl)
theorem dX3_evenings_24 : decode cX3_evenings 24 = .ok (.iconst (-1), 1) := dk_2 (dk_at dksX3_evenings_1 0 rfl rfl)
theorem dX3_evenings_25 : decode cX3_evenings 25 = .ok (.ireturn, 1) := dk_172 (dk_at dksX3_evenings_1 1 rfl rfl)
theorem dX3_evenings_26 : decode cX3_evenings 26 = .ok (.iconst 0, 1) := dk_3 (dk_at dksX3_evenings_1 2 rfl rfl)
theorem dX3_evenings_27 : decode cX3_evenings 27 = .ok (.istore_n 2, 1) := dk_61 (dk_at dksX3_evenings_1 3 rfl rfl)
theorem dX3_evenings_28 : decode cX3_evenings 28 = .ok (.iconst 0, 1) := dk_3 (dk_at dksX3_evenings_1 4 rfl rfl)
theorem dX3_evenings_29 : decode cX3_evenings 29 = .ok (.istore_n 3, 1) := dk_62 (dk_at dksX3_evenings_1 5 rfl rfl)
theorem dX3_evenings_30 : decode cX3_evenings 30 = .ok (.iload_n 3, 1) := dk_29 (dk_at dksX3_evenings_1 6 rfl rfl)
theorem dX3_evenings_31 : decode cX3_evenings 31 = .ok (.iload_n 1, 1) := dk_27 (dk_at dksX3_evenings_1 7 rfl rfl)
theorem dX3_evenings_32 : decode cX3_evenings 32 = .ok (.if_icmp .ge 20, 3) := dk_162 0 20 (dk_at dksX3_evenings_1 8 rfl rfl)
theorem dX3_evenings_35 : decode cX3_evenings 35 = .ok (.aload_n 0, 1) := dk_42 (dk_at dksX3_evenings_1 11 rfl rfl)
theorem dX3_evenings_36 : decode cX3_evenings 36 = .ok (.invokevirtual 367, 3) := dk_182 1 111 (dk_at dksX3_evenings_1 12 rfl rfl)
theorem dX3_evenings_39 : decode cX3_evenings 39 = .ok (.iload_n 2, 1) := dk_28 (dk_at dksX3_evenings_1 15 rfl rfl)
theorem dX3_evenings_40 : decode cX3_evenings 40 = .ok (.aload_n 0, 1) := dk_42 (dk_at dksX3_evenings_1 16 rfl rfl)
theorem dX3_evenings_41 : decode cX3_evenings 41 = .ok (.invokevirtual 373, 3) := dk_182 1 117 (dk_at dksX3_evenings_1 17 rfl rfl)
theorem dX3_evenings_44 : decode cX3_evenings 44 = .ok (.iadd, 1) := dk_96 (dk_at dksX3_evenings_1 20 rfl rfl)
theorem dX3_evenings_45 : decode cX3_evenings 45 = .ok (.istore_n 2, 1) := dk_61 (dk_at dksX3_evenings_1 21 rfl rfl)
theorem dX3_evenings_46 : decode cX3_evenings 46 = .ok (.iinc 3 1, 3) := dk_132 3 1 (dk_at dksX3_evenings_2 0 rfl rfl)
theorem dX3_evenings_49 : decode cX3_evenings 49 = .ok (.goto (-19), 3) := dk_167 255 237 (dk_at dksX3_evenings_2 3 rfl rfl)
theorem dX3_evenings_52 : decode cX3_evenings 52 = .ok (.iload_n 2, 1) := dk_28 (dk_at dksX3_evenings_2 6 rfl rfl)
theorem dX3_evenings_53 : decode cX3_evenings 53 = .ok (.ireturn, 1) := dk_172 (dk_at dksX3_evenings_2 7 rfl rfl)
abbrev cX3_anEvening : ByteArray := prog_17_method_80_code
def yX3_anEvening : MethodName := ⟨RX3, "anEvening", "()I"⟩
def dkwX3_anEvening_4 : List UInt8 := [182, 1, 114, 96, 60, 132, 2, 1, 167, 255, 181, 42, 180, 0, 7, 4, 92, 46, 4, 96, 79, 27, 172]
abbrev dktX3_anEvening_4 : List UInt8 := dkwX3_anEvening_4 ++ []
def dkwX3_anEvening_3 : List UInt8 := [182, 1, 99, 162, 0, 24, 27, 42, 42, 180, 0, 7, 17, 0, 153, 5, 28, 104, 96, 4, 96, 46]
abbrev dktX3_anEvening_3 : List UInt8 := dkwX3_anEvening_3 ++ dktX3_anEvening_4
def dkwX3_anEvening_2 : List UInt8 := [180, 0, 7, 17, 0, 153, 5, 28, 104, 96, 46, 184, 1, 34, 79, 42, 180, 0, 7, 3, 46, 42]
abbrev dktX3_anEvening_2 : List UInt8 := dkwX3_anEvening_2 ++ dktX3_anEvening_3
def dkwX3_anEvening_1 : List UInt8 := [61, 28, 42, 180, 0, 7, 16, 42, 46, 162, 0, 70, 42, 180, 0, 7, 3, 42, 180, 0, 7, 3, 46, 42]
abbrev dktX3_anEvening_1 : List UInt8 := dkwX3_anEvening_1 ++ dktX3_anEvening_2
def dkwX3_anEvening_0 : List UInt8 := [42, 180, 0, 7, 3, 3, 79, 42, 180, 0, 7, 6, 2, 79, 42, 180, 0, 7, 7, 3, 79, 3, 60, 3]
abbrev dktX3_anEvening_0 : List UInt8 := dkwX3_anEvening_0 ++ dktX3_anEvening_1
theorem dksX3_anEvening_0 : cX3_anEvening.data.toList.drop 0 = dktX3_anEvening_0 := by decide +kernel
theorem dksX3_anEvening_1 : cX3_anEvening.data.toList.drop 24 = dktX3_anEvening_1 := dk_seg dksX3_anEvening_0 24 rfl rfl
theorem dksX3_anEvening_2 : cX3_anEvening.data.toList.drop 48 = dktX3_anEvening_2 := dk_seg dksX3_anEvening_1 24 rfl rfl
theorem dksX3_anEvening_3 : cX3_anEvening.data.toList.drop 70 = dktX3_anEvening_3 := dk_seg dksX3_anEvening_2 22 rfl rfl
theorem dksX3_anEvening_4 : cX3_anEvening.data.toList.drop 92 = dktX3_anEvening_4 := dk_seg dksX3_anEvening_3 22 rfl rfl
theorem dX3_anEvening_0 : decode cX3_anEvening 0 = .ok (.aload_n 0, 1) := dk_42 (dk_at dksX3_anEvening_0 0 rfl rfl)
theorem dX3_anEvening_1 : decode cX3_anEvening 1 = .ok (.getfield 7, 3) := dk_180 0 7 (dk_at dksX3_anEvening_0 1 rfl rfl)
theorem dX3_anEvening_4 : decode cX3_anEvening 4 = .ok (.iconst 0, 1) := dk_3 (dk_at dksX3_anEvening_0 4 rfl rfl)
theorem dX3_anEvening_5 : decode cX3_anEvening 5 = .ok (.iconst 0, 1) := dk_3 (dk_at dksX3_anEvening_0 5 rfl rfl)
theorem dX3_anEvening_6 : decode cX3_anEvening 6 = .ok (.iastore, 1) := dk_79 (dk_at dksX3_anEvening_0 6 rfl rfl)
theorem dX3_anEvening_7 : decode cX3_anEvening 7 = .ok (.aload_n 0, 1) := dk_42 (dk_at dksX3_anEvening_0 7 rfl rfl)
theorem dX3_anEvening_8 : decode cX3_anEvening 8 = .ok (.getfield 7, 3) := dk_180 0 7 (dk_at dksX3_anEvening_0 8 rfl rfl)
theorem dX3_anEvening_11 : decode cX3_anEvening 11 = .ok (.iconst 3, 1) := dk_6 (dk_at dksX3_anEvening_0 11 rfl rfl)
theorem dX3_anEvening_12 : decode cX3_anEvening 12 = .ok (.iconst (-1), 1) := dk_2 (dk_at dksX3_anEvening_0 12 rfl rfl)
theorem dX3_anEvening_13 : decode cX3_anEvening 13 = .ok (.iastore, 1) := dk_79 (dk_at dksX3_anEvening_0 13 rfl rfl)
theorem dX3_anEvening_14 : decode cX3_anEvening 14 = .ok (.aload_n 0, 1) := dk_42 (dk_at dksX3_anEvening_0 14 rfl rfl)
theorem dX3_anEvening_15 : decode cX3_anEvening 15 = .ok (.getfield 7, 3) := dk_180 0 7 (dk_at dksX3_anEvening_0 15 rfl rfl)
theorem dX3_anEvening_18 : decode cX3_anEvening 18 = .ok (.iconst 4, 1) := dk_7 (dk_at dksX3_anEvening_0 18 rfl rfl)
theorem dX3_anEvening_19 : decode cX3_anEvening 19 = .ok (.iconst 0, 1) := dk_3 (dk_at dksX3_anEvening_0 19 rfl rfl)
theorem dX3_anEvening_20 : decode cX3_anEvening 20 = .ok (.iastore, 1) := dk_79 (dk_at dksX3_anEvening_0 20 rfl rfl)
theorem dX3_anEvening_21 : decode cX3_anEvening 21 = .ok (.iconst 0, 1) := dk_3 (dk_at dksX3_anEvening_0 21 rfl rfl)
theorem dX3_anEvening_22 : decode cX3_anEvening 22 = .ok (.istore_n 1, 1) := dk_60 (dk_at dksX3_anEvening_0 22 rfl rfl)
theorem dX3_anEvening_23 : decode cX3_anEvening 23 = .ok (.iconst 0, 1) := dk_3 (dk_at dksX3_anEvening_0 23 rfl rfl)
theorem dX3_anEvening_24 : decode cX3_anEvening 24 = .ok (.istore_n 2, 1) := dk_61 (dk_at dksX3_anEvening_1 0 rfl rfl)
theorem dX3_anEvening_25 : decode cX3_anEvening 25 = .ok (.iload_n 2, 1) := dk_28 (dk_at dksX3_anEvening_1 1 rfl rfl)
theorem dX3_anEvening_26 : decode cX3_anEvening 26 = .ok (.aload_n 0, 1) := dk_42 (dk_at dksX3_anEvening_1 2 rfl rfl)
theorem dX3_anEvening_27 : decode cX3_anEvening 27 = .ok (.getfield 7, 3) := dk_180 0 7 (dk_at dksX3_anEvening_1 3 rfl rfl)
theorem dX3_anEvening_30 : decode cX3_anEvening 30 = .ok (.bipush 42, 2) := dk_16 42 (dk_at dksX3_anEvening_1 6 rfl rfl)
theorem dX3_anEvening_32 : decode cX3_anEvening 32 = .ok (.iaload, 1) := dk_46 (dk_at dksX3_anEvening_1 8 rfl rfl)
theorem dX3_anEvening_33 : decode cX3_anEvening 33 = .ok (.if_icmp .ge 70, 3) := dk_162 0 70 (dk_at dksX3_anEvening_1 9 rfl rfl)
theorem dX3_anEvening_36 : decode cX3_anEvening 36 = .ok (.aload_n 0, 1) := dk_42 (dk_at dksX3_anEvening_1 12 rfl rfl)
theorem dX3_anEvening_37 : decode cX3_anEvening 37 = .ok (.getfield 7, 3) := dk_180 0 7 (dk_at dksX3_anEvening_1 13 rfl rfl)
theorem dX3_anEvening_40 : decode cX3_anEvening 40 = .ok (.iconst 0, 1) := dk_3 (dk_at dksX3_anEvening_1 16 rfl rfl)
theorem dX3_anEvening_41 : decode cX3_anEvening 41 = .ok (.aload_n 0, 1) := dk_42 (dk_at dksX3_anEvening_1 17 rfl rfl)
theorem dX3_anEvening_42 : decode cX3_anEvening 42 = .ok (.getfield 7, 3) := dk_180 0 7 (dk_at dksX3_anEvening_1 18 rfl rfl)
theorem dX3_anEvening_45 : decode cX3_anEvening 45 = .ok (.iconst 0, 1) := dk_3 (dk_at dksX3_anEvening_1 21 rfl rfl)
theorem dX3_anEvening_46 : decode cX3_anEvening 46 = .ok (.iaload, 1) := dk_46 (dk_at dksX3_anEvening_1 22 rfl rfl)
theorem dX3_anEvening_47 : decode cX3_anEvening 47 = .ok (.aload_n 0, 1) := dk_42 (dk_at dksX3_anEvening_1 23 rfl rfl)
theorem dX3_anEvening_48 : decode cX3_anEvening 48 = .ok (.getfield 7, 3) := dk_180 0 7 (dk_at dksX3_anEvening_2 0 rfl rfl)
theorem dX3_anEvening_51 : decode cX3_anEvening 51 = .ok (.sipush 153, 3) := dk_17 0 153 (dk_at dksX3_anEvening_2 3 rfl rfl)
theorem dX3_anEvening_54 : decode cX3_anEvening 54 = .ok (.iconst 2, 1) := dk_5 (dk_at dksX3_anEvening_2 6 rfl rfl)
theorem dX3_anEvening_55 : decode cX3_anEvening 55 = .ok (.iload_n 2, 1) := dk_28 (dk_at dksX3_anEvening_2 7 rfl rfl)
theorem dX3_anEvening_56 : decode cX3_anEvening 56 = .ok (.imul, 1) := dk_104 (dk_at dksX3_anEvening_2 8 rfl rfl)
theorem dX3_anEvening_57 : decode cX3_anEvening 57 = .ok (.iadd, 1) := dk_96 (dk_at dksX3_anEvening_2 9 rfl rfl)
theorem dX3_anEvening_58 : decode cX3_anEvening 58 = .ok (.iaload, 1) := dk_46 (dk_at dksX3_anEvening_2 10 rfl rfl)
theorem dX3_anEvening_59 : decode cX3_anEvening 59 = .ok (.invokestatic 290, 3) := dk_184 1 34 (dk_at dksX3_anEvening_2 11 rfl rfl)
theorem dX3_anEvening_62 : decode cX3_anEvening 62 = .ok (.iastore, 1) := dk_79 (dk_at dksX3_anEvening_2 14 rfl rfl)
theorem dX3_anEvening_63 : decode cX3_anEvening 63 = .ok (.aload_n 0, 1) := dk_42 (dk_at dksX3_anEvening_2 15 rfl rfl)
theorem dX3_anEvening_64 : decode cX3_anEvening 64 = .ok (.getfield 7, 3) := dk_180 0 7 (dk_at dksX3_anEvening_2 16 rfl rfl)
theorem dX3_anEvening_67 : decode cX3_anEvening 67 = .ok (.iconst 0, 1) := dk_3 (dk_at dksX3_anEvening_2 19 rfl rfl)
theorem dX3_anEvening_68 : decode cX3_anEvening 68 = .ok (.iaload, 1) := dk_46 (dk_at dksX3_anEvening_2 20 rfl rfl)
theorem dX3_anEvening_69 : decode cX3_anEvening 69 = .ok (.aload_n 0, 1) := dk_42 (dk_at dksX3_anEvening_2 21 rfl rfl)
theorem dX3_anEvening_70 : decode cX3_anEvening 70 = .ok (.invokevirtual 355, 3) := dk_182 1 99 (dk_at dksX3_anEvening_3 0 rfl rfl)
theorem dX3_anEvening_73 : decode cX3_anEvening 73 = .ok (.if_icmp .ge 24, 3) := dk_162 0 24 (dk_at dksX3_anEvening_3 3 rfl rfl)
theorem dX3_anEvening_76 : decode cX3_anEvening 76 = .ok (.iload_n 1, 1) := dk_27 (dk_at dksX3_anEvening_3 6 rfl rfl)
theorem dX3_anEvening_77 : decode cX3_anEvening 77 = .ok (.aload_n 0, 1) := dk_42 (dk_at dksX3_anEvening_3 7 rfl rfl)
theorem dX3_anEvening_78 : decode cX3_anEvening 78 = .ok (.aload_n 0, 1) := dk_42 (dk_at dksX3_anEvening_3 8 rfl rfl)
theorem dX3_anEvening_79 : decode cX3_anEvening 79 = .ok (.getfield 7, 3) := dk_180 0 7 (dk_at dksX3_anEvening_3 9 rfl rfl)
theorem dX3_anEvening_82 : decode cX3_anEvening 82 = .ok (.sipush 153, 3) := dk_17 0 153 (dk_at dksX3_anEvening_3 12 rfl rfl)
theorem dX3_anEvening_85 : decode cX3_anEvening 85 = .ok (.iconst 2, 1) := dk_5 (dk_at dksX3_anEvening_3 15 rfl rfl)
theorem dX3_anEvening_86 : decode cX3_anEvening 86 = .ok (.iload_n 2, 1) := dk_28 (dk_at dksX3_anEvening_3 16 rfl rfl)
theorem dX3_anEvening_87 : decode cX3_anEvening 87 = .ok (.imul, 1) := dk_104 (dk_at dksX3_anEvening_3 17 rfl rfl)
theorem dX3_anEvening_88 : decode cX3_anEvening 88 = .ok (.iadd, 1) := dk_96 (dk_at dksX3_anEvening_3 18 rfl rfl)
theorem dX3_anEvening_89 : decode cX3_anEvening 89 = .ok (.iconst 1, 1) := dk_4 (dk_at dksX3_anEvening_3 19 rfl rfl)
theorem dX3_anEvening_90 : decode cX3_anEvening 90 = .ok (.iadd, 1) := dk_96 (dk_at dksX3_anEvening_3 20 rfl rfl)
theorem dX3_anEvening_91 : decode cX3_anEvening 91 = .ok (.iaload, 1) := dk_46 (dk_at dksX3_anEvening_3 21 rfl rfl)
theorem dX3_anEvening_92 : decode cX3_anEvening 92 = .ok (.invokevirtual 370, 3) := dk_182 1 114 (dk_at dksX3_anEvening_4 0 rfl rfl)
theorem dX3_anEvening_95 : decode cX3_anEvening 95 = .ok (.iadd, 1) := dk_96 (dk_at dksX3_anEvening_4 3 rfl rfl)
theorem dX3_anEvening_96 : decode cX3_anEvening 96 = .ok (.istore_n 1, 1) := dk_60 (dk_at dksX3_anEvening_4 4 rfl rfl)
theorem dX3_anEvening_97 : decode cX3_anEvening 97 = .ok (.iinc 2 1, 3) := dk_132 2 1 (dk_at dksX3_anEvening_4 5 rfl rfl)
theorem dX3_anEvening_100 : decode cX3_anEvening 100 = .ok (.goto (-75), 3) := dk_167 255 181 (dk_at dksX3_anEvening_4 8 rfl rfl)
theorem dX3_anEvening_103 : decode cX3_anEvening 103 = .ok (.aload_n 0, 1) := dk_42 (dk_at dksX3_anEvening_4 11 rfl rfl)
theorem dX3_anEvening_104 : decode cX3_anEvening 104 = .ok (.getfield 7, 3) := dk_180 0 7 (dk_at dksX3_anEvening_4 12 rfl rfl)
theorem dX3_anEvening_107 : decode cX3_anEvening 107 = .ok (.iconst 1, 1) := dk_4 (dk_at dksX3_anEvening_4 15 rfl rfl)
theorem dX3_anEvening_108 : decode cX3_anEvening 108 = .ok (.dup2, 1) := dk_92 (dk_at dksX3_anEvening_4 16 rfl rfl)
theorem dX3_anEvening_109 : decode cX3_anEvening 109 = .ok (.iaload, 1) := dk_46 (dk_at dksX3_anEvening_4 17 rfl rfl)
theorem dX3_anEvening_110 : decode cX3_anEvening 110 = .ok (.iconst 1, 1) := dk_4 (dk_at dksX3_anEvening_4 18 rfl rfl)
theorem dX3_anEvening_111 : decode cX3_anEvening 111 = .ok (.iadd, 1) := dk_96 (dk_at dksX3_anEvening_4 19 rfl rfl)
theorem dX3_anEvening_112 : decode cX3_anEvening 112 = .ok (.iastore, 1) := dk_79 (dk_at dksX3_anEvening_4 20 rfl rfl)
theorem dX3_anEvening_113 : decode cX3_anEvening 113 = .ok (.iload_n 1, 1) := dk_27 (dk_at dksX3_anEvening_4 21 rfl rfl)
theorem dX3_anEvening_114 : decode cX3_anEvening 114 = .ok (.ireturn, 1) := dk_172 (dk_at dksX3_anEvening_4 22 rfl rfl)
abbrev cX3_of : ByteArray := prog_17_method_82_code
def yX3_of : MethodName := ⟨RX3, "of", "(II)I"⟩
def dkwX3_of_6 : List UInt8 := [16, 10, 100, 3, 182, 1, 66, 167, 0, 4, 2, 172]
abbrev dktX3_of_6 : List UInt8 := dkwX3_of_6 ++ []
def dkwX3_of_5 : List UInt8 := [16, 12, 28, 104, 96, 27, 96, 46, 172, 42, 28, 16, 10, 100, 182, 0, 72, 153, 0, 16, 42, 27, 28]
abbrev dktX3_of_5 : List UInt8 := dkwX3_of_5 ++ dktX3_of_6
def dkwX3_of_4 : List UInt8 := [46, 172, 42, 27, 182, 1, 69, 172, 28, 3, 5, 184, 0, 56, 153, 0, 18, 42, 180, 0, 7, 16, 45]
abbrev dktX3_of_4 : List UInt8 := dkwX3_of_4 ++ dktX3_of_5
def dkwX3_of_3 : List UInt8 := [167, 0, 4, 3, 172, 42, 180, 0, 7, 16, 9, 27, 96, 46, 172, 42, 180, 0, 7, 17, 0, 185, 27, 96]
abbrev dktX3_of_3 : List UInt8 := dkwX3_of_3 ++ dktX3_of_4
def dkwX3_of_2 : List UInt8 := [42, 27, 182, 1, 54, 153, 0, 7, 4, 167, 0, 4, 3, 172, 42, 27, 182, 1, 57, 153, 0, 7, 4]
abbrev dktX3_of_2 : List UInt8 := dkwX3_of_2 ++ dktX3_of_3
def dkwX3_of_1 : List UInt8 := [170, 0, 0, 0, 88, 0, 0, 0, 3, 0, 0, 0, 7, 0, 0, 0, 33, 0, 0, 0, 47, 0, 0, 0, 61, 0, 0, 0, 71, 0, 0, 0, 82]
abbrev dktX3_of_1 : List UInt8 := dkwX3_of_1 ++ dktX3_of_2
def dkwX3_of_0 : List UInt8 := [42, 27, 182, 0, 68, 154, 0, 5, 2, 172, 28]
abbrev dktX3_of_0 : List UInt8 := dkwX3_of_0 ++ dktX3_of_1
theorem dksX3_of_0 : cX3_of.data.toList.drop 0 = dktX3_of_0 := by decide +kernel
theorem dksX3_of_1 : cX3_of.data.toList.drop 11 = dktX3_of_1 := dk_seg dksX3_of_0 11 rfl rfl
theorem dksX3_of_2 : cX3_of.data.toList.drop 44 = dktX3_of_2 := dk_seg dksX3_of_1 33 rfl rfl
theorem dksX3_of_3 : cX3_of.data.toList.drop 67 = dktX3_of_3 := dk_seg dksX3_of_2 23 rfl rfl
theorem dksX3_of_4 : cX3_of.data.toList.drop 91 = dktX3_of_4 := dk_seg dksX3_of_3 24 rfl rfl
theorem dksX3_of_5 : cX3_of.data.toList.drop 114 = dktX3_of_5 := dk_seg dksX3_of_4 23 rfl rfl
theorem dksX3_of_6 : cX3_of.data.toList.drop 137 = dktX3_of_6 := dk_seg dksX3_of_5 23 rfl rfl
theorem dX3_of_0 : decode cX3_of 0 = .ok (.aload_n 0, 1) := dk_42 (dk_at dksX3_of_0 0 rfl rfl)
theorem dX3_of_1 : decode cX3_of 1 = .ok (.iload_n 1, 1) := dk_27 (dk_at dksX3_of_0 1 rfl rfl)
theorem dX3_of_2 : decode cX3_of 2 = .ok (.invokevirtual 68, 3) := dk_182 0 68 (dk_at dksX3_of_0 2 rfl rfl)
theorem dX3_of_5 : decode cX3_of 5 = .ok (.ifCond .ne 5, 3) := dk_154 0 5 (dk_at dksX3_of_0 5 rfl rfl)
theorem dX3_of_8 : decode cX3_of 8 = .ok (.iconst (-1), 1) := dk_2 (dk_at dksX3_of_0 8 rfl rfl)
theorem dX3_of_9 : decode cX3_of 9 = .ok (.ireturn, 1) := dk_172 (dk_at dksX3_of_0 9 rfl rfl)
theorem dX3_of_10 : decode cX3_of 10 = .ok (.iload_n 2, 1) := dk_28 (dk_at dksX3_of_0 10 rfl rfl)
theorem dX3_of_11 : decode cX3_of 11 = .ok (.tableswitch 88 3 7 #[33, 47, 61, 71, 82], 33) := by decide +kernel
theorem dX3_of_44 : decode cX3_of 44 = .ok (.aload_n 0, 1) := dk_42 (dk_at dksX3_of_2 0 rfl rfl)
theorem dX3_of_45 : decode cX3_of 45 = .ok (.iload_n 1, 1) := dk_27 (dk_at dksX3_of_2 1 rfl rfl)
theorem dX3_of_46 : decode cX3_of 46 = .ok (.invokevirtual 310, 3) := dk_182 1 54 (dk_at dksX3_of_2 2 rfl rfl)
theorem dX3_of_49 : decode cX3_of 49 = .ok (.ifCond .eq 7, 3) := dk_153 0 7 (dk_at dksX3_of_2 5 rfl rfl)
theorem dX3_of_52 : decode cX3_of 52 = .ok (.iconst 1, 1) := dk_4 (dk_at dksX3_of_2 8 rfl rfl)
theorem dX3_of_53 : decode cX3_of 53 = .ok (.goto 4, 3) := dk_167 0 4 (dk_at dksX3_of_2 9 rfl rfl)
theorem dX3_of_56 : decode cX3_of 56 = .ok (.iconst 0, 1) := dk_3 (dk_at dksX3_of_2 12 rfl rfl)
theorem dX3_of_57 : decode cX3_of 57 = .ok (.ireturn, 1) := dk_172 (dk_at dksX3_of_2 13 rfl rfl)
theorem dX3_of_58 : decode cX3_of 58 = .ok (.aload_n 0, 1) := dk_42 (dk_at dksX3_of_2 14 rfl rfl)
theorem dX3_of_59 : decode cX3_of 59 = .ok (.iload_n 1, 1) := dk_27 (dk_at dksX3_of_2 15 rfl rfl)
theorem dX3_of_60 : decode cX3_of 60 = .ok (.invokevirtual 313, 3) := dk_182 1 57 (dk_at dksX3_of_2 16 rfl rfl)
theorem dX3_of_63 : decode cX3_of 63 = .ok (.ifCond .eq 7, 3) := dk_153 0 7 (dk_at dksX3_of_2 19 rfl rfl)
theorem dX3_of_66 : decode cX3_of 66 = .ok (.iconst 1, 1) := dk_4 (dk_at dksX3_of_2 22 rfl rfl)
theorem dX3_of_67 : decode cX3_of 67 = .ok (.goto 4, 3) := dk_167 0 4 (dk_at dksX3_of_3 0 rfl rfl)
theorem dX3_of_70 : decode cX3_of 70 = .ok (.iconst 0, 1) := dk_3 (dk_at dksX3_of_3 3 rfl rfl)
theorem dX3_of_71 : decode cX3_of 71 = .ok (.ireturn, 1) := dk_172 (dk_at dksX3_of_3 4 rfl rfl)
theorem dX3_of_72 : decode cX3_of 72 = .ok (.aload_n 0, 1) := dk_42 (dk_at dksX3_of_3 5 rfl rfl)
theorem dX3_of_73 : decode cX3_of 73 = .ok (.getfield 7, 3) := dk_180 0 7 (dk_at dksX3_of_3 6 rfl rfl)
theorem dX3_of_76 : decode cX3_of 76 = .ok (.bipush 9, 2) := dk_16 9 (dk_at dksX3_of_3 9 rfl rfl)
theorem dX3_of_78 : decode cX3_of 78 = .ok (.iload_n 1, 1) := dk_27 (dk_at dksX3_of_3 11 rfl rfl)
theorem dX3_of_79 : decode cX3_of 79 = .ok (.iadd, 1) := dk_96 (dk_at dksX3_of_3 12 rfl rfl)
theorem dX3_of_80 : decode cX3_of 80 = .ok (.iaload, 1) := dk_46 (dk_at dksX3_of_3 13 rfl rfl)
theorem dX3_of_81 : decode cX3_of 81 = .ok (.ireturn, 1) := dk_172 (dk_at dksX3_of_3 14 rfl rfl)
theorem dX3_of_82 : decode cX3_of 82 = .ok (.aload_n 0, 1) := dk_42 (dk_at dksX3_of_3 15 rfl rfl)
theorem dX3_of_83 : decode cX3_of 83 = .ok (.getfield 7, 3) := dk_180 0 7 (dk_at dksX3_of_3 16 rfl rfl)
theorem dX3_of_86 : decode cX3_of 86 = .ok (.sipush 185, 3) := dk_17 0 185 (dk_at dksX3_of_3 19 rfl rfl)
theorem dX3_of_89 : decode cX3_of 89 = .ok (.iload_n 1, 1) := dk_27 (dk_at dksX3_of_3 22 rfl rfl)
theorem dX3_of_90 : decode cX3_of 90 = .ok (.iadd, 1) := dk_96 (dk_at dksX3_of_3 23 rfl rfl)
theorem dX3_of_91 : decode cX3_of 91 = .ok (.iaload, 1) := dk_46 (dk_at dksX3_of_4 0 rfl rfl)
theorem dX3_of_92 : decode cX3_of 92 = .ok (.ireturn, 1) := dk_172 (dk_at dksX3_of_4 1 rfl rfl)
theorem dX3_of_93 : decode cX3_of 93 = .ok (.aload_n 0, 1) := dk_42 (dk_at dksX3_of_4 2 rfl rfl)
theorem dX3_of_94 : decode cX3_of 94 = .ok (.iload_n 1, 1) := dk_27 (dk_at dksX3_of_4 3 rfl rfl)
theorem dX3_of_95 : decode cX3_of 95 = .ok (.invokevirtual 325, 3) := dk_182 1 69 (dk_at dksX3_of_4 4 rfl rfl)
theorem dX3_of_98 : decode cX3_of 98 = .ok (.ireturn, 1) := dk_172 (dk_at dksX3_of_4 7 rfl rfl)
theorem dX3_of_99 : decode cX3_of 99 = .ok (.iload_n 2, 1) := dk_28 (dk_at dksX3_of_4 8 rfl rfl)
theorem dX3_of_100 : decode cX3_of 100 = .ok (.iconst 0, 1) := dk_3 (dk_at dksX3_of_4 9 rfl rfl)
theorem dX3_of_101 : decode cX3_of 101 = .ok (.iconst 2, 1) := dk_5 (dk_at dksX3_of_4 10 rfl rfl)
theorem dX3_of_102 : decode cX3_of 102 = .ok (.invokestatic 56, 3) := dk_184 0 56 (dk_at dksX3_of_4 11 rfl rfl)
theorem dX3_of_105 : decode cX3_of 105 = .ok (.ifCond .eq 18, 3) := dk_153 0 18 (dk_at dksX3_of_4 14 rfl rfl)
theorem dX3_of_108 : decode cX3_of 108 = .ok (.aload_n 0, 1) := dk_42 (dk_at dksX3_of_4 17 rfl rfl)
theorem dX3_of_109 : decode cX3_of 109 = .ok (.getfield 7, 3) := dk_180 0 7 (dk_at dksX3_of_4 18 rfl rfl)
theorem dX3_of_112 : decode cX3_of 112 = .ok (.bipush 45, 2) := dk_16 45 (dk_at dksX3_of_4 21 rfl rfl)
theorem dX3_of_114 : decode cX3_of 114 = .ok (.bipush 12, 2) := dk_16 12 (dk_at dksX3_of_5 0 rfl rfl)
theorem dX3_of_116 : decode cX3_of 116 = .ok (.iload_n 2, 1) := dk_28 (dk_at dksX3_of_5 2 rfl rfl)
theorem dX3_of_117 : decode cX3_of 117 = .ok (.imul, 1) := dk_104 (dk_at dksX3_of_5 3 rfl rfl)
theorem dX3_of_118 : decode cX3_of 118 = .ok (.iadd, 1) := dk_96 (dk_at dksX3_of_5 4 rfl rfl)
theorem dX3_of_119 : decode cX3_of 119 = .ok (.iload_n 1, 1) := dk_27 (dk_at dksX3_of_5 5 rfl rfl)
theorem dX3_of_120 : decode cX3_of 120 = .ok (.iadd, 1) := dk_96 (dk_at dksX3_of_5 6 rfl rfl)
theorem dX3_of_121 : decode cX3_of 121 = .ok (.iaload, 1) := dk_46 (dk_at dksX3_of_5 7 rfl rfl)
theorem dX3_of_122 : decode cX3_of 122 = .ok (.ireturn, 1) := dk_172 (dk_at dksX3_of_5 8 rfl rfl)
theorem dX3_of_123 : decode cX3_of 123 = .ok (.aload_n 0, 1) := dk_42 (dk_at dksX3_of_5 9 rfl rfl)
theorem dX3_of_124 : decode cX3_of 124 = .ok (.iload_n 2, 1) := dk_28 (dk_at dksX3_of_5 10 rfl rfl)
theorem dX3_of_125 : decode cX3_of 125 = .ok (.bipush 10, 2) := dk_16 10 (dk_at dksX3_of_5 11 rfl rfl)
theorem dX3_of_127 : decode cX3_of 127 = .ok (.isub, 1) := dk_100 (dk_at dksX3_of_5 13 rfl rfl)
theorem dX3_of_128 : decode cX3_of 128 = .ok (.invokevirtual 72, 3) := dk_182 0 72 (dk_at dksX3_of_5 14 rfl rfl)
theorem dX3_of_131 : decode cX3_of 131 = .ok (.ifCond .eq 16, 3) := dk_153 0 16 (dk_at dksX3_of_5 17 rfl rfl)
theorem dX3_of_134 : decode cX3_of 134 = .ok (.aload_n 0, 1) := dk_42 (dk_at dksX3_of_5 20 rfl rfl)
theorem dX3_of_135 : decode cX3_of 135 = .ok (.iload_n 1, 1) := dk_27 (dk_at dksX3_of_5 21 rfl rfl)
theorem dX3_of_136 : decode cX3_of 136 = .ok (.iload_n 2, 1) := dk_28 (dk_at dksX3_of_5 22 rfl rfl)
theorem dX3_of_137 : decode cX3_of 137 = .ok (.bipush 10, 2) := dk_16 10 (dk_at dksX3_of_6 0 rfl rfl)
theorem dX3_of_139 : decode cX3_of 139 = .ok (.isub, 1) := dk_100 (dk_at dksX3_of_6 2 rfl rfl)
theorem dX3_of_140 : decode cX3_of 140 = .ok (.iconst 0, 1) := dk_3 (dk_at dksX3_of_6 3 rfl rfl)
theorem dX3_of_141 : decode cX3_of 141 = .ok (.invokevirtual 322, 3) := dk_182 1 66 (dk_at dksX3_of_6 4 rfl rfl)
theorem dX3_of_144 : decode cX3_of 144 = .ok (.goto 4, 3) := dk_167 0 4 (dk_at dksX3_of_6 7 rfl rfl)
theorem dX3_of_147 : decode cX3_of 147 = .ok (.iconst (-1), 1) := dk_2 (dk_at dksX3_of_6 10 rfl rfl)
theorem dX3_of_148 : decode cX3_of 148 = .ok (.ireturn, 1) := dk_172 (dk_at dksX3_of_6 11 rfl rfl)
abbrev cX3_deedOf : ByteArray := prog_17_method_83_code
def yX3_deedOf : MethodName := ⟨RX3, "deedOf", "(II)I"⟩
def dkwX3_deedOf_4 : List UInt8 := [46, 172, 42, 27, 182, 1, 85, 172, 42, 27, 182, 1, 51, 172, 2, 172]
abbrev dktX3_deedOf_4 : List UInt8 := dkwX3_deedOf_4 ++ []
def dkwX3_deedOf_3 : List UInt8 := [16, 97, 27, 96, 46, 172, 42, 180, 0, 7, 16, 21, 27, 96, 46, 172, 42, 180, 0, 7, 16, 29, 27, 96]
abbrev dktX3_deedOf_3 : List UInt8 := dkwX3_deedOf_3 ++ dktX3_deedOf_4
def dkwX3_deedOf_2 : List UInt8 := [42, 180, 0, 7, 16, 81, 27, 96, 46, 172, 42, 180, 0, 7, 16, 89, 27, 96, 46, 172, 42, 180, 0, 7]
abbrev dktX3_deedOf_2 : List UInt8 := dkwX3_deedOf_2 ++ dktX3_deedOf_3
def dkwX3_deedOf_1 : List UInt8 := [170, 0, 0, 0, 103, 0, 0, 0, 0, 0, 0, 0, 6, 0, 0, 0, 41, 0, 0, 0, 51, 0, 0, 0, 61, 0, 0, 0, 71, 0, 0, 0, 81, 0, 0, 0, 91, 0, 0, 0, 97]
abbrev dktX3_deedOf_1 : List UInt8 := dkwX3_deedOf_1 ++ dktX3_deedOf_2
def dkwX3_deedOf_0 : List UInt8 := [42, 27, 182, 0, 72, 154, 0, 5, 2, 172, 28]
abbrev dktX3_deedOf_0 : List UInt8 := dkwX3_deedOf_0 ++ dktX3_deedOf_1
theorem dksX3_deedOf_0 : cX3_deedOf.data.toList.drop 0 = dktX3_deedOf_0 := by decide +kernel
theorem dksX3_deedOf_1 : cX3_deedOf.data.toList.drop 11 = dktX3_deedOf_1 := dk_seg dksX3_deedOf_0 11 rfl rfl
theorem dksX3_deedOf_2 : cX3_deedOf.data.toList.drop 52 = dktX3_deedOf_2 := dk_seg dksX3_deedOf_1 41 rfl rfl
theorem dksX3_deedOf_3 : cX3_deedOf.data.toList.drop 76 = dktX3_deedOf_3 := dk_seg dksX3_deedOf_2 24 rfl rfl
theorem dksX3_deedOf_4 : cX3_deedOf.data.toList.drop 100 = dktX3_deedOf_4 := dk_seg dksX3_deedOf_3 24 rfl rfl
theorem dX3_deedOf_0 : decode cX3_deedOf 0 = .ok (.aload_n 0, 1) := dk_42 (dk_at dksX3_deedOf_0 0 rfl rfl)
theorem dX3_deedOf_1 : decode cX3_deedOf 1 = .ok (.iload_n 1, 1) := dk_27 (dk_at dksX3_deedOf_0 1 rfl rfl)
theorem dX3_deedOf_2 : decode cX3_deedOf 2 = .ok (.invokevirtual 72, 3) := dk_182 0 72 (dk_at dksX3_deedOf_0 2 rfl rfl)
theorem dX3_deedOf_5 : decode cX3_deedOf 5 = .ok (.ifCond .ne 5, 3) := dk_154 0 5 (dk_at dksX3_deedOf_0 5 rfl rfl)
theorem dX3_deedOf_8 : decode cX3_deedOf 8 = .ok (.iconst (-1), 1) := dk_2 (dk_at dksX3_deedOf_0 8 rfl rfl)
theorem dX3_deedOf_9 : decode cX3_deedOf 9 = .ok (.ireturn, 1) := dk_172 (dk_at dksX3_deedOf_0 9 rfl rfl)
theorem dX3_deedOf_10 : decode cX3_deedOf 10 = .ok (.iload_n 2, 1) := dk_28 (dk_at dksX3_deedOf_0 10 rfl rfl)
theorem dX3_deedOf_11 : decode cX3_deedOf 11 = .ok (.tableswitch 103 0 6 #[41, 51, 61, 71, 81, 91, 97], 41) := by decide +kernel
theorem dX3_deedOf_52 : decode cX3_deedOf 52 = .ok (.aload_n 0, 1) := dk_42 (dk_at dksX3_deedOf_2 0 rfl rfl)
theorem dX3_deedOf_53 : decode cX3_deedOf 53 = .ok (.getfield 7, 3) := dk_180 0 7 (dk_at dksX3_deedOf_2 1 rfl rfl)
theorem dX3_deedOf_56 : decode cX3_deedOf 56 = .ok (.bipush 81, 2) := dk_16 81 (dk_at dksX3_deedOf_2 4 rfl rfl)
theorem dX3_deedOf_58 : decode cX3_deedOf 58 = .ok (.iload_n 1, 1) := dk_27 (dk_at dksX3_deedOf_2 6 rfl rfl)
theorem dX3_deedOf_59 : decode cX3_deedOf 59 = .ok (.iadd, 1) := dk_96 (dk_at dksX3_deedOf_2 7 rfl rfl)
theorem dX3_deedOf_60 : decode cX3_deedOf 60 = .ok (.iaload, 1) := dk_46 (dk_at dksX3_deedOf_2 8 rfl rfl)
theorem dX3_deedOf_61 : decode cX3_deedOf 61 = .ok (.ireturn, 1) := dk_172 (dk_at dksX3_deedOf_2 9 rfl rfl)
theorem dX3_deedOf_62 : decode cX3_deedOf 62 = .ok (.aload_n 0, 1) := dk_42 (dk_at dksX3_deedOf_2 10 rfl rfl)
theorem dX3_deedOf_63 : decode cX3_deedOf 63 = .ok (.getfield 7, 3) := dk_180 0 7 (dk_at dksX3_deedOf_2 11 rfl rfl)
theorem dX3_deedOf_66 : decode cX3_deedOf 66 = .ok (.bipush 89, 2) := dk_16 89 (dk_at dksX3_deedOf_2 14 rfl rfl)
theorem dX3_deedOf_68 : decode cX3_deedOf 68 = .ok (.iload_n 1, 1) := dk_27 (dk_at dksX3_deedOf_2 16 rfl rfl)
theorem dX3_deedOf_69 : decode cX3_deedOf 69 = .ok (.iadd, 1) := dk_96 (dk_at dksX3_deedOf_2 17 rfl rfl)
theorem dX3_deedOf_70 : decode cX3_deedOf 70 = .ok (.iaload, 1) := dk_46 (dk_at dksX3_deedOf_2 18 rfl rfl)
theorem dX3_deedOf_71 : decode cX3_deedOf 71 = .ok (.ireturn, 1) := dk_172 (dk_at dksX3_deedOf_2 19 rfl rfl)
theorem dX3_deedOf_72 : decode cX3_deedOf 72 = .ok (.aload_n 0, 1) := dk_42 (dk_at dksX3_deedOf_2 20 rfl rfl)
theorem dX3_deedOf_73 : decode cX3_deedOf 73 = .ok (.getfield 7, 3) := dk_180 0 7 (dk_at dksX3_deedOf_2 21 rfl rfl)
theorem dX3_deedOf_76 : decode cX3_deedOf 76 = .ok (.bipush 97, 2) := dk_16 97 (dk_at dksX3_deedOf_3 0 rfl rfl)
theorem dX3_deedOf_78 : decode cX3_deedOf 78 = .ok (.iload_n 1, 1) := dk_27 (dk_at dksX3_deedOf_3 2 rfl rfl)
theorem dX3_deedOf_79 : decode cX3_deedOf 79 = .ok (.iadd, 1) := dk_96 (dk_at dksX3_deedOf_3 3 rfl rfl)
theorem dX3_deedOf_80 : decode cX3_deedOf 80 = .ok (.iaload, 1) := dk_46 (dk_at dksX3_deedOf_3 4 rfl rfl)
theorem dX3_deedOf_81 : decode cX3_deedOf 81 = .ok (.ireturn, 1) := dk_172 (dk_at dksX3_deedOf_3 5 rfl rfl)
theorem dX3_deedOf_82 : decode cX3_deedOf 82 = .ok (.aload_n 0, 1) := dk_42 (dk_at dksX3_deedOf_3 6 rfl rfl)
theorem dX3_deedOf_83 : decode cX3_deedOf 83 = .ok (.getfield 7, 3) := dk_180 0 7 (dk_at dksX3_deedOf_3 7 rfl rfl)
theorem dX3_deedOf_86 : decode cX3_deedOf 86 = .ok (.bipush 21, 2) := dk_16 21 (dk_at dksX3_deedOf_3 10 rfl rfl)
theorem dX3_deedOf_88 : decode cX3_deedOf 88 = .ok (.iload_n 1, 1) := dk_27 (dk_at dksX3_deedOf_3 12 rfl rfl)
theorem dX3_deedOf_89 : decode cX3_deedOf 89 = .ok (.iadd, 1) := dk_96 (dk_at dksX3_deedOf_3 13 rfl rfl)
theorem dX3_deedOf_90 : decode cX3_deedOf 90 = .ok (.iaload, 1) := dk_46 (dk_at dksX3_deedOf_3 14 rfl rfl)
theorem dX3_deedOf_91 : decode cX3_deedOf 91 = .ok (.ireturn, 1) := dk_172 (dk_at dksX3_deedOf_3 15 rfl rfl)
theorem dX3_deedOf_92 : decode cX3_deedOf 92 = .ok (.aload_n 0, 1) := dk_42 (dk_at dksX3_deedOf_3 16 rfl rfl)
theorem dX3_deedOf_93 : decode cX3_deedOf 93 = .ok (.getfield 7, 3) := dk_180 0 7 (dk_at dksX3_deedOf_3 17 rfl rfl)
theorem dX3_deedOf_96 : decode cX3_deedOf 96 = .ok (.bipush 29, 2) := dk_16 29 (dk_at dksX3_deedOf_3 20 rfl rfl)
theorem dX3_deedOf_98 : decode cX3_deedOf 98 = .ok (.iload_n 1, 1) := dk_27 (dk_at dksX3_deedOf_3 22 rfl rfl)
theorem dX3_deedOf_99 : decode cX3_deedOf 99 = .ok (.iadd, 1) := dk_96 (dk_at dksX3_deedOf_3 23 rfl rfl)
theorem dX3_deedOf_100 : decode cX3_deedOf 100 = .ok (.iaload, 1) := dk_46 (dk_at dksX3_deedOf_4 0 rfl rfl)
theorem dX3_deedOf_101 : decode cX3_deedOf 101 = .ok (.ireturn, 1) := dk_172 (dk_at dksX3_deedOf_4 1 rfl rfl)
theorem dX3_deedOf_102 : decode cX3_deedOf 102 = .ok (.aload_n 0, 1) := dk_42 (dk_at dksX3_deedOf_4 2 rfl rfl)
theorem dX3_deedOf_103 : decode cX3_deedOf 103 = .ok (.iload_n 1, 1) := dk_27 (dk_at dksX3_deedOf_4 3 rfl rfl)
theorem dX3_deedOf_104 : decode cX3_deedOf 104 = .ok (.invokevirtual 341, 3) := dk_182 1 85 (dk_at dksX3_deedOf_4 4 rfl rfl)
theorem dX3_deedOf_107 : decode cX3_deedOf 107 = .ok (.ireturn, 1) := dk_172 (dk_at dksX3_deedOf_4 7 rfl rfl)
theorem dX3_deedOf_108 : decode cX3_deedOf 108 = .ok (.aload_n 0, 1) := dk_42 (dk_at dksX3_deedOf_4 8 rfl rfl)
theorem dX3_deedOf_109 : decode cX3_deedOf 109 = .ok (.iload_n 1, 1) := dk_27 (dk_at dksX3_deedOf_4 9 rfl rfl)
theorem dX3_deedOf_110 : decode cX3_deedOf 110 = .ok (.invokevirtual 307, 3) := dk_182 1 51 (dk_at dksX3_deedOf_4 10 rfl rfl)
theorem dX3_deedOf_113 : decode cX3_deedOf 113 = .ok (.ireturn, 1) := dk_172 (dk_at dksX3_deedOf_4 13 rfl rfl)
theorem dX3_deedOf_114 : decode cX3_deedOf 114 = .ok (.iconst (-1), 1) := dk_2 (dk_at dksX3_deedOf_4 14 rfl rfl)
theorem dX3_deedOf_115 : decode cX3_deedOf 115 = .ok (.ireturn, 1) := dk_172 (dk_at dksX3_deedOf_4 15 rfl rfl)
abbrev cX3_statute : ByteArray := prog_17_method_84_code
def yX3_statute : MethodName := ⟨RX3, "statute", "(I)I"⟩
def dkwX3_statute_1 : List UInt8 := [5, 160, 0, 10, 42, 182, 1, 99, 167, 0, 4, 2, 172]
abbrev dktX3_statute_1 : List UInt8 := dkwX3_statute_1 ++ []
def dkwX3_statute_0 : List UInt8 := [27, 154, 0, 10, 42, 182, 1, 93, 167, 0, 28, 27, 4, 160, 0, 10, 42, 182, 1, 96, 167, 0, 16, 27]
abbrev dktX3_statute_0 : List UInt8 := dkwX3_statute_0 ++ dktX3_statute_1
theorem dksX3_statute_0 : cX3_statute.data.toList.drop 0 = dktX3_statute_0 := by decide +kernel
theorem dksX3_statute_1 : cX3_statute.data.toList.drop 24 = dktX3_statute_1 := dk_seg dksX3_statute_0 24 rfl rfl
theorem dX3_statute_0 : decode cX3_statute 0 = .ok (.iload_n 1, 1) := dk_27 (dk_at dksX3_statute_0 0 rfl rfl)
theorem dX3_statute_1 : decode cX3_statute 1 = .ok (.ifCond .ne 10, 3) := dk_154 0 10 (dk_at dksX3_statute_0 1 rfl rfl)
theorem dX3_statute_4 : decode cX3_statute 4 = .ok (.aload_n 0, 1) := dk_42 (dk_at dksX3_statute_0 4 rfl rfl)
theorem dX3_statute_5 : decode cX3_statute 5 = .ok (.invokevirtual 349, 3) := dk_182 1 93 (dk_at dksX3_statute_0 5 rfl rfl)
theorem dX3_statute_8 : decode cX3_statute 8 = .ok (.goto 28, 3) := dk_167 0 28 (dk_at dksX3_statute_0 8 rfl rfl)
theorem dX3_statute_11 : decode cX3_statute 11 = .ok (.iload_n 1, 1) := dk_27 (dk_at dksX3_statute_0 11 rfl rfl)
theorem dX3_statute_12 : decode cX3_statute 12 = .ok (.iconst 1, 1) := dk_4 (dk_at dksX3_statute_0 12 rfl rfl)
theorem dX3_statute_13 : decode cX3_statute 13 = .ok (.if_icmp .ne 10, 3) := dk_160 0 10 (dk_at dksX3_statute_0 13 rfl rfl)
theorem dX3_statute_16 : decode cX3_statute 16 = .ok (.aload_n 0, 1) := dk_42 (dk_at dksX3_statute_0 16 rfl rfl)
theorem dX3_statute_17 : decode cX3_statute 17 = .ok (.invokevirtual 352, 3) := dk_182 1 96 (dk_at dksX3_statute_0 17 rfl rfl)
theorem dX3_statute_20 : decode cX3_statute 20 = .ok (.goto 16, 3) := dk_167 0 16 (dk_at dksX3_statute_0 20 rfl rfl)
theorem dX3_statute_23 : decode cX3_statute 23 = .ok (.iload_n 1, 1) := dk_27 (dk_at dksX3_statute_0 23 rfl rfl)
theorem dX3_statute_24 : decode cX3_statute 24 = .ok (.iconst 2, 1) := dk_5 (dk_at dksX3_statute_1 0 rfl rfl)
theorem dX3_statute_25 : decode cX3_statute 25 = .ok (.if_icmp .ne 10, 3) := dk_160 0 10 (dk_at dksX3_statute_1 1 rfl rfl)
theorem dX3_statute_28 : decode cX3_statute 28 = .ok (.aload_n 0, 1) := dk_42 (dk_at dksX3_statute_1 4 rfl rfl)
theorem dX3_statute_29 : decode cX3_statute 29 = .ok (.invokevirtual 355, 3) := dk_182 1 99 (dk_at dksX3_statute_1 5 rfl rfl)
theorem dX3_statute_32 : decode cX3_statute 32 = .ok (.goto 4, 3) := dk_167 0 4 (dk_at dksX3_statute_1 8 rfl rfl)
theorem dX3_statute_35 : decode cX3_statute 35 = .ok (.iconst (-1), 1) := dk_2 (dk_at dksX3_statute_1 11 rfl rfl)
theorem dX3_statute_36 : decode cX3_statute 36 = .ok (.ireturn, 1) := dk_172 (dk_at dksX3_statute_1 12 rfl rfl)
abbrev cX3_book : ByteArray := prog_17_method_85_code
def yX3_book : MethodName := ⟨RX3, "book", "(II)I"⟩
def dkwX3_book_1 : List UInt8 := [153, 0, 20, 42, 180, 0, 7, 17, 0, 223, 7, 27, 104, 96, 28, 96, 46, 167, 0, 4, 2, 172]
abbrev dktX3_book_1 : List UInt8 := dkwX3_book_1 ++ []
def dkwX3_book_0 : List UInt8 := [27, 3, 42, 180, 0, 7, 16, 6, 46, 4, 100, 184, 0, 56, 153, 0, 29, 28, 3, 6, 184, 0, 56]
abbrev dktX3_book_0 : List UInt8 := dkwX3_book_0 ++ dktX3_book_1
theorem dksX3_book_0 : cX3_book.data.toList.drop 0 = dktX3_book_0 := by decide +kernel
theorem dksX3_book_1 : cX3_book.data.toList.drop 23 = dktX3_book_1 := dk_seg dksX3_book_0 23 rfl rfl
theorem dX3_book_0 : decode cX3_book 0 = .ok (.iload_n 1, 1) := dk_27 (dk_at dksX3_book_0 0 rfl rfl)
theorem dX3_book_1 : decode cX3_book 1 = .ok (.iconst 0, 1) := dk_3 (dk_at dksX3_book_0 1 rfl rfl)
theorem dX3_book_2 : decode cX3_book 2 = .ok (.aload_n 0, 1) := dk_42 (dk_at dksX3_book_0 2 rfl rfl)
theorem dX3_book_3 : decode cX3_book 3 = .ok (.getfield 7, 3) := dk_180 0 7 (dk_at dksX3_book_0 3 rfl rfl)
theorem dX3_book_6 : decode cX3_book 6 = .ok (.bipush 6, 2) := dk_16 6 (dk_at dksX3_book_0 6 rfl rfl)
theorem dX3_book_8 : decode cX3_book 8 = .ok (.iaload, 1) := dk_46 (dk_at dksX3_book_0 8 rfl rfl)
theorem dX3_book_9 : decode cX3_book 9 = .ok (.iconst 1, 1) := dk_4 (dk_at dksX3_book_0 9 rfl rfl)
theorem dX3_book_10 : decode cX3_book 10 = .ok (.isub, 1) := dk_100 (dk_at dksX3_book_0 10 rfl rfl)
theorem dX3_book_11 : decode cX3_book 11 = .ok (.invokestatic 56, 3) := dk_184 0 56 (dk_at dksX3_book_0 11 rfl rfl)
theorem dX3_book_14 : decode cX3_book 14 = .ok (.ifCond .eq 29, 3) := dk_153 0 29 (dk_at dksX3_book_0 14 rfl rfl)
theorem dX3_book_17 : decode cX3_book 17 = .ok (.iload_n 2, 1) := dk_28 (dk_at dksX3_book_0 17 rfl rfl)
theorem dX3_book_18 : decode cX3_book 18 = .ok (.iconst 0, 1) := dk_3 (dk_at dksX3_book_0 18 rfl rfl)
theorem dX3_book_19 : decode cX3_book 19 = .ok (.iconst 3, 1) := dk_6 (dk_at dksX3_book_0 19 rfl rfl)
theorem dX3_book_20 : decode cX3_book 20 = .ok (.invokestatic 56, 3) := dk_184 0 56 (dk_at dksX3_book_0 20 rfl rfl)
theorem dX3_book_23 : decode cX3_book 23 = .ok (.ifCond .eq 20, 3) := dk_153 0 20 (dk_at dksX3_book_1 0 rfl rfl)
theorem dX3_book_26 : decode cX3_book 26 = .ok (.aload_n 0, 1) := dk_42 (dk_at dksX3_book_1 3 rfl rfl)
theorem dX3_book_27 : decode cX3_book 27 = .ok (.getfield 7, 3) := dk_180 0 7 (dk_at dksX3_book_1 4 rfl rfl)
theorem dX3_book_30 : decode cX3_book 30 = .ok (.sipush 223, 3) := dk_17 0 223 (dk_at dksX3_book_1 7 rfl rfl)
theorem dX3_book_33 : decode cX3_book 33 = .ok (.iconst 4, 1) := dk_7 (dk_at dksX3_book_1 10 rfl rfl)
theorem dX3_book_34 : decode cX3_book 34 = .ok (.iload_n 1, 1) := dk_27 (dk_at dksX3_book_1 11 rfl rfl)
theorem dX3_book_35 : decode cX3_book 35 = .ok (.imul, 1) := dk_104 (dk_at dksX3_book_1 12 rfl rfl)
theorem dX3_book_36 : decode cX3_book 36 = .ok (.iadd, 1) := dk_96 (dk_at dksX3_book_1 13 rfl rfl)
theorem dX3_book_37 : decode cX3_book 37 = .ok (.iload_n 2, 1) := dk_28 (dk_at dksX3_book_1 14 rfl rfl)
theorem dX3_book_38 : decode cX3_book 38 = .ok (.iadd, 1) := dk_96 (dk_at dksX3_book_1 15 rfl rfl)
theorem dX3_book_39 : decode cX3_book 39 = .ok (.iaload, 1) := dk_46 (dk_at dksX3_book_1 16 rfl rfl)
theorem dX3_book_40 : decode cX3_book 40 = .ok (.goto 4, 3) := dk_167 0 4 (dk_at dksX3_book_1 17 rfl rfl)
theorem dX3_book_43 : decode cX3_book 43 = .ok (.iconst (-1), 1) := dk_2 (dk_at dksX3_book_1 20 rfl rfl)
theorem dX3_book_44 : decode cX3_book 44 = .ok (.ireturn, 1) := dk_172 (dk_at dksX3_book_1 21 rfl rfl)
abbrev cX3_goes : ByteArray := prog_17_method_88_code
def yX3_goes : MethodName := ⟨RX3, "goes", "(I)I"⟩
def dkwX3_goes_3 : List UInt8 := [42, 180, 0, 19, 16, 29, 27, 96, 16, 10, 100, 46, 100, 61, 42, 182, 1, 124, 28, 172]
abbrev dktX3_goes_3 : List UInt8 := dkwX3_goes_3 ++ []
def dkwX3_goes_2 : List UInt8 := [160, 0, 12, 42, 180, 0, 7, 5, 46, 167, 0, 28, 42, 180, 0, 7, 16, 29, 27, 96, 16, 10, 100, 46]
abbrev dktX3_goes_2 : List UInt8 := dkwX3_goes_2 ++ dktX3_goes_3
def dkwX3_goes_1 : List UInt8 := [42, 182, 1, 121, 42, 182, 1, 117, 87, 27, 154, 0, 12, 42, 180, 0, 7, 3, 46, 167, 0, 42, 27, 4]
abbrev dktX3_goes_1 : List UInt8 := dkwX3_goes_1 ++ dktX3_goes_2
def dkwX3_goes_0 : List UInt8 := [27, 3, 4, 184, 0, 56, 154, 0, 18, 42, 27, 16, 10, 100, 182, 0, 72, 154, 0, 7, 19, 1, 120, 172]
abbrev dktX3_goes_0 : List UInt8 := dkwX3_goes_0 ++ dktX3_goes_1
theorem dksX3_goes_0 : cX3_goes.data.toList.drop 0 = dktX3_goes_0 := by decide +kernel
theorem dksX3_goes_1 : cX3_goes.data.toList.drop 24 = dktX3_goes_1 := dk_seg dksX3_goes_0 24 rfl rfl
theorem dksX3_goes_2 : cX3_goes.data.toList.drop 48 = dktX3_goes_2 := dk_seg dksX3_goes_1 24 rfl rfl
theorem dksX3_goes_3 : cX3_goes.data.toList.drop 72 = dktX3_goes_3 := dk_seg dksX3_goes_2 24 rfl rfl
theorem dX3_goes_0 : decode cX3_goes 0 = .ok (.iload_n 1, 1) := dk_27 (dk_at dksX3_goes_0 0 rfl rfl)
theorem dX3_goes_1 : decode cX3_goes 1 = .ok (.iconst 0, 1) := dk_3 (dk_at dksX3_goes_0 1 rfl rfl)
theorem dX3_goes_2 : decode cX3_goes 2 = .ok (.iconst 1, 1) := dk_4 (dk_at dksX3_goes_0 2 rfl rfl)
theorem dX3_goes_3 : decode cX3_goes 3 = .ok (.invokestatic 56, 3) := dk_184 0 56 (dk_at dksX3_goes_0 3 rfl rfl)
theorem dX3_goes_6 : decode cX3_goes 6 = .ok (.ifCond .ne 18, 3) := dk_154 0 18 (dk_at dksX3_goes_0 6 rfl rfl)
theorem dX3_goes_9 : decode cX3_goes 9 = .ok (.aload_n 0, 1) := dk_42 (dk_at dksX3_goes_0 9 rfl rfl)
theorem dX3_goes_10 : decode cX3_goes 10 = .ok (.iload_n 1, 1) := dk_27 (dk_at dksX3_goes_0 10 rfl rfl)
theorem dX3_goes_11 : decode cX3_goes 11 = .ok (.bipush 10, 2) := dk_16 10 (dk_at dksX3_goes_0 11 rfl rfl)
theorem dX3_goes_13 : decode cX3_goes 13 = .ok (.isub, 1) := dk_100 (dk_at dksX3_goes_0 13 rfl rfl)
theorem dX3_goes_14 : decode cX3_goes 14 = .ok (.invokevirtual 72, 3) := dk_182 0 72 (dk_at dksX3_goes_0 14 rfl rfl)
theorem dX3_goes_17 : decode cX3_goes 17 = .ok (.ifCond .ne 7, 3) := dk_154 0 7 (dk_at dksX3_goes_0 17 rfl rfl)
theorem dX3_goes_20 : decode cX3_goes 20 = .ok (.ldc_w 376, 3) := dk_19 1 120 (dk_at dksX3_goes_0 20 rfl rfl)
theorem dX3_goes_23 : decode cX3_goes 23 = .ok (.ireturn, 1) := dk_172 (dk_at dksX3_goes_0 23 rfl rfl)
theorem dX3_goes_24 : decode cX3_goes 24 = .ok (.aload_n 0, 1) := dk_42 (dk_at dksX3_goes_1 0 rfl rfl)
theorem dX3_goes_25 : decode cX3_goes 25 = .ok (.invokevirtual 377, 3) := dk_182 1 121 (dk_at dksX3_goes_1 1 rfl rfl)
theorem dX3_goes_28 : decode cX3_goes 28 = .ok (.aload_n 0, 1) := dk_42 (dk_at dksX3_goes_1 4 rfl rfl)
theorem dX3_goes_29 : decode cX3_goes 29 = .ok (.invokevirtual 373, 3) := dk_182 1 117 (dk_at dksX3_goes_1 5 rfl rfl)
theorem dX3_goes_32 : decode cX3_goes 32 = .ok (.pop, 1) := dk_87 (dk_at dksX3_goes_1 8 rfl rfl)
theorem dX3_goes_33 : decode cX3_goes 33 = .ok (.iload_n 1, 1) := dk_27 (dk_at dksX3_goes_1 9 rfl rfl)
theorem dX3_goes_34 : decode cX3_goes 34 = .ok (.ifCond .ne 12, 3) := dk_154 0 12 (dk_at dksX3_goes_1 10 rfl rfl)
theorem dX3_goes_37 : decode cX3_goes 37 = .ok (.aload_n 0, 1) := dk_42 (dk_at dksX3_goes_1 13 rfl rfl)
theorem dX3_goes_38 : decode cX3_goes 38 = .ok (.getfield 7, 3) := dk_180 0 7 (dk_at dksX3_goes_1 14 rfl rfl)
theorem dX3_goes_41 : decode cX3_goes 41 = .ok (.iconst 0, 1) := dk_3 (dk_at dksX3_goes_1 17 rfl rfl)
theorem dX3_goes_42 : decode cX3_goes 42 = .ok (.iaload, 1) := dk_46 (dk_at dksX3_goes_1 18 rfl rfl)
theorem dX3_goes_43 : decode cX3_goes 43 = .ok (.goto 42, 3) := dk_167 0 42 (dk_at dksX3_goes_1 19 rfl rfl)
theorem dX3_goes_46 : decode cX3_goes 46 = .ok (.iload_n 1, 1) := dk_27 (dk_at dksX3_goes_1 22 rfl rfl)
theorem dX3_goes_47 : decode cX3_goes 47 = .ok (.iconst 1, 1) := dk_4 (dk_at dksX3_goes_1 23 rfl rfl)
theorem dX3_goes_48 : decode cX3_goes 48 = .ok (.if_icmp .ne 12, 3) := dk_160 0 12 (dk_at dksX3_goes_2 0 rfl rfl)
theorem dX3_goes_51 : decode cX3_goes 51 = .ok (.aload_n 0, 1) := dk_42 (dk_at dksX3_goes_2 3 rfl rfl)
theorem dX3_goes_52 : decode cX3_goes 52 = .ok (.getfield 7, 3) := dk_180 0 7 (dk_at dksX3_goes_2 4 rfl rfl)
theorem dX3_goes_55 : decode cX3_goes 55 = .ok (.iconst 2, 1) := dk_5 (dk_at dksX3_goes_2 7 rfl rfl)
theorem dX3_goes_56 : decode cX3_goes 56 = .ok (.iaload, 1) := dk_46 (dk_at dksX3_goes_2 8 rfl rfl)
theorem dX3_goes_57 : decode cX3_goes 57 = .ok (.goto 28, 3) := dk_167 0 28 (dk_at dksX3_goes_2 9 rfl rfl)
theorem dX3_goes_60 : decode cX3_goes 60 = .ok (.aload_n 0, 1) := dk_42 (dk_at dksX3_goes_2 12 rfl rfl)
theorem dX3_goes_61 : decode cX3_goes 61 = .ok (.getfield 7, 3) := dk_180 0 7 (dk_at dksX3_goes_2 13 rfl rfl)
theorem dX3_goes_64 : decode cX3_goes 64 = .ok (.bipush 29, 2) := dk_16 29 (dk_at dksX3_goes_2 16 rfl rfl)
theorem dX3_goes_66 : decode cX3_goes 66 = .ok (.iload_n 1, 1) := dk_27 (dk_at dksX3_goes_2 18 rfl rfl)
theorem dX3_goes_67 : decode cX3_goes 67 = .ok (.iadd, 1) := dk_96 (dk_at dksX3_goes_2 19 rfl rfl)
theorem dX3_goes_68 : decode cX3_goes 68 = .ok (.bipush 10, 2) := dk_16 10 (dk_at dksX3_goes_2 20 rfl rfl)
theorem dX3_goes_70 : decode cX3_goes 70 = .ok (.isub, 1) := dk_100 (dk_at dksX3_goes_2 22 rfl rfl)
theorem dX3_goes_71 : decode cX3_goes 71 = .ok (.iaload, 1) := dk_46 (dk_at dksX3_goes_2 23 rfl rfl)
theorem dX3_goes_72 : decode cX3_goes 72 = .ok (.aload_n 0, 1) := dk_42 (dk_at dksX3_goes_3 0 rfl rfl)
theorem dX3_goes_73 : decode cX3_goes 73 = .ok (.getfield 19, 3) := dk_180 0 19 (dk_at dksX3_goes_3 1 rfl rfl)
theorem dX3_goes_76 : decode cX3_goes 76 = .ok (.bipush 29, 2) := dk_16 29 (dk_at dksX3_goes_3 4 rfl rfl)
theorem dX3_goes_78 : decode cX3_goes 78 = .ok (.iload_n 1, 1) := dk_27 (dk_at dksX3_goes_3 6 rfl rfl)
theorem dX3_goes_79 : decode cX3_goes 79 = .ok (.iadd, 1) := dk_96 (dk_at dksX3_goes_3 7 rfl rfl)
theorem dX3_goes_80 : decode cX3_goes 80 = .ok (.bipush 10, 2) := dk_16 10 (dk_at dksX3_goes_3 8 rfl rfl)
theorem dX3_goes_82 : decode cX3_goes 82 = .ok (.isub, 1) := dk_100 (dk_at dksX3_goes_3 10 rfl rfl)
theorem dX3_goes_83 : decode cX3_goes 83 = .ok (.iaload, 1) := dk_46 (dk_at dksX3_goes_3 11 rfl rfl)
theorem dX3_goes_84 : decode cX3_goes 84 = .ok (.isub, 1) := dk_100 (dk_at dksX3_goes_3 12 rfl rfl)
theorem dX3_goes_85 : decode cX3_goes 85 = .ok (.istore_n 2, 1) := dk_61 (dk_at dksX3_goes_3 13 rfl rfl)
theorem dX3_goes_86 : decode cX3_goes 86 = .ok (.aload_n 0, 1) := dk_42 (dk_at dksX3_goes_3 14 rfl rfl)
theorem dX3_goes_87 : decode cX3_goes 87 = .ok (.invokevirtual 380, 3) := dk_182 1 124 (dk_at dksX3_goes_3 15 rfl rfl)
theorem dX3_goes_90 : decode cX3_goes 90 = .ok (.iload_n 2, 1) := dk_28 (dk_at dksX3_goes_3 18 rfl rfl)
theorem dX3_goes_91 : decode cX3_goes 91 = .ok (.ireturn, 1) := dk_172 (dk_at dksX3_goes_3 19 rfl rfl)
abbrev cX3_lays : ByteArray := prog_17_method_86_code
def yX3_lays : MethodName := ⟨RX3, "lays", "()V"⟩
def dkwX3_lays_1 : List UInt8 := [167, 255, 235, 42, 3, 181, 1, 47, 177]
abbrev dktX3_lays_1 : List UInt8 := dkwX3_lays_1 ++ []
def dkwX3_lays_0 : List UInt8 := [3, 60, 27, 16, 37, 162, 0, 21, 42, 180, 0, 19, 27, 42, 180, 0, 7, 27, 46, 79, 132, 1, 1]
abbrev dktX3_lays_0 : List UInt8 := dkwX3_lays_0 ++ dktX3_lays_1
theorem dksX3_lays_0 : cX3_lays.data.toList.drop 0 = dktX3_lays_0 := by decide +kernel
theorem dksX3_lays_1 : cX3_lays.data.toList.drop 23 = dktX3_lays_1 := dk_seg dksX3_lays_0 23 rfl rfl
theorem dX3_lays_0 : decode cX3_lays 0 = .ok (.iconst 0, 1) := dk_3 (dk_at dksX3_lays_0 0 rfl rfl)
theorem dX3_lays_1 : decode cX3_lays 1 = .ok (.istore_n 1, 1) := dk_60 (dk_at dksX3_lays_0 1 rfl rfl)
theorem dX3_lays_2 : decode cX3_lays 2 = .ok (.iload_n 1, 1) := dk_27 (dk_at dksX3_lays_0 2 rfl rfl)
theorem dX3_lays_3 : decode cX3_lays 3 = .ok (.bipush 37, 2) := dk_16 37 (dk_at dksX3_lays_0 3 rfl rfl)
theorem dX3_lays_5 : decode cX3_lays 5 = .ok (.if_icmp .ge 21, 3) := dk_162 0 21 (dk_at dksX3_lays_0 5 rfl rfl)
theorem dX3_lays_8 : decode cX3_lays 8 = .ok (.aload_n 0, 1) := dk_42 (dk_at dksX3_lays_0 8 rfl rfl)
theorem dX3_lays_9 : decode cX3_lays 9 = .ok (.getfield 19, 3) := dk_180 0 19 (dk_at dksX3_lays_0 9 rfl rfl)
theorem dX3_lays_12 : decode cX3_lays 12 = .ok (.iload_n 1, 1) := dk_27 (dk_at dksX3_lays_0 12 rfl rfl)
theorem dX3_lays_13 : decode cX3_lays 13 = .ok (.aload_n 0, 1) := dk_42 (dk_at dksX3_lays_0 13 rfl rfl)
theorem dX3_lays_14 : decode cX3_lays 14 = .ok (.getfield 7, 3) := dk_180 0 7 (dk_at dksX3_lays_0 14 rfl rfl)
theorem dX3_lays_17 : decode cX3_lays 17 = .ok (.iload_n 1, 1) := dk_27 (dk_at dksX3_lays_0 17 rfl rfl)
theorem dX3_lays_18 : decode cX3_lays 18 = .ok (.iaload, 1) := dk_46 (dk_at dksX3_lays_0 18 rfl rfl)
theorem dX3_lays_19 : decode cX3_lays 19 = .ok (.iastore, 1) := dk_79 (dk_at dksX3_lays_0 19 rfl rfl)
theorem dX3_lays_20 : decode cX3_lays 20 = .ok (.iinc 1 1, 3) := dk_132 1 1 (dk_at dksX3_lays_0 20 rfl rfl)
theorem dX3_lays_23 : decode cX3_lays 23 = .ok (.goto (-21), 3) := dk_167 255 235 (dk_at dksX3_lays_1 0 rfl rfl)
theorem dX3_lays_26 : decode cX3_lays 26 = .ok (.aload_n 0, 1) := dk_42 (dk_at dksX3_lays_1 3 rfl rfl)
theorem dX3_lays_27 : decode cX3_lays 27 = .ok (.iconst 0, 1) := dk_3 (dk_at dksX3_lays_1 4 rfl rfl)
theorem dX3_lays_28 : decode cX3_lays 28 = .ok (.putfield 303, 3) := dk_181 1 47 (dk_at dksX3_lays_1 5 rfl rfl)
theorem dX3_lays_31 : decode cX3_lays 31 = .ok (.return_, 1) := dk_177 (dk_at dksX3_lays_1 8 rfl rfl)
abbrev cX3_putsBack : ByteArray := prog_17_method_87_code
def yX3_putsBack : MethodName := ⟨RX3, "putsBack", "()V"⟩
def dkwX3_putsBack_1 : List UInt8 := [167, 255, 235, 177]
abbrev dktX3_putsBack_1 : List UInt8 := dkwX3_putsBack_1 ++ []
def dkwX3_putsBack_0 : List UInt8 := [3, 60, 27, 16, 37, 162, 0, 21, 42, 180, 0, 7, 27, 42, 180, 0, 19, 27, 46, 79, 132, 1, 1]
abbrev dktX3_putsBack_0 : List UInt8 := dkwX3_putsBack_0 ++ dktX3_putsBack_1
theorem dksX3_putsBack_0 : cX3_putsBack.data.toList.drop 0 = dktX3_putsBack_0 := by decide +kernel
theorem dksX3_putsBack_1 : cX3_putsBack.data.toList.drop 23 = dktX3_putsBack_1 := dk_seg dksX3_putsBack_0 23 rfl rfl
theorem dX3_putsBack_0 : decode cX3_putsBack 0 = .ok (.iconst 0, 1) := dk_3 (dk_at dksX3_putsBack_0 0 rfl rfl)
theorem dX3_putsBack_1 : decode cX3_putsBack 1 = .ok (.istore_n 1, 1) := dk_60 (dk_at dksX3_putsBack_0 1 rfl rfl)
theorem dX3_putsBack_2 : decode cX3_putsBack 2 = .ok (.iload_n 1, 1) := dk_27 (dk_at dksX3_putsBack_0 2 rfl rfl)
theorem dX3_putsBack_3 : decode cX3_putsBack 3 = .ok (.bipush 37, 2) := dk_16 37 (dk_at dksX3_putsBack_0 3 rfl rfl)
theorem dX3_putsBack_5 : decode cX3_putsBack 5 = .ok (.if_icmp .ge 21, 3) := dk_162 0 21 (dk_at dksX3_putsBack_0 5 rfl rfl)
theorem dX3_putsBack_8 : decode cX3_putsBack 8 = .ok (.aload_n 0, 1) := dk_42 (dk_at dksX3_putsBack_0 8 rfl rfl)
theorem dX3_putsBack_9 : decode cX3_putsBack 9 = .ok (.getfield 7, 3) := dk_180 0 7 (dk_at dksX3_putsBack_0 9 rfl rfl)
theorem dX3_putsBack_12 : decode cX3_putsBack 12 = .ok (.iload_n 1, 1) := dk_27 (dk_at dksX3_putsBack_0 12 rfl rfl)
theorem dX3_putsBack_13 : decode cX3_putsBack 13 = .ok (.aload_n 0, 1) := dk_42 (dk_at dksX3_putsBack_0 13 rfl rfl)
theorem dX3_putsBack_14 : decode cX3_putsBack 14 = .ok (.getfield 19, 3) := dk_180 0 19 (dk_at dksX3_putsBack_0 14 rfl rfl)
theorem dX3_putsBack_17 : decode cX3_putsBack 17 = .ok (.iload_n 1, 1) := dk_27 (dk_at dksX3_putsBack_0 17 rfl rfl)
theorem dX3_putsBack_18 : decode cX3_putsBack 18 = .ok (.iaload, 1) := dk_46 (dk_at dksX3_putsBack_0 18 rfl rfl)
theorem dX3_putsBack_19 : decode cX3_putsBack 19 = .ok (.iastore, 1) := dk_79 (dk_at dksX3_putsBack_0 19 rfl rfl)
theorem dX3_putsBack_20 : decode cX3_putsBack 20 = .ok (.iinc 1 1, 3) := dk_132 1 1 (dk_at dksX3_putsBack_0 20 rfl rfl)
theorem dX3_putsBack_23 : decode cX3_putsBack 23 = .ok (.goto (-21), 3) := dk_167 255 235 (dk_at dksX3_putsBack_1 0 rfl rfl)
theorem dX3_putsBack_26 : decode cX3_putsBack 26 = .ok (.return_, 1) := dk_177 (dk_at dksX3_putsBack_1 3 rfl rfl)
abbrev cX3_settles : ByteArray := prog_17_method_89_code
def yX3_settles : MethodName := ⟨RX3, "settles", "(II)I"⟩
def dkwX3_settles_2 : List UInt8 := [28, 4, 160, 0, 10, 42, 180, 1, 75, 167, 0, 7, 42, 180, 1, 91, 172]
abbrev dktX3_settles_2 : List UInt8 := dkwX3_settles_2 ++ []
def dkwX3_settles_1 : List UInt8 := [27, 182, 1, 105, 42, 27, 182, 1, 108, 42, 182, 1, 124, 28, 154, 0, 10, 42, 180, 1, 60, 167, 0, 19]
abbrev dktX3_settles_1 : List UInt8 := dkwX3_settles_1 ++ dktX3_settles_2
def dkwX3_settles_0 : List UInt8 := [42, 27, 182, 0, 72, 153, 0, 12, 28, 3, 5, 184, 0, 56, 154, 0, 5, 2, 172, 42, 182, 1, 121, 42]
abbrev dktX3_settles_0 : List UInt8 := dkwX3_settles_0 ++ dktX3_settles_1
theorem dksX3_settles_0 : cX3_settles.data.toList.drop 0 = dktX3_settles_0 := by decide +kernel
theorem dksX3_settles_1 : cX3_settles.data.toList.drop 24 = dktX3_settles_1 := dk_seg dksX3_settles_0 24 rfl rfl
theorem dksX3_settles_2 : cX3_settles.data.toList.drop 48 = dktX3_settles_2 := dk_seg dksX3_settles_1 24 rfl rfl
theorem dX3_settles_0 : decode cX3_settles 0 = .ok (.aload_n 0, 1) := dk_42 (dk_at dksX3_settles_0 0 rfl rfl)
theorem dX3_settles_1 : decode cX3_settles 1 = .ok (.iload_n 1, 1) := dk_27 (dk_at dksX3_settles_0 1 rfl rfl)
theorem dX3_settles_2 : decode cX3_settles 2 = .ok (.invokevirtual 72, 3) := dk_182 0 72 (dk_at dksX3_settles_0 2 rfl rfl)
theorem dX3_settles_5 : decode cX3_settles 5 = .ok (.ifCond .eq 12, 3) := dk_153 0 12 (dk_at dksX3_settles_0 5 rfl rfl)
theorem dX3_settles_8 : decode cX3_settles 8 = .ok (.iload_n 2, 1) := dk_28 (dk_at dksX3_settles_0 8 rfl rfl)
theorem dX3_settles_9 : decode cX3_settles 9 = .ok (.iconst 0, 1) := dk_3 (dk_at dksX3_settles_0 9 rfl rfl)
theorem dX3_settles_10 : decode cX3_settles 10 = .ok (.iconst 2, 1) := dk_5 (dk_at dksX3_settles_0 10 rfl rfl)
theorem dX3_settles_11 : decode cX3_settles 11 = .ok (.invokestatic 56, 3) := dk_184 0 56 (dk_at dksX3_settles_0 11 rfl rfl)
theorem dX3_settles_14 : decode cX3_settles 14 = .ok (.ifCond .ne 5, 3) := dk_154 0 5 (dk_at dksX3_settles_0 14 rfl rfl)
theorem dX3_settles_17 : decode cX3_settles 17 = .ok (.iconst (-1), 1) := dk_2 (dk_at dksX3_settles_0 17 rfl rfl)
theorem dX3_settles_18 : decode cX3_settles 18 = .ok (.ireturn, 1) := dk_172 (dk_at dksX3_settles_0 18 rfl rfl)
theorem dX3_settles_19 : decode cX3_settles 19 = .ok (.aload_n 0, 1) := dk_42 (dk_at dksX3_settles_0 19 rfl rfl)
theorem dX3_settles_20 : decode cX3_settles 20 = .ok (.invokevirtual 377, 3) := dk_182 1 121 (dk_at dksX3_settles_0 20 rfl rfl)
theorem dX3_settles_23 : decode cX3_settles 23 = .ok (.aload_n 0, 1) := dk_42 (dk_at dksX3_settles_0 23 rfl rfl)
theorem dX3_settles_24 : decode cX3_settles 24 = .ok (.iload_n 1, 1) := dk_27 (dk_at dksX3_settles_1 0 rfl rfl)
theorem dX3_settles_25 : decode cX3_settles 25 = .ok (.invokevirtual 361, 3) := dk_182 1 105 (dk_at dksX3_settles_1 1 rfl rfl)
theorem dX3_settles_28 : decode cX3_settles 28 = .ok (.aload_n 0, 1) := dk_42 (dk_at dksX3_settles_1 4 rfl rfl)
theorem dX3_settles_29 : decode cX3_settles 29 = .ok (.iload_n 1, 1) := dk_27 (dk_at dksX3_settles_1 5 rfl rfl)
theorem dX3_settles_30 : decode cX3_settles 30 = .ok (.invokevirtual 364, 3) := dk_182 1 108 (dk_at dksX3_settles_1 6 rfl rfl)
theorem dX3_settles_33 : decode cX3_settles 33 = .ok (.aload_n 0, 1) := dk_42 (dk_at dksX3_settles_1 9 rfl rfl)
theorem dX3_settles_34 : decode cX3_settles 34 = .ok (.invokevirtual 380, 3) := dk_182 1 124 (dk_at dksX3_settles_1 10 rfl rfl)
theorem dX3_settles_37 : decode cX3_settles 37 = .ok (.iload_n 2, 1) := dk_28 (dk_at dksX3_settles_1 13 rfl rfl)
theorem dX3_settles_38 : decode cX3_settles 38 = .ok (.ifCond .ne 10, 3) := dk_154 0 10 (dk_at dksX3_settles_1 14 rfl rfl)
theorem dX3_settles_41 : decode cX3_settles 41 = .ok (.aload_n 0, 1) := dk_42 (dk_at dksX3_settles_1 17 rfl rfl)
theorem dX3_settles_42 : decode cX3_settles 42 = .ok (.getfield 316, 3) := dk_180 1 60 (dk_at dksX3_settles_1 18 rfl rfl)
theorem dX3_settles_45 : decode cX3_settles 45 = .ok (.goto 19, 3) := dk_167 0 19 (dk_at dksX3_settles_1 21 rfl rfl)
theorem dX3_settles_48 : decode cX3_settles 48 = .ok (.iload_n 2, 1) := dk_28 (dk_at dksX3_settles_2 0 rfl rfl)
theorem dX3_settles_49 : decode cX3_settles 49 = .ok (.iconst 1, 1) := dk_4 (dk_at dksX3_settles_2 1 rfl rfl)
theorem dX3_settles_50 : decode cX3_settles 50 = .ok (.if_icmp .ne 10, 3) := dk_160 0 10 (dk_at dksX3_settles_2 2 rfl rfl)
theorem dX3_settles_53 : decode cX3_settles 53 = .ok (.aload_n 0, 1) := dk_42 (dk_at dksX3_settles_2 5 rfl rfl)
theorem dX3_settles_54 : decode cX3_settles 54 = .ok (.getfield 331, 3) := dk_180 1 75 (dk_at dksX3_settles_2 6 rfl rfl)
theorem dX3_settles_57 : decode cX3_settles 57 = .ok (.goto 7, 3) := dk_167 0 7 (dk_at dksX3_settles_2 9 rfl rfl)
theorem dX3_settles_60 : decode cX3_settles 60 = .ok (.aload_n 0, 1) := dk_42 (dk_at dksX3_settles_2 12 rfl rfl)
theorem dX3_settles_61 : decode cX3_settles 61 = .ok (.getfield 347, 3) := dk_180 1 91 (dk_at dksX3_settles_2 13 rfl rfl)
theorem dX3_settles_64 : decode cX3_settles 64 = .ok (.ireturn, 1) := dk_172 (dk_at dksX3_settles_2 16 rfl rfl)
abbrev cX3_makes : ByteArray := prog_17_method_91_code
def yX3_makes : MethodName := ⟨RX3, "makes", "(III)I"⟩
def dkwX3_makes_5 : List UInt8 := [21, 4, 184, 1, 63, 172]
abbrev dktX3_makes_5 : List UInt8 := dkwX3_makes_5 ++ []
def dkwX3_makes_4 : List UInt8 := [54, 4, 132, 5, 1, 167, 255, 192, 21, 4, 2, 159, 0, 8, 29, 4, 160, 0, 8, 21, 4, 167, 0, 8]
abbrev dktX3_makes_4 : List UInt8 := dkwX3_makes_4 ++ dktX3_makes_5
def dkwX3_makes_3 : List UInt8 := [184, 1, 63, 21, 4, 184, 1, 63, 162, 0, 18, 42, 27, 21, 5, 182, 1, 127, 28, 160, 0, 7, 21, 5]
abbrev dktX3_makes_3 : List UInt8 := dkwX3_makes_3 ++ dktX3_makes_4
def dkwX3_makes_2 : List UInt8 := [21, 5, 42, 180, 0, 7, 16, 7, 46, 2, 130, 126, 154, 0, 37, 21, 4, 2, 159, 0, 16, 21, 5]
abbrev dktX3_makes_2 : List UInt8 := dkwX3_makes_2 ++ dktX3_makes_3
def dkwX3_makes_1 : List UInt8 := [154, 0, 5, 2, 172, 2, 54, 4, 3, 54, 5, 21, 5, 42, 180, 0, 7, 16, 7, 46, 163, 0, 58]
abbrev dktX3_makes_1 : List UInt8 := dkwX3_makes_1 ++ dktX3_makes_2
def dkwX3_makes_0 : List UInt8 := [42, 27, 182, 0, 72, 153, 0, 21, 28, 4, 8, 184, 0, 56, 153, 0, 12, 29, 3, 4, 184, 0, 56]
abbrev dktX3_makes_0 : List UInt8 := dkwX3_makes_0 ++ dktX3_makes_1
theorem dksX3_makes_0 : cX3_makes.data.toList.drop 0 = dktX3_makes_0 := by decide +kernel
theorem dksX3_makes_1 : cX3_makes.data.toList.drop 23 = dktX3_makes_1 := dk_seg dksX3_makes_0 23 rfl rfl
theorem dksX3_makes_2 : cX3_makes.data.toList.drop 46 = dktX3_makes_2 := dk_seg dksX3_makes_1 23 rfl rfl
theorem dksX3_makes_3 : cX3_makes.data.toList.drop 69 = dktX3_makes_3 := dk_seg dksX3_makes_2 23 rfl rfl
theorem dksX3_makes_4 : cX3_makes.data.toList.drop 93 = dktX3_makes_4 := dk_seg dksX3_makes_3 24 rfl rfl
theorem dksX3_makes_5 : cX3_makes.data.toList.drop 117 = dktX3_makes_5 := dk_seg dksX3_makes_4 24 rfl rfl
theorem dX3_makes_0 : decode cX3_makes 0 = .ok (.aload_n 0, 1) := dk_42 (dk_at dksX3_makes_0 0 rfl rfl)
theorem dX3_makes_1 : decode cX3_makes 1 = .ok (.iload_n 1, 1) := dk_27 (dk_at dksX3_makes_0 1 rfl rfl)
theorem dX3_makes_2 : decode cX3_makes 2 = .ok (.invokevirtual 72, 3) := dk_182 0 72 (dk_at dksX3_makes_0 2 rfl rfl)
theorem dX3_makes_5 : decode cX3_makes 5 = .ok (.ifCond .eq 21, 3) := dk_153 0 21 (dk_at dksX3_makes_0 5 rfl rfl)
theorem dX3_makes_8 : decode cX3_makes 8 = .ok (.iload_n 2, 1) := dk_28 (dk_at dksX3_makes_0 8 rfl rfl)
theorem dX3_makes_9 : decode cX3_makes 9 = .ok (.iconst 1, 1) := dk_4 (dk_at dksX3_makes_0 9 rfl rfl)
theorem dX3_makes_10 : decode cX3_makes 10 = .ok (.iconst 5, 1) := dk_8 (dk_at dksX3_makes_0 10 rfl rfl)
theorem dX3_makes_11 : decode cX3_makes 11 = .ok (.invokestatic 56, 3) := dk_184 0 56 (dk_at dksX3_makes_0 11 rfl rfl)
theorem dX3_makes_14 : decode cX3_makes 14 = .ok (.ifCond .eq 12, 3) := dk_153 0 12 (dk_at dksX3_makes_0 14 rfl rfl)
theorem dX3_makes_17 : decode cX3_makes 17 = .ok (.iload_n 3, 1) := dk_29 (dk_at dksX3_makes_0 17 rfl rfl)
theorem dX3_makes_18 : decode cX3_makes 18 = .ok (.iconst 0, 1) := dk_3 (dk_at dksX3_makes_0 18 rfl rfl)
theorem dX3_makes_19 : decode cX3_makes 19 = .ok (.iconst 1, 1) := dk_4 (dk_at dksX3_makes_0 19 rfl rfl)
theorem dX3_makes_20 : decode cX3_makes 20 = .ok (.invokestatic 56, 3) := dk_184 0 56 (dk_at dksX3_makes_0 20 rfl rfl)
theorem dX3_makes_23 : decode cX3_makes 23 = .ok (.ifCond .ne 5, 3) := dk_154 0 5 (dk_at dksX3_makes_1 0 rfl rfl)
theorem dX3_makes_26 : decode cX3_makes 26 = .ok (.iconst (-1), 1) := dk_2 (dk_at dksX3_makes_1 3 rfl rfl)
theorem dX3_makes_27 : decode cX3_makes 27 = .ok (.ireturn, 1) := dk_172 (dk_at dksX3_makes_1 4 rfl rfl)
theorem dX3_makes_28 : decode cX3_makes 28 = .ok (.iconst (-1), 1) := dk_2 (dk_at dksX3_makes_1 5 rfl rfl)
theorem dX3_makes_29 : decode cX3_makes 29 = .ok (.istore 4, 2) := dk_54 4 (dk_at dksX3_makes_1 6 rfl rfl)
theorem dX3_makes_31 : decode cX3_makes 31 = .ok (.iconst 0, 1) := dk_3 (dk_at dksX3_makes_1 8 rfl rfl)
theorem dX3_makes_32 : decode cX3_makes 32 = .ok (.istore 5, 2) := dk_54 5 (dk_at dksX3_makes_1 9 rfl rfl)
theorem dX3_makes_34 : decode cX3_makes 34 = .ok (.iload 5, 2) := dk_21 5 (dk_at dksX3_makes_1 11 rfl rfl)
theorem dX3_makes_36 : decode cX3_makes 36 = .ok (.aload_n 0, 1) := dk_42 (dk_at dksX3_makes_1 13 rfl rfl)
theorem dX3_makes_37 : decode cX3_makes 37 = .ok (.getfield 7, 3) := dk_180 0 7 (dk_at dksX3_makes_1 14 rfl rfl)
theorem dX3_makes_40 : decode cX3_makes 40 = .ok (.bipush 7, 2) := dk_16 7 (dk_at dksX3_makes_1 17 rfl rfl)
theorem dX3_makes_42 : decode cX3_makes 42 = .ok (.iaload, 1) := dk_46 (dk_at dksX3_makes_1 19 rfl rfl)
theorem dX3_makes_43 : decode cX3_makes 43 = .ok (.if_icmp .gt 58, 3) := dk_163 0 58 (dk_at dksX3_makes_1 20 rfl rfl)
theorem dX3_makes_46 : decode cX3_makes 46 = .ok (.iload 5, 2) := dk_21 5 (dk_at dksX3_makes_2 0 rfl rfl)
theorem dX3_makes_48 : decode cX3_makes 48 = .ok (.aload_n 0, 1) := dk_42 (dk_at dksX3_makes_2 2 rfl rfl)
theorem dX3_makes_49 : decode cX3_makes 49 = .ok (.getfield 7, 3) := dk_180 0 7 (dk_at dksX3_makes_2 3 rfl rfl)
theorem dX3_makes_52 : decode cX3_makes 52 = .ok (.bipush 7, 2) := dk_16 7 (dk_at dksX3_makes_2 6 rfl rfl)
theorem dX3_makes_54 : decode cX3_makes 54 = .ok (.iaload, 1) := dk_46 (dk_at dksX3_makes_2 8 rfl rfl)
theorem dX3_makes_55 : decode cX3_makes 55 = .ok (.iconst (-1), 1) := dk_2 (dk_at dksX3_makes_2 9 rfl rfl)
theorem dX3_makes_56 : decode cX3_makes 56 = .ok (.ixor, 1) := dk_130 (dk_at dksX3_makes_2 10 rfl rfl)
theorem dX3_makes_57 : decode cX3_makes 57 = .ok (.iand, 1) := dk_126 (dk_at dksX3_makes_2 11 rfl rfl)
theorem dX3_makes_58 : decode cX3_makes 58 = .ok (.ifCond .ne 37, 3) := dk_154 0 37 (dk_at dksX3_makes_2 12 rfl rfl)
theorem dX3_makes_61 : decode cX3_makes 61 = .ok (.iload 4, 2) := dk_21 4 (dk_at dksX3_makes_2 15 rfl rfl)
theorem dX3_makes_63 : decode cX3_makes 63 = .ok (.iconst (-1), 1) := dk_2 (dk_at dksX3_makes_2 17 rfl rfl)
theorem dX3_makes_64 : decode cX3_makes 64 = .ok (.if_icmp .eq 16, 3) := dk_159 0 16 (dk_at dksX3_makes_2 18 rfl rfl)
theorem dX3_makes_67 : decode cX3_makes 67 = .ok (.iload 5, 2) := dk_21 5 (dk_at dksX3_makes_2 21 rfl rfl)
theorem dX3_makes_69 : decode cX3_makes 69 = .ok (.invokestatic 319, 3) := dk_184 1 63 (dk_at dksX3_makes_3 0 rfl rfl)
theorem dX3_makes_72 : decode cX3_makes 72 = .ok (.iload 4, 2) := dk_21 4 (dk_at dksX3_makes_3 3 rfl rfl)
theorem dX3_makes_74 : decode cX3_makes 74 = .ok (.invokestatic 319, 3) := dk_184 1 63 (dk_at dksX3_makes_3 5 rfl rfl)
theorem dX3_makes_77 : decode cX3_makes 77 = .ok (.if_icmp .ge 18, 3) := dk_162 0 18 (dk_at dksX3_makes_3 8 rfl rfl)
theorem dX3_makes_80 : decode cX3_makes 80 = .ok (.aload_n 0, 1) := dk_42 (dk_at dksX3_makes_3 11 rfl rfl)
theorem dX3_makes_81 : decode cX3_makes 81 = .ok (.iload_n 1, 1) := dk_27 (dk_at dksX3_makes_3 12 rfl rfl)
theorem dX3_makes_82 : decode cX3_makes 82 = .ok (.iload 5, 2) := dk_21 5 (dk_at dksX3_makes_3 13 rfl rfl)
theorem dX3_makes_84 : decode cX3_makes 84 = .ok (.invokevirtual 383, 3) := dk_182 1 127 (dk_at dksX3_makes_3 15 rfl rfl)
theorem dX3_makes_87 : decode cX3_makes 87 = .ok (.iload_n 2, 1) := dk_28 (dk_at dksX3_makes_3 18 rfl rfl)
theorem dX3_makes_88 : decode cX3_makes 88 = .ok (.if_icmp .ne 7, 3) := dk_160 0 7 (dk_at dksX3_makes_3 19 rfl rfl)
theorem dX3_makes_91 : decode cX3_makes 91 = .ok (.iload 5, 2) := dk_21 5 (dk_at dksX3_makes_3 22 rfl rfl)
theorem dX3_makes_93 : decode cX3_makes 93 = .ok (.istore 4, 2) := dk_54 4 (dk_at dksX3_makes_4 0 rfl rfl)
theorem dX3_makes_95 : decode cX3_makes 95 = .ok (.iinc 5 1, 3) := dk_132 5 1 (dk_at dksX3_makes_4 2 rfl rfl)
theorem dX3_makes_98 : decode cX3_makes 98 = .ok (.goto (-64), 3) := dk_167 255 192 (dk_at dksX3_makes_4 5 rfl rfl)
theorem dX3_makes_101 : decode cX3_makes 101 = .ok (.iload 4, 2) := dk_21 4 (dk_at dksX3_makes_4 8 rfl rfl)
theorem dX3_makes_103 : decode cX3_makes 103 = .ok (.iconst (-1), 1) := dk_2 (dk_at dksX3_makes_4 10 rfl rfl)
theorem dX3_makes_104 : decode cX3_makes 104 = .ok (.if_icmp .eq 8, 3) := dk_159 0 8 (dk_at dksX3_makes_4 11 rfl rfl)
theorem dX3_makes_107 : decode cX3_makes 107 = .ok (.iload_n 3, 1) := dk_29 (dk_at dksX3_makes_4 14 rfl rfl)
theorem dX3_makes_108 : decode cX3_makes 108 = .ok (.iconst 1, 1) := dk_4 (dk_at dksX3_makes_4 15 rfl rfl)
theorem dX3_makes_109 : decode cX3_makes 109 = .ok (.if_icmp .ne 8, 3) := dk_160 0 8 (dk_at dksX3_makes_4 16 rfl rfl)
theorem dX3_makes_112 : decode cX3_makes 112 = .ok (.iload 4, 2) := dk_21 4 (dk_at dksX3_makes_4 19 rfl rfl)
theorem dX3_makes_114 : decode cX3_makes 114 = .ok (.goto 8, 3) := dk_167 0 8 (dk_at dksX3_makes_4 21 rfl rfl)
theorem dX3_makes_117 : decode cX3_makes 117 = .ok (.iload 4, 2) := dk_21 4 (dk_at dksX3_makes_5 0 rfl rfl)
theorem dX3_makes_119 : decode cX3_makes 119 = .ok (.invokestatic 319, 3) := dk_184 1 63 (dk_at dksX3_makes_5 2 rfl rfl)
theorem dX3_makes_122 : decode cX3_makes 122 = .ok (.ireturn, 1) := dk_172 (dk_at dksX3_makes_5 5 rfl rfl)
abbrev cX3_doneWithout : ByteArray := prog_17_method_90_code
def yX3_doneWithout : MethodName := ⟨RX3, "doneWithout", "(II)I"⟩
def dkwX3_doneWithout_1 : List UInt8 := [182, 1, 124, 29, 172]
abbrev dktX3_doneWithout_1 : List UInt8 := dkwX3_doneWithout_1 ++ []
def dkwX3_doneWithout_0 : List UInt8 := [42, 182, 1, 121, 42, 180, 0, 7, 16, 7, 92, 46, 28, 2, 130, 126, 79, 42, 27, 182, 1, 114, 62, 42]
abbrev dktX3_doneWithout_0 : List UInt8 := dkwX3_doneWithout_0 ++ dktX3_doneWithout_1
theorem dksX3_doneWithout_0 : cX3_doneWithout.data.toList.drop 0 = dktX3_doneWithout_0 := by decide +kernel
theorem dksX3_doneWithout_1 : cX3_doneWithout.data.toList.drop 24 = dktX3_doneWithout_1 := dk_seg dksX3_doneWithout_0 24 rfl rfl
theorem dX3_doneWithout_0 : decode cX3_doneWithout 0 = .ok (.aload_n 0, 1) := dk_42 (dk_at dksX3_doneWithout_0 0 rfl rfl)
theorem dX3_doneWithout_1 : decode cX3_doneWithout 1 = .ok (.invokevirtual 377, 3) := dk_182 1 121 (dk_at dksX3_doneWithout_0 1 rfl rfl)
theorem dX3_doneWithout_4 : decode cX3_doneWithout 4 = .ok (.aload_n 0, 1) := dk_42 (dk_at dksX3_doneWithout_0 4 rfl rfl)
theorem dX3_doneWithout_5 : decode cX3_doneWithout 5 = .ok (.getfield 7, 3) := dk_180 0 7 (dk_at dksX3_doneWithout_0 5 rfl rfl)
theorem dX3_doneWithout_8 : decode cX3_doneWithout 8 = .ok (.bipush 7, 2) := dk_16 7 (dk_at dksX3_doneWithout_0 8 rfl rfl)
theorem dX3_doneWithout_10 : decode cX3_doneWithout 10 = .ok (.dup2, 1) := dk_92 (dk_at dksX3_doneWithout_0 10 rfl rfl)
theorem dX3_doneWithout_11 : decode cX3_doneWithout 11 = .ok (.iaload, 1) := dk_46 (dk_at dksX3_doneWithout_0 11 rfl rfl)
theorem dX3_doneWithout_12 : decode cX3_doneWithout 12 = .ok (.iload_n 2, 1) := dk_28 (dk_at dksX3_doneWithout_0 12 rfl rfl)
theorem dX3_doneWithout_13 : decode cX3_doneWithout 13 = .ok (.iconst (-1), 1) := dk_2 (dk_at dksX3_doneWithout_0 13 rfl rfl)
theorem dX3_doneWithout_14 : decode cX3_doneWithout 14 = .ok (.ixor, 1) := dk_130 (dk_at dksX3_doneWithout_0 14 rfl rfl)
theorem dX3_doneWithout_15 : decode cX3_doneWithout 15 = .ok (.iand, 1) := dk_126 (dk_at dksX3_doneWithout_0 15 rfl rfl)
theorem dX3_doneWithout_16 : decode cX3_doneWithout 16 = .ok (.iastore, 1) := dk_79 (dk_at dksX3_doneWithout_0 16 rfl rfl)
theorem dX3_doneWithout_17 : decode cX3_doneWithout 17 = .ok (.aload_n 0, 1) := dk_42 (dk_at dksX3_doneWithout_0 17 rfl rfl)
theorem dX3_doneWithout_18 : decode cX3_doneWithout 18 = .ok (.iload_n 1, 1) := dk_27 (dk_at dksX3_doneWithout_0 18 rfl rfl)
theorem dX3_doneWithout_19 : decode cX3_doneWithout 19 = .ok (.invokevirtual 370, 3) := dk_182 1 114 (dk_at dksX3_doneWithout_0 19 rfl rfl)
theorem dX3_doneWithout_22 : decode cX3_doneWithout 22 = .ok (.istore_n 3, 1) := dk_62 (dk_at dksX3_doneWithout_0 22 rfl rfl)
theorem dX3_doneWithout_23 : decode cX3_doneWithout 23 = .ok (.aload_n 0, 1) := dk_42 (dk_at dksX3_doneWithout_0 23 rfl rfl)
theorem dX3_doneWithout_24 : decode cX3_doneWithout 24 = .ok (.invokevirtual 380, 3) := dk_182 1 124 (dk_at dksX3_doneWithout_1 0 rfl rfl)
theorem dX3_doneWithout_27 : decode cX3_doneWithout 27 = .ok (.iload_n 3, 1) := dk_29 (dk_at dksX3_doneWithout_1 3 rfl rfl)
theorem dX3_doneWithout_28 : decode cX3_doneWithout 28 = .ok (.ireturn, 1) := dk_172 (dk_at dksX3_doneWithout_1 4 rfl rfl)
abbrev cX3_brakes : ByteArray := prog_17_method_93_code
def yX3_brakes : MethodName := ⟨RX3, "brakes", "(II)I"⟩
def dkwX3_brakes_5 : List UInt8 := [184, 1, 63, 172]
abbrev dktX3_brakes_5 : List UInt8 := dkwX3_brakes_5 ++ []
def dkwX3_brakes_4 : List UInt8 := [132, 5, 1, 167, 255, 204, 21, 4, 2, 159, 0, 8, 28, 4, 160, 0, 8, 21, 4, 167, 0, 8, 21, 4]
abbrev dktX3_brakes_4 : List UInt8 := dkwX3_brakes_4 ++ dktX3_brakes_5
def dkwX3_brakes_3 : List UInt8 := [21, 4, 184, 1, 63, 162, 0, 18, 42, 27, 21, 5, 182, 1, 130, 4, 160, 0, 7, 21, 5, 54, 4]
abbrev dktX3_brakes_3 : List UInt8 := dkwX3_brakes_3 ++ dktX3_brakes_4
def dkwX3_brakes_2 : List UInt8 := [163, 0, 52, 21, 5, 29, 2, 130, 126, 154, 0, 37, 21, 4, 2, 159, 0, 16, 21, 5, 184, 1, 63]
abbrev dktX3_brakes_2 : List UInt8 := dkwX3_brakes_2 ++ dktX3_brakes_3
def dkwX3_brakes_1 : List UInt8 := [16, 7, 46, 42, 180, 0, 7, 16, 8, 46, 2, 130, 126, 62, 2, 54, 4, 3, 54, 5, 21, 5, 29]
abbrev dktX3_brakes_1 : List UInt8 := dkwX3_brakes_1 ++ dktX3_brakes_2
def dkwX3_brakes_0 : List UInt8 := [42, 27, 182, 0, 72, 153, 0, 12, 28, 3, 4, 184, 0, 56, 154, 0, 5, 2, 172, 42, 180, 0, 7]
abbrev dktX3_brakes_0 : List UInt8 := dkwX3_brakes_0 ++ dktX3_brakes_1
theorem dksX3_brakes_0 : cX3_brakes.data.toList.drop 0 = dktX3_brakes_0 := by decide +kernel
theorem dksX3_brakes_1 : cX3_brakes.data.toList.drop 23 = dktX3_brakes_1 := dk_seg dksX3_brakes_0 23 rfl rfl
theorem dksX3_brakes_2 : cX3_brakes.data.toList.drop 46 = dktX3_brakes_2 := dk_seg dksX3_brakes_1 23 rfl rfl
theorem dksX3_brakes_3 : cX3_brakes.data.toList.drop 69 = dktX3_brakes_3 := dk_seg dksX3_brakes_2 23 rfl rfl
theorem dksX3_brakes_4 : cX3_brakes.data.toList.drop 92 = dktX3_brakes_4 := dk_seg dksX3_brakes_3 23 rfl rfl
theorem dksX3_brakes_5 : cX3_brakes.data.toList.drop 116 = dktX3_brakes_5 := dk_seg dksX3_brakes_4 24 rfl rfl
theorem dX3_brakes_0 : decode cX3_brakes 0 = .ok (.aload_n 0, 1) := dk_42 (dk_at dksX3_brakes_0 0 rfl rfl)
theorem dX3_brakes_1 : decode cX3_brakes 1 = .ok (.iload_n 1, 1) := dk_27 (dk_at dksX3_brakes_0 1 rfl rfl)
theorem dX3_brakes_2 : decode cX3_brakes 2 = .ok (.invokevirtual 72, 3) := dk_182 0 72 (dk_at dksX3_brakes_0 2 rfl rfl)
theorem dX3_brakes_5 : decode cX3_brakes 5 = .ok (.ifCond .eq 12, 3) := dk_153 0 12 (dk_at dksX3_brakes_0 5 rfl rfl)
theorem dX3_brakes_8 : decode cX3_brakes 8 = .ok (.iload_n 2, 1) := dk_28 (dk_at dksX3_brakes_0 8 rfl rfl)
theorem dX3_brakes_9 : decode cX3_brakes 9 = .ok (.iconst 0, 1) := dk_3 (dk_at dksX3_brakes_0 9 rfl rfl)
theorem dX3_brakes_10 : decode cX3_brakes 10 = .ok (.iconst 1, 1) := dk_4 (dk_at dksX3_brakes_0 10 rfl rfl)
theorem dX3_brakes_11 : decode cX3_brakes 11 = .ok (.invokestatic 56, 3) := dk_184 0 56 (dk_at dksX3_brakes_0 11 rfl rfl)
theorem dX3_brakes_14 : decode cX3_brakes 14 = .ok (.ifCond .ne 5, 3) := dk_154 0 5 (dk_at dksX3_brakes_0 14 rfl rfl)
theorem dX3_brakes_17 : decode cX3_brakes 17 = .ok (.iconst (-1), 1) := dk_2 (dk_at dksX3_brakes_0 17 rfl rfl)
theorem dX3_brakes_18 : decode cX3_brakes 18 = .ok (.ireturn, 1) := dk_172 (dk_at dksX3_brakes_0 18 rfl rfl)
theorem dX3_brakes_19 : decode cX3_brakes 19 = .ok (.aload_n 0, 1) := dk_42 (dk_at dksX3_brakes_0 19 rfl rfl)
theorem dX3_brakes_20 : decode cX3_brakes 20 = .ok (.getfield 7, 3) := dk_180 0 7 (dk_at dksX3_brakes_0 20 rfl rfl)
theorem dX3_brakes_23 : decode cX3_brakes 23 = .ok (.bipush 7, 2) := dk_16 7 (dk_at dksX3_brakes_1 0 rfl rfl)
theorem dX3_brakes_25 : decode cX3_brakes 25 = .ok (.iaload, 1) := dk_46 (dk_at dksX3_brakes_1 2 rfl rfl)
theorem dX3_brakes_26 : decode cX3_brakes 26 = .ok (.aload_n 0, 1) := dk_42 (dk_at dksX3_brakes_1 3 rfl rfl)
theorem dX3_brakes_27 : decode cX3_brakes 27 = .ok (.getfield 7, 3) := dk_180 0 7 (dk_at dksX3_brakes_1 4 rfl rfl)
theorem dX3_brakes_30 : decode cX3_brakes 30 = .ok (.bipush 8, 2) := dk_16 8 (dk_at dksX3_brakes_1 7 rfl rfl)
theorem dX3_brakes_32 : decode cX3_brakes 32 = .ok (.iaload, 1) := dk_46 (dk_at dksX3_brakes_1 9 rfl rfl)
theorem dX3_brakes_33 : decode cX3_brakes 33 = .ok (.iconst (-1), 1) := dk_2 (dk_at dksX3_brakes_1 10 rfl rfl)
theorem dX3_brakes_34 : decode cX3_brakes 34 = .ok (.ixor, 1) := dk_130 (dk_at dksX3_brakes_1 11 rfl rfl)
theorem dX3_brakes_35 : decode cX3_brakes 35 = .ok (.iand, 1) := dk_126 (dk_at dksX3_brakes_1 12 rfl rfl)
theorem dX3_brakes_36 : decode cX3_brakes 36 = .ok (.istore_n 3, 1) := dk_62 (dk_at dksX3_brakes_1 13 rfl rfl)
theorem dX3_brakes_37 : decode cX3_brakes 37 = .ok (.iconst (-1), 1) := dk_2 (dk_at dksX3_brakes_1 14 rfl rfl)
theorem dX3_brakes_38 : decode cX3_brakes 38 = .ok (.istore 4, 2) := dk_54 4 (dk_at dksX3_brakes_1 15 rfl rfl)
theorem dX3_brakes_40 : decode cX3_brakes 40 = .ok (.iconst 0, 1) := dk_3 (dk_at dksX3_brakes_1 17 rfl rfl)
theorem dX3_brakes_41 : decode cX3_brakes 41 = .ok (.istore 5, 2) := dk_54 5 (dk_at dksX3_brakes_1 18 rfl rfl)
theorem dX3_brakes_43 : decode cX3_brakes 43 = .ok (.iload 5, 2) := dk_21 5 (dk_at dksX3_brakes_1 20 rfl rfl)
theorem dX3_brakes_45 : decode cX3_brakes 45 = .ok (.iload_n 3, 1) := dk_29 (dk_at dksX3_brakes_1 22 rfl rfl)
theorem dX3_brakes_46 : decode cX3_brakes 46 = .ok (.if_icmp .gt 52, 3) := dk_163 0 52 (dk_at dksX3_brakes_2 0 rfl rfl)
theorem dX3_brakes_49 : decode cX3_brakes 49 = .ok (.iload 5, 2) := dk_21 5 (dk_at dksX3_brakes_2 3 rfl rfl)
theorem dX3_brakes_51 : decode cX3_brakes 51 = .ok (.iload_n 3, 1) := dk_29 (dk_at dksX3_brakes_2 5 rfl rfl)
theorem dX3_brakes_52 : decode cX3_brakes 52 = .ok (.iconst (-1), 1) := dk_2 (dk_at dksX3_brakes_2 6 rfl rfl)
theorem dX3_brakes_53 : decode cX3_brakes 53 = .ok (.ixor, 1) := dk_130 (dk_at dksX3_brakes_2 7 rfl rfl)
theorem dX3_brakes_54 : decode cX3_brakes 54 = .ok (.iand, 1) := dk_126 (dk_at dksX3_brakes_2 8 rfl rfl)
theorem dX3_brakes_55 : decode cX3_brakes 55 = .ok (.ifCond .ne 37, 3) := dk_154 0 37 (dk_at dksX3_brakes_2 9 rfl rfl)
theorem dX3_brakes_58 : decode cX3_brakes 58 = .ok (.iload 4, 2) := dk_21 4 (dk_at dksX3_brakes_2 12 rfl rfl)
theorem dX3_brakes_60 : decode cX3_brakes 60 = .ok (.iconst (-1), 1) := dk_2 (dk_at dksX3_brakes_2 14 rfl rfl)
theorem dX3_brakes_61 : decode cX3_brakes 61 = .ok (.if_icmp .eq 16, 3) := dk_159 0 16 (dk_at dksX3_brakes_2 15 rfl rfl)
theorem dX3_brakes_64 : decode cX3_brakes 64 = .ok (.iload 5, 2) := dk_21 5 (dk_at dksX3_brakes_2 18 rfl rfl)
theorem dX3_brakes_66 : decode cX3_brakes 66 = .ok (.invokestatic 319, 3) := dk_184 1 63 (dk_at dksX3_brakes_2 20 rfl rfl)
theorem dX3_brakes_69 : decode cX3_brakes 69 = .ok (.iload 4, 2) := dk_21 4 (dk_at dksX3_brakes_3 0 rfl rfl)
theorem dX3_brakes_71 : decode cX3_brakes 71 = .ok (.invokestatic 319, 3) := dk_184 1 63 (dk_at dksX3_brakes_3 2 rfl rfl)
theorem dX3_brakes_74 : decode cX3_brakes 74 = .ok (.if_icmp .ge 18, 3) := dk_162 0 18 (dk_at dksX3_brakes_3 5 rfl rfl)
theorem dX3_brakes_77 : decode cX3_brakes 77 = .ok (.aload_n 0, 1) := dk_42 (dk_at dksX3_brakes_3 8 rfl rfl)
theorem dX3_brakes_78 : decode cX3_brakes 78 = .ok (.iload_n 1, 1) := dk_27 (dk_at dksX3_brakes_3 9 rfl rfl)
theorem dX3_brakes_79 : decode cX3_brakes 79 = .ok (.iload 5, 2) := dk_21 5 (dk_at dksX3_brakes_3 10 rfl rfl)
theorem dX3_brakes_81 : decode cX3_brakes 81 = .ok (.invokevirtual 386, 3) := dk_182 1 130 (dk_at dksX3_brakes_3 12 rfl rfl)
theorem dX3_brakes_84 : decode cX3_brakes 84 = .ok (.iconst 1, 1) := dk_4 (dk_at dksX3_brakes_3 15 rfl rfl)
theorem dX3_brakes_85 : decode cX3_brakes 85 = .ok (.if_icmp .ne 7, 3) := dk_160 0 7 (dk_at dksX3_brakes_3 16 rfl rfl)
theorem dX3_brakes_88 : decode cX3_brakes 88 = .ok (.iload 5, 2) := dk_21 5 (dk_at dksX3_brakes_3 19 rfl rfl)
theorem dX3_brakes_90 : decode cX3_brakes 90 = .ok (.istore 4, 2) := dk_54 4 (dk_at dksX3_brakes_3 21 rfl rfl)
theorem dX3_brakes_92 : decode cX3_brakes 92 = .ok (.iinc 5 1, 3) := dk_132 5 1 (dk_at dksX3_brakes_4 0 rfl rfl)
theorem dX3_brakes_95 : decode cX3_brakes 95 = .ok (.goto (-52), 3) := dk_167 255 204 (dk_at dksX3_brakes_4 3 rfl rfl)
theorem dX3_brakes_98 : decode cX3_brakes 98 = .ok (.iload 4, 2) := dk_21 4 (dk_at dksX3_brakes_4 6 rfl rfl)
theorem dX3_brakes_100 : decode cX3_brakes 100 = .ok (.iconst (-1), 1) := dk_2 (dk_at dksX3_brakes_4 8 rfl rfl)
theorem dX3_brakes_101 : decode cX3_brakes 101 = .ok (.if_icmp .eq 8, 3) := dk_159 0 8 (dk_at dksX3_brakes_4 9 rfl rfl)
theorem dX3_brakes_104 : decode cX3_brakes 104 = .ok (.iload_n 2, 1) := dk_28 (dk_at dksX3_brakes_4 12 rfl rfl)
theorem dX3_brakes_105 : decode cX3_brakes 105 = .ok (.iconst 1, 1) := dk_4 (dk_at dksX3_brakes_4 13 rfl rfl)
theorem dX3_brakes_106 : decode cX3_brakes 106 = .ok (.if_icmp .ne 8, 3) := dk_160 0 8 (dk_at dksX3_brakes_4 14 rfl rfl)
theorem dX3_brakes_109 : decode cX3_brakes 109 = .ok (.iload 4, 2) := dk_21 4 (dk_at dksX3_brakes_4 17 rfl rfl)
theorem dX3_brakes_111 : decode cX3_brakes 111 = .ok (.goto 8, 3) := dk_167 0 8 (dk_at dksX3_brakes_4 19 rfl rfl)
theorem dX3_brakes_114 : decode cX3_brakes 114 = .ok (.iload 4, 2) := dk_21 4 (dk_at dksX3_brakes_4 22 rfl rfl)
theorem dX3_brakes_116 : decode cX3_brakes 116 = .ok (.invokestatic 319, 3) := dk_184 1 63 (dk_at dksX3_brakes_5 0 rfl rfl)
theorem dX3_brakes_119 : decode cX3_brakes 119 = .ok (.ireturn, 1) := dk_172 (dk_at dksX3_brakes_5 3 rfl rfl)
abbrev cX3_doneWithGloves : ByteArray := prog_17_method_92_code
def yX3_doneWithGloves : MethodName := ⟨RX3, "doneWithGloves", "(II)I"⟩
def dkwX3_doneWithGloves_1 : List UInt8 := [182, 1, 124, 29, 172]
abbrev dktX3_doneWithGloves_1 : List UInt8 := dkwX3_doneWithGloves_1 ++ []
def dkwX3_doneWithGloves_0 : List UInt8 := [42, 182, 1, 121, 42, 180, 0, 7, 16, 8, 92, 46, 28, 128, 79, 42, 27, 182, 1, 114, 62, 42]
abbrev dktX3_doneWithGloves_0 : List UInt8 := dkwX3_doneWithGloves_0 ++ dktX3_doneWithGloves_1
theorem dksX3_doneWithGloves_0 : cX3_doneWithGloves.data.toList.drop 0 = dktX3_doneWithGloves_0 := by decide +kernel
theorem dksX3_doneWithGloves_1 : cX3_doneWithGloves.data.toList.drop 22 = dktX3_doneWithGloves_1 := dk_seg dksX3_doneWithGloves_0 22 rfl rfl
theorem dX3_doneWithGloves_0 : decode cX3_doneWithGloves 0 = .ok (.aload_n 0, 1) := dk_42 (dk_at dksX3_doneWithGloves_0 0 rfl rfl)
theorem dX3_doneWithGloves_1 : decode cX3_doneWithGloves 1 = .ok (.invokevirtual 377, 3) := dk_182 1 121 (dk_at dksX3_doneWithGloves_0 1 rfl rfl)
theorem dX3_doneWithGloves_4 : decode cX3_doneWithGloves 4 = .ok (.aload_n 0, 1) := dk_42 (dk_at dksX3_doneWithGloves_0 4 rfl rfl)
theorem dX3_doneWithGloves_5 : decode cX3_doneWithGloves 5 = .ok (.getfield 7, 3) := dk_180 0 7 (dk_at dksX3_doneWithGloves_0 5 rfl rfl)
theorem dX3_doneWithGloves_8 : decode cX3_doneWithGloves 8 = .ok (.bipush 8, 2) := dk_16 8 (dk_at dksX3_doneWithGloves_0 8 rfl rfl)
theorem dX3_doneWithGloves_10 : decode cX3_doneWithGloves 10 = .ok (.dup2, 1) := dk_92 (dk_at dksX3_doneWithGloves_0 10 rfl rfl)
theorem dX3_doneWithGloves_11 : decode cX3_doneWithGloves 11 = .ok (.iaload, 1) := dk_46 (dk_at dksX3_doneWithGloves_0 11 rfl rfl)
theorem dX3_doneWithGloves_12 : decode cX3_doneWithGloves 12 = .ok (.iload_n 2, 1) := dk_28 (dk_at dksX3_doneWithGloves_0 12 rfl rfl)
theorem dX3_doneWithGloves_13 : decode cX3_doneWithGloves 13 = .ok (.ior, 1) := dk_128 (dk_at dksX3_doneWithGloves_0 13 rfl rfl)
theorem dX3_doneWithGloves_14 : decode cX3_doneWithGloves 14 = .ok (.iastore, 1) := dk_79 (dk_at dksX3_doneWithGloves_0 14 rfl rfl)
theorem dX3_doneWithGloves_15 : decode cX3_doneWithGloves 15 = .ok (.aload_n 0, 1) := dk_42 (dk_at dksX3_doneWithGloves_0 15 rfl rfl)
theorem dX3_doneWithGloves_16 : decode cX3_doneWithGloves 16 = .ok (.iload_n 1, 1) := dk_27 (dk_at dksX3_doneWithGloves_0 16 rfl rfl)
theorem dX3_doneWithGloves_17 : decode cX3_doneWithGloves 17 = .ok (.invokevirtual 370, 3) := dk_182 1 114 (dk_at dksX3_doneWithGloves_0 17 rfl rfl)
theorem dX3_doneWithGloves_20 : decode cX3_doneWithGloves 20 = .ok (.istore_n 3, 1) := dk_62 (dk_at dksX3_doneWithGloves_0 20 rfl rfl)
theorem dX3_doneWithGloves_21 : decode cX3_doneWithGloves 21 = .ok (.aload_n 0, 1) := dk_42 (dk_at dksX3_doneWithGloves_0 21 rfl rfl)
theorem dX3_doneWithGloves_22 : decode cX3_doneWithGloves 22 = .ok (.invokevirtual 380, 3) := dk_182 1 124 (dk_at dksX3_doneWithGloves_1 0 rfl rfl)
theorem dX3_doneWithGloves_25 : decode cX3_doneWithGloves 25 = .ok (.iload_n 3, 1) := dk_29 (dk_at dksX3_doneWithGloves_1 3 rfl rfl)
theorem dX3_doneWithGloves_26 : decode cX3_doneWithGloves 26 = .ok (.ireturn, 1) := dk_172 (dk_at dksX3_doneWithGloves_1 4 rfl rfl)
abbrev cX3_eager : ByteArray := prog_17_method_94_code
def yX3_eager : MethodName := ⟨RX3, "eager", "(II)I"⟩
def dkwX3_eager_4 : List UInt8 := [29, 167, 0, 10, 42, 29, 27, 3, 182, 1, 66, 172]
abbrev dktX3_eager_4 : List UInt8 := dkwX3_eager_4 ++ []
def dkwX3_eager_3 : List UInt8 := [182, 1, 66, 164, 0, 6, 21, 4, 62, 132, 4, 1, 167, 255, 197, 29, 2, 159, 0, 7, 28, 154, 0, 7]
abbrev dktX3_eager_3 : List UInt8 := dkwX3_eager_3 ++ dktX3_eager_4
def dkwX3_eager_2 : List UInt8 := [182, 1, 57, 154, 0, 29, 29, 2, 159, 0, 21, 42, 21, 4, 27, 3, 182, 1, 66, 42, 29, 27, 3]
abbrev dktX3_eager_2 : List UInt8 := dkwX3_eager_2 ++ dktX3_eager_3
def dkwX3_eager_1 : List UInt8 := [21, 4, 42, 180, 0, 7, 16, 37, 46, 162, 0, 53, 42, 21, 4, 182, 1, 54, 153, 0, 38, 42, 21, 4]
abbrev dktX3_eager_1 : List UInt8 := dkwX3_eager_1 ++ dktX3_eager_2
def dkwX3_eager_0 : List UInt8 := [42, 27, 182, 0, 72, 153, 0, 12, 28, 3, 4, 184, 0, 56, 154, 0, 5, 2, 172, 2, 62, 3, 54, 4]
abbrev dktX3_eager_0 : List UInt8 := dkwX3_eager_0 ++ dktX3_eager_1
theorem dksX3_eager_0 : cX3_eager.data.toList.drop 0 = dktX3_eager_0 := by decide +kernel
theorem dksX3_eager_1 : cX3_eager.data.toList.drop 24 = dktX3_eager_1 := dk_seg dksX3_eager_0 24 rfl rfl
theorem dksX3_eager_2 : cX3_eager.data.toList.drop 48 = dktX3_eager_2 := dk_seg dksX3_eager_1 24 rfl rfl
theorem dksX3_eager_3 : cX3_eager.data.toList.drop 71 = dktX3_eager_3 := dk_seg dksX3_eager_2 23 rfl rfl
theorem dksX3_eager_4 : cX3_eager.data.toList.drop 95 = dktX3_eager_4 := dk_seg dksX3_eager_3 24 rfl rfl
theorem dX3_eager_0 : decode cX3_eager 0 = .ok (.aload_n 0, 1) := dk_42 (dk_at dksX3_eager_0 0 rfl rfl)
theorem dX3_eager_1 : decode cX3_eager 1 = .ok (.iload_n 1, 1) := dk_27 (dk_at dksX3_eager_0 1 rfl rfl)
theorem dX3_eager_2 : decode cX3_eager 2 = .ok (.invokevirtual 72, 3) := dk_182 0 72 (dk_at dksX3_eager_0 2 rfl rfl)
theorem dX3_eager_5 : decode cX3_eager 5 = .ok (.ifCond .eq 12, 3) := dk_153 0 12 (dk_at dksX3_eager_0 5 rfl rfl)
theorem dX3_eager_8 : decode cX3_eager 8 = .ok (.iload_n 2, 1) := dk_28 (dk_at dksX3_eager_0 8 rfl rfl)
theorem dX3_eager_9 : decode cX3_eager 9 = .ok (.iconst 0, 1) := dk_3 (dk_at dksX3_eager_0 9 rfl rfl)
theorem dX3_eager_10 : decode cX3_eager 10 = .ok (.iconst 1, 1) := dk_4 (dk_at dksX3_eager_0 10 rfl rfl)
theorem dX3_eager_11 : decode cX3_eager 11 = .ok (.invokestatic 56, 3) := dk_184 0 56 (dk_at dksX3_eager_0 11 rfl rfl)
theorem dX3_eager_14 : decode cX3_eager 14 = .ok (.ifCond .ne 5, 3) := dk_154 0 5 (dk_at dksX3_eager_0 14 rfl rfl)
theorem dX3_eager_17 : decode cX3_eager 17 = .ok (.iconst (-1), 1) := dk_2 (dk_at dksX3_eager_0 17 rfl rfl)
theorem dX3_eager_18 : decode cX3_eager 18 = .ok (.ireturn, 1) := dk_172 (dk_at dksX3_eager_0 18 rfl rfl)
theorem dX3_eager_19 : decode cX3_eager 19 = .ok (.iconst (-1), 1) := dk_2 (dk_at dksX3_eager_0 19 rfl rfl)
theorem dX3_eager_20 : decode cX3_eager 20 = .ok (.istore_n 3, 1) := dk_62 (dk_at dksX3_eager_0 20 rfl rfl)
theorem dX3_eager_21 : decode cX3_eager 21 = .ok (.iconst 0, 1) := dk_3 (dk_at dksX3_eager_0 21 rfl rfl)
theorem dX3_eager_22 : decode cX3_eager 22 = .ok (.istore 4, 2) := dk_54 4 (dk_at dksX3_eager_0 22 rfl rfl)
theorem dX3_eager_24 : decode cX3_eager 24 = .ok (.iload 4, 2) := dk_21 4 (dk_at dksX3_eager_1 0 rfl rfl)
theorem dX3_eager_26 : decode cX3_eager 26 = .ok (.aload_n 0, 1) := dk_42 (dk_at dksX3_eager_1 2 rfl rfl)
theorem dX3_eager_27 : decode cX3_eager 27 = .ok (.getfield 7, 3) := dk_180 0 7 (dk_at dksX3_eager_1 3 rfl rfl)
theorem dX3_eager_30 : decode cX3_eager 30 = .ok (.bipush 37, 2) := dk_16 37 (dk_at dksX3_eager_1 6 rfl rfl)
theorem dX3_eager_32 : decode cX3_eager 32 = .ok (.iaload, 1) := dk_46 (dk_at dksX3_eager_1 8 rfl rfl)
theorem dX3_eager_33 : decode cX3_eager 33 = .ok (.if_icmp .ge 53, 3) := dk_162 0 53 (dk_at dksX3_eager_1 9 rfl rfl)
theorem dX3_eager_36 : decode cX3_eager 36 = .ok (.aload_n 0, 1) := dk_42 (dk_at dksX3_eager_1 12 rfl rfl)
theorem dX3_eager_37 : decode cX3_eager 37 = .ok (.iload 4, 2) := dk_21 4 (dk_at dksX3_eager_1 13 rfl rfl)
theorem dX3_eager_39 : decode cX3_eager 39 = .ok (.invokevirtual 310, 3) := dk_182 1 54 (dk_at dksX3_eager_1 15 rfl rfl)
theorem dX3_eager_42 : decode cX3_eager 42 = .ok (.ifCond .eq 38, 3) := dk_153 0 38 (dk_at dksX3_eager_1 18 rfl rfl)
theorem dX3_eager_45 : decode cX3_eager 45 = .ok (.aload_n 0, 1) := dk_42 (dk_at dksX3_eager_1 21 rfl rfl)
theorem dX3_eager_46 : decode cX3_eager 46 = .ok (.iload 4, 2) := dk_21 4 (dk_at dksX3_eager_1 22 rfl rfl)
theorem dX3_eager_48 : decode cX3_eager 48 = .ok (.invokevirtual 313, 3) := dk_182 1 57 (dk_at dksX3_eager_2 0 rfl rfl)
theorem dX3_eager_51 : decode cX3_eager 51 = .ok (.ifCond .ne 29, 3) := dk_154 0 29 (dk_at dksX3_eager_2 3 rfl rfl)
theorem dX3_eager_54 : decode cX3_eager 54 = .ok (.iload_n 3, 1) := dk_29 (dk_at dksX3_eager_2 6 rfl rfl)
theorem dX3_eager_55 : decode cX3_eager 55 = .ok (.iconst (-1), 1) := dk_2 (dk_at dksX3_eager_2 7 rfl rfl)
theorem dX3_eager_56 : decode cX3_eager 56 = .ok (.if_icmp .eq 21, 3) := dk_159 0 21 (dk_at dksX3_eager_2 8 rfl rfl)
theorem dX3_eager_59 : decode cX3_eager 59 = .ok (.aload_n 0, 1) := dk_42 (dk_at dksX3_eager_2 11 rfl rfl)
theorem dX3_eager_60 : decode cX3_eager 60 = .ok (.iload 4, 2) := dk_21 4 (dk_at dksX3_eager_2 12 rfl rfl)
theorem dX3_eager_62 : decode cX3_eager 62 = .ok (.iload_n 1, 1) := dk_27 (dk_at dksX3_eager_2 14 rfl rfl)
theorem dX3_eager_63 : decode cX3_eager 63 = .ok (.iconst 0, 1) := dk_3 (dk_at dksX3_eager_2 15 rfl rfl)
theorem dX3_eager_64 : decode cX3_eager 64 = .ok (.invokevirtual 322, 3) := dk_182 1 66 (dk_at dksX3_eager_2 16 rfl rfl)
theorem dX3_eager_67 : decode cX3_eager 67 = .ok (.aload_n 0, 1) := dk_42 (dk_at dksX3_eager_2 19 rfl rfl)
theorem dX3_eager_68 : decode cX3_eager 68 = .ok (.iload_n 3, 1) := dk_29 (dk_at dksX3_eager_2 20 rfl rfl)
theorem dX3_eager_69 : decode cX3_eager 69 = .ok (.iload_n 1, 1) := dk_27 (dk_at dksX3_eager_2 21 rfl rfl)
theorem dX3_eager_70 : decode cX3_eager 70 = .ok (.iconst 0, 1) := dk_3 (dk_at dksX3_eager_2 22 rfl rfl)
theorem dX3_eager_71 : decode cX3_eager 71 = .ok (.invokevirtual 322, 3) := dk_182 1 66 (dk_at dksX3_eager_3 0 rfl rfl)
theorem dX3_eager_74 : decode cX3_eager 74 = .ok (.if_icmp .le 6, 3) := dk_164 0 6 (dk_at dksX3_eager_3 3 rfl rfl)
theorem dX3_eager_77 : decode cX3_eager 77 = .ok (.iload 4, 2) := dk_21 4 (dk_at dksX3_eager_3 6 rfl rfl)
theorem dX3_eager_79 : decode cX3_eager 79 = .ok (.istore_n 3, 1) := dk_62 (dk_at dksX3_eager_3 8 rfl rfl)
theorem dX3_eager_80 : decode cX3_eager 80 = .ok (.iinc 4 1, 3) := dk_132 4 1 (dk_at dksX3_eager_3 9 rfl rfl)
theorem dX3_eager_83 : decode cX3_eager 83 = .ok (.goto (-59), 3) := dk_167 255 197 (dk_at dksX3_eager_3 12 rfl rfl)
theorem dX3_eager_86 : decode cX3_eager 86 = .ok (.iload_n 3, 1) := dk_29 (dk_at dksX3_eager_3 15 rfl rfl)
theorem dX3_eager_87 : decode cX3_eager 87 = .ok (.iconst (-1), 1) := dk_2 (dk_at dksX3_eager_3 16 rfl rfl)
theorem dX3_eager_88 : decode cX3_eager 88 = .ok (.if_icmp .eq 7, 3) := dk_159 0 7 (dk_at dksX3_eager_3 17 rfl rfl)
theorem dX3_eager_91 : decode cX3_eager 91 = .ok (.iload_n 2, 1) := dk_28 (dk_at dksX3_eager_3 20 rfl rfl)
theorem dX3_eager_92 : decode cX3_eager 92 = .ok (.ifCond .ne 7, 3) := dk_154 0 7 (dk_at dksX3_eager_3 21 rfl rfl)
theorem dX3_eager_95 : decode cX3_eager 95 = .ok (.iload_n 3, 1) := dk_29 (dk_at dksX3_eager_4 0 rfl rfl)
theorem dX3_eager_96 : decode cX3_eager 96 = .ok (.goto 10, 3) := dk_167 0 10 (dk_at dksX3_eager_4 1 rfl rfl)
theorem dX3_eager_99 : decode cX3_eager 99 = .ok (.aload_n 0, 1) := dk_42 (dk_at dksX3_eager_4 4 rfl rfl)
theorem dX3_eager_100 : decode cX3_eager 100 = .ok (.iload_n 3, 1) := dk_29 (dk_at dksX3_eager_4 5 rfl rfl)
theorem dX3_eager_101 : decode cX3_eager 101 = .ok (.iload_n 1, 1) := dk_27 (dk_at dksX3_eager_4 6 rfl rfl)
theorem dX3_eager_102 : decode cX3_eager 102 = .ok (.iconst 0, 1) := dk_3 (dk_at dksX3_eager_4 7 rfl rfl)
theorem dX3_eager_103 : decode cX3_eager 103 = .ok (.invokevirtual 322, 3) := dk_182 1 66 (dk_at dksX3_eager_4 8 rfl rfl)
theorem dX3_eager_106 : decode cX3_eager 106 = .ok (.ireturn, 1) := dk_172 (dk_at dksX3_eager_4 11 rfl rfl)
abbrev cX3_price : ByteArray := prog_17_method_95_code
def yX3_price : MethodName := ⟨RX3, "price", "(II)I"⟩
def dkwX3_price_4 : List UInt8 := [29, 79, 21, 4, 172]
abbrev dktX3_price_4 : List UInt8 := dkwX3_price_4 ++ []
def dkwX3_price_3 : List UInt8 := [21, 5, 29, 100, 167, 0, 4, 2, 54, 4, 132, 5, 1, 167, 255, 206, 42, 180, 0, 7, 16, 9, 27, 96]
abbrev dktX3_price_3 : List UInt8 := dkwX3_price_3 ++ dktX3_price_4
def dkwX3_price_2 : List UInt8 := [180, 0, 7, 16, 9, 27, 96, 21, 5, 79, 42, 27, 28, 3, 182, 1, 66, 17, 1, 244, 164, 0, 10]
abbrev dktX3_price_2 : List UInt8 := dkwX3_price_2 ++ dktX3_price_3
def dkwX3_price_1 : List UInt8 := [27, 96, 46, 62, 2, 54, 4, 29, 54, 5, 21, 5, 16, 99, 163, 0, 49, 21, 4, 2, 160, 0, 43, 42]
abbrev dktX3_price_1 : List UInt8 := dkwX3_price_1 ++ dktX3_price_2
def dkwX3_price_0 : List UInt8 := [42, 27, 182, 0, 68, 153, 0, 11, 42, 28, 182, 0, 72, 154, 0, 5, 2, 172, 42, 180, 0, 7, 16, 9]
abbrev dktX3_price_0 : List UInt8 := dkwX3_price_0 ++ dktX3_price_1
theorem dksX3_price_0 : cX3_price.data.toList.drop 0 = dktX3_price_0 := by decide +kernel
theorem dksX3_price_1 : cX3_price.data.toList.drop 24 = dktX3_price_1 := dk_seg dksX3_price_0 24 rfl rfl
theorem dksX3_price_2 : cX3_price.data.toList.drop 48 = dktX3_price_2 := dk_seg dksX3_price_1 24 rfl rfl
theorem dksX3_price_3 : cX3_price.data.toList.drop 71 = dktX3_price_3 := dk_seg dksX3_price_2 23 rfl rfl
theorem dksX3_price_4 : cX3_price.data.toList.drop 95 = dktX3_price_4 := dk_seg dksX3_price_3 24 rfl rfl
theorem dX3_price_0 : decode cX3_price 0 = .ok (.aload_n 0, 1) := dk_42 (dk_at dksX3_price_0 0 rfl rfl)
theorem dX3_price_1 : decode cX3_price 1 = .ok (.iload_n 1, 1) := dk_27 (dk_at dksX3_price_0 1 rfl rfl)
theorem dX3_price_2 : decode cX3_price 2 = .ok (.invokevirtual 68, 3) := dk_182 0 68 (dk_at dksX3_price_0 2 rfl rfl)
theorem dX3_price_5 : decode cX3_price 5 = .ok (.ifCond .eq 11, 3) := dk_153 0 11 (dk_at dksX3_price_0 5 rfl rfl)
theorem dX3_price_8 : decode cX3_price 8 = .ok (.aload_n 0, 1) := dk_42 (dk_at dksX3_price_0 8 rfl rfl)
theorem dX3_price_9 : decode cX3_price 9 = .ok (.iload_n 2, 1) := dk_28 (dk_at dksX3_price_0 9 rfl rfl)
theorem dX3_price_10 : decode cX3_price 10 = .ok (.invokevirtual 72, 3) := dk_182 0 72 (dk_at dksX3_price_0 10 rfl rfl)
theorem dX3_price_13 : decode cX3_price 13 = .ok (.ifCond .ne 5, 3) := dk_154 0 5 (dk_at dksX3_price_0 13 rfl rfl)
theorem dX3_price_16 : decode cX3_price 16 = .ok (.iconst (-1), 1) := dk_2 (dk_at dksX3_price_0 16 rfl rfl)
theorem dX3_price_17 : decode cX3_price 17 = .ok (.ireturn, 1) := dk_172 (dk_at dksX3_price_0 17 rfl rfl)
theorem dX3_price_18 : decode cX3_price 18 = .ok (.aload_n 0, 1) := dk_42 (dk_at dksX3_price_0 18 rfl rfl)
theorem dX3_price_19 : decode cX3_price 19 = .ok (.getfield 7, 3) := dk_180 0 7 (dk_at dksX3_price_0 19 rfl rfl)
theorem dX3_price_22 : decode cX3_price 22 = .ok (.bipush 9, 2) := dk_16 9 (dk_at dksX3_price_0 22 rfl rfl)
theorem dX3_price_24 : decode cX3_price 24 = .ok (.iload_n 1, 1) := dk_27 (dk_at dksX3_price_1 0 rfl rfl)
theorem dX3_price_25 : decode cX3_price 25 = .ok (.iadd, 1) := dk_96 (dk_at dksX3_price_1 1 rfl rfl)
theorem dX3_price_26 : decode cX3_price 26 = .ok (.iaload, 1) := dk_46 (dk_at dksX3_price_1 2 rfl rfl)
theorem dX3_price_27 : decode cX3_price 27 = .ok (.istore_n 3, 1) := dk_62 (dk_at dksX3_price_1 3 rfl rfl)
theorem dX3_price_28 : decode cX3_price 28 = .ok (.iconst (-1), 1) := dk_2 (dk_at dksX3_price_1 4 rfl rfl)
theorem dX3_price_29 : decode cX3_price 29 = .ok (.istore 4, 2) := dk_54 4 (dk_at dksX3_price_1 5 rfl rfl)
theorem dX3_price_31 : decode cX3_price 31 = .ok (.iload_n 3, 1) := dk_29 (dk_at dksX3_price_1 7 rfl rfl)
theorem dX3_price_32 : decode cX3_price 32 = .ok (.istore 5, 2) := dk_54 5 (dk_at dksX3_price_1 8 rfl rfl)
theorem dX3_price_34 : decode cX3_price 34 = .ok (.iload 5, 2) := dk_21 5 (dk_at dksX3_price_1 10 rfl rfl)
theorem dX3_price_36 : decode cX3_price 36 = .ok (.bipush 99, 2) := dk_16 99 (dk_at dksX3_price_1 12 rfl rfl)
theorem dX3_price_38 : decode cX3_price 38 = .ok (.if_icmp .gt 49, 3) := dk_163 0 49 (dk_at dksX3_price_1 14 rfl rfl)
theorem dX3_price_41 : decode cX3_price 41 = .ok (.iload 4, 2) := dk_21 4 (dk_at dksX3_price_1 17 rfl rfl)
theorem dX3_price_43 : decode cX3_price 43 = .ok (.iconst (-1), 1) := dk_2 (dk_at dksX3_price_1 19 rfl rfl)
theorem dX3_price_44 : decode cX3_price 44 = .ok (.if_icmp .ne 43, 3) := dk_160 0 43 (dk_at dksX3_price_1 20 rfl rfl)
theorem dX3_price_47 : decode cX3_price 47 = .ok (.aload_n 0, 1) := dk_42 (dk_at dksX3_price_1 23 rfl rfl)
theorem dX3_price_48 : decode cX3_price 48 = .ok (.getfield 7, 3) := dk_180 0 7 (dk_at dksX3_price_2 0 rfl rfl)
theorem dX3_price_51 : decode cX3_price 51 = .ok (.bipush 9, 2) := dk_16 9 (dk_at dksX3_price_2 3 rfl rfl)
theorem dX3_price_53 : decode cX3_price 53 = .ok (.iload_n 1, 1) := dk_27 (dk_at dksX3_price_2 5 rfl rfl)
theorem dX3_price_54 : decode cX3_price 54 = .ok (.iadd, 1) := dk_96 (dk_at dksX3_price_2 6 rfl rfl)
theorem dX3_price_55 : decode cX3_price 55 = .ok (.iload 5, 2) := dk_21 5 (dk_at dksX3_price_2 7 rfl rfl)
theorem dX3_price_57 : decode cX3_price 57 = .ok (.iastore, 1) := dk_79 (dk_at dksX3_price_2 9 rfl rfl)
theorem dX3_price_58 : decode cX3_price 58 = .ok (.aload_n 0, 1) := dk_42 (dk_at dksX3_price_2 10 rfl rfl)
theorem dX3_price_59 : decode cX3_price 59 = .ok (.iload_n 1, 1) := dk_27 (dk_at dksX3_price_2 11 rfl rfl)
theorem dX3_price_60 : decode cX3_price 60 = .ok (.iload_n 2, 1) := dk_28 (dk_at dksX3_price_2 12 rfl rfl)
theorem dX3_price_61 : decode cX3_price 61 = .ok (.iconst 0, 1) := dk_3 (dk_at dksX3_price_2 13 rfl rfl)
theorem dX3_price_62 : decode cX3_price 62 = .ok (.invokevirtual 322, 3) := dk_182 1 66 (dk_at dksX3_price_2 14 rfl rfl)
theorem dX3_price_65 : decode cX3_price 65 = .ok (.sipush 500, 3) := dk_17 1 244 (dk_at dksX3_price_2 17 rfl rfl)
theorem dX3_price_68 : decode cX3_price 68 = .ok (.if_icmp .le 10, 3) := dk_164 0 10 (dk_at dksX3_price_2 20 rfl rfl)
theorem dX3_price_71 : decode cX3_price 71 = .ok (.iload 5, 2) := dk_21 5 (dk_at dksX3_price_3 0 rfl rfl)
theorem dX3_price_73 : decode cX3_price 73 = .ok (.iload_n 3, 1) := dk_29 (dk_at dksX3_price_3 2 rfl rfl)
theorem dX3_price_74 : decode cX3_price 74 = .ok (.isub, 1) := dk_100 (dk_at dksX3_price_3 3 rfl rfl)
theorem dX3_price_75 : decode cX3_price 75 = .ok (.goto 4, 3) := dk_167 0 4 (dk_at dksX3_price_3 4 rfl rfl)
theorem dX3_price_78 : decode cX3_price 78 = .ok (.iconst (-1), 1) := dk_2 (dk_at dksX3_price_3 7 rfl rfl)
theorem dX3_price_79 : decode cX3_price 79 = .ok (.istore 4, 2) := dk_54 4 (dk_at dksX3_price_3 8 rfl rfl)
theorem dX3_price_81 : decode cX3_price 81 = .ok (.iinc 5 1, 3) := dk_132 5 1 (dk_at dksX3_price_3 10 rfl rfl)
theorem dX3_price_84 : decode cX3_price 84 = .ok (.goto (-50), 3) := dk_167 255 206 (dk_at dksX3_price_3 13 rfl rfl)
theorem dX3_price_87 : decode cX3_price 87 = .ok (.aload_n 0, 1) := dk_42 (dk_at dksX3_price_3 16 rfl rfl)
theorem dX3_price_88 : decode cX3_price 88 = .ok (.getfield 7, 3) := dk_180 0 7 (dk_at dksX3_price_3 17 rfl rfl)
theorem dX3_price_91 : decode cX3_price 91 = .ok (.bipush 9, 2) := dk_16 9 (dk_at dksX3_price_3 20 rfl rfl)
theorem dX3_price_93 : decode cX3_price 93 = .ok (.iload_n 1, 1) := dk_27 (dk_at dksX3_price_3 22 rfl rfl)
theorem dX3_price_94 : decode cX3_price 94 = .ok (.iadd, 1) := dk_96 (dk_at dksX3_price_3 23 rfl rfl)
theorem dX3_price_95 : decode cX3_price 95 = .ok (.iload_n 3, 1) := dk_29 (dk_at dksX3_price_4 0 rfl rfl)
theorem dX3_price_96 : decode cX3_price 96 = .ok (.iastore, 1) := dk_79 (dk_at dksX3_price_4 1 rfl rfl)
theorem dX3_price_97 : decode cX3_price 97 = .ok (.iload 4, 2) := dk_21 4 (dk_at dksX3_price_4 2 rfl rfl)
theorem dX3_price_99 : decode cX3_price 99 = .ok (.ireturn, 1) := dk_172 (dk_at dksX3_price_4 4 rfl rfl)
abbrev cX3_gain : ByteArray := prog_17_method_96_code
def yX3_gain : MethodName := ⟨RX3, "gain", "(I)I"⟩
def dkwX3_gain_3 : List UInt8 := [132, 4, 1, 167, 255, 206, 29, 172]
abbrev dktX3_gain_3 : List UInt8 := dkwX3_gain_3 ++ []
def dkwX3_gain_2 : List UInt8 := [180, 0, 7, 17, 0, 185, 21, 4, 96, 46, 28, 2, 130, 126, 184, 1, 63, 167, 0, 4, 3, 96, 62]
abbrev dktX3_gain_2 : List UInt8 := dkwX3_gain_2 ++ dktX3_gain_3
def dkwX3_gain_1 : List UInt8 := [42, 180, 0, 7, 16, 37, 46, 162, 0, 44, 29, 28, 21, 4, 122, 4, 126, 4, 160, 0, 24, 42]
abbrev dktX3_gain_1 : List UInt8 := dkwX3_gain_1 ++ dktX3_gain_2
def dkwX3_gain_0 : List UInt8 := [42, 27, 182, 0, 72, 154, 0, 5, 2, 172, 42, 27, 3, 182, 1, 133, 61, 3, 62, 3, 54, 4, 21, 4]
abbrev dktX3_gain_0 : List UInt8 := dkwX3_gain_0 ++ dktX3_gain_1
theorem dksX3_gain_0 : cX3_gain.data.toList.drop 0 = dktX3_gain_0 := by decide +kernel
theorem dksX3_gain_1 : cX3_gain.data.toList.drop 24 = dktX3_gain_1 := dk_seg dksX3_gain_0 24 rfl rfl
theorem dksX3_gain_2 : cX3_gain.data.toList.drop 46 = dktX3_gain_2 := dk_seg dksX3_gain_1 22 rfl rfl
theorem dksX3_gain_3 : cX3_gain.data.toList.drop 69 = dktX3_gain_3 := dk_seg dksX3_gain_2 23 rfl rfl
theorem dX3_gain_0 : decode cX3_gain 0 = .ok (.aload_n 0, 1) := dk_42 (dk_at dksX3_gain_0 0 rfl rfl)
theorem dX3_gain_1 : decode cX3_gain 1 = .ok (.iload_n 1, 1) := dk_27 (dk_at dksX3_gain_0 1 rfl rfl)
theorem dX3_gain_2 : decode cX3_gain 2 = .ok (.invokevirtual 72, 3) := dk_182 0 72 (dk_at dksX3_gain_0 2 rfl rfl)
theorem dX3_gain_5 : decode cX3_gain 5 = .ok (.ifCond .ne 5, 3) := dk_154 0 5 (dk_at dksX3_gain_0 5 rfl rfl)
theorem dX3_gain_8 : decode cX3_gain 8 = .ok (.iconst (-1), 1) := dk_2 (dk_at dksX3_gain_0 8 rfl rfl)
theorem dX3_gain_9 : decode cX3_gain 9 = .ok (.ireturn, 1) := dk_172 (dk_at dksX3_gain_0 9 rfl rfl)
theorem dX3_gain_10 : decode cX3_gain 10 = .ok (.aload_n 0, 1) := dk_42 (dk_at dksX3_gain_0 10 rfl rfl)
theorem dX3_gain_11 : decode cX3_gain 11 = .ok (.iload_n 1, 1) := dk_27 (dk_at dksX3_gain_0 11 rfl rfl)
theorem dX3_gain_12 : decode cX3_gain 12 = .ok (.iconst 0, 1) := dk_3 (dk_at dksX3_gain_0 12 rfl rfl)
theorem dX3_gain_13 : decode cX3_gain 13 = .ok (.invokevirtual 389, 3) := dk_182 1 133 (dk_at dksX3_gain_0 13 rfl rfl)
theorem dX3_gain_16 : decode cX3_gain 16 = .ok (.istore_n 2, 1) := dk_61 (dk_at dksX3_gain_0 16 rfl rfl)
theorem dX3_gain_17 : decode cX3_gain 17 = .ok (.iconst 0, 1) := dk_3 (dk_at dksX3_gain_0 17 rfl rfl)
theorem dX3_gain_18 : decode cX3_gain 18 = .ok (.istore_n 3, 1) := dk_62 (dk_at dksX3_gain_0 18 rfl rfl)
theorem dX3_gain_19 : decode cX3_gain 19 = .ok (.iconst 0, 1) := dk_3 (dk_at dksX3_gain_0 19 rfl rfl)
theorem dX3_gain_20 : decode cX3_gain 20 = .ok (.istore 4, 2) := dk_54 4 (dk_at dksX3_gain_0 20 rfl rfl)
theorem dX3_gain_22 : decode cX3_gain 22 = .ok (.iload 4, 2) := dk_21 4 (dk_at dksX3_gain_0 22 rfl rfl)
theorem dX3_gain_24 : decode cX3_gain 24 = .ok (.aload_n 0, 1) := dk_42 (dk_at dksX3_gain_1 0 rfl rfl)
theorem dX3_gain_25 : decode cX3_gain 25 = .ok (.getfield 7, 3) := dk_180 0 7 (dk_at dksX3_gain_1 1 rfl rfl)
theorem dX3_gain_28 : decode cX3_gain 28 = .ok (.bipush 37, 2) := dk_16 37 (dk_at dksX3_gain_1 4 rfl rfl)
theorem dX3_gain_30 : decode cX3_gain 30 = .ok (.iaload, 1) := dk_46 (dk_at dksX3_gain_1 6 rfl rfl)
theorem dX3_gain_31 : decode cX3_gain 31 = .ok (.if_icmp .ge 44, 3) := dk_162 0 44 (dk_at dksX3_gain_1 7 rfl rfl)
theorem dX3_gain_34 : decode cX3_gain 34 = .ok (.iload_n 3, 1) := dk_29 (dk_at dksX3_gain_1 10 rfl rfl)
theorem dX3_gain_35 : decode cX3_gain 35 = .ok (.iload_n 2, 1) := dk_28 (dk_at dksX3_gain_1 11 rfl rfl)
theorem dX3_gain_36 : decode cX3_gain 36 = .ok (.iload 4, 2) := dk_21 4 (dk_at dksX3_gain_1 12 rfl rfl)
theorem dX3_gain_38 : decode cX3_gain 38 = .ok (.ishr, 1) := dk_122 (dk_at dksX3_gain_1 14 rfl rfl)
theorem dX3_gain_39 : decode cX3_gain 39 = .ok (.iconst 1, 1) := dk_4 (dk_at dksX3_gain_1 15 rfl rfl)
theorem dX3_gain_40 : decode cX3_gain 40 = .ok (.iand, 1) := dk_126 (dk_at dksX3_gain_1 16 rfl rfl)
theorem dX3_gain_41 : decode cX3_gain 41 = .ok (.iconst 1, 1) := dk_4 (dk_at dksX3_gain_1 17 rfl rfl)
theorem dX3_gain_42 : decode cX3_gain 42 = .ok (.if_icmp .ne 24, 3) := dk_160 0 24 (dk_at dksX3_gain_1 18 rfl rfl)
theorem dX3_gain_45 : decode cX3_gain 45 = .ok (.aload_n 0, 1) := dk_42 (dk_at dksX3_gain_1 21 rfl rfl)
theorem dX3_gain_46 : decode cX3_gain 46 = .ok (.getfield 7, 3) := dk_180 0 7 (dk_at dksX3_gain_2 0 rfl rfl)
theorem dX3_gain_49 : decode cX3_gain 49 = .ok (.sipush 185, 3) := dk_17 0 185 (dk_at dksX3_gain_2 3 rfl rfl)
theorem dX3_gain_52 : decode cX3_gain 52 = .ok (.iload 4, 2) := dk_21 4 (dk_at dksX3_gain_2 6 rfl rfl)
theorem dX3_gain_54 : decode cX3_gain 54 = .ok (.iadd, 1) := dk_96 (dk_at dksX3_gain_2 8 rfl rfl)
theorem dX3_gain_55 : decode cX3_gain 55 = .ok (.iaload, 1) := dk_46 (dk_at dksX3_gain_2 9 rfl rfl)
theorem dX3_gain_56 : decode cX3_gain 56 = .ok (.iload_n 2, 1) := dk_28 (dk_at dksX3_gain_2 10 rfl rfl)
theorem dX3_gain_57 : decode cX3_gain 57 = .ok (.iconst (-1), 1) := dk_2 (dk_at dksX3_gain_2 11 rfl rfl)
theorem dX3_gain_58 : decode cX3_gain 58 = .ok (.ixor, 1) := dk_130 (dk_at dksX3_gain_2 12 rfl rfl)
theorem dX3_gain_59 : decode cX3_gain 59 = .ok (.iand, 1) := dk_126 (dk_at dksX3_gain_2 13 rfl rfl)
theorem dX3_gain_60 : decode cX3_gain 60 = .ok (.invokestatic 319, 3) := dk_184 1 63 (dk_at dksX3_gain_2 14 rfl rfl)
theorem dX3_gain_63 : decode cX3_gain 63 = .ok (.goto 4, 3) := dk_167 0 4 (dk_at dksX3_gain_2 17 rfl rfl)
theorem dX3_gain_66 : decode cX3_gain 66 = .ok (.iconst 0, 1) := dk_3 (dk_at dksX3_gain_2 20 rfl rfl)
theorem dX3_gain_67 : decode cX3_gain 67 = .ok (.iadd, 1) := dk_96 (dk_at dksX3_gain_2 21 rfl rfl)
theorem dX3_gain_68 : decode cX3_gain 68 = .ok (.istore_n 3, 1) := dk_62 (dk_at dksX3_gain_2 22 rfl rfl)
theorem dX3_gain_69 : decode cX3_gain 69 = .ok (.iinc 4 1, 3) := dk_132 4 1 (dk_at dksX3_gain_3 0 rfl rfl)
theorem dX3_gain_72 : decode cX3_gain 72 = .ok (.goto (-50), 3) := dk_167 255 206 (dk_at dksX3_gain_3 3 rfl rfl)
theorem dX3_gain_75 : decode cX3_gain 75 = .ok (.iload_n 3, 1) := dk_29 (dk_at dksX3_gain_3 6 rfl rfl)
theorem dX3_gain_76 : decode cX3_gain 76 = .ok (.ireturn, 1) := dk_172 (dk_at dksX3_gain_3 7 rfl rfl)
abbrev cX3_tires : ByteArray := prog_17_method_97_code
def yX3_tires : MethodName := ⟨RX3, "tires", "(I)I"⟩
def dkwX3_tires_2 : List UInt8 := [42, 182, 1, 124, 28, 16, 99, 164, 0, 7, 2, 167, 0, 4, 28, 172]
abbrev dktX3_tires_2 : List UInt8 := dkwX3_tires_2 ++ []
def dkwX3_tires_1 : List UInt8 := [180, 0, 7, 16, 21, 27, 96, 46, 16, 99, 162, 0, 14, 42, 27, 182, 1, 105, 132, 2, 1, 167, 255, 228]
abbrev dktX3_tires_1 : List UInt8 := dkwX3_tires_1 ++ dktX3_tires_2
def dkwX3_tires_0 : List UInt8 := [42, 27, 182, 0, 72, 154, 0, 5, 2, 172, 42, 182, 1, 121, 3, 61, 28, 16, 99, 163, 0, 28, 42]
abbrev dktX3_tires_0 : List UInt8 := dkwX3_tires_0 ++ dktX3_tires_1
theorem dksX3_tires_0 : cX3_tires.data.toList.drop 0 = dktX3_tires_0 := by decide +kernel
theorem dksX3_tires_1 : cX3_tires.data.toList.drop 23 = dktX3_tires_1 := dk_seg dksX3_tires_0 23 rfl rfl
theorem dksX3_tires_2 : cX3_tires.data.toList.drop 47 = dktX3_tires_2 := dk_seg dksX3_tires_1 24 rfl rfl
theorem dX3_tires_0 : decode cX3_tires 0 = .ok (.aload_n 0, 1) := dk_42 (dk_at dksX3_tires_0 0 rfl rfl)
theorem dX3_tires_1 : decode cX3_tires 1 = .ok (.iload_n 1, 1) := dk_27 (dk_at dksX3_tires_0 1 rfl rfl)
theorem dX3_tires_2 : decode cX3_tires 2 = .ok (.invokevirtual 72, 3) := dk_182 0 72 (dk_at dksX3_tires_0 2 rfl rfl)
theorem dX3_tires_5 : decode cX3_tires 5 = .ok (.ifCond .ne 5, 3) := dk_154 0 5 (dk_at dksX3_tires_0 5 rfl rfl)
theorem dX3_tires_8 : decode cX3_tires 8 = .ok (.iconst (-1), 1) := dk_2 (dk_at dksX3_tires_0 8 rfl rfl)
theorem dX3_tires_9 : decode cX3_tires 9 = .ok (.ireturn, 1) := dk_172 (dk_at dksX3_tires_0 9 rfl rfl)
theorem dX3_tires_10 : decode cX3_tires 10 = .ok (.aload_n 0, 1) := dk_42 (dk_at dksX3_tires_0 10 rfl rfl)
theorem dX3_tires_11 : decode cX3_tires 11 = .ok (.invokevirtual 377, 3) := dk_182 1 121 (dk_at dksX3_tires_0 11 rfl rfl)
theorem dX3_tires_14 : decode cX3_tires 14 = .ok (.iconst 0, 1) := dk_3 (dk_at dksX3_tires_0 14 rfl rfl)
theorem dX3_tires_15 : decode cX3_tires 15 = .ok (.istore_n 2, 1) := dk_61 (dk_at dksX3_tires_0 15 rfl rfl)
theorem dX3_tires_16 : decode cX3_tires 16 = .ok (.iload_n 2, 1) := dk_28 (dk_at dksX3_tires_0 16 rfl rfl)
theorem dX3_tires_17 : decode cX3_tires 17 = .ok (.bipush 99, 2) := dk_16 99 (dk_at dksX3_tires_0 17 rfl rfl)
theorem dX3_tires_19 : decode cX3_tires 19 = .ok (.if_icmp .gt 28, 3) := dk_163 0 28 (dk_at dksX3_tires_0 19 rfl rfl)
theorem dX3_tires_22 : decode cX3_tires 22 = .ok (.aload_n 0, 1) := dk_42 (dk_at dksX3_tires_0 22 rfl rfl)
theorem dX3_tires_23 : decode cX3_tires 23 = .ok (.getfield 7, 3) := dk_180 0 7 (dk_at dksX3_tires_1 0 rfl rfl)
theorem dX3_tires_26 : decode cX3_tires 26 = .ok (.bipush 21, 2) := dk_16 21 (dk_at dksX3_tires_1 3 rfl rfl)
theorem dX3_tires_28 : decode cX3_tires 28 = .ok (.iload_n 1, 1) := dk_27 (dk_at dksX3_tires_1 5 rfl rfl)
theorem dX3_tires_29 : decode cX3_tires 29 = .ok (.iadd, 1) := dk_96 (dk_at dksX3_tires_1 6 rfl rfl)
theorem dX3_tires_30 : decode cX3_tires 30 = .ok (.iaload, 1) := dk_46 (dk_at dksX3_tires_1 7 rfl rfl)
theorem dX3_tires_31 : decode cX3_tires 31 = .ok (.bipush 99, 2) := dk_16 99 (dk_at dksX3_tires_1 8 rfl rfl)
theorem dX3_tires_33 : decode cX3_tires 33 = .ok (.if_icmp .ge 14, 3) := dk_162 0 14 (dk_at dksX3_tires_1 10 rfl rfl)
theorem dX3_tires_36 : decode cX3_tires 36 = .ok (.aload_n 0, 1) := dk_42 (dk_at dksX3_tires_1 13 rfl rfl)
theorem dX3_tires_37 : decode cX3_tires 37 = .ok (.iload_n 1, 1) := dk_27 (dk_at dksX3_tires_1 14 rfl rfl)
theorem dX3_tires_38 : decode cX3_tires 38 = .ok (.invokevirtual 361, 3) := dk_182 1 105 (dk_at dksX3_tires_1 15 rfl rfl)
theorem dX3_tires_41 : decode cX3_tires 41 = .ok (.iinc 2 1, 3) := dk_132 2 1 (dk_at dksX3_tires_1 18 rfl rfl)
theorem dX3_tires_44 : decode cX3_tires 44 = .ok (.goto (-28), 3) := dk_167 255 228 (dk_at dksX3_tires_1 21 rfl rfl)
theorem dX3_tires_47 : decode cX3_tires 47 = .ok (.aload_n 0, 1) := dk_42 (dk_at dksX3_tires_2 0 rfl rfl)
theorem dX3_tires_48 : decode cX3_tires 48 = .ok (.invokevirtual 380, 3) := dk_182 1 124 (dk_at dksX3_tires_2 1 rfl rfl)
theorem dX3_tires_51 : decode cX3_tires 51 = .ok (.iload_n 2, 1) := dk_28 (dk_at dksX3_tires_2 4 rfl rfl)
theorem dX3_tires_52 : decode cX3_tires 52 = .ok (.bipush 99, 2) := dk_16 99 (dk_at dksX3_tires_2 5 rfl rfl)
theorem dX3_tires_54 : decode cX3_tires 54 = .ok (.if_icmp .le 7, 3) := dk_164 0 7 (dk_at dksX3_tires_2 7 rfl rfl)
theorem dX3_tires_57 : decode cX3_tires 57 = .ok (.iconst (-1), 1) := dk_2 (dk_at dksX3_tires_2 10 rfl rfl)
theorem dX3_tires_58 : decode cX3_tires 58 = .ok (.goto 4, 3) := dk_167 0 4 (dk_at dksX3_tires_2 11 rfl rfl)
theorem dX3_tires_61 : decode cX3_tires 61 = .ok (.iload_n 2, 1) := dk_28 (dk_at dksX3_tires_2 14 rfl rfl)
theorem dX3_tires_62 : decode cX3_tires 62 = .ok (.ireturn, 1) := dk_172 (dk_at dksX3_tires_2 15 rfl rfl)
abbrev cX3_fills : ByteArray := prog_17_method_100_code
def yX3_fills : MethodName := ⟨RX3, "fills", "(II)I"⟩
def dkwX3_fills_3 : List UInt8 := [167, 255, 212, 28, 154, 0, 11, 42, 29, 182, 1, 139, 167, 0, 4, 29, 172]
abbrev dktX3_fills_3 : List UInt8 := dkwX3_fills_3 ++ []
def dkwX3_fills_2 : List UInt8 := [163, 0, 20, 42, 21, 4, 182, 1, 139, 42, 29, 182, 1, 139, 164, 0, 6, 21, 4, 62, 132, 4, 1]
abbrev dktX3_fills_2 : List UInt8 := dkwX3_fills_2 ++ dktX3_fills_3
def dkwX3_fills_1 : List UInt8 := [4, 54, 4, 21, 4, 4, 42, 180, 0, 7, 16, 38, 46, 120, 162, 0, 36, 42, 21, 4, 182, 1, 136, 27]
abbrev dktX3_fills_1 : List UInt8 := dkwX3_fills_1 ++ dktX3_fills_2
def dkwX3_fills_0 : List UInt8 := [27, 4, 17, 3, 231, 184, 0, 56, 153, 0, 12, 28, 3, 4, 184, 0, 56, 154, 0, 5, 2, 172, 3, 62]
abbrev dktX3_fills_0 : List UInt8 := dkwX3_fills_0 ++ dktX3_fills_1
theorem dksX3_fills_0 : cX3_fills.data.toList.drop 0 = dktX3_fills_0 := by decide +kernel
theorem dksX3_fills_1 : cX3_fills.data.toList.drop 24 = dktX3_fills_1 := dk_seg dksX3_fills_0 24 rfl rfl
theorem dksX3_fills_2 : cX3_fills.data.toList.drop 48 = dktX3_fills_2 := dk_seg dksX3_fills_1 24 rfl rfl
theorem dksX3_fills_3 : cX3_fills.data.toList.drop 71 = dktX3_fills_3 := dk_seg dksX3_fills_2 23 rfl rfl
theorem dX3_fills_0 : decode cX3_fills 0 = .ok (.iload_n 1, 1) := dk_27 (dk_at dksX3_fills_0 0 rfl rfl)
theorem dX3_fills_1 : decode cX3_fills 1 = .ok (.iconst 1, 1) := dk_4 (dk_at dksX3_fills_0 1 rfl rfl)
theorem dX3_fills_2 : decode cX3_fills 2 = .ok (.sipush 999, 3) := dk_17 3 231 (dk_at dksX3_fills_0 2 rfl rfl)
theorem dX3_fills_5 : decode cX3_fills 5 = .ok (.invokestatic 56, 3) := dk_184 0 56 (dk_at dksX3_fills_0 5 rfl rfl)
theorem dX3_fills_8 : decode cX3_fills 8 = .ok (.ifCond .eq 12, 3) := dk_153 0 12 (dk_at dksX3_fills_0 8 rfl rfl)
theorem dX3_fills_11 : decode cX3_fills 11 = .ok (.iload_n 2, 1) := dk_28 (dk_at dksX3_fills_0 11 rfl rfl)
theorem dX3_fills_12 : decode cX3_fills 12 = .ok (.iconst 0, 1) := dk_3 (dk_at dksX3_fills_0 12 rfl rfl)
theorem dX3_fills_13 : decode cX3_fills 13 = .ok (.iconst 1, 1) := dk_4 (dk_at dksX3_fills_0 13 rfl rfl)
theorem dX3_fills_14 : decode cX3_fills 14 = .ok (.invokestatic 56, 3) := dk_184 0 56 (dk_at dksX3_fills_0 14 rfl rfl)
theorem dX3_fills_17 : decode cX3_fills 17 = .ok (.ifCond .ne 5, 3) := dk_154 0 5 (dk_at dksX3_fills_0 17 rfl rfl)
theorem dX3_fills_20 : decode cX3_fills 20 = .ok (.iconst (-1), 1) := dk_2 (dk_at dksX3_fills_0 20 rfl rfl)
theorem dX3_fills_21 : decode cX3_fills 21 = .ok (.ireturn, 1) := dk_172 (dk_at dksX3_fills_0 21 rfl rfl)
theorem dX3_fills_22 : decode cX3_fills 22 = .ok (.iconst 0, 1) := dk_3 (dk_at dksX3_fills_0 22 rfl rfl)
theorem dX3_fills_23 : decode cX3_fills 23 = .ok (.istore_n 3, 1) := dk_62 (dk_at dksX3_fills_0 23 rfl rfl)
theorem dX3_fills_24 : decode cX3_fills 24 = .ok (.iconst 1, 1) := dk_4 (dk_at dksX3_fills_1 0 rfl rfl)
theorem dX3_fills_25 : decode cX3_fills 25 = .ok (.istore 4, 2) := dk_54 4 (dk_at dksX3_fills_1 1 rfl rfl)
theorem dX3_fills_27 : decode cX3_fills 27 = .ok (.iload 4, 2) := dk_21 4 (dk_at dksX3_fills_1 3 rfl rfl)
theorem dX3_fills_29 : decode cX3_fills 29 = .ok (.iconst 1, 1) := dk_4 (dk_at dksX3_fills_1 5 rfl rfl)
theorem dX3_fills_30 : decode cX3_fills 30 = .ok (.aload_n 0, 1) := dk_42 (dk_at dksX3_fills_1 6 rfl rfl)
theorem dX3_fills_31 : decode cX3_fills 31 = .ok (.getfield 7, 3) := dk_180 0 7 (dk_at dksX3_fills_1 7 rfl rfl)
theorem dX3_fills_34 : decode cX3_fills 34 = .ok (.bipush 38, 2) := dk_16 38 (dk_at dksX3_fills_1 10 rfl rfl)
theorem dX3_fills_36 : decode cX3_fills 36 = .ok (.iaload, 1) := dk_46 (dk_at dksX3_fills_1 12 rfl rfl)
theorem dX3_fills_37 : decode cX3_fills 37 = .ok (.ishl, 1) := dk_120 (dk_at dksX3_fills_1 13 rfl rfl)
theorem dX3_fills_38 : decode cX3_fills 38 = .ok (.if_icmp .ge 36, 3) := dk_162 0 36 (dk_at dksX3_fills_1 14 rfl rfl)
theorem dX3_fills_41 : decode cX3_fills 41 = .ok (.aload_n 0, 1) := dk_42 (dk_at dksX3_fills_1 17 rfl rfl)
theorem dX3_fills_42 : decode cX3_fills 42 = .ok (.iload 4, 2) := dk_21 4 (dk_at dksX3_fills_1 18 rfl rfl)
theorem dX3_fills_44 : decode cX3_fills 44 = .ok (.invokevirtual 392, 3) := dk_182 1 136 (dk_at dksX3_fills_1 20 rfl rfl)
theorem dX3_fills_47 : decode cX3_fills 47 = .ok (.iload_n 1, 1) := dk_27 (dk_at dksX3_fills_1 23 rfl rfl)
theorem dX3_fills_48 : decode cX3_fills 48 = .ok (.if_icmp .gt 20, 3) := dk_163 0 20 (dk_at dksX3_fills_2 0 rfl rfl)
theorem dX3_fills_51 : decode cX3_fills 51 = .ok (.aload_n 0, 1) := dk_42 (dk_at dksX3_fills_2 3 rfl rfl)
theorem dX3_fills_52 : decode cX3_fills 52 = .ok (.iload 4, 2) := dk_21 4 (dk_at dksX3_fills_2 4 rfl rfl)
theorem dX3_fills_54 : decode cX3_fills 54 = .ok (.invokevirtual 395, 3) := dk_182 1 139 (dk_at dksX3_fills_2 6 rfl rfl)
theorem dX3_fills_57 : decode cX3_fills 57 = .ok (.aload_n 0, 1) := dk_42 (dk_at dksX3_fills_2 9 rfl rfl)
theorem dX3_fills_58 : decode cX3_fills 58 = .ok (.iload_n 3, 1) := dk_29 (dk_at dksX3_fills_2 10 rfl rfl)
theorem dX3_fills_59 : decode cX3_fills 59 = .ok (.invokevirtual 395, 3) := dk_182 1 139 (dk_at dksX3_fills_2 11 rfl rfl)
theorem dX3_fills_62 : decode cX3_fills 62 = .ok (.if_icmp .le 6, 3) := dk_164 0 6 (dk_at dksX3_fills_2 14 rfl rfl)
theorem dX3_fills_65 : decode cX3_fills 65 = .ok (.iload 4, 2) := dk_21 4 (dk_at dksX3_fills_2 17 rfl rfl)
theorem dX3_fills_67 : decode cX3_fills 67 = .ok (.istore_n 3, 1) := dk_62 (dk_at dksX3_fills_2 19 rfl rfl)
theorem dX3_fills_68 : decode cX3_fills 68 = .ok (.iinc 4 1, 3) := dk_132 4 1 (dk_at dksX3_fills_2 20 rfl rfl)
theorem dX3_fills_71 : decode cX3_fills 71 = .ok (.goto (-44), 3) := dk_167 255 212 (dk_at dksX3_fills_3 0 rfl rfl)
theorem dX3_fills_74 : decode cX3_fills 74 = .ok (.iload_n 2, 1) := dk_28 (dk_at dksX3_fills_3 3 rfl rfl)
theorem dX3_fills_75 : decode cX3_fills 75 = .ok (.ifCond .ne 11, 3) := dk_154 0 11 (dk_at dksX3_fills_3 4 rfl rfl)
theorem dX3_fills_78 : decode cX3_fills 78 = .ok (.aload_n 0, 1) := dk_42 (dk_at dksX3_fills_3 7 rfl rfl)
theorem dX3_fills_79 : decode cX3_fills 79 = .ok (.iload_n 3, 1) := dk_29 (dk_at dksX3_fills_3 8 rfl rfl)
theorem dX3_fills_80 : decode cX3_fills 80 = .ok (.invokevirtual 395, 3) := dk_182 1 139 (dk_at dksX3_fills_3 9 rfl rfl)
theorem dX3_fills_83 : decode cX3_fills 83 = .ok (.goto 4, 3) := dk_167 0 4 (dk_at dksX3_fills_3 12 rfl rfl)
theorem dX3_fills_86 : decode cX3_fills 86 = .ok (.iload_n 3, 1) := dk_29 (dk_at dksX3_fills_3 15 rfl rfl)
theorem dX3_fills_87 : decode cX3_fills 87 = .ok (.ireturn, 1) := dk_172 (dk_at dksX3_fills_3 16 rfl rfl)
abbrev cX3_longOf : ByteArray := prog_17_method_98_code
def yX3_longOf : MethodName := ⟨RX3, "longOf", "(I)I"⟩
def dkwX3_longOf_2 : List UInt8 := [28, 172]
abbrev dktX3_longOf_2 : List UInt8 := dkwX3_longOf_2 ++ []
def dkwX3_longOf_1 : List UInt8 := [160, 0, 15, 42, 180, 0, 7, 16, 89, 29, 96, 46, 167, 0, 4, 3, 96, 61, 132, 3, 1, 167, 255, 217]
abbrev dktX3_longOf_1 : List UInt8 := dkwX3_longOf_1 ++ dktX3_longOf_2
def dkwX3_longOf_0 : List UInt8 := [3, 61, 3, 62, 29, 42, 180, 0, 7, 16, 38, 46, 162, 0, 34, 28, 27, 29, 122, 4, 126, 4]
abbrev dktX3_longOf_0 : List UInt8 := dkwX3_longOf_0 ++ dktX3_longOf_1
theorem dksX3_longOf_0 : cX3_longOf.data.toList.drop 0 = dktX3_longOf_0 := by decide +kernel
theorem dksX3_longOf_1 : cX3_longOf.data.toList.drop 22 = dktX3_longOf_1 := dk_seg dksX3_longOf_0 22 rfl rfl
theorem dksX3_longOf_2 : cX3_longOf.data.toList.drop 46 = dktX3_longOf_2 := dk_seg dksX3_longOf_1 24 rfl rfl
theorem dX3_longOf_0 : decode cX3_longOf 0 = .ok (.iconst 0, 1) := dk_3 (dk_at dksX3_longOf_0 0 rfl rfl)
theorem dX3_longOf_1 : decode cX3_longOf 1 = .ok (.istore_n 2, 1) := dk_61 (dk_at dksX3_longOf_0 1 rfl rfl)
theorem dX3_longOf_2 : decode cX3_longOf 2 = .ok (.iconst 0, 1) := dk_3 (dk_at dksX3_longOf_0 2 rfl rfl)
theorem dX3_longOf_3 : decode cX3_longOf 3 = .ok (.istore_n 3, 1) := dk_62 (dk_at dksX3_longOf_0 3 rfl rfl)
theorem dX3_longOf_4 : decode cX3_longOf 4 = .ok (.iload_n 3, 1) := dk_29 (dk_at dksX3_longOf_0 4 rfl rfl)
theorem dX3_longOf_5 : decode cX3_longOf 5 = .ok (.aload_n 0, 1) := dk_42 (dk_at dksX3_longOf_0 5 rfl rfl)
theorem dX3_longOf_6 : decode cX3_longOf 6 = .ok (.getfield 7, 3) := dk_180 0 7 (dk_at dksX3_longOf_0 6 rfl rfl)
theorem dX3_longOf_9 : decode cX3_longOf 9 = .ok (.bipush 38, 2) := dk_16 38 (dk_at dksX3_longOf_0 9 rfl rfl)
theorem dX3_longOf_11 : decode cX3_longOf 11 = .ok (.iaload, 1) := dk_46 (dk_at dksX3_longOf_0 11 rfl rfl)
theorem dX3_longOf_12 : decode cX3_longOf 12 = .ok (.if_icmp .ge 34, 3) := dk_162 0 34 (dk_at dksX3_longOf_0 12 rfl rfl)
theorem dX3_longOf_15 : decode cX3_longOf 15 = .ok (.iload_n 2, 1) := dk_28 (dk_at dksX3_longOf_0 15 rfl rfl)
theorem dX3_longOf_16 : decode cX3_longOf 16 = .ok (.iload_n 1, 1) := dk_27 (dk_at dksX3_longOf_0 16 rfl rfl)
theorem dX3_longOf_17 : decode cX3_longOf 17 = .ok (.iload_n 3, 1) := dk_29 (dk_at dksX3_longOf_0 17 rfl rfl)
theorem dX3_longOf_18 : decode cX3_longOf 18 = .ok (.ishr, 1) := dk_122 (dk_at dksX3_longOf_0 18 rfl rfl)
theorem dX3_longOf_19 : decode cX3_longOf 19 = .ok (.iconst 1, 1) := dk_4 (dk_at dksX3_longOf_0 19 rfl rfl)
theorem dX3_longOf_20 : decode cX3_longOf 20 = .ok (.iand, 1) := dk_126 (dk_at dksX3_longOf_0 20 rfl rfl)
theorem dX3_longOf_21 : decode cX3_longOf 21 = .ok (.iconst 1, 1) := dk_4 (dk_at dksX3_longOf_0 21 rfl rfl)
theorem dX3_longOf_22 : decode cX3_longOf 22 = .ok (.if_icmp .ne 15, 3) := dk_160 0 15 (dk_at dksX3_longOf_1 0 rfl rfl)
theorem dX3_longOf_25 : decode cX3_longOf 25 = .ok (.aload_n 0, 1) := dk_42 (dk_at dksX3_longOf_1 3 rfl rfl)
theorem dX3_longOf_26 : decode cX3_longOf 26 = .ok (.getfield 7, 3) := dk_180 0 7 (dk_at dksX3_longOf_1 4 rfl rfl)
theorem dX3_longOf_29 : decode cX3_longOf 29 = .ok (.bipush 89, 2) := dk_16 89 (dk_at dksX3_longOf_1 7 rfl rfl)
theorem dX3_longOf_31 : decode cX3_longOf 31 = .ok (.iload_n 3, 1) := dk_29 (dk_at dksX3_longOf_1 9 rfl rfl)
theorem dX3_longOf_32 : decode cX3_longOf 32 = .ok (.iadd, 1) := dk_96 (dk_at dksX3_longOf_1 10 rfl rfl)
theorem dX3_longOf_33 : decode cX3_longOf 33 = .ok (.iaload, 1) := dk_46 (dk_at dksX3_longOf_1 11 rfl rfl)
theorem dX3_longOf_34 : decode cX3_longOf 34 = .ok (.goto 4, 3) := dk_167 0 4 (dk_at dksX3_longOf_1 12 rfl rfl)
theorem dX3_longOf_37 : decode cX3_longOf 37 = .ok (.iconst 0, 1) := dk_3 (dk_at dksX3_longOf_1 15 rfl rfl)
theorem dX3_longOf_38 : decode cX3_longOf 38 = .ok (.iadd, 1) := dk_96 (dk_at dksX3_longOf_1 16 rfl rfl)
theorem dX3_longOf_39 : decode cX3_longOf 39 = .ok (.istore_n 2, 1) := dk_61 (dk_at dksX3_longOf_1 17 rfl rfl)
theorem dX3_longOf_40 : decode cX3_longOf 40 = .ok (.iinc 3 1, 3) := dk_132 3 1 (dk_at dksX3_longOf_1 18 rfl rfl)
theorem dX3_longOf_43 : decode cX3_longOf 43 = .ok (.goto (-39), 3) := dk_167 255 217 (dk_at dksX3_longOf_1 21 rfl rfl)
theorem dX3_longOf_46 : decode cX3_longOf 46 = .ok (.iload_n 2, 1) := dk_28 (dk_at dksX3_longOf_2 0 rfl rfl)
theorem dX3_longOf_47 : decode cX3_longOf 47 = .ok (.ireturn, 1) := dk_172 (dk_at dksX3_longOf_2 1 rfl rfl)
abbrev cX3_worthOf : ByteArray := prog_17_method_99_code
def yX3_worthOf : MethodName := ⟨RX3, "worthOf", "(I)I"⟩
def dkwX3_worthOf_2 : List UInt8 := [28, 172]
abbrev dktX3_worthOf_2 : List UInt8 := dkwX3_worthOf_2 ++ []
def dkwX3_worthOf_1 : List UInt8 := [160, 0, 15, 42, 180, 0, 7, 16, 81, 29, 96, 46, 167, 0, 4, 3, 96, 61, 132, 3, 1, 167, 255, 217]
abbrev dktX3_worthOf_1 : List UInt8 := dkwX3_worthOf_1 ++ dktX3_worthOf_2
def dkwX3_worthOf_0 : List UInt8 := [3, 61, 3, 62, 29, 42, 180, 0, 7, 16, 38, 46, 162, 0, 34, 28, 27, 29, 122, 4, 126, 4]
abbrev dktX3_worthOf_0 : List UInt8 := dkwX3_worthOf_0 ++ dktX3_worthOf_1
theorem dksX3_worthOf_0 : cX3_worthOf.data.toList.drop 0 = dktX3_worthOf_0 := by decide +kernel
theorem dksX3_worthOf_1 : cX3_worthOf.data.toList.drop 22 = dktX3_worthOf_1 := dk_seg dksX3_worthOf_0 22 rfl rfl
theorem dksX3_worthOf_2 : cX3_worthOf.data.toList.drop 46 = dktX3_worthOf_2 := dk_seg dksX3_worthOf_1 24 rfl rfl
theorem dX3_worthOf_0 : decode cX3_worthOf 0 = .ok (.iconst 0, 1) := dk_3 (dk_at dksX3_worthOf_0 0 rfl rfl)
theorem dX3_worthOf_1 : decode cX3_worthOf 1 = .ok (.istore_n 2, 1) := dk_61 (dk_at dksX3_worthOf_0 1 rfl rfl)
theorem dX3_worthOf_2 : decode cX3_worthOf 2 = .ok (.iconst 0, 1) := dk_3 (dk_at dksX3_worthOf_0 2 rfl rfl)
theorem dX3_worthOf_3 : decode cX3_worthOf 3 = .ok (.istore_n 3, 1) := dk_62 (dk_at dksX3_worthOf_0 3 rfl rfl)
theorem dX3_worthOf_4 : decode cX3_worthOf 4 = .ok (.iload_n 3, 1) := dk_29 (dk_at dksX3_worthOf_0 4 rfl rfl)
theorem dX3_worthOf_5 : decode cX3_worthOf 5 = .ok (.aload_n 0, 1) := dk_42 (dk_at dksX3_worthOf_0 5 rfl rfl)
theorem dX3_worthOf_6 : decode cX3_worthOf 6 = .ok (.getfield 7, 3) := dk_180 0 7 (dk_at dksX3_worthOf_0 6 rfl rfl)
theorem dX3_worthOf_9 : decode cX3_worthOf 9 = .ok (.bipush 38, 2) := dk_16 38 (dk_at dksX3_worthOf_0 9 rfl rfl)
theorem dX3_worthOf_11 : decode cX3_worthOf 11 = .ok (.iaload, 1) := dk_46 (dk_at dksX3_worthOf_0 11 rfl rfl)
theorem dX3_worthOf_12 : decode cX3_worthOf 12 = .ok (.if_icmp .ge 34, 3) := dk_162 0 34 (dk_at dksX3_worthOf_0 12 rfl rfl)
theorem dX3_worthOf_15 : decode cX3_worthOf 15 = .ok (.iload_n 2, 1) := dk_28 (dk_at dksX3_worthOf_0 15 rfl rfl)
theorem dX3_worthOf_16 : decode cX3_worthOf 16 = .ok (.iload_n 1, 1) := dk_27 (dk_at dksX3_worthOf_0 16 rfl rfl)
theorem dX3_worthOf_17 : decode cX3_worthOf 17 = .ok (.iload_n 3, 1) := dk_29 (dk_at dksX3_worthOf_0 17 rfl rfl)
theorem dX3_worthOf_18 : decode cX3_worthOf 18 = .ok (.ishr, 1) := dk_122 (dk_at dksX3_worthOf_0 18 rfl rfl)
theorem dX3_worthOf_19 : decode cX3_worthOf 19 = .ok (.iconst 1, 1) := dk_4 (dk_at dksX3_worthOf_0 19 rfl rfl)
theorem dX3_worthOf_20 : decode cX3_worthOf 20 = .ok (.iand, 1) := dk_126 (dk_at dksX3_worthOf_0 20 rfl rfl)
theorem dX3_worthOf_21 : decode cX3_worthOf 21 = .ok (.iconst 1, 1) := dk_4 (dk_at dksX3_worthOf_0 21 rfl rfl)
theorem dX3_worthOf_22 : decode cX3_worthOf 22 = .ok (.if_icmp .ne 15, 3) := dk_160 0 15 (dk_at dksX3_worthOf_1 0 rfl rfl)
theorem dX3_worthOf_25 : decode cX3_worthOf 25 = .ok (.aload_n 0, 1) := dk_42 (dk_at dksX3_worthOf_1 3 rfl rfl)
theorem dX3_worthOf_26 : decode cX3_worthOf 26 = .ok (.getfield 7, 3) := dk_180 0 7 (dk_at dksX3_worthOf_1 4 rfl rfl)
theorem dX3_worthOf_29 : decode cX3_worthOf 29 = .ok (.bipush 81, 2) := dk_16 81 (dk_at dksX3_worthOf_1 7 rfl rfl)
theorem dX3_worthOf_31 : decode cX3_worthOf 31 = .ok (.iload_n 3, 1) := dk_29 (dk_at dksX3_worthOf_1 9 rfl rfl)
theorem dX3_worthOf_32 : decode cX3_worthOf 32 = .ok (.iadd, 1) := dk_96 (dk_at dksX3_worthOf_1 10 rfl rfl)
theorem dX3_worthOf_33 : decode cX3_worthOf 33 = .ok (.iaload, 1) := dk_46 (dk_at dksX3_worthOf_1 11 rfl rfl)
theorem dX3_worthOf_34 : decode cX3_worthOf 34 = .ok (.goto 4, 3) := dk_167 0 4 (dk_at dksX3_worthOf_1 12 rfl rfl)
theorem dX3_worthOf_37 : decode cX3_worthOf 37 = .ok (.iconst 0, 1) := dk_3 (dk_at dksX3_worthOf_1 15 rfl rfl)
theorem dX3_worthOf_38 : decode cX3_worthOf 38 = .ok (.iadd, 1) := dk_96 (dk_at dksX3_worthOf_1 16 rfl rfl)
theorem dX3_worthOf_39 : decode cX3_worthOf 39 = .ok (.istore_n 2, 1) := dk_61 (dk_at dksX3_worthOf_1 17 rfl rfl)
theorem dX3_worthOf_40 : decode cX3_worthOf 40 = .ok (.iinc 3 1, 3) := dk_132 3 1 (dk_at dksX3_worthOf_1 18 rfl rfl)
theorem dX3_worthOf_43 : decode cX3_worthOf 43 = .ok (.goto (-39), 3) := dk_167 255 217 (dk_at dksX3_worthOf_1 21 rfl rfl)
theorem dX3_worthOf_46 : decode cX3_worthOf 46 = .ok (.iload_n 2, 1) := dk_28 (dk_at dksX3_worthOf_2 0 rfl rfl)
theorem dX3_worthOf_47 : decode cX3_worthOf 47 = .ok (.ireturn, 1) := dk_172 (dk_at dksX3_worthOf_2 1 rfl rfl)
abbrev cX3_bargain : ByteArray := prog_17_method_101_code
def yX3_bargain : MethodName := ⟨RX3, "bargain", "(I)I"⟩
def dkwX3_bargain_4 : List UInt8 := [180, 0, 7, 16, 81, 28, 96, 46, 16, 60, 104, 42, 180, 0, 7, 16, 89, 28, 96, 46, 108, 172]
abbrev dktX3_bargain_4 : List UInt8 := dkwX3_bargain_4 ++ []
def dkwX3_bargain_3 : List UInt8 := [29, 96, 46, 104, 164, 0, 5, 29, 61, 132, 3, 1, 167, 255, 199, 27, 154, 0, 7, 28, 167, 0, 25, 42]
abbrev dktX3_bargain_3 : List UInt8 := dkwX3_bargain_3 ++ dktX3_bargain_4
def dkwX3_bargain_2 : List UInt8 := [180, 0, 7, 16, 89, 28, 96, 46, 104, 42, 180, 0, 7, 16, 81, 28, 96, 46, 42, 180, 0, 7, 16, 89]
abbrev dktX3_bargain_2 : List UInt8 := dkwX3_bargain_2 ++ dktX3_bargain_3
def dkwX3_bargain_1 : List UInt8 := [62, 29, 42, 180, 0, 7, 16, 38, 46, 162, 0, 52, 42, 180, 0, 7, 16, 81, 29, 96, 46, 42]
abbrev dktX3_bargain_1 : List UInt8 := dkwX3_bargain_1 ++ dktX3_bargain_2
def dkwX3_bargain_0 : List UInt8 := [27, 3, 4, 184, 0, 56, 153, 0, 13, 42, 180, 0, 7, 16, 38, 46, 154, 0, 5, 2, 172, 3, 61, 4]
abbrev dktX3_bargain_0 : List UInt8 := dkwX3_bargain_0 ++ dktX3_bargain_1
theorem dksX3_bargain_0 : cX3_bargain.data.toList.drop 0 = dktX3_bargain_0 := by decide +kernel
theorem dksX3_bargain_1 : cX3_bargain.data.toList.drop 24 = dktX3_bargain_1 := dk_seg dksX3_bargain_0 24 rfl rfl
theorem dksX3_bargain_2 : cX3_bargain.data.toList.drop 46 = dktX3_bargain_2 := dk_seg dksX3_bargain_1 22 rfl rfl
theorem dksX3_bargain_3 : cX3_bargain.data.toList.drop 70 = dktX3_bargain_3 := dk_seg dksX3_bargain_2 24 rfl rfl
theorem dksX3_bargain_4 : cX3_bargain.data.toList.drop 94 = dktX3_bargain_4 := dk_seg dksX3_bargain_3 24 rfl rfl
theorem dX3_bargain_0 : decode cX3_bargain 0 = .ok (.iload_n 1, 1) := dk_27 (dk_at dksX3_bargain_0 0 rfl rfl)
theorem dX3_bargain_1 : decode cX3_bargain 1 = .ok (.iconst 0, 1) := dk_3 (dk_at dksX3_bargain_0 1 rfl rfl)
theorem dX3_bargain_2 : decode cX3_bargain 2 = .ok (.iconst 1, 1) := dk_4 (dk_at dksX3_bargain_0 2 rfl rfl)
theorem dX3_bargain_3 : decode cX3_bargain 3 = .ok (.invokestatic 56, 3) := dk_184 0 56 (dk_at dksX3_bargain_0 3 rfl rfl)
theorem dX3_bargain_6 : decode cX3_bargain 6 = .ok (.ifCond .eq 13, 3) := dk_153 0 13 (dk_at dksX3_bargain_0 6 rfl rfl)
theorem dX3_bargain_9 : decode cX3_bargain 9 = .ok (.aload_n 0, 1) := dk_42 (dk_at dksX3_bargain_0 9 rfl rfl)
theorem dX3_bargain_10 : decode cX3_bargain 10 = .ok (.getfield 7, 3) := dk_180 0 7 (dk_at dksX3_bargain_0 10 rfl rfl)
theorem dX3_bargain_13 : decode cX3_bargain 13 = .ok (.bipush 38, 2) := dk_16 38 (dk_at dksX3_bargain_0 13 rfl rfl)
theorem dX3_bargain_15 : decode cX3_bargain 15 = .ok (.iaload, 1) := dk_46 (dk_at dksX3_bargain_0 15 rfl rfl)
theorem dX3_bargain_16 : decode cX3_bargain 16 = .ok (.ifCond .ne 5, 3) := dk_154 0 5 (dk_at dksX3_bargain_0 16 rfl rfl)
theorem dX3_bargain_19 : decode cX3_bargain 19 = .ok (.iconst (-1), 1) := dk_2 (dk_at dksX3_bargain_0 19 rfl rfl)
theorem dX3_bargain_20 : decode cX3_bargain 20 = .ok (.ireturn, 1) := dk_172 (dk_at dksX3_bargain_0 20 rfl rfl)
theorem dX3_bargain_21 : decode cX3_bargain 21 = .ok (.iconst 0, 1) := dk_3 (dk_at dksX3_bargain_0 21 rfl rfl)
theorem dX3_bargain_22 : decode cX3_bargain 22 = .ok (.istore_n 2, 1) := dk_61 (dk_at dksX3_bargain_0 22 rfl rfl)
theorem dX3_bargain_23 : decode cX3_bargain 23 = .ok (.iconst 1, 1) := dk_4 (dk_at dksX3_bargain_0 23 rfl rfl)
theorem dX3_bargain_24 : decode cX3_bargain 24 = .ok (.istore_n 3, 1) := dk_62 (dk_at dksX3_bargain_1 0 rfl rfl)
theorem dX3_bargain_25 : decode cX3_bargain 25 = .ok (.iload_n 3, 1) := dk_29 (dk_at dksX3_bargain_1 1 rfl rfl)
theorem dX3_bargain_26 : decode cX3_bargain 26 = .ok (.aload_n 0, 1) := dk_42 (dk_at dksX3_bargain_1 2 rfl rfl)
theorem dX3_bargain_27 : decode cX3_bargain 27 = .ok (.getfield 7, 3) := dk_180 0 7 (dk_at dksX3_bargain_1 3 rfl rfl)
theorem dX3_bargain_30 : decode cX3_bargain 30 = .ok (.bipush 38, 2) := dk_16 38 (dk_at dksX3_bargain_1 6 rfl rfl)
theorem dX3_bargain_32 : decode cX3_bargain 32 = .ok (.iaload, 1) := dk_46 (dk_at dksX3_bargain_1 8 rfl rfl)
theorem dX3_bargain_33 : decode cX3_bargain 33 = .ok (.if_icmp .ge 52, 3) := dk_162 0 52 (dk_at dksX3_bargain_1 9 rfl rfl)
theorem dX3_bargain_36 : decode cX3_bargain 36 = .ok (.aload_n 0, 1) := dk_42 (dk_at dksX3_bargain_1 12 rfl rfl)
theorem dX3_bargain_37 : decode cX3_bargain 37 = .ok (.getfield 7, 3) := dk_180 0 7 (dk_at dksX3_bargain_1 13 rfl rfl)
theorem dX3_bargain_40 : decode cX3_bargain 40 = .ok (.bipush 81, 2) := dk_16 81 (dk_at dksX3_bargain_1 16 rfl rfl)
theorem dX3_bargain_42 : decode cX3_bargain 42 = .ok (.iload_n 3, 1) := dk_29 (dk_at dksX3_bargain_1 18 rfl rfl)
theorem dX3_bargain_43 : decode cX3_bargain 43 = .ok (.iadd, 1) := dk_96 (dk_at dksX3_bargain_1 19 rfl rfl)
theorem dX3_bargain_44 : decode cX3_bargain 44 = .ok (.iaload, 1) := dk_46 (dk_at dksX3_bargain_1 20 rfl rfl)
theorem dX3_bargain_45 : decode cX3_bargain 45 = .ok (.aload_n 0, 1) := dk_42 (dk_at dksX3_bargain_1 21 rfl rfl)
theorem dX3_bargain_46 : decode cX3_bargain 46 = .ok (.getfield 7, 3) := dk_180 0 7 (dk_at dksX3_bargain_2 0 rfl rfl)
theorem dX3_bargain_49 : decode cX3_bargain 49 = .ok (.bipush 89, 2) := dk_16 89 (dk_at dksX3_bargain_2 3 rfl rfl)
theorem dX3_bargain_51 : decode cX3_bargain 51 = .ok (.iload_n 2, 1) := dk_28 (dk_at dksX3_bargain_2 5 rfl rfl)
theorem dX3_bargain_52 : decode cX3_bargain 52 = .ok (.iadd, 1) := dk_96 (dk_at dksX3_bargain_2 6 rfl rfl)
theorem dX3_bargain_53 : decode cX3_bargain 53 = .ok (.iaload, 1) := dk_46 (dk_at dksX3_bargain_2 7 rfl rfl)
theorem dX3_bargain_54 : decode cX3_bargain 54 = .ok (.imul, 1) := dk_104 (dk_at dksX3_bargain_2 8 rfl rfl)
theorem dX3_bargain_55 : decode cX3_bargain 55 = .ok (.aload_n 0, 1) := dk_42 (dk_at dksX3_bargain_2 9 rfl rfl)
theorem dX3_bargain_56 : decode cX3_bargain 56 = .ok (.getfield 7, 3) := dk_180 0 7 (dk_at dksX3_bargain_2 10 rfl rfl)
theorem dX3_bargain_59 : decode cX3_bargain 59 = .ok (.bipush 81, 2) := dk_16 81 (dk_at dksX3_bargain_2 13 rfl rfl)
theorem dX3_bargain_61 : decode cX3_bargain 61 = .ok (.iload_n 2, 1) := dk_28 (dk_at dksX3_bargain_2 15 rfl rfl)
theorem dX3_bargain_62 : decode cX3_bargain 62 = .ok (.iadd, 1) := dk_96 (dk_at dksX3_bargain_2 16 rfl rfl)
theorem dX3_bargain_63 : decode cX3_bargain 63 = .ok (.iaload, 1) := dk_46 (dk_at dksX3_bargain_2 17 rfl rfl)
theorem dX3_bargain_64 : decode cX3_bargain 64 = .ok (.aload_n 0, 1) := dk_42 (dk_at dksX3_bargain_2 18 rfl rfl)
theorem dX3_bargain_65 : decode cX3_bargain 65 = .ok (.getfield 7, 3) := dk_180 0 7 (dk_at dksX3_bargain_2 19 rfl rfl)
theorem dX3_bargain_68 : decode cX3_bargain 68 = .ok (.bipush 89, 2) := dk_16 89 (dk_at dksX3_bargain_2 22 rfl rfl)
theorem dX3_bargain_70 : decode cX3_bargain 70 = .ok (.iload_n 3, 1) := dk_29 (dk_at dksX3_bargain_3 0 rfl rfl)
theorem dX3_bargain_71 : decode cX3_bargain 71 = .ok (.iadd, 1) := dk_96 (dk_at dksX3_bargain_3 1 rfl rfl)
theorem dX3_bargain_72 : decode cX3_bargain 72 = .ok (.iaload, 1) := dk_46 (dk_at dksX3_bargain_3 2 rfl rfl)
theorem dX3_bargain_73 : decode cX3_bargain 73 = .ok (.imul, 1) := dk_104 (dk_at dksX3_bargain_3 3 rfl rfl)
theorem dX3_bargain_74 : decode cX3_bargain 74 = .ok (.if_icmp .le 5, 3) := dk_164 0 5 (dk_at dksX3_bargain_3 4 rfl rfl)
theorem dX3_bargain_77 : decode cX3_bargain 77 = .ok (.iload_n 3, 1) := dk_29 (dk_at dksX3_bargain_3 7 rfl rfl)
theorem dX3_bargain_78 : decode cX3_bargain 78 = .ok (.istore_n 2, 1) := dk_61 (dk_at dksX3_bargain_3 8 rfl rfl)
theorem dX3_bargain_79 : decode cX3_bargain 79 = .ok (.iinc 3 1, 3) := dk_132 3 1 (dk_at dksX3_bargain_3 9 rfl rfl)
theorem dX3_bargain_82 : decode cX3_bargain 82 = .ok (.goto (-57), 3) := dk_167 255 199 (dk_at dksX3_bargain_3 12 rfl rfl)
theorem dX3_bargain_85 : decode cX3_bargain 85 = .ok (.iload_n 1, 1) := dk_27 (dk_at dksX3_bargain_3 15 rfl rfl)
theorem dX3_bargain_86 : decode cX3_bargain 86 = .ok (.ifCond .ne 7, 3) := dk_154 0 7 (dk_at dksX3_bargain_3 16 rfl rfl)
theorem dX3_bargain_89 : decode cX3_bargain 89 = .ok (.iload_n 2, 1) := dk_28 (dk_at dksX3_bargain_3 19 rfl rfl)
theorem dX3_bargain_90 : decode cX3_bargain 90 = .ok (.goto 25, 3) := dk_167 0 25 (dk_at dksX3_bargain_3 20 rfl rfl)
theorem dX3_bargain_93 : decode cX3_bargain 93 = .ok (.aload_n 0, 1) := dk_42 (dk_at dksX3_bargain_3 23 rfl rfl)
theorem dX3_bargain_94 : decode cX3_bargain 94 = .ok (.getfield 7, 3) := dk_180 0 7 (dk_at dksX3_bargain_4 0 rfl rfl)
theorem dX3_bargain_97 : decode cX3_bargain 97 = .ok (.bipush 81, 2) := dk_16 81 (dk_at dksX3_bargain_4 3 rfl rfl)
theorem dX3_bargain_99 : decode cX3_bargain 99 = .ok (.iload_n 2, 1) := dk_28 (dk_at dksX3_bargain_4 5 rfl rfl)
theorem dX3_bargain_100 : decode cX3_bargain 100 = .ok (.iadd, 1) := dk_96 (dk_at dksX3_bargain_4 6 rfl rfl)
theorem dX3_bargain_101 : decode cX3_bargain 101 = .ok (.iaload, 1) := dk_46 (dk_at dksX3_bargain_4 7 rfl rfl)
theorem dX3_bargain_102 : decode cX3_bargain 102 = .ok (.bipush 60, 2) := dk_16 60 (dk_at dksX3_bargain_4 8 rfl rfl)
theorem dX3_bargain_104 : decode cX3_bargain 104 = .ok (.imul, 1) := dk_104 (dk_at dksX3_bargain_4 10 rfl rfl)
theorem dX3_bargain_105 : decode cX3_bargain 105 = .ok (.aload_n 0, 1) := dk_42 (dk_at dksX3_bargain_4 11 rfl rfl)
theorem dX3_bargain_106 : decode cX3_bargain 106 = .ok (.getfield 7, 3) := dk_180 0 7 (dk_at dksX3_bargain_4 12 rfl rfl)
theorem dX3_bargain_109 : decode cX3_bargain 109 = .ok (.bipush 89, 2) := dk_16 89 (dk_at dksX3_bargain_4 15 rfl rfl)
theorem dX3_bargain_111 : decode cX3_bargain 111 = .ok (.iload_n 2, 1) := dk_28 (dk_at dksX3_bargain_4 17 rfl rfl)
theorem dX3_bargain_112 : decode cX3_bargain 112 = .ok (.iadd, 1) := dk_96 (dk_at dksX3_bargain_4 18 rfl rfl)
theorem dX3_bargain_113 : decode cX3_bargain 113 = .ok (.iaload, 1) := dk_46 (dk_at dksX3_bargain_4 19 rfl rfl)
theorem dX3_bargain_114 : decode cX3_bargain 114 = .ok (.idiv, 1) := dk_108 (dk_at dksX3_bargain_4 20 rfl rfl)
theorem dX3_bargain_115 : decode cX3_bargain 115 = .ok (.ireturn, 1) := dk_172 (dk_at dksX3_bargain_4 21 rfl rfl)
abbrev cX3_calm : ByteArray := prog_17_method_102_code
def yX3_calm : MethodName := ⟨RX3, "calm", "(I)I"⟩
def dkwX3_calm_5 : List UInt8 := [167, 0, 4, 28, 61, 132, 4, 1, 167, 255, 182, 27, 154, 0, 7, 28, 167, 0, 4, 29, 172]
abbrev dktX3_calm_5 : List UInt8 := dkwX3_calm_5 ++ []
def dkwX3_calm_4 : List UInt8 := [42, 180, 0, 7, 16, 69, 21, 4, 96, 46, 42, 180, 0, 7, 16, 69, 28, 96, 46, 164, 0, 8, 21, 4]
abbrev dktX3_calm_4 : List UInt8 := dkwX3_calm_4 ++ dktX3_calm_5
def dkwX3_calm_3 : List UInt8 := [154, 0, 6, 167, 0, 50, 29, 42, 180, 0, 7, 16, 69, 21, 4, 96, 46, 96, 62, 28, 2, 159, 0, 25]
abbrev dktX3_calm_3 : List UInt8 := dkwX3_calm_3 ++ dktX3_calm_4
def dkwX3_calm_2 : List UInt8 := [62, 3, 54, 4, 21, 4, 42, 180, 0, 7, 16, 37, 46, 162, 0, 68, 42, 21, 4, 182, 1, 54]
abbrev dktX3_calm_2 : List UInt8 := dkwX3_calm_2 ++ dktX3_calm_3
def dkwX3_calm_1 : List UInt8 := [182, 1, 133, 2, 130, 126, 184, 1, 63, 172, 27, 3, 4, 184, 0, 56, 154, 0, 5, 2, 172, 2, 61, 3]
abbrev dktX3_calm_1 : List UInt8 := dkwX3_calm_1 ++ dktX3_calm_2
def dkwX3_calm_0 : List UInt8 := [42, 27, 16, 10, 100, 182, 0, 72, 153, 0, 26, 42, 180, 0, 7, 16, 7, 46, 42, 27, 16, 10, 100, 3]
abbrev dktX3_calm_0 : List UInt8 := dkwX3_calm_0 ++ dktX3_calm_1
theorem dksX3_calm_0 : cX3_calm.data.toList.drop 0 = dktX3_calm_0 := by decide +kernel
theorem dksX3_calm_1 : cX3_calm.data.toList.drop 24 = dktX3_calm_1 := dk_seg dksX3_calm_0 24 rfl rfl
theorem dksX3_calm_2 : cX3_calm.data.toList.drop 48 = dktX3_calm_2 := dk_seg dksX3_calm_1 24 rfl rfl
theorem dksX3_calm_3 : cX3_calm.data.toList.drop 70 = dktX3_calm_3 := dk_seg dksX3_calm_2 22 rfl rfl
theorem dksX3_calm_4 : cX3_calm.data.toList.drop 94 = dktX3_calm_4 := dk_seg dksX3_calm_3 24 rfl rfl
theorem dksX3_calm_5 : cX3_calm.data.toList.drop 118 = dktX3_calm_5 := dk_seg dksX3_calm_4 24 rfl rfl
theorem dX3_calm_0 : decode cX3_calm 0 = .ok (.aload_n 0, 1) := dk_42 (dk_at dksX3_calm_0 0 rfl rfl)
theorem dX3_calm_1 : decode cX3_calm 1 = .ok (.iload_n 1, 1) := dk_27 (dk_at dksX3_calm_0 1 rfl rfl)
theorem dX3_calm_2 : decode cX3_calm 2 = .ok (.bipush 10, 2) := dk_16 10 (dk_at dksX3_calm_0 2 rfl rfl)
theorem dX3_calm_4 : decode cX3_calm 4 = .ok (.isub, 1) := dk_100 (dk_at dksX3_calm_0 4 rfl rfl)
theorem dX3_calm_5 : decode cX3_calm 5 = .ok (.invokevirtual 72, 3) := dk_182 0 72 (dk_at dksX3_calm_0 5 rfl rfl)
theorem dX3_calm_8 : decode cX3_calm 8 = .ok (.ifCond .eq 26, 3) := dk_153 0 26 (dk_at dksX3_calm_0 8 rfl rfl)
theorem dX3_calm_11 : decode cX3_calm 11 = .ok (.aload_n 0, 1) := dk_42 (dk_at dksX3_calm_0 11 rfl rfl)
theorem dX3_calm_12 : decode cX3_calm 12 = .ok (.getfield 7, 3) := dk_180 0 7 (dk_at dksX3_calm_0 12 rfl rfl)
theorem dX3_calm_15 : decode cX3_calm 15 = .ok (.bipush 7, 2) := dk_16 7 (dk_at dksX3_calm_0 15 rfl rfl)
theorem dX3_calm_17 : decode cX3_calm 17 = .ok (.iaload, 1) := dk_46 (dk_at dksX3_calm_0 17 rfl rfl)
theorem dX3_calm_18 : decode cX3_calm 18 = .ok (.aload_n 0, 1) := dk_42 (dk_at dksX3_calm_0 18 rfl rfl)
theorem dX3_calm_19 : decode cX3_calm 19 = .ok (.iload_n 1, 1) := dk_27 (dk_at dksX3_calm_0 19 rfl rfl)
theorem dX3_calm_20 : decode cX3_calm 20 = .ok (.bipush 10, 2) := dk_16 10 (dk_at dksX3_calm_0 20 rfl rfl)
theorem dX3_calm_22 : decode cX3_calm 22 = .ok (.isub, 1) := dk_100 (dk_at dksX3_calm_0 22 rfl rfl)
theorem dX3_calm_23 : decode cX3_calm 23 = .ok (.iconst 0, 1) := dk_3 (dk_at dksX3_calm_0 23 rfl rfl)
theorem dX3_calm_24 : decode cX3_calm 24 = .ok (.invokevirtual 389, 3) := dk_182 1 133 (dk_at dksX3_calm_1 0 rfl rfl)
theorem dX3_calm_27 : decode cX3_calm 27 = .ok (.iconst (-1), 1) := dk_2 (dk_at dksX3_calm_1 3 rfl rfl)
theorem dX3_calm_28 : decode cX3_calm 28 = .ok (.ixor, 1) := dk_130 (dk_at dksX3_calm_1 4 rfl rfl)
theorem dX3_calm_29 : decode cX3_calm 29 = .ok (.iand, 1) := dk_126 (dk_at dksX3_calm_1 5 rfl rfl)
theorem dX3_calm_30 : decode cX3_calm 30 = .ok (.invokestatic 319, 3) := dk_184 1 63 (dk_at dksX3_calm_1 6 rfl rfl)
theorem dX3_calm_33 : decode cX3_calm 33 = .ok (.ireturn, 1) := dk_172 (dk_at dksX3_calm_1 9 rfl rfl)
theorem dX3_calm_34 : decode cX3_calm 34 = .ok (.iload_n 1, 1) := dk_27 (dk_at dksX3_calm_1 10 rfl rfl)
theorem dX3_calm_35 : decode cX3_calm 35 = .ok (.iconst 0, 1) := dk_3 (dk_at dksX3_calm_1 11 rfl rfl)
theorem dX3_calm_36 : decode cX3_calm 36 = .ok (.iconst 1, 1) := dk_4 (dk_at dksX3_calm_1 12 rfl rfl)
theorem dX3_calm_37 : decode cX3_calm 37 = .ok (.invokestatic 56, 3) := dk_184 0 56 (dk_at dksX3_calm_1 13 rfl rfl)
theorem dX3_calm_40 : decode cX3_calm 40 = .ok (.ifCond .ne 5, 3) := dk_154 0 5 (dk_at dksX3_calm_1 16 rfl rfl)
theorem dX3_calm_43 : decode cX3_calm 43 = .ok (.iconst (-1), 1) := dk_2 (dk_at dksX3_calm_1 19 rfl rfl)
theorem dX3_calm_44 : decode cX3_calm 44 = .ok (.ireturn, 1) := dk_172 (dk_at dksX3_calm_1 20 rfl rfl)
theorem dX3_calm_45 : decode cX3_calm 45 = .ok (.iconst (-1), 1) := dk_2 (dk_at dksX3_calm_1 21 rfl rfl)
theorem dX3_calm_46 : decode cX3_calm 46 = .ok (.istore_n 2, 1) := dk_61 (dk_at dksX3_calm_1 22 rfl rfl)
theorem dX3_calm_47 : decode cX3_calm 47 = .ok (.iconst 0, 1) := dk_3 (dk_at dksX3_calm_1 23 rfl rfl)
theorem dX3_calm_48 : decode cX3_calm 48 = .ok (.istore_n 3, 1) := dk_62 (dk_at dksX3_calm_2 0 rfl rfl)
theorem dX3_calm_49 : decode cX3_calm 49 = .ok (.iconst 0, 1) := dk_3 (dk_at dksX3_calm_2 1 rfl rfl)
theorem dX3_calm_50 : decode cX3_calm 50 = .ok (.istore 4, 2) := dk_54 4 (dk_at dksX3_calm_2 2 rfl rfl)
theorem dX3_calm_52 : decode cX3_calm 52 = .ok (.iload 4, 2) := dk_21 4 (dk_at dksX3_calm_2 4 rfl rfl)
theorem dX3_calm_54 : decode cX3_calm 54 = .ok (.aload_n 0, 1) := dk_42 (dk_at dksX3_calm_2 6 rfl rfl)
theorem dX3_calm_55 : decode cX3_calm 55 = .ok (.getfield 7, 3) := dk_180 0 7 (dk_at dksX3_calm_2 7 rfl rfl)
theorem dX3_calm_58 : decode cX3_calm 58 = .ok (.bipush 37, 2) := dk_16 37 (dk_at dksX3_calm_2 10 rfl rfl)
theorem dX3_calm_60 : decode cX3_calm 60 = .ok (.iaload, 1) := dk_46 (dk_at dksX3_calm_2 12 rfl rfl)
theorem dX3_calm_61 : decode cX3_calm 61 = .ok (.if_icmp .ge 68, 3) := dk_162 0 68 (dk_at dksX3_calm_2 13 rfl rfl)
theorem dX3_calm_64 : decode cX3_calm 64 = .ok (.aload_n 0, 1) := dk_42 (dk_at dksX3_calm_2 16 rfl rfl)
theorem dX3_calm_65 : decode cX3_calm 65 = .ok (.iload 4, 2) := dk_21 4 (dk_at dksX3_calm_2 17 rfl rfl)
theorem dX3_calm_67 : decode cX3_calm 67 = .ok (.invokevirtual 310, 3) := dk_182 1 54 (dk_at dksX3_calm_2 19 rfl rfl)
theorem dX3_calm_70 : decode cX3_calm 70 = .ok (.ifCond .ne 6, 3) := dk_154 0 6 (dk_at dksX3_calm_3 0 rfl rfl)
theorem dX3_calm_73 : decode cX3_calm 73 = .ok (.goto 50, 3) := dk_167 0 50 (dk_at dksX3_calm_3 3 rfl rfl)
theorem dX3_calm_76 : decode cX3_calm 76 = .ok (.iload_n 3, 1) := dk_29 (dk_at dksX3_calm_3 6 rfl rfl)
theorem dX3_calm_77 : decode cX3_calm 77 = .ok (.aload_n 0, 1) := dk_42 (dk_at dksX3_calm_3 7 rfl rfl)
theorem dX3_calm_78 : decode cX3_calm 78 = .ok (.getfield 7, 3) := dk_180 0 7 (dk_at dksX3_calm_3 8 rfl rfl)
theorem dX3_calm_81 : decode cX3_calm 81 = .ok (.bipush 69, 2) := dk_16 69 (dk_at dksX3_calm_3 11 rfl rfl)
theorem dX3_calm_83 : decode cX3_calm 83 = .ok (.iload 4, 2) := dk_21 4 (dk_at dksX3_calm_3 13 rfl rfl)
theorem dX3_calm_85 : decode cX3_calm 85 = .ok (.iadd, 1) := dk_96 (dk_at dksX3_calm_3 15 rfl rfl)
theorem dX3_calm_86 : decode cX3_calm 86 = .ok (.iaload, 1) := dk_46 (dk_at dksX3_calm_3 16 rfl rfl)
theorem dX3_calm_87 : decode cX3_calm 87 = .ok (.iadd, 1) := dk_96 (dk_at dksX3_calm_3 17 rfl rfl)
theorem dX3_calm_88 : decode cX3_calm 88 = .ok (.istore_n 3, 1) := dk_62 (dk_at dksX3_calm_3 18 rfl rfl)
theorem dX3_calm_89 : decode cX3_calm 89 = .ok (.iload_n 2, 1) := dk_28 (dk_at dksX3_calm_3 19 rfl rfl)
theorem dX3_calm_90 : decode cX3_calm 90 = .ok (.iconst (-1), 1) := dk_2 (dk_at dksX3_calm_3 20 rfl rfl)
theorem dX3_calm_91 : decode cX3_calm 91 = .ok (.if_icmp .eq 25, 3) := dk_159 0 25 (dk_at dksX3_calm_3 21 rfl rfl)
theorem dX3_calm_94 : decode cX3_calm 94 = .ok (.aload_n 0, 1) := dk_42 (dk_at dksX3_calm_4 0 rfl rfl)
theorem dX3_calm_95 : decode cX3_calm 95 = .ok (.getfield 7, 3) := dk_180 0 7 (dk_at dksX3_calm_4 1 rfl rfl)
theorem dX3_calm_98 : decode cX3_calm 98 = .ok (.bipush 69, 2) := dk_16 69 (dk_at dksX3_calm_4 4 rfl rfl)
theorem dX3_calm_100 : decode cX3_calm 100 = .ok (.iload 4, 2) := dk_21 4 (dk_at dksX3_calm_4 6 rfl rfl)
theorem dX3_calm_102 : decode cX3_calm 102 = .ok (.iadd, 1) := dk_96 (dk_at dksX3_calm_4 8 rfl rfl)
theorem dX3_calm_103 : decode cX3_calm 103 = .ok (.iaload, 1) := dk_46 (dk_at dksX3_calm_4 9 rfl rfl)
theorem dX3_calm_104 : decode cX3_calm 104 = .ok (.aload_n 0, 1) := dk_42 (dk_at dksX3_calm_4 10 rfl rfl)
theorem dX3_calm_105 : decode cX3_calm 105 = .ok (.getfield 7, 3) := dk_180 0 7 (dk_at dksX3_calm_4 11 rfl rfl)
theorem dX3_calm_108 : decode cX3_calm 108 = .ok (.bipush 69, 2) := dk_16 69 (dk_at dksX3_calm_4 14 rfl rfl)
theorem dX3_calm_110 : decode cX3_calm 110 = .ok (.iload_n 2, 1) := dk_28 (dk_at dksX3_calm_4 16 rfl rfl)
theorem dX3_calm_111 : decode cX3_calm 111 = .ok (.iadd, 1) := dk_96 (dk_at dksX3_calm_4 17 rfl rfl)
theorem dX3_calm_112 : decode cX3_calm 112 = .ok (.iaload, 1) := dk_46 (dk_at dksX3_calm_4 18 rfl rfl)
theorem dX3_calm_113 : decode cX3_calm 113 = .ok (.if_icmp .le 8, 3) := dk_164 0 8 (dk_at dksX3_calm_4 19 rfl rfl)
theorem dX3_calm_116 : decode cX3_calm 116 = .ok (.iload 4, 2) := dk_21 4 (dk_at dksX3_calm_4 22 rfl rfl)
theorem dX3_calm_118 : decode cX3_calm 118 = .ok (.goto 4, 3) := dk_167 0 4 (dk_at dksX3_calm_5 0 rfl rfl)
theorem dX3_calm_121 : decode cX3_calm 121 = .ok (.iload_n 2, 1) := dk_28 (dk_at dksX3_calm_5 3 rfl rfl)
theorem dX3_calm_122 : decode cX3_calm 122 = .ok (.istore_n 2, 1) := dk_61 (dk_at dksX3_calm_5 4 rfl rfl)
theorem dX3_calm_123 : decode cX3_calm 123 = .ok (.iinc 4 1, 3) := dk_132 4 1 (dk_at dksX3_calm_5 5 rfl rfl)
theorem dX3_calm_126 : decode cX3_calm 126 = .ok (.goto (-74), 3) := dk_167 255 182 (dk_at dksX3_calm_5 8 rfl rfl)
theorem dX3_calm_129 : decode cX3_calm 129 = .ok (.iload_n 1, 1) := dk_27 (dk_at dksX3_calm_5 11 rfl rfl)
theorem dX3_calm_130 : decode cX3_calm 130 = .ok (.ifCond .ne 7, 3) := dk_154 0 7 (dk_at dksX3_calm_5 12 rfl rfl)
theorem dX3_calm_133 : decode cX3_calm 133 = .ok (.iload_n 2, 1) := dk_28 (dk_at dksX3_calm_5 15 rfl rfl)
theorem dX3_calm_134 : decode cX3_calm 134 = .ok (.goto 4, 3) := dk_167 0 4 (dk_at dksX3_calm_5 16 rfl rfl)
theorem dX3_calm_137 : decode cX3_calm 137 = .ok (.iload_n 3, 1) := dk_29 (dk_at dksX3_calm_5 19 rfl rfl)
theorem dX3_calm_138 : decode cX3_calm 138 = .ok (.ireturn, 1) := dk_172 (dk_at dksX3_calm_5 20 rfl rfl)
abbrev cX3_lines : ByteArray := prog_17_method_105_code
def yX3_lines : MethodName := ⟨RX3, "lines", "(II)I"⟩
def dkwX3_lines_3 : List UInt8 := [182, 1, 146, 42, 180, 0, 47, 27, 46, 160, 0, 5, 29, 172, 132, 3, 1, 167, 255, 216, 2, 172]
abbrev dktX3_lines_3 : List UInt8 := dkwX3_lines_3 ++ []
def dkwX3_lines_2 : List UInt8 := [62, 29, 42, 180, 0, 7, 16, 38, 46, 162, 0, 35, 27, 29, 122, 4, 126, 4, 160, 0, 20, 42, 29, 27]
abbrev dktX3_lines_2 : List UInt8 := dkwX3_lines_2 ++ dktX3_lines_3
def dkwX3_lines_1 : List UInt8 := [184, 0, 56, 154, 0, 5, 2, 172, 42, 182, 1, 143, 28, 154, 0, 10, 42, 180, 0, 47, 27, 46, 172, 3]
abbrev dktX3_lines_1 : List UInt8 := dkwX3_lines_1 ++ dktX3_lines_2
def dkwX3_lines_0 : List UInt8 := [27, 3, 4, 42, 180, 0, 7, 16, 38, 46, 120, 4, 100, 184, 0, 56, 153, 0, 12, 28, 3, 4]
abbrev dktX3_lines_0 : List UInt8 := dkwX3_lines_0 ++ dktX3_lines_1
theorem dksX3_lines_0 : cX3_lines.data.toList.drop 0 = dktX3_lines_0 := by decide +kernel
theorem dksX3_lines_1 : cX3_lines.data.toList.drop 22 = dktX3_lines_1 := dk_seg dksX3_lines_0 22 rfl rfl
theorem dksX3_lines_2 : cX3_lines.data.toList.drop 46 = dktX3_lines_2 := dk_seg dksX3_lines_1 24 rfl rfl
theorem dksX3_lines_3 : cX3_lines.data.toList.drop 70 = dktX3_lines_3 := dk_seg dksX3_lines_2 24 rfl rfl
theorem dX3_lines_0 : decode cX3_lines 0 = .ok (.iload_n 1, 1) := dk_27 (dk_at dksX3_lines_0 0 rfl rfl)
theorem dX3_lines_1 : decode cX3_lines 1 = .ok (.iconst 0, 1) := dk_3 (dk_at dksX3_lines_0 1 rfl rfl)
theorem dX3_lines_2 : decode cX3_lines 2 = .ok (.iconst 1, 1) := dk_4 (dk_at dksX3_lines_0 2 rfl rfl)
theorem dX3_lines_3 : decode cX3_lines 3 = .ok (.aload_n 0, 1) := dk_42 (dk_at dksX3_lines_0 3 rfl rfl)
theorem dX3_lines_4 : decode cX3_lines 4 = .ok (.getfield 7, 3) := dk_180 0 7 (dk_at dksX3_lines_0 4 rfl rfl)
theorem dX3_lines_7 : decode cX3_lines 7 = .ok (.bipush 38, 2) := dk_16 38 (dk_at dksX3_lines_0 7 rfl rfl)
theorem dX3_lines_9 : decode cX3_lines 9 = .ok (.iaload, 1) := dk_46 (dk_at dksX3_lines_0 9 rfl rfl)
theorem dX3_lines_10 : decode cX3_lines 10 = .ok (.ishl, 1) := dk_120 (dk_at dksX3_lines_0 10 rfl rfl)
theorem dX3_lines_11 : decode cX3_lines 11 = .ok (.iconst 1, 1) := dk_4 (dk_at dksX3_lines_0 11 rfl rfl)
theorem dX3_lines_12 : decode cX3_lines 12 = .ok (.isub, 1) := dk_100 (dk_at dksX3_lines_0 12 rfl rfl)
theorem dX3_lines_13 : decode cX3_lines 13 = .ok (.invokestatic 56, 3) := dk_184 0 56 (dk_at dksX3_lines_0 13 rfl rfl)
theorem dX3_lines_16 : decode cX3_lines 16 = .ok (.ifCond .eq 12, 3) := dk_153 0 12 (dk_at dksX3_lines_0 16 rfl rfl)
theorem dX3_lines_19 : decode cX3_lines 19 = .ok (.iload_n 2, 1) := dk_28 (dk_at dksX3_lines_0 19 rfl rfl)
theorem dX3_lines_20 : decode cX3_lines 20 = .ok (.iconst 0, 1) := dk_3 (dk_at dksX3_lines_0 20 rfl rfl)
theorem dX3_lines_21 : decode cX3_lines 21 = .ok (.iconst 1, 1) := dk_4 (dk_at dksX3_lines_0 21 rfl rfl)
theorem dX3_lines_22 : decode cX3_lines 22 = .ok (.invokestatic 56, 3) := dk_184 0 56 (dk_at dksX3_lines_1 0 rfl rfl)
theorem dX3_lines_25 : decode cX3_lines 25 = .ok (.ifCond .ne 5, 3) := dk_154 0 5 (dk_at dksX3_lines_1 3 rfl rfl)
theorem dX3_lines_28 : decode cX3_lines 28 = .ok (.iconst (-1), 1) := dk_2 (dk_at dksX3_lines_1 6 rfl rfl)
theorem dX3_lines_29 : decode cX3_lines 29 = .ok (.ireturn, 1) := dk_172 (dk_at dksX3_lines_1 7 rfl rfl)
theorem dX3_lines_30 : decode cX3_lines 30 = .ok (.aload_n 0, 1) := dk_42 (dk_at dksX3_lines_1 8 rfl rfl)
theorem dX3_lines_31 : decode cX3_lines 31 = .ok (.invokevirtual 399, 3) := dk_182 1 143 (dk_at dksX3_lines_1 9 rfl rfl)
theorem dX3_lines_34 : decode cX3_lines 34 = .ok (.iload_n 2, 1) := dk_28 (dk_at dksX3_lines_1 12 rfl rfl)
theorem dX3_lines_35 : decode cX3_lines 35 = .ok (.ifCond .ne 10, 3) := dk_154 0 10 (dk_at dksX3_lines_1 13 rfl rfl)
theorem dX3_lines_38 : decode cX3_lines 38 = .ok (.aload_n 0, 1) := dk_42 (dk_at dksX3_lines_1 16 rfl rfl)
theorem dX3_lines_39 : decode cX3_lines 39 = .ok (.getfield 47, 3) := dk_180 0 47 (dk_at dksX3_lines_1 17 rfl rfl)
theorem dX3_lines_42 : decode cX3_lines 42 = .ok (.iload_n 1, 1) := dk_27 (dk_at dksX3_lines_1 20 rfl rfl)
theorem dX3_lines_43 : decode cX3_lines 43 = .ok (.iaload, 1) := dk_46 (dk_at dksX3_lines_1 21 rfl rfl)
theorem dX3_lines_44 : decode cX3_lines 44 = .ok (.ireturn, 1) := dk_172 (dk_at dksX3_lines_1 22 rfl rfl)
theorem dX3_lines_45 : decode cX3_lines 45 = .ok (.iconst 0, 1) := dk_3 (dk_at dksX3_lines_1 23 rfl rfl)
theorem dX3_lines_46 : decode cX3_lines 46 = .ok (.istore_n 3, 1) := dk_62 (dk_at dksX3_lines_2 0 rfl rfl)
theorem dX3_lines_47 : decode cX3_lines 47 = .ok (.iload_n 3, 1) := dk_29 (dk_at dksX3_lines_2 1 rfl rfl)
theorem dX3_lines_48 : decode cX3_lines 48 = .ok (.aload_n 0, 1) := dk_42 (dk_at dksX3_lines_2 2 rfl rfl)
theorem dX3_lines_49 : decode cX3_lines 49 = .ok (.getfield 7, 3) := dk_180 0 7 (dk_at dksX3_lines_2 3 rfl rfl)
theorem dX3_lines_52 : decode cX3_lines 52 = .ok (.bipush 38, 2) := dk_16 38 (dk_at dksX3_lines_2 6 rfl rfl)
theorem dX3_lines_54 : decode cX3_lines 54 = .ok (.iaload, 1) := dk_46 (dk_at dksX3_lines_2 8 rfl rfl)
theorem dX3_lines_55 : decode cX3_lines 55 = .ok (.if_icmp .ge 35, 3) := dk_162 0 35 (dk_at dksX3_lines_2 9 rfl rfl)
theorem dX3_lines_58 : decode cX3_lines 58 = .ok (.iload_n 1, 1) := dk_27 (dk_at dksX3_lines_2 12 rfl rfl)
theorem dX3_lines_59 : decode cX3_lines 59 = .ok (.iload_n 3, 1) := dk_29 (dk_at dksX3_lines_2 13 rfl rfl)
theorem dX3_lines_60 : decode cX3_lines 60 = .ok (.ishr, 1) := dk_122 (dk_at dksX3_lines_2 14 rfl rfl)
theorem dX3_lines_61 : decode cX3_lines 61 = .ok (.iconst 1, 1) := dk_4 (dk_at dksX3_lines_2 15 rfl rfl)
theorem dX3_lines_62 : decode cX3_lines 62 = .ok (.iand, 1) := dk_126 (dk_at dksX3_lines_2 16 rfl rfl)
theorem dX3_lines_63 : decode cX3_lines 63 = .ok (.iconst 1, 1) := dk_4 (dk_at dksX3_lines_2 17 rfl rfl)
theorem dX3_lines_64 : decode cX3_lines 64 = .ok (.if_icmp .ne 20, 3) := dk_160 0 20 (dk_at dksX3_lines_2 18 rfl rfl)
theorem dX3_lines_67 : decode cX3_lines 67 = .ok (.aload_n 0, 1) := dk_42 (dk_at dksX3_lines_2 21 rfl rfl)
theorem dX3_lines_68 : decode cX3_lines 68 = .ok (.iload_n 3, 1) := dk_29 (dk_at dksX3_lines_2 22 rfl rfl)
theorem dX3_lines_69 : decode cX3_lines 69 = .ok (.iload_n 1, 1) := dk_27 (dk_at dksX3_lines_2 23 rfl rfl)
theorem dX3_lines_70 : decode cX3_lines 70 = .ok (.invokevirtual 402, 3) := dk_182 1 146 (dk_at dksX3_lines_3 0 rfl rfl)
theorem dX3_lines_73 : decode cX3_lines 73 = .ok (.aload_n 0, 1) := dk_42 (dk_at dksX3_lines_3 3 rfl rfl)
theorem dX3_lines_74 : decode cX3_lines 74 = .ok (.getfield 47, 3) := dk_180 0 47 (dk_at dksX3_lines_3 4 rfl rfl)
theorem dX3_lines_77 : decode cX3_lines 77 = .ok (.iload_n 1, 1) := dk_27 (dk_at dksX3_lines_3 7 rfl rfl)
theorem dX3_lines_78 : decode cX3_lines 78 = .ok (.iaload, 1) := dk_46 (dk_at dksX3_lines_3 8 rfl rfl)
theorem dX3_lines_79 : decode cX3_lines 79 = .ok (.if_icmp .ne 5, 3) := dk_160 0 5 (dk_at dksX3_lines_3 9 rfl rfl)
theorem dX3_lines_82 : decode cX3_lines 82 = .ok (.iload_n 3, 1) := dk_29 (dk_at dksX3_lines_3 12 rfl rfl)
theorem dX3_lines_83 : decode cX3_lines 83 = .ok (.ireturn, 1) := dk_172 (dk_at dksX3_lines_3 13 rfl rfl)
theorem dX3_lines_84 : decode cX3_lines 84 = .ok (.iinc 3 1, 3) := dk_132 3 1 (dk_at dksX3_lines_3 14 rfl rfl)
theorem dX3_lines_87 : decode cX3_lines 87 = .ok (.goto (-40), 3) := dk_167 255 216 (dk_at dksX3_lines_3 17 rfl rfl)
theorem dX3_lines_90 : decode cX3_lines 90 = .ok (.iconst (-1), 1) := dk_2 (dk_at dksX3_lines_3 20 rfl rfl)
theorem dX3_lines_91 : decode cX3_lines 91 = .ok (.ireturn, 1) := dk_172 (dk_at dksX3_lines_3 21 rfl rfl)
abbrev cX3_laysLines : ByteArray := prog_17_method_103_code
def yX3_laysLines : MethodName := ⟨RX3, "laysLines", "()V"⟩
def dkwX3_laysLines_4 : List UInt8 := [79, 132, 2, 1, 167, 255, 190, 132, 1, 1, 167, 255, 152, 177]
abbrev dktX3_laysLines_4 : List UInt8 := dkwX3_laysLines_4 ++ []
def dkwX3_laysLines_3 : List UInt8 := [120, 2, 130, 126, 46, 42, 180, 0, 7, 16, 81, 28, 96, 46, 42, 27, 182, 1, 136, 104, 96, 184, 1, 30]
abbrev dktX3_laysLines_3 : List UInt8 := dkwX3_laysLines_3 ++ dktX3_laysLines_4
def dkwX3_laysLines_2 : List UInt8 := [4, 126, 4, 160, 0, 46, 42, 180, 0, 47, 27, 42, 180, 0, 47, 27, 46, 42, 180, 0, 47, 27, 4, 28]
abbrev dktX3_laysLines_2 : List UInt8 := dkwX3_laysLines_2 ++ dktX3_laysLines_3
def dkwX3_laysLines_1 : List UInt8 := [3, 167, 0, 6, 19, 1, 142, 79, 3, 61, 28, 42, 180, 0, 7, 16, 38, 46, 162, 0, 61, 27, 28, 122]
abbrev dktX3_laysLines_1 : List UInt8 := dkwX3_laysLines_1 ++ dktX3_laysLines_2
def dkwX3_laysLines_0 : List UInt8 := [3, 60, 27, 4, 42, 180, 0, 7, 16, 38, 46, 120, 162, 0, 97, 42, 180, 0, 47, 27, 27, 154, 0, 7]
abbrev dktX3_laysLines_0 : List UInt8 := dkwX3_laysLines_0 ++ dktX3_laysLines_1
theorem dksX3_laysLines_0 : cX3_laysLines.data.toList.drop 0 = dktX3_laysLines_0 := by decide +kernel
theorem dksX3_laysLines_1 : cX3_laysLines.data.toList.drop 24 = dktX3_laysLines_1 := dk_seg dksX3_laysLines_0 24 rfl rfl
theorem dksX3_laysLines_2 : cX3_laysLines.data.toList.drop 48 = dktX3_laysLines_2 := dk_seg dksX3_laysLines_1 24 rfl rfl
theorem dksX3_laysLines_3 : cX3_laysLines.data.toList.drop 72 = dktX3_laysLines_3 := dk_seg dksX3_laysLines_2 24 rfl rfl
theorem dksX3_laysLines_4 : cX3_laysLines.data.toList.drop 96 = dktX3_laysLines_4 := dk_seg dksX3_laysLines_3 24 rfl rfl
theorem dX3_laysLines_0 : decode cX3_laysLines 0 = .ok (.iconst 0, 1) := dk_3 (dk_at dksX3_laysLines_0 0 rfl rfl)
theorem dX3_laysLines_1 : decode cX3_laysLines 1 = .ok (.istore_n 1, 1) := dk_60 (dk_at dksX3_laysLines_0 1 rfl rfl)
theorem dX3_laysLines_2 : decode cX3_laysLines 2 = .ok (.iload_n 1, 1) := dk_27 (dk_at dksX3_laysLines_0 2 rfl rfl)
theorem dX3_laysLines_3 : decode cX3_laysLines 3 = .ok (.iconst 1, 1) := dk_4 (dk_at dksX3_laysLines_0 3 rfl rfl)
theorem dX3_laysLines_4 : decode cX3_laysLines 4 = .ok (.aload_n 0, 1) := dk_42 (dk_at dksX3_laysLines_0 4 rfl rfl)
theorem dX3_laysLines_5 : decode cX3_laysLines 5 = .ok (.getfield 7, 3) := dk_180 0 7 (dk_at dksX3_laysLines_0 5 rfl rfl)
theorem dX3_laysLines_8 : decode cX3_laysLines 8 = .ok (.bipush 38, 2) := dk_16 38 (dk_at dksX3_laysLines_0 8 rfl rfl)
theorem dX3_laysLines_10 : decode cX3_laysLines 10 = .ok (.iaload, 1) := dk_46 (dk_at dksX3_laysLines_0 10 rfl rfl)
theorem dX3_laysLines_11 : decode cX3_laysLines 11 = .ok (.ishl, 1) := dk_120 (dk_at dksX3_laysLines_0 11 rfl rfl)
theorem dX3_laysLines_12 : decode cX3_laysLines 12 = .ok (.if_icmp .ge 97, 3) := dk_162 0 97 (dk_at dksX3_laysLines_0 12 rfl rfl)
theorem dX3_laysLines_15 : decode cX3_laysLines 15 = .ok (.aload_n 0, 1) := dk_42 (dk_at dksX3_laysLines_0 15 rfl rfl)
theorem dX3_laysLines_16 : decode cX3_laysLines 16 = .ok (.getfield 47, 3) := dk_180 0 47 (dk_at dksX3_laysLines_0 16 rfl rfl)
theorem dX3_laysLines_19 : decode cX3_laysLines 19 = .ok (.iload_n 1, 1) := dk_27 (dk_at dksX3_laysLines_0 19 rfl rfl)
theorem dX3_laysLines_20 : decode cX3_laysLines 20 = .ok (.iload_n 1, 1) := dk_27 (dk_at dksX3_laysLines_0 20 rfl rfl)
theorem dX3_laysLines_21 : decode cX3_laysLines 21 = .ok (.ifCond .ne 7, 3) := dk_154 0 7 (dk_at dksX3_laysLines_0 21 rfl rfl)
theorem dX3_laysLines_24 : decode cX3_laysLines 24 = .ok (.iconst 0, 1) := dk_3 (dk_at dksX3_laysLines_1 0 rfl rfl)
theorem dX3_laysLines_25 : decode cX3_laysLines 25 = .ok (.goto 6, 3) := dk_167 0 6 (dk_at dksX3_laysLines_1 1 rfl rfl)
theorem dX3_laysLines_28 : decode cX3_laysLines 28 = .ok (.ldc_w 398, 3) := dk_19 1 142 (dk_at dksX3_laysLines_1 4 rfl rfl)
theorem dX3_laysLines_31 : decode cX3_laysLines 31 = .ok (.iastore, 1) := dk_79 (dk_at dksX3_laysLines_1 7 rfl rfl)
theorem dX3_laysLines_32 : decode cX3_laysLines 32 = .ok (.iconst 0, 1) := dk_3 (dk_at dksX3_laysLines_1 8 rfl rfl)
theorem dX3_laysLines_33 : decode cX3_laysLines 33 = .ok (.istore_n 2, 1) := dk_61 (dk_at dksX3_laysLines_1 9 rfl rfl)
theorem dX3_laysLines_34 : decode cX3_laysLines 34 = .ok (.iload_n 2, 1) := dk_28 (dk_at dksX3_laysLines_1 10 rfl rfl)
theorem dX3_laysLines_35 : decode cX3_laysLines 35 = .ok (.aload_n 0, 1) := dk_42 (dk_at dksX3_laysLines_1 11 rfl rfl)
theorem dX3_laysLines_36 : decode cX3_laysLines 36 = .ok (.getfield 7, 3) := dk_180 0 7 (dk_at dksX3_laysLines_1 12 rfl rfl)
theorem dX3_laysLines_39 : decode cX3_laysLines 39 = .ok (.bipush 38, 2) := dk_16 38 (dk_at dksX3_laysLines_1 15 rfl rfl)
theorem dX3_laysLines_41 : decode cX3_laysLines 41 = .ok (.iaload, 1) := dk_46 (dk_at dksX3_laysLines_1 17 rfl rfl)
theorem dX3_laysLines_42 : decode cX3_laysLines 42 = .ok (.if_icmp .ge 61, 3) := dk_162 0 61 (dk_at dksX3_laysLines_1 18 rfl rfl)
theorem dX3_laysLines_45 : decode cX3_laysLines 45 = .ok (.iload_n 1, 1) := dk_27 (dk_at dksX3_laysLines_1 21 rfl rfl)
theorem dX3_laysLines_46 : decode cX3_laysLines 46 = .ok (.iload_n 2, 1) := dk_28 (dk_at dksX3_laysLines_1 22 rfl rfl)
theorem dX3_laysLines_47 : decode cX3_laysLines 47 = .ok (.ishr, 1) := dk_122 (dk_at dksX3_laysLines_1 23 rfl rfl)
theorem dX3_laysLines_48 : decode cX3_laysLines 48 = .ok (.iconst 1, 1) := dk_4 (dk_at dksX3_laysLines_2 0 rfl rfl)
theorem dX3_laysLines_49 : decode cX3_laysLines 49 = .ok (.iand, 1) := dk_126 (dk_at dksX3_laysLines_2 1 rfl rfl)
theorem dX3_laysLines_50 : decode cX3_laysLines 50 = .ok (.iconst 1, 1) := dk_4 (dk_at dksX3_laysLines_2 2 rfl rfl)
theorem dX3_laysLines_51 : decode cX3_laysLines 51 = .ok (.if_icmp .ne 46, 3) := dk_160 0 46 (dk_at dksX3_laysLines_2 3 rfl rfl)
theorem dX3_laysLines_54 : decode cX3_laysLines 54 = .ok (.aload_n 0, 1) := dk_42 (dk_at dksX3_laysLines_2 6 rfl rfl)
theorem dX3_laysLines_55 : decode cX3_laysLines 55 = .ok (.getfield 47, 3) := dk_180 0 47 (dk_at dksX3_laysLines_2 7 rfl rfl)
theorem dX3_laysLines_58 : decode cX3_laysLines 58 = .ok (.iload_n 1, 1) := dk_27 (dk_at dksX3_laysLines_2 10 rfl rfl)
theorem dX3_laysLines_59 : decode cX3_laysLines 59 = .ok (.aload_n 0, 1) := dk_42 (dk_at dksX3_laysLines_2 11 rfl rfl)
theorem dX3_laysLines_60 : decode cX3_laysLines 60 = .ok (.getfield 47, 3) := dk_180 0 47 (dk_at dksX3_laysLines_2 12 rfl rfl)
theorem dX3_laysLines_63 : decode cX3_laysLines 63 = .ok (.iload_n 1, 1) := dk_27 (dk_at dksX3_laysLines_2 15 rfl rfl)
theorem dX3_laysLines_64 : decode cX3_laysLines 64 = .ok (.iaload, 1) := dk_46 (dk_at dksX3_laysLines_2 16 rfl rfl)
theorem dX3_laysLines_65 : decode cX3_laysLines 65 = .ok (.aload_n 0, 1) := dk_42 (dk_at dksX3_laysLines_2 17 rfl rfl)
theorem dX3_laysLines_66 : decode cX3_laysLines 66 = .ok (.getfield 47, 3) := dk_180 0 47 (dk_at dksX3_laysLines_2 18 rfl rfl)
theorem dX3_laysLines_69 : decode cX3_laysLines 69 = .ok (.iload_n 1, 1) := dk_27 (dk_at dksX3_laysLines_2 21 rfl rfl)
theorem dX3_laysLines_70 : decode cX3_laysLines 70 = .ok (.iconst 1, 1) := dk_4 (dk_at dksX3_laysLines_2 22 rfl rfl)
theorem dX3_laysLines_71 : decode cX3_laysLines 71 = .ok (.iload_n 2, 1) := dk_28 (dk_at dksX3_laysLines_2 23 rfl rfl)
theorem dX3_laysLines_72 : decode cX3_laysLines 72 = .ok (.ishl, 1) := dk_120 (dk_at dksX3_laysLines_3 0 rfl rfl)
theorem dX3_laysLines_73 : decode cX3_laysLines 73 = .ok (.iconst (-1), 1) := dk_2 (dk_at dksX3_laysLines_3 1 rfl rfl)
theorem dX3_laysLines_74 : decode cX3_laysLines 74 = .ok (.ixor, 1) := dk_130 (dk_at dksX3_laysLines_3 2 rfl rfl)
theorem dX3_laysLines_75 : decode cX3_laysLines 75 = .ok (.iand, 1) := dk_126 (dk_at dksX3_laysLines_3 3 rfl rfl)
theorem dX3_laysLines_76 : decode cX3_laysLines 76 = .ok (.iaload, 1) := dk_46 (dk_at dksX3_laysLines_3 4 rfl rfl)
theorem dX3_laysLines_77 : decode cX3_laysLines 77 = .ok (.aload_n 0, 1) := dk_42 (dk_at dksX3_laysLines_3 5 rfl rfl)
theorem dX3_laysLines_78 : decode cX3_laysLines 78 = .ok (.getfield 7, 3) := dk_180 0 7 (dk_at dksX3_laysLines_3 6 rfl rfl)
theorem dX3_laysLines_81 : decode cX3_laysLines 81 = .ok (.bipush 81, 2) := dk_16 81 (dk_at dksX3_laysLines_3 9 rfl rfl)
theorem dX3_laysLines_83 : decode cX3_laysLines 83 = .ok (.iload_n 2, 1) := dk_28 (dk_at dksX3_laysLines_3 11 rfl rfl)
theorem dX3_laysLines_84 : decode cX3_laysLines 84 = .ok (.iadd, 1) := dk_96 (dk_at dksX3_laysLines_3 12 rfl rfl)
theorem dX3_laysLines_85 : decode cX3_laysLines 85 = .ok (.iaload, 1) := dk_46 (dk_at dksX3_laysLines_3 13 rfl rfl)
theorem dX3_laysLines_86 : decode cX3_laysLines 86 = .ok (.aload_n 0, 1) := dk_42 (dk_at dksX3_laysLines_3 14 rfl rfl)
theorem dX3_laysLines_87 : decode cX3_laysLines 87 = .ok (.iload_n 1, 1) := dk_27 (dk_at dksX3_laysLines_3 15 rfl rfl)
theorem dX3_laysLines_88 : decode cX3_laysLines 88 = .ok (.invokevirtual 392, 3) := dk_182 1 136 (dk_at dksX3_laysLines_3 16 rfl rfl)
theorem dX3_laysLines_91 : decode cX3_laysLines 91 = .ok (.imul, 1) := dk_104 (dk_at dksX3_laysLines_3 19 rfl rfl)
theorem dX3_laysLines_92 : decode cX3_laysLines 92 = .ok (.iadd, 1) := dk_96 (dk_at dksX3_laysLines_3 20 rfl rfl)
theorem dX3_laysLines_93 : decode cX3_laysLines 93 = .ok (.invokestatic 286, 3) := dk_184 1 30 (dk_at dksX3_laysLines_3 21 rfl rfl)
theorem dX3_laysLines_96 : decode cX3_laysLines 96 = .ok (.iastore, 1) := dk_79 (dk_at dksX3_laysLines_4 0 rfl rfl)
theorem dX3_laysLines_97 : decode cX3_laysLines 97 = .ok (.iinc 2 1, 3) := dk_132 2 1 (dk_at dksX3_laysLines_4 1 rfl rfl)
theorem dX3_laysLines_100 : decode cX3_laysLines 100 = .ok (.goto (-66), 3) := dk_167 255 190 (dk_at dksX3_laysLines_4 4 rfl rfl)
theorem dX3_laysLines_103 : decode cX3_laysLines 103 = .ok (.iinc 1 1, 3) := dk_132 1 1 (dk_at dksX3_laysLines_4 7 rfl rfl)
theorem dX3_laysLines_106 : decode cX3_laysLines 106 = .ok (.goto (-104), 3) := dk_167 255 152 (dk_at dksX3_laysLines_4 10 rfl rfl)
theorem dX3_laysLines_109 : decode cX3_laysLines 109 = .ok (.return_, 1) := dk_177 (dk_at dksX3_laysLines_4 13 rfl rfl)
abbrev cX3_leastWith : ByteArray := prog_17_method_104_code
def yX3_leastWith : MethodName := ⟨RX3, "leastWith", "(II)I"⟩
def dkwX3_leastWith_1 : List UInt8 := [130, 126, 46, 96, 172]
abbrev dktX3_leastWith_1 : List UInt8 := dkwX3_leastWith_1 ++ []
def dkwX3_leastWith_0 : List UInt8 := [42, 180, 0, 7, 16, 89, 27, 96, 46, 42, 28, 182, 1, 139, 104, 42, 180, 0, 47, 28, 4, 27, 120, 2]
abbrev dktX3_leastWith_0 : List UInt8 := dkwX3_leastWith_0 ++ dktX3_leastWith_1
theorem dksX3_leastWith_0 : cX3_leastWith.data.toList.drop 0 = dktX3_leastWith_0 := by decide +kernel
theorem dksX3_leastWith_1 : cX3_leastWith.data.toList.drop 24 = dktX3_leastWith_1 := dk_seg dksX3_leastWith_0 24 rfl rfl
theorem dX3_leastWith_0 : decode cX3_leastWith 0 = .ok (.aload_n 0, 1) := dk_42 (dk_at dksX3_leastWith_0 0 rfl rfl)
theorem dX3_leastWith_1 : decode cX3_leastWith 1 = .ok (.getfield 7, 3) := dk_180 0 7 (dk_at dksX3_leastWith_0 1 rfl rfl)
theorem dX3_leastWith_4 : decode cX3_leastWith 4 = .ok (.bipush 89, 2) := dk_16 89 (dk_at dksX3_leastWith_0 4 rfl rfl)
theorem dX3_leastWith_6 : decode cX3_leastWith 6 = .ok (.iload_n 1, 1) := dk_27 (dk_at dksX3_leastWith_0 6 rfl rfl)
theorem dX3_leastWith_7 : decode cX3_leastWith 7 = .ok (.iadd, 1) := dk_96 (dk_at dksX3_leastWith_0 7 rfl rfl)
theorem dX3_leastWith_8 : decode cX3_leastWith 8 = .ok (.iaload, 1) := dk_46 (dk_at dksX3_leastWith_0 8 rfl rfl)
theorem dX3_leastWith_9 : decode cX3_leastWith 9 = .ok (.aload_n 0, 1) := dk_42 (dk_at dksX3_leastWith_0 9 rfl rfl)
theorem dX3_leastWith_10 : decode cX3_leastWith 10 = .ok (.iload_n 2, 1) := dk_28 (dk_at dksX3_leastWith_0 10 rfl rfl)
theorem dX3_leastWith_11 : decode cX3_leastWith 11 = .ok (.invokevirtual 395, 3) := dk_182 1 139 (dk_at dksX3_leastWith_0 11 rfl rfl)
theorem dX3_leastWith_14 : decode cX3_leastWith 14 = .ok (.imul, 1) := dk_104 (dk_at dksX3_leastWith_0 14 rfl rfl)
theorem dX3_leastWith_15 : decode cX3_leastWith 15 = .ok (.aload_n 0, 1) := dk_42 (dk_at dksX3_leastWith_0 15 rfl rfl)
theorem dX3_leastWith_16 : decode cX3_leastWith 16 = .ok (.getfield 47, 3) := dk_180 0 47 (dk_at dksX3_leastWith_0 16 rfl rfl)
theorem dX3_leastWith_19 : decode cX3_leastWith 19 = .ok (.iload_n 2, 1) := dk_28 (dk_at dksX3_leastWith_0 19 rfl rfl)
theorem dX3_leastWith_20 : decode cX3_leastWith 20 = .ok (.iconst 1, 1) := dk_4 (dk_at dksX3_leastWith_0 20 rfl rfl)
theorem dX3_leastWith_21 : decode cX3_leastWith 21 = .ok (.iload_n 1, 1) := dk_27 (dk_at dksX3_leastWith_0 21 rfl rfl)
theorem dX3_leastWith_22 : decode cX3_leastWith 22 = .ok (.ishl, 1) := dk_120 (dk_at dksX3_leastWith_0 22 rfl rfl)
theorem dX3_leastWith_23 : decode cX3_leastWith 23 = .ok (.iconst (-1), 1) := dk_2 (dk_at dksX3_leastWith_0 23 rfl rfl)
theorem dX3_leastWith_24 : decode cX3_leastWith 24 = .ok (.ixor, 1) := dk_130 (dk_at dksX3_leastWith_1 0 rfl rfl)
theorem dX3_leastWith_25 : decode cX3_leastWith 25 = .ok (.iand, 1) := dk_126 (dk_at dksX3_leastWith_1 1 rfl rfl)
theorem dX3_leastWith_26 : decode cX3_leastWith 26 = .ok (.iaload, 1) := dk_46 (dk_at dksX3_leastWith_1 2 rfl rfl)
theorem dX3_leastWith_27 : decode cX3_leastWith 27 = .ok (.iadd, 1) := dk_96 (dk_at dksX3_leastWith_1 3 rfl rfl)
theorem dX3_leastWith_28 : decode cX3_leastWith 28 = .ok (.ireturn, 1) := dk_172 (dk_at dksX3_leastWith_1 4 rfl rfl)
abbrev cX3_claque : ByteArray := prog_17_method_106_code
def yX3_claque : MethodName := ⟨RX3, "claque", "(II)I"⟩
def dkwX3_claque_4 : List UInt8 := [180, 0, 7, 16, 44, 92, 46, 4, 96, 79, 42, 180, 0, 7, 16, 44, 46, 172]
abbrev dktX3_claque_4 : List UInt8 := dkwX3_claque_4 ++ []
def dkwX3_claque_3 : List UInt8 := [42, 180, 0, 7, 17, 0, 197, 5, 42, 180, 0, 7, 16, 44, 46, 104, 96, 4, 96, 28, 79, 42]
abbrev dktX3_claque_3 : List UInt8 := dkwX3_claque_3 ++ dktX3_claque_4
def dkwX3_claque_2 : List UInt8 := [160, 0, 5, 2, 172, 42, 180, 0, 7, 17, 0, 197, 5, 42, 180, 0, 7, 16, 44, 46, 104, 96, 27, 79]
abbrev dktX3_claque_2 : List UInt8 := dkwX3_claque_2 ++ dktX3_claque_3
def dkwX3_claque_1 : List UInt8 := [153, 0, 25, 28, 3, 16, 12, 184, 0, 56, 153, 0, 15, 42, 180, 0, 7, 16, 44, 46, 16, 8]
abbrev dktX3_claque_1 : List UInt8 := dkwX3_claque_1 ++ dktX3_claque_2
def dkwX3_claque_0 : List UInt8 := [27, 2, 160, 0, 13, 42, 180, 0, 7, 16, 44, 3, 79, 3, 172, 27, 3, 42, 182, 1, 149, 184, 0, 56]
abbrev dktX3_claque_0 : List UInt8 := dkwX3_claque_0 ++ dktX3_claque_1
theorem dksX3_claque_0 : cX3_claque.data.toList.drop 0 = dktX3_claque_0 := by decide +kernel
theorem dksX3_claque_1 : cX3_claque.data.toList.drop 24 = dktX3_claque_1 := dk_seg dksX3_claque_0 24 rfl rfl
theorem dksX3_claque_2 : cX3_claque.data.toList.drop 46 = dktX3_claque_2 := dk_seg dksX3_claque_1 22 rfl rfl
theorem dksX3_claque_3 : cX3_claque.data.toList.drop 70 = dktX3_claque_3 := dk_seg dksX3_claque_2 24 rfl rfl
theorem dksX3_claque_4 : cX3_claque.data.toList.drop 92 = dktX3_claque_4 := dk_seg dksX3_claque_3 22 rfl rfl
theorem dX3_claque_0 : decode cX3_claque 0 = .ok (.iload_n 1, 1) := dk_27 (dk_at dksX3_claque_0 0 rfl rfl)
theorem dX3_claque_1 : decode cX3_claque 1 = .ok (.iconst (-1), 1) := dk_2 (dk_at dksX3_claque_0 1 rfl rfl)
theorem dX3_claque_2 : decode cX3_claque 2 = .ok (.if_icmp .ne 13, 3) := dk_160 0 13 (dk_at dksX3_claque_0 2 rfl rfl)
theorem dX3_claque_5 : decode cX3_claque 5 = .ok (.aload_n 0, 1) := dk_42 (dk_at dksX3_claque_0 5 rfl rfl)
theorem dX3_claque_6 : decode cX3_claque 6 = .ok (.getfield 7, 3) := dk_180 0 7 (dk_at dksX3_claque_0 6 rfl rfl)
theorem dX3_claque_9 : decode cX3_claque 9 = .ok (.bipush 44, 2) := dk_16 44 (dk_at dksX3_claque_0 9 rfl rfl)
theorem dX3_claque_11 : decode cX3_claque 11 = .ok (.iconst 0, 1) := dk_3 (dk_at dksX3_claque_0 11 rfl rfl)
theorem dX3_claque_12 : decode cX3_claque 12 = .ok (.iastore, 1) := dk_79 (dk_at dksX3_claque_0 12 rfl rfl)
theorem dX3_claque_13 : decode cX3_claque 13 = .ok (.iconst 0, 1) := dk_3 (dk_at dksX3_claque_0 13 rfl rfl)
theorem dX3_claque_14 : decode cX3_claque 14 = .ok (.ireturn, 1) := dk_172 (dk_at dksX3_claque_0 14 rfl rfl)
theorem dX3_claque_15 : decode cX3_claque 15 = .ok (.iload_n 1, 1) := dk_27 (dk_at dksX3_claque_0 15 rfl rfl)
theorem dX3_claque_16 : decode cX3_claque 16 = .ok (.iconst 0, 1) := dk_3 (dk_at dksX3_claque_0 16 rfl rfl)
theorem dX3_claque_17 : decode cX3_claque 17 = .ok (.aload_n 0, 1) := dk_42 (dk_at dksX3_claque_0 17 rfl rfl)
theorem dX3_claque_18 : decode cX3_claque 18 = .ok (.invokevirtual 405, 3) := dk_182 1 149 (dk_at dksX3_claque_0 18 rfl rfl)
theorem dX3_claque_21 : decode cX3_claque 21 = .ok (.invokestatic 56, 3) := dk_184 0 56 (dk_at dksX3_claque_0 21 rfl rfl)
theorem dX3_claque_24 : decode cX3_claque 24 = .ok (.ifCond .eq 25, 3) := dk_153 0 25 (dk_at dksX3_claque_1 0 rfl rfl)
theorem dX3_claque_27 : decode cX3_claque 27 = .ok (.iload_n 2, 1) := dk_28 (dk_at dksX3_claque_1 3 rfl rfl)
theorem dX3_claque_28 : decode cX3_claque 28 = .ok (.iconst 0, 1) := dk_3 (dk_at dksX3_claque_1 4 rfl rfl)
theorem dX3_claque_29 : decode cX3_claque 29 = .ok (.bipush 12, 2) := dk_16 12 (dk_at dksX3_claque_1 5 rfl rfl)
theorem dX3_claque_31 : decode cX3_claque 31 = .ok (.invokestatic 56, 3) := dk_184 0 56 (dk_at dksX3_claque_1 7 rfl rfl)
theorem dX3_claque_34 : decode cX3_claque 34 = .ok (.ifCond .eq 15, 3) := dk_153 0 15 (dk_at dksX3_claque_1 10 rfl rfl)
theorem dX3_claque_37 : decode cX3_claque 37 = .ok (.aload_n 0, 1) := dk_42 (dk_at dksX3_claque_1 13 rfl rfl)
theorem dX3_claque_38 : decode cX3_claque 38 = .ok (.getfield 7, 3) := dk_180 0 7 (dk_at dksX3_claque_1 14 rfl rfl)
theorem dX3_claque_41 : decode cX3_claque 41 = .ok (.bipush 44, 2) := dk_16 44 (dk_at dksX3_claque_1 17 rfl rfl)
theorem dX3_claque_43 : decode cX3_claque 43 = .ok (.iaload, 1) := dk_46 (dk_at dksX3_claque_1 19 rfl rfl)
theorem dX3_claque_44 : decode cX3_claque 44 = .ok (.bipush 8, 2) := dk_16 8 (dk_at dksX3_claque_1 20 rfl rfl)
theorem dX3_claque_46 : decode cX3_claque 46 = .ok (.if_icmp .ne 5, 3) := dk_160 0 5 (dk_at dksX3_claque_2 0 rfl rfl)
theorem dX3_claque_49 : decode cX3_claque 49 = .ok (.iconst (-1), 1) := dk_2 (dk_at dksX3_claque_2 3 rfl rfl)
theorem dX3_claque_50 : decode cX3_claque 50 = .ok (.ireturn, 1) := dk_172 (dk_at dksX3_claque_2 4 rfl rfl)
theorem dX3_claque_51 : decode cX3_claque 51 = .ok (.aload_n 0, 1) := dk_42 (dk_at dksX3_claque_2 5 rfl rfl)
theorem dX3_claque_52 : decode cX3_claque 52 = .ok (.getfield 7, 3) := dk_180 0 7 (dk_at dksX3_claque_2 6 rfl rfl)
theorem dX3_claque_55 : decode cX3_claque 55 = .ok (.sipush 197, 3) := dk_17 0 197 (dk_at dksX3_claque_2 9 rfl rfl)
theorem dX3_claque_58 : decode cX3_claque 58 = .ok (.iconst 2, 1) := dk_5 (dk_at dksX3_claque_2 12 rfl rfl)
theorem dX3_claque_59 : decode cX3_claque 59 = .ok (.aload_n 0, 1) := dk_42 (dk_at dksX3_claque_2 13 rfl rfl)
theorem dX3_claque_60 : decode cX3_claque 60 = .ok (.getfield 7, 3) := dk_180 0 7 (dk_at dksX3_claque_2 14 rfl rfl)
theorem dX3_claque_63 : decode cX3_claque 63 = .ok (.bipush 44, 2) := dk_16 44 (dk_at dksX3_claque_2 17 rfl rfl)
theorem dX3_claque_65 : decode cX3_claque 65 = .ok (.iaload, 1) := dk_46 (dk_at dksX3_claque_2 19 rfl rfl)
theorem dX3_claque_66 : decode cX3_claque 66 = .ok (.imul, 1) := dk_104 (dk_at dksX3_claque_2 20 rfl rfl)
theorem dX3_claque_67 : decode cX3_claque 67 = .ok (.iadd, 1) := dk_96 (dk_at dksX3_claque_2 21 rfl rfl)
theorem dX3_claque_68 : decode cX3_claque 68 = .ok (.iload_n 1, 1) := dk_27 (dk_at dksX3_claque_2 22 rfl rfl)
theorem dX3_claque_69 : decode cX3_claque 69 = .ok (.iastore, 1) := dk_79 (dk_at dksX3_claque_2 23 rfl rfl)
theorem dX3_claque_70 : decode cX3_claque 70 = .ok (.aload_n 0, 1) := dk_42 (dk_at dksX3_claque_3 0 rfl rfl)
theorem dX3_claque_71 : decode cX3_claque 71 = .ok (.getfield 7, 3) := dk_180 0 7 (dk_at dksX3_claque_3 1 rfl rfl)
theorem dX3_claque_74 : decode cX3_claque 74 = .ok (.sipush 197, 3) := dk_17 0 197 (dk_at dksX3_claque_3 4 rfl rfl)
theorem dX3_claque_77 : decode cX3_claque 77 = .ok (.iconst 2, 1) := dk_5 (dk_at dksX3_claque_3 7 rfl rfl)
theorem dX3_claque_78 : decode cX3_claque 78 = .ok (.aload_n 0, 1) := dk_42 (dk_at dksX3_claque_3 8 rfl rfl)
theorem dX3_claque_79 : decode cX3_claque 79 = .ok (.getfield 7, 3) := dk_180 0 7 (dk_at dksX3_claque_3 9 rfl rfl)
theorem dX3_claque_82 : decode cX3_claque 82 = .ok (.bipush 44, 2) := dk_16 44 (dk_at dksX3_claque_3 12 rfl rfl)
theorem dX3_claque_84 : decode cX3_claque 84 = .ok (.iaload, 1) := dk_46 (dk_at dksX3_claque_3 14 rfl rfl)
theorem dX3_claque_85 : decode cX3_claque 85 = .ok (.imul, 1) := dk_104 (dk_at dksX3_claque_3 15 rfl rfl)
theorem dX3_claque_86 : decode cX3_claque 86 = .ok (.iadd, 1) := dk_96 (dk_at dksX3_claque_3 16 rfl rfl)
theorem dX3_claque_87 : decode cX3_claque 87 = .ok (.iconst 1, 1) := dk_4 (dk_at dksX3_claque_3 17 rfl rfl)
theorem dX3_claque_88 : decode cX3_claque 88 = .ok (.iadd, 1) := dk_96 (dk_at dksX3_claque_3 18 rfl rfl)
theorem dX3_claque_89 : decode cX3_claque 89 = .ok (.iload_n 2, 1) := dk_28 (dk_at dksX3_claque_3 19 rfl rfl)
theorem dX3_claque_90 : decode cX3_claque 90 = .ok (.iastore, 1) := dk_79 (dk_at dksX3_claque_3 20 rfl rfl)
theorem dX3_claque_91 : decode cX3_claque 91 = .ok (.aload_n 0, 1) := dk_42 (dk_at dksX3_claque_3 21 rfl rfl)
theorem dX3_claque_92 : decode cX3_claque 92 = .ok (.getfield 7, 3) := dk_180 0 7 (dk_at dksX3_claque_4 0 rfl rfl)
theorem dX3_claque_95 : decode cX3_claque 95 = .ok (.bipush 44, 2) := dk_16 44 (dk_at dksX3_claque_4 3 rfl rfl)
theorem dX3_claque_97 : decode cX3_claque 97 = .ok (.dup2, 1) := dk_92 (dk_at dksX3_claque_4 5 rfl rfl)
theorem dX3_claque_98 : decode cX3_claque 98 = .ok (.iaload, 1) := dk_46 (dk_at dksX3_claque_4 6 rfl rfl)
theorem dX3_claque_99 : decode cX3_claque 99 = .ok (.iconst 1, 1) := dk_4 (dk_at dksX3_claque_4 7 rfl rfl)
theorem dX3_claque_100 : decode cX3_claque 100 = .ok (.iadd, 1) := dk_96 (dk_at dksX3_claque_4 8 rfl rfl)
theorem dX3_claque_101 : decode cX3_claque 101 = .ok (.iastore, 1) := dk_79 (dk_at dksX3_claque_4 9 rfl rfl)
theorem dX3_claque_102 : decode cX3_claque 102 = .ok (.aload_n 0, 1) := dk_42 (dk_at dksX3_claque_4 10 rfl rfl)
theorem dX3_claque_103 : decode cX3_claque 103 = .ok (.getfield 7, 3) := dk_180 0 7 (dk_at dksX3_claque_4 11 rfl rfl)
theorem dX3_claque_106 : decode cX3_claque 106 = .ok (.bipush 44, 2) := dk_16 44 (dk_at dksX3_claque_4 14 rfl rfl)
theorem dX3_claque_108 : decode cX3_claque 108 = .ok (.iaload, 1) := dk_46 (dk_at dksX3_claque_4 16 rfl rfl)
theorem dX3_claque_109 : decode cX3_claque 109 = .ok (.ireturn, 1) := dk_172 (dk_at dksX3_claque_4 17 rfl rfl)
abbrev cX3_allHearers : ByteArray := prog_17_method_9_code
def yX3_allHearers : MethodName := ⟨RX3, "allHearers", "()I"⟩
def dkwX3_allHearers_0 : List UInt8 := [4, 42, 180, 0, 7, 16, 37, 46, 120, 4, 100, 172]
abbrev dktX3_allHearers_0 : List UInt8 := dkwX3_allHearers_0 ++ []
theorem dksX3_allHearers_0 : cX3_allHearers.data.toList.drop 0 = dktX3_allHearers_0 := by decide +kernel
theorem dX3_allHearers_0 : decode cX3_allHearers 0 = .ok (.iconst 1, 1) := dk_4 (dk_at dksX3_allHearers_0 0 rfl rfl)
theorem dX3_allHearers_1 : decode cX3_allHearers 1 = .ok (.aload_n 0, 1) := dk_42 (dk_at dksX3_allHearers_0 1 rfl rfl)
theorem dX3_allHearers_2 : decode cX3_allHearers 2 = .ok (.getfield 7, 3) := dk_180 0 7 (dk_at dksX3_allHearers_0 2 rfl rfl)
theorem dX3_allHearers_5 : decode cX3_allHearers 5 = .ok (.bipush 37, 2) := dk_16 37 (dk_at dksX3_allHearers_0 5 rfl rfl)
theorem dX3_allHearers_7 : decode cX3_allHearers 7 = .ok (.iaload, 1) := dk_46 (dk_at dksX3_allHearers_0 7 rfl rfl)
theorem dX3_allHearers_8 : decode cX3_allHearers 8 = .ok (.ishl, 1) := dk_120 (dk_at dksX3_allHearers_0 8 rfl rfl)
theorem dX3_allHearers_9 : decode cX3_allHearers 9 = .ok (.iconst 1, 1) := dk_4 (dk_at dksX3_allHearers_0 9 rfl rfl)
theorem dX3_allHearers_10 : decode cX3_allHearers 10 = .ok (.isub, 1) := dk_100 (dk_at dksX3_allHearers_0 10 rfl rfl)
theorem dX3_allHearers_11 : decode cX3_allHearers 11 = .ok (.ireturn, 1) := dk_172 (dk_at dksX3_allHearers_0 11 rfl rfl)
abbrev cX3_fits : ByteArray := prog_17_method_109_code
def yX3_fits : MethodName := ⟨RX3, "fits", "(I)I"⟩
def dkwX3_fits_7 : List UInt8 := [28, 172, 29, 172, 21, 4, 172, 28, 5, 162, 0, 7, 2, 167, 0, 8, 42, 28, 182, 1, 155, 172]
abbrev dktX3_fits_7 : List UInt8 := dkwX3_fits_7 ++ []
def dkwX3_fits_6 : List UInt8 := [170, 0, 0, 0, 32, 0, 0, 0, 0, 0, 0, 0, 2, 0, 0, 0, 25, 0, 0, 0, 27, 0, 0, 0, 29]
abbrev dktX3_fits_6 : List UInt8 := dkwX3_fits_6 ++ dktX3_fits_7
def dkwX3_fits_5 : List UInt8 := [167, 255, 224, 132, 5, 1, 167, 255, 175, 27]
abbrev dktX3_fits_5 : List UInt8 := dkwX3_fits_5 ++ dktX3_fits_6
def dkwX3_fits_4 : List UInt8 := [162, 0, 26, 42, 180, 0, 50, 21, 6, 92, 46, 21, 5, 21, 6, 122, 4, 126, 96, 79, 132, 6, 1]
abbrev dktX3_fits_4 : List UInt8 := dkwX3_fits_4 ++ dktX3_fits_5
def dkwX3_fits_3 : List UInt8 := [21, 5, 167, 0, 4, 29, 62, 21, 5, 54, 4, 3, 54, 6, 21, 6, 42, 180, 0, 7, 16, 37, 46]
abbrev dktX3_fits_3 : List UInt8 := dkwX3_fits_3 ++ dktX3_fits_4
def dkwX3_fits_2 : List UInt8 := [163, 0, 78, 42, 21, 5, 182, 1, 152, 154, 0, 6, 167, 0, 60, 132, 2, 1, 29, 2, 160, 0, 8]
abbrev dktX3_fits_2 : List UInt8 := dkwX3_fits_2 ++ dktX3_fits_3
def dkwX3_fits_1 : List UInt8 := [3, 79, 132, 2, 1, 167, 255, 240, 3, 61, 2, 62, 2, 54, 4, 3, 54, 5, 21, 5, 42, 182, 1, 149]
abbrev dktX3_fits_1 : List UInt8 := dkwX3_fits_1 ++ dktX3_fits_2
def dkwX3_fits_0 : List UInt8 := [27, 3, 6, 184, 0, 56, 154, 0, 5, 2, 172, 3, 61, 28, 16, 12, 162, 0, 16, 42, 180, 0, 50, 28]
abbrev dktX3_fits_0 : List UInt8 := dkwX3_fits_0 ++ dktX3_fits_1
theorem dksX3_fits_0 : cX3_fits.data.toList.drop 0 = dktX3_fits_0 := by decide +kernel
theorem dksX3_fits_1 : cX3_fits.data.toList.drop 24 = dktX3_fits_1 := dk_seg dksX3_fits_0 24 rfl rfl
theorem dksX3_fits_2 : cX3_fits.data.toList.drop 48 = dktX3_fits_2 := dk_seg dksX3_fits_1 24 rfl rfl
theorem dksX3_fits_3 : cX3_fits.data.toList.drop 71 = dktX3_fits_3 := dk_seg dksX3_fits_2 23 rfl rfl
theorem dksX3_fits_4 : cX3_fits.data.toList.drop 94 = dktX3_fits_4 := dk_seg dksX3_fits_3 23 rfl rfl
theorem dksX3_fits_5 : cX3_fits.data.toList.drop 117 = dktX3_fits_5 := dk_seg dksX3_fits_4 23 rfl rfl
theorem dksX3_fits_6 : cX3_fits.data.toList.drop 127 = dktX3_fits_6 := dk_seg dksX3_fits_5 10 rfl rfl
theorem dksX3_fits_7 : cX3_fits.data.toList.drop 152 = dktX3_fits_7 := dk_seg dksX3_fits_6 25 rfl rfl
theorem dX3_fits_0 : decode cX3_fits 0 = .ok (.iload_n 1, 1) := dk_27 (dk_at dksX3_fits_0 0 rfl rfl)
theorem dX3_fits_1 : decode cX3_fits 1 = .ok (.iconst 0, 1) := dk_3 (dk_at dksX3_fits_0 1 rfl rfl)
theorem dX3_fits_2 : decode cX3_fits 2 = .ok (.iconst 3, 1) := dk_6 (dk_at dksX3_fits_0 2 rfl rfl)
theorem dX3_fits_3 : decode cX3_fits 3 = .ok (.invokestatic 56, 3) := dk_184 0 56 (dk_at dksX3_fits_0 3 rfl rfl)
theorem dX3_fits_6 : decode cX3_fits 6 = .ok (.ifCond .ne 5, 3) := dk_154 0 5 (dk_at dksX3_fits_0 6 rfl rfl)
theorem dX3_fits_9 : decode cX3_fits 9 = .ok (.iconst (-1), 1) := dk_2 (dk_at dksX3_fits_0 9 rfl rfl)
theorem dX3_fits_10 : decode cX3_fits 10 = .ok (.ireturn, 1) := dk_172 (dk_at dksX3_fits_0 10 rfl rfl)
theorem dX3_fits_11 : decode cX3_fits 11 = .ok (.iconst 0, 1) := dk_3 (dk_at dksX3_fits_0 11 rfl rfl)
theorem dX3_fits_12 : decode cX3_fits 12 = .ok (.istore_n 2, 1) := dk_61 (dk_at dksX3_fits_0 12 rfl rfl)
theorem dX3_fits_13 : decode cX3_fits 13 = .ok (.iload_n 2, 1) := dk_28 (dk_at dksX3_fits_0 13 rfl rfl)
theorem dX3_fits_14 : decode cX3_fits 14 = .ok (.bipush 12, 2) := dk_16 12 (dk_at dksX3_fits_0 14 rfl rfl)
theorem dX3_fits_16 : decode cX3_fits 16 = .ok (.if_icmp .ge 16, 3) := dk_162 0 16 (dk_at dksX3_fits_0 16 rfl rfl)
theorem dX3_fits_19 : decode cX3_fits 19 = .ok (.aload_n 0, 1) := dk_42 (dk_at dksX3_fits_0 19 rfl rfl)
theorem dX3_fits_20 : decode cX3_fits 20 = .ok (.getfield 50, 3) := dk_180 0 50 (dk_at dksX3_fits_0 20 rfl rfl)
theorem dX3_fits_23 : decode cX3_fits 23 = .ok (.iload_n 2, 1) := dk_28 (dk_at dksX3_fits_0 23 rfl rfl)
theorem dX3_fits_24 : decode cX3_fits 24 = .ok (.iconst 0, 1) := dk_3 (dk_at dksX3_fits_1 0 rfl rfl)
theorem dX3_fits_25 : decode cX3_fits 25 = .ok (.iastore, 1) := dk_79 (dk_at dksX3_fits_1 1 rfl rfl)
theorem dX3_fits_26 : decode cX3_fits 26 = .ok (.iinc 2 1, 3) := dk_132 2 1 (dk_at dksX3_fits_1 2 rfl rfl)
theorem dX3_fits_29 : decode cX3_fits 29 = .ok (.goto (-16), 3) := dk_167 255 240 (dk_at dksX3_fits_1 5 rfl rfl)
theorem dX3_fits_32 : decode cX3_fits 32 = .ok (.iconst 0, 1) := dk_3 (dk_at dksX3_fits_1 8 rfl rfl)
theorem dX3_fits_33 : decode cX3_fits 33 = .ok (.istore_n 2, 1) := dk_61 (dk_at dksX3_fits_1 9 rfl rfl)
theorem dX3_fits_34 : decode cX3_fits 34 = .ok (.iconst (-1), 1) := dk_2 (dk_at dksX3_fits_1 10 rfl rfl)
theorem dX3_fits_35 : decode cX3_fits 35 = .ok (.istore_n 3, 1) := dk_62 (dk_at dksX3_fits_1 11 rfl rfl)
theorem dX3_fits_36 : decode cX3_fits 36 = .ok (.iconst (-1), 1) := dk_2 (dk_at dksX3_fits_1 12 rfl rfl)
theorem dX3_fits_37 : decode cX3_fits 37 = .ok (.istore 4, 2) := dk_54 4 (dk_at dksX3_fits_1 13 rfl rfl)
theorem dX3_fits_39 : decode cX3_fits 39 = .ok (.iconst 0, 1) := dk_3 (dk_at dksX3_fits_1 15 rfl rfl)
theorem dX3_fits_40 : decode cX3_fits 40 = .ok (.istore 5, 2) := dk_54 5 (dk_at dksX3_fits_1 16 rfl rfl)
theorem dX3_fits_42 : decode cX3_fits 42 = .ok (.iload 5, 2) := dk_21 5 (dk_at dksX3_fits_1 18 rfl rfl)
theorem dX3_fits_44 : decode cX3_fits 44 = .ok (.aload_n 0, 1) := dk_42 (dk_at dksX3_fits_1 20 rfl rfl)
theorem dX3_fits_45 : decode cX3_fits 45 = .ok (.invokevirtual 405, 3) := dk_182 1 149 (dk_at dksX3_fits_1 21 rfl rfl)
theorem dX3_fits_48 : decode cX3_fits 48 = .ok (.if_icmp .gt 78, 3) := dk_163 0 78 (dk_at dksX3_fits_2 0 rfl rfl)
theorem dX3_fits_51 : decode cX3_fits 51 = .ok (.aload_n 0, 1) := dk_42 (dk_at dksX3_fits_2 3 rfl rfl)
theorem dX3_fits_52 : decode cX3_fits 52 = .ok (.iload 5, 2) := dk_21 5 (dk_at dksX3_fits_2 4 rfl rfl)
theorem dX3_fits_54 : decode cX3_fits 54 = .ok (.invokevirtual 408, 3) := dk_182 1 152 (dk_at dksX3_fits_2 6 rfl rfl)
theorem dX3_fits_57 : decode cX3_fits 57 = .ok (.ifCond .ne 6, 3) := dk_154 0 6 (dk_at dksX3_fits_2 9 rfl rfl)
theorem dX3_fits_60 : decode cX3_fits 60 = .ok (.goto 60, 3) := dk_167 0 60 (dk_at dksX3_fits_2 12 rfl rfl)
theorem dX3_fits_63 : decode cX3_fits 63 = .ok (.iinc 2 1, 3) := dk_132 2 1 (dk_at dksX3_fits_2 15 rfl rfl)
theorem dX3_fits_66 : decode cX3_fits 66 = .ok (.iload_n 3, 1) := dk_29 (dk_at dksX3_fits_2 18 rfl rfl)
theorem dX3_fits_67 : decode cX3_fits 67 = .ok (.iconst (-1), 1) := dk_2 (dk_at dksX3_fits_2 19 rfl rfl)
theorem dX3_fits_68 : decode cX3_fits 68 = .ok (.if_icmp .ne 8, 3) := dk_160 0 8 (dk_at dksX3_fits_2 20 rfl rfl)
theorem dX3_fits_71 : decode cX3_fits 71 = .ok (.iload 5, 2) := dk_21 5 (dk_at dksX3_fits_3 0 rfl rfl)
theorem dX3_fits_73 : decode cX3_fits 73 = .ok (.goto 4, 3) := dk_167 0 4 (dk_at dksX3_fits_3 2 rfl rfl)
theorem dX3_fits_76 : decode cX3_fits 76 = .ok (.iload_n 3, 1) := dk_29 (dk_at dksX3_fits_3 5 rfl rfl)
theorem dX3_fits_77 : decode cX3_fits 77 = .ok (.istore_n 3, 1) := dk_62 (dk_at dksX3_fits_3 6 rfl rfl)
theorem dX3_fits_78 : decode cX3_fits 78 = .ok (.iload 5, 2) := dk_21 5 (dk_at dksX3_fits_3 7 rfl rfl)
theorem dX3_fits_80 : decode cX3_fits 80 = .ok (.istore 4, 2) := dk_54 4 (dk_at dksX3_fits_3 9 rfl rfl)
theorem dX3_fits_82 : decode cX3_fits 82 = .ok (.iconst 0, 1) := dk_3 (dk_at dksX3_fits_3 11 rfl rfl)
theorem dX3_fits_83 : decode cX3_fits 83 = .ok (.istore 6, 2) := dk_54 6 (dk_at dksX3_fits_3 12 rfl rfl)
theorem dX3_fits_85 : decode cX3_fits 85 = .ok (.iload 6, 2) := dk_21 6 (dk_at dksX3_fits_3 14 rfl rfl)
theorem dX3_fits_87 : decode cX3_fits 87 = .ok (.aload_n 0, 1) := dk_42 (dk_at dksX3_fits_3 16 rfl rfl)
theorem dX3_fits_88 : decode cX3_fits 88 = .ok (.getfield 7, 3) := dk_180 0 7 (dk_at dksX3_fits_3 17 rfl rfl)
theorem dX3_fits_91 : decode cX3_fits 91 = .ok (.bipush 37, 2) := dk_16 37 (dk_at dksX3_fits_3 20 rfl rfl)
theorem dX3_fits_93 : decode cX3_fits 93 = .ok (.iaload, 1) := dk_46 (dk_at dksX3_fits_3 22 rfl rfl)
theorem dX3_fits_94 : decode cX3_fits 94 = .ok (.if_icmp .ge 26, 3) := dk_162 0 26 (dk_at dksX3_fits_4 0 rfl rfl)
theorem dX3_fits_97 : decode cX3_fits 97 = .ok (.aload_n 0, 1) := dk_42 (dk_at dksX3_fits_4 3 rfl rfl)
theorem dX3_fits_98 : decode cX3_fits 98 = .ok (.getfield 50, 3) := dk_180 0 50 (dk_at dksX3_fits_4 4 rfl rfl)
theorem dX3_fits_101 : decode cX3_fits 101 = .ok (.iload 6, 2) := dk_21 6 (dk_at dksX3_fits_4 7 rfl rfl)
theorem dX3_fits_103 : decode cX3_fits 103 = .ok (.dup2, 1) := dk_92 (dk_at dksX3_fits_4 9 rfl rfl)
theorem dX3_fits_104 : decode cX3_fits 104 = .ok (.iaload, 1) := dk_46 (dk_at dksX3_fits_4 10 rfl rfl)
theorem dX3_fits_105 : decode cX3_fits 105 = .ok (.iload 5, 2) := dk_21 5 (dk_at dksX3_fits_4 11 rfl rfl)
theorem dX3_fits_107 : decode cX3_fits 107 = .ok (.iload 6, 2) := dk_21 6 (dk_at dksX3_fits_4 13 rfl rfl)
theorem dX3_fits_109 : decode cX3_fits 109 = .ok (.ishr, 1) := dk_122 (dk_at dksX3_fits_4 15 rfl rfl)
theorem dX3_fits_110 : decode cX3_fits 110 = .ok (.iconst 1, 1) := dk_4 (dk_at dksX3_fits_4 16 rfl rfl)
theorem dX3_fits_111 : decode cX3_fits 111 = .ok (.iand, 1) := dk_126 (dk_at dksX3_fits_4 17 rfl rfl)
theorem dX3_fits_112 : decode cX3_fits 112 = .ok (.iadd, 1) := dk_96 (dk_at dksX3_fits_4 18 rfl rfl)
theorem dX3_fits_113 : decode cX3_fits 113 = .ok (.iastore, 1) := dk_79 (dk_at dksX3_fits_4 19 rfl rfl)
theorem dX3_fits_114 : decode cX3_fits 114 = .ok (.iinc 6 1, 3) := dk_132 6 1 (dk_at dksX3_fits_4 20 rfl rfl)
theorem dX3_fits_117 : decode cX3_fits 117 = .ok (.goto (-32), 3) := dk_167 255 224 (dk_at dksX3_fits_5 0 rfl rfl)
theorem dX3_fits_120 : decode cX3_fits 120 = .ok (.iinc 5 1, 3) := dk_132 5 1 (dk_at dksX3_fits_5 3 rfl rfl)
theorem dX3_fits_123 : decode cX3_fits 123 = .ok (.goto (-81), 3) := dk_167 255 175 (dk_at dksX3_fits_5 6 rfl rfl)
theorem dX3_fits_126 : decode cX3_fits 126 = .ok (.iload_n 1, 1) := dk_27 (dk_at dksX3_fits_5 9 rfl rfl)
theorem dX3_fits_127 : decode cX3_fits 127 = .ok (.tableswitch 32 0 2 #[25, 27, 29], 25) := by decide +kernel
theorem dX3_fits_152 : decode cX3_fits 152 = .ok (.iload_n 2, 1) := dk_28 (dk_at dksX3_fits_7 0 rfl rfl)
theorem dX3_fits_153 : decode cX3_fits 153 = .ok (.ireturn, 1) := dk_172 (dk_at dksX3_fits_7 1 rfl rfl)
theorem dX3_fits_154 : decode cX3_fits 154 = .ok (.iload_n 3, 1) := dk_29 (dk_at dksX3_fits_7 2 rfl rfl)
theorem dX3_fits_155 : decode cX3_fits 155 = .ok (.ireturn, 1) := dk_172 (dk_at dksX3_fits_7 3 rfl rfl)
theorem dX3_fits_156 : decode cX3_fits 156 = .ok (.iload 4, 2) := dk_21 4 (dk_at dksX3_fits_7 4 rfl rfl)
theorem dX3_fits_158 : decode cX3_fits 158 = .ok (.ireturn, 1) := dk_172 (dk_at dksX3_fits_7 6 rfl rfl)
theorem dX3_fits_159 : decode cX3_fits 159 = .ok (.iload_n 2, 1) := dk_28 (dk_at dksX3_fits_7 7 rfl rfl)
theorem dX3_fits_160 : decode cX3_fits 160 = .ok (.iconst 2, 1) := dk_5 (dk_at dksX3_fits_7 8 rfl rfl)
theorem dX3_fits_161 : decode cX3_fits 161 = .ok (.if_icmp .ge 7, 3) := dk_162 0 7 (dk_at dksX3_fits_7 9 rfl rfl)
theorem dX3_fits_164 : decode cX3_fits 164 = .ok (.iconst (-1), 1) := dk_2 (dk_at dksX3_fits_7 12 rfl rfl)
theorem dX3_fits_165 : decode cX3_fits 165 = .ok (.goto 8, 3) := dk_167 0 8 (dk_at dksX3_fits_7 13 rfl rfl)
theorem dX3_fits_168 : decode cX3_fits 168 = .ok (.aload_n 0, 1) := dk_42 (dk_at dksX3_fits_7 16 rfl rfl)
theorem dX3_fits_169 : decode cX3_fits 169 = .ok (.iload_n 2, 1) := dk_28 (dk_at dksX3_fits_7 17 rfl rfl)
theorem dX3_fits_170 : decode cX3_fits 170 = .ok (.invokevirtual 411, 3) := dk_182 1 155 (dk_at dksX3_fits_7 18 rfl rfl)
theorem dX3_fits_173 : decode cX3_fits 173 = .ok (.ireturn, 1) := dk_172 (dk_at dksX3_fits_7 21 rfl rfl)
abbrev cX3_couldBe : ByteArray := prog_17_method_107_code
def yX3_couldBe : MethodName := ⟨RX3, "couldBe", "(I)Z"⟩
def dkwX3_couldBe_2 : List UInt8 := [172, 132, 2, 1, 167, 255, 206, 4, 172]
abbrev dktX3_couldBe_2 : List UInt8 := dkwX3_couldBe_2 ++ []
def dkwX3_couldBe_1 : List UInt8 := [96, 46, 126, 184, 1, 63, 42, 180, 0, 7, 17, 0, 197, 5, 28, 104, 96, 4, 96, 46, 159, 0, 5, 3]
abbrev dktX3_couldBe_1 : List UInt8 := dkwX3_couldBe_1 ++ dktX3_couldBe_2
def dkwX3_couldBe_0 : List UInt8 := [3, 61, 28, 42, 180, 0, 7, 16, 44, 46, 162, 0, 45, 27, 42, 180, 0, 7, 17, 0, 197, 5, 28, 104]
abbrev dktX3_couldBe_0 : List UInt8 := dkwX3_couldBe_0 ++ dktX3_couldBe_1
theorem dksX3_couldBe_0 : cX3_couldBe.data.toList.drop 0 = dktX3_couldBe_0 := by decide +kernel
theorem dksX3_couldBe_1 : cX3_couldBe.data.toList.drop 24 = dktX3_couldBe_1 := dk_seg dksX3_couldBe_0 24 rfl rfl
theorem dksX3_couldBe_2 : cX3_couldBe.data.toList.drop 48 = dktX3_couldBe_2 := dk_seg dksX3_couldBe_1 24 rfl rfl
theorem dX3_couldBe_0 : decode cX3_couldBe 0 = .ok (.iconst 0, 1) := dk_3 (dk_at dksX3_couldBe_0 0 rfl rfl)
theorem dX3_couldBe_1 : decode cX3_couldBe 1 = .ok (.istore_n 2, 1) := dk_61 (dk_at dksX3_couldBe_0 1 rfl rfl)
theorem dX3_couldBe_2 : decode cX3_couldBe 2 = .ok (.iload_n 2, 1) := dk_28 (dk_at dksX3_couldBe_0 2 rfl rfl)
theorem dX3_couldBe_3 : decode cX3_couldBe 3 = .ok (.aload_n 0, 1) := dk_42 (dk_at dksX3_couldBe_0 3 rfl rfl)
theorem dX3_couldBe_4 : decode cX3_couldBe 4 = .ok (.getfield 7, 3) := dk_180 0 7 (dk_at dksX3_couldBe_0 4 rfl rfl)
theorem dX3_couldBe_7 : decode cX3_couldBe 7 = .ok (.bipush 44, 2) := dk_16 44 (dk_at dksX3_couldBe_0 7 rfl rfl)
theorem dX3_couldBe_9 : decode cX3_couldBe 9 = .ok (.iaload, 1) := dk_46 (dk_at dksX3_couldBe_0 9 rfl rfl)
theorem dX3_couldBe_10 : decode cX3_couldBe 10 = .ok (.if_icmp .ge 45, 3) := dk_162 0 45 (dk_at dksX3_couldBe_0 10 rfl rfl)
theorem dX3_couldBe_13 : decode cX3_couldBe 13 = .ok (.iload_n 1, 1) := dk_27 (dk_at dksX3_couldBe_0 13 rfl rfl)
theorem dX3_couldBe_14 : decode cX3_couldBe 14 = .ok (.aload_n 0, 1) := dk_42 (dk_at dksX3_couldBe_0 14 rfl rfl)
theorem dX3_couldBe_15 : decode cX3_couldBe 15 = .ok (.getfield 7, 3) := dk_180 0 7 (dk_at dksX3_couldBe_0 15 rfl rfl)
theorem dX3_couldBe_18 : decode cX3_couldBe 18 = .ok (.sipush 197, 3) := dk_17 0 197 (dk_at dksX3_couldBe_0 18 rfl rfl)
theorem dX3_couldBe_21 : decode cX3_couldBe 21 = .ok (.iconst 2, 1) := dk_5 (dk_at dksX3_couldBe_0 21 rfl rfl)
theorem dX3_couldBe_22 : decode cX3_couldBe 22 = .ok (.iload_n 2, 1) := dk_28 (dk_at dksX3_couldBe_0 22 rfl rfl)
theorem dX3_couldBe_23 : decode cX3_couldBe 23 = .ok (.imul, 1) := dk_104 (dk_at dksX3_couldBe_0 23 rfl rfl)
theorem dX3_couldBe_24 : decode cX3_couldBe 24 = .ok (.iadd, 1) := dk_96 (dk_at dksX3_couldBe_1 0 rfl rfl)
theorem dX3_couldBe_25 : decode cX3_couldBe 25 = .ok (.iaload, 1) := dk_46 (dk_at dksX3_couldBe_1 1 rfl rfl)
theorem dX3_couldBe_26 : decode cX3_couldBe 26 = .ok (.iand, 1) := dk_126 (dk_at dksX3_couldBe_1 2 rfl rfl)
theorem dX3_couldBe_27 : decode cX3_couldBe 27 = .ok (.invokestatic 319, 3) := dk_184 1 63 (dk_at dksX3_couldBe_1 3 rfl rfl)
theorem dX3_couldBe_30 : decode cX3_couldBe 30 = .ok (.aload_n 0, 1) := dk_42 (dk_at dksX3_couldBe_1 6 rfl rfl)
theorem dX3_couldBe_31 : decode cX3_couldBe 31 = .ok (.getfield 7, 3) := dk_180 0 7 (dk_at dksX3_couldBe_1 7 rfl rfl)
theorem dX3_couldBe_34 : decode cX3_couldBe 34 = .ok (.sipush 197, 3) := dk_17 0 197 (dk_at dksX3_couldBe_1 10 rfl rfl)
theorem dX3_couldBe_37 : decode cX3_couldBe 37 = .ok (.iconst 2, 1) := dk_5 (dk_at dksX3_couldBe_1 13 rfl rfl)
theorem dX3_couldBe_38 : decode cX3_couldBe 38 = .ok (.iload_n 2, 1) := dk_28 (dk_at dksX3_couldBe_1 14 rfl rfl)
theorem dX3_couldBe_39 : decode cX3_couldBe 39 = .ok (.imul, 1) := dk_104 (dk_at dksX3_couldBe_1 15 rfl rfl)
theorem dX3_couldBe_40 : decode cX3_couldBe 40 = .ok (.iadd, 1) := dk_96 (dk_at dksX3_couldBe_1 16 rfl rfl)
theorem dX3_couldBe_41 : decode cX3_couldBe 41 = .ok (.iconst 1, 1) := dk_4 (dk_at dksX3_couldBe_1 17 rfl rfl)
theorem dX3_couldBe_42 : decode cX3_couldBe 42 = .ok (.iadd, 1) := dk_96 (dk_at dksX3_couldBe_1 18 rfl rfl)
theorem dX3_couldBe_43 : decode cX3_couldBe 43 = .ok (.iaload, 1) := dk_46 (dk_at dksX3_couldBe_1 19 rfl rfl)
theorem dX3_couldBe_44 : decode cX3_couldBe 44 = .ok (.if_icmp .eq 5, 3) := dk_159 0 5 (dk_at dksX3_couldBe_1 20 rfl rfl)
theorem dX3_couldBe_47 : decode cX3_couldBe 47 = .ok (.iconst 0, 1) := dk_3 (dk_at dksX3_couldBe_1 23 rfl rfl)
theorem dX3_couldBe_48 : decode cX3_couldBe 48 = .ok (.ireturn, 1) := dk_172 (dk_at dksX3_couldBe_2 0 rfl rfl)
theorem dX3_couldBe_49 : decode cX3_couldBe 49 = .ok (.iinc 2 1, 3) := dk_132 2 1 (dk_at dksX3_couldBe_2 1 rfl rfl)
theorem dX3_couldBe_52 : decode cX3_couldBe 52 = .ok (.goto (-50), 3) := dk_167 255 206 (dk_at dksX3_couldBe_2 4 rfl rfl)
theorem dX3_couldBe_55 : decode cX3_couldBe 55 = .ok (.iconst 1, 1) := dk_4 (dk_at dksX3_couldBe_2 7 rfl rfl)
theorem dX3_couldBe_56 : decode cX3_couldBe 56 = .ok (.ireturn, 1) := dk_172 (dk_at dksX3_couldBe_2 8 rfl rfl)
abbrev cX3_bestAsked : ByteArray := prog_17_method_108_code
def yX3_bestAsked : MethodName := ⟨RX3, "bestAsked", "(I)I"⟩
def dkwX3_bestAsked_2 : List UInt8 := [28, 46, 100, 184, 1, 34, 162, 0, 5, 29, 61, 132, 3, 1, 167, 255, 198, 28, 172]
abbrev dktX3_bestAsked_2 : List UInt8 := dkwX3_bestAsked_2 ++ []
def dkwX3_bestAsked_1 : List UInt8 := [29, 46, 27, 42, 180, 0, 50, 29, 46, 100, 184, 1, 34, 42, 180, 0, 50, 28, 46, 27, 42, 180, 0, 50]
abbrev dktX3_bestAsked_1 : List UInt8 := dkwX3_bestAsked_1 ++ dktX3_bestAsked_2
def dkwX3_bestAsked_0 : List UInt8 := [2, 61, 3, 62, 29, 42, 180, 0, 7, 16, 37, 46, 162, 0, 53, 28, 2, 159, 0, 40, 42, 180, 0, 50]
abbrev dktX3_bestAsked_0 : List UInt8 := dkwX3_bestAsked_0 ++ dktX3_bestAsked_1
theorem dksX3_bestAsked_0 : cX3_bestAsked.data.toList.drop 0 = dktX3_bestAsked_0 := by decide +kernel
theorem dksX3_bestAsked_1 : cX3_bestAsked.data.toList.drop 24 = dktX3_bestAsked_1 := dk_seg dksX3_bestAsked_0 24 rfl rfl
theorem dksX3_bestAsked_2 : cX3_bestAsked.data.toList.drop 48 = dktX3_bestAsked_2 := dk_seg dksX3_bestAsked_1 24 rfl rfl
theorem dX3_bestAsked_0 : decode cX3_bestAsked 0 = .ok (.iconst (-1), 1) := dk_2 (dk_at dksX3_bestAsked_0 0 rfl rfl)
theorem dX3_bestAsked_1 : decode cX3_bestAsked 1 = .ok (.istore_n 2, 1) := dk_61 (dk_at dksX3_bestAsked_0 1 rfl rfl)
theorem dX3_bestAsked_2 : decode cX3_bestAsked 2 = .ok (.iconst 0, 1) := dk_3 (dk_at dksX3_bestAsked_0 2 rfl rfl)
theorem dX3_bestAsked_3 : decode cX3_bestAsked 3 = .ok (.istore_n 3, 1) := dk_62 (dk_at dksX3_bestAsked_0 3 rfl rfl)
theorem dX3_bestAsked_4 : decode cX3_bestAsked 4 = .ok (.iload_n 3, 1) := dk_29 (dk_at dksX3_bestAsked_0 4 rfl rfl)
theorem dX3_bestAsked_5 : decode cX3_bestAsked 5 = .ok (.aload_n 0, 1) := dk_42 (dk_at dksX3_bestAsked_0 5 rfl rfl)
theorem dX3_bestAsked_6 : decode cX3_bestAsked 6 = .ok (.getfield 7, 3) := dk_180 0 7 (dk_at dksX3_bestAsked_0 6 rfl rfl)
theorem dX3_bestAsked_9 : decode cX3_bestAsked 9 = .ok (.bipush 37, 2) := dk_16 37 (dk_at dksX3_bestAsked_0 9 rfl rfl)
theorem dX3_bestAsked_11 : decode cX3_bestAsked 11 = .ok (.iaload, 1) := dk_46 (dk_at dksX3_bestAsked_0 11 rfl rfl)
theorem dX3_bestAsked_12 : decode cX3_bestAsked 12 = .ok (.if_icmp .ge 53, 3) := dk_162 0 53 (dk_at dksX3_bestAsked_0 12 rfl rfl)
theorem dX3_bestAsked_15 : decode cX3_bestAsked 15 = .ok (.iload_n 2, 1) := dk_28 (dk_at dksX3_bestAsked_0 15 rfl rfl)
theorem dX3_bestAsked_16 : decode cX3_bestAsked 16 = .ok (.iconst (-1), 1) := dk_2 (dk_at dksX3_bestAsked_0 16 rfl rfl)
theorem dX3_bestAsked_17 : decode cX3_bestAsked 17 = .ok (.if_icmp .eq 40, 3) := dk_159 0 40 (dk_at dksX3_bestAsked_0 17 rfl rfl)
theorem dX3_bestAsked_20 : decode cX3_bestAsked 20 = .ok (.aload_n 0, 1) := dk_42 (dk_at dksX3_bestAsked_0 20 rfl rfl)
theorem dX3_bestAsked_21 : decode cX3_bestAsked 21 = .ok (.getfield 50, 3) := dk_180 0 50 (dk_at dksX3_bestAsked_0 21 rfl rfl)
theorem dX3_bestAsked_24 : decode cX3_bestAsked 24 = .ok (.iload_n 3, 1) := dk_29 (dk_at dksX3_bestAsked_1 0 rfl rfl)
theorem dX3_bestAsked_25 : decode cX3_bestAsked 25 = .ok (.iaload, 1) := dk_46 (dk_at dksX3_bestAsked_1 1 rfl rfl)
theorem dX3_bestAsked_26 : decode cX3_bestAsked 26 = .ok (.iload_n 1, 1) := dk_27 (dk_at dksX3_bestAsked_1 2 rfl rfl)
theorem dX3_bestAsked_27 : decode cX3_bestAsked 27 = .ok (.aload_n 0, 1) := dk_42 (dk_at dksX3_bestAsked_1 3 rfl rfl)
theorem dX3_bestAsked_28 : decode cX3_bestAsked 28 = .ok (.getfield 50, 3) := dk_180 0 50 (dk_at dksX3_bestAsked_1 4 rfl rfl)
theorem dX3_bestAsked_31 : decode cX3_bestAsked 31 = .ok (.iload_n 3, 1) := dk_29 (dk_at dksX3_bestAsked_1 7 rfl rfl)
theorem dX3_bestAsked_32 : decode cX3_bestAsked 32 = .ok (.iaload, 1) := dk_46 (dk_at dksX3_bestAsked_1 8 rfl rfl)
theorem dX3_bestAsked_33 : decode cX3_bestAsked 33 = .ok (.isub, 1) := dk_100 (dk_at dksX3_bestAsked_1 9 rfl rfl)
theorem dX3_bestAsked_34 : decode cX3_bestAsked 34 = .ok (.invokestatic 290, 3) := dk_184 1 34 (dk_at dksX3_bestAsked_1 10 rfl rfl)
theorem dX3_bestAsked_37 : decode cX3_bestAsked 37 = .ok (.aload_n 0, 1) := dk_42 (dk_at dksX3_bestAsked_1 13 rfl rfl)
theorem dX3_bestAsked_38 : decode cX3_bestAsked 38 = .ok (.getfield 50, 3) := dk_180 0 50 (dk_at dksX3_bestAsked_1 14 rfl rfl)
theorem dX3_bestAsked_41 : decode cX3_bestAsked 41 = .ok (.iload_n 2, 1) := dk_28 (dk_at dksX3_bestAsked_1 17 rfl rfl)
theorem dX3_bestAsked_42 : decode cX3_bestAsked 42 = .ok (.iaload, 1) := dk_46 (dk_at dksX3_bestAsked_1 18 rfl rfl)
theorem dX3_bestAsked_43 : decode cX3_bestAsked 43 = .ok (.iload_n 1, 1) := dk_27 (dk_at dksX3_bestAsked_1 19 rfl rfl)
theorem dX3_bestAsked_44 : decode cX3_bestAsked 44 = .ok (.aload_n 0, 1) := dk_42 (dk_at dksX3_bestAsked_1 20 rfl rfl)
theorem dX3_bestAsked_45 : decode cX3_bestAsked 45 = .ok (.getfield 50, 3) := dk_180 0 50 (dk_at dksX3_bestAsked_1 21 rfl rfl)
theorem dX3_bestAsked_48 : decode cX3_bestAsked 48 = .ok (.iload_n 2, 1) := dk_28 (dk_at dksX3_bestAsked_2 0 rfl rfl)
theorem dX3_bestAsked_49 : decode cX3_bestAsked 49 = .ok (.iaload, 1) := dk_46 (dk_at dksX3_bestAsked_2 1 rfl rfl)
theorem dX3_bestAsked_50 : decode cX3_bestAsked 50 = .ok (.isub, 1) := dk_100 (dk_at dksX3_bestAsked_2 2 rfl rfl)
theorem dX3_bestAsked_51 : decode cX3_bestAsked 51 = .ok (.invokestatic 290, 3) := dk_184 1 34 (dk_at dksX3_bestAsked_2 3 rfl rfl)
theorem dX3_bestAsked_54 : decode cX3_bestAsked 54 = .ok (.if_icmp .ge 5, 3) := dk_162 0 5 (dk_at dksX3_bestAsked_2 6 rfl rfl)
theorem dX3_bestAsked_57 : decode cX3_bestAsked 57 = .ok (.iload_n 3, 1) := dk_29 (dk_at dksX3_bestAsked_2 9 rfl rfl)
theorem dX3_bestAsked_58 : decode cX3_bestAsked 58 = .ok (.istore_n 2, 1) := dk_61 (dk_at dksX3_bestAsked_2 10 rfl rfl)
theorem dX3_bestAsked_59 : decode cX3_bestAsked 59 = .ok (.iinc 3 1, 3) := dk_132 3 1 (dk_at dksX3_bestAsked_2 11 rfl rfl)
theorem dX3_bestAsked_62 : decode cX3_bestAsked 62 = .ok (.goto (-58), 3) := dk_167 255 198 (dk_at dksX3_bestAsked_2 14 rfl rfl)
theorem dX3_bestAsked_65 : decode cX3_bestAsked 65 = .ok (.iload_n 2, 1) := dk_28 (dk_at dksX3_bestAsked_2 17 rfl rfl)
theorem dX3_bestAsked_66 : decode cX3_bestAsked 66 = .ok (.ireturn, 1) := dk_172 (dk_at dksX3_bestAsked_2 18 rfl rfl)
abbrev cX3_near : ByteArray := prog_17_method_111_code
def yX3_near : MethodName := ⟨RX3, "near", "(II)I"⟩
def dkwX3_near_1 : List UInt8 := [182, 1, 158, 167, 0, 4, 2, 172]
abbrev dktX3_near_1 : List UInt8 := dkwX3_near_1 ++ []
def dkwX3_near_0 : List UInt8 := [42, 27, 182, 0, 68, 153, 0, 25, 28, 3, 16, 12, 184, 0, 56, 153, 0, 15, 42, 4, 27, 120, 28, 3]
abbrev dktX3_near_0 : List UInt8 := dkwX3_near_0 ++ dktX3_near_1
theorem dksX3_near_0 : cX3_near.data.toList.drop 0 = dktX3_near_0 := by decide +kernel
theorem dksX3_near_1 : cX3_near.data.toList.drop 24 = dktX3_near_1 := dk_seg dksX3_near_0 24 rfl rfl
theorem dX3_near_0 : decode cX3_near 0 = .ok (.aload_n 0, 1) := dk_42 (dk_at dksX3_near_0 0 rfl rfl)
theorem dX3_near_1 : decode cX3_near 1 = .ok (.iload_n 1, 1) := dk_27 (dk_at dksX3_near_0 1 rfl rfl)
theorem dX3_near_2 : decode cX3_near 2 = .ok (.invokevirtual 68, 3) := dk_182 0 68 (dk_at dksX3_near_0 2 rfl rfl)
theorem dX3_near_5 : decode cX3_near 5 = .ok (.ifCond .eq 25, 3) := dk_153 0 25 (dk_at dksX3_near_0 5 rfl rfl)
theorem dX3_near_8 : decode cX3_near 8 = .ok (.iload_n 2, 1) := dk_28 (dk_at dksX3_near_0 8 rfl rfl)
theorem dX3_near_9 : decode cX3_near 9 = .ok (.iconst 0, 1) := dk_3 (dk_at dksX3_near_0 9 rfl rfl)
theorem dX3_near_10 : decode cX3_near 10 = .ok (.bipush 12, 2) := dk_16 12 (dk_at dksX3_near_0 10 rfl rfl)
theorem dX3_near_12 : decode cX3_near 12 = .ok (.invokestatic 56, 3) := dk_184 0 56 (dk_at dksX3_near_0 12 rfl rfl)
theorem dX3_near_15 : decode cX3_near 15 = .ok (.ifCond .eq 15, 3) := dk_153 0 15 (dk_at dksX3_near_0 15 rfl rfl)
theorem dX3_near_18 : decode cX3_near 18 = .ok (.aload_n 0, 1) := dk_42 (dk_at dksX3_near_0 18 rfl rfl)
theorem dX3_near_19 : decode cX3_near 19 = .ok (.iconst 1, 1) := dk_4 (dk_at dksX3_near_0 19 rfl rfl)
theorem dX3_near_20 : decode cX3_near 20 = .ok (.iload_n 1, 1) := dk_27 (dk_at dksX3_near_0 20 rfl rfl)
theorem dX3_near_21 : decode cX3_near 21 = .ok (.ishl, 1) := dk_120 (dk_at dksX3_near_0 21 rfl rfl)
theorem dX3_near_22 : decode cX3_near 22 = .ok (.iload_n 2, 1) := dk_28 (dk_at dksX3_near_0 22 rfl rfl)
theorem dX3_near_23 : decode cX3_near 23 = .ok (.iconst 0, 1) := dk_3 (dk_at dksX3_near_0 23 rfl rfl)
theorem dX3_near_24 : decode cX3_near 24 = .ok (.invokevirtual 414, 3) := dk_182 1 158 (dk_at dksX3_near_1 0 rfl rfl)
theorem dX3_near_27 : decode cX3_near 27 = .ok (.goto 4, 3) := dk_167 0 4 (dk_at dksX3_near_1 3 rfl rfl)
theorem dX3_near_30 : decode cX3_near 30 = .ok (.iconst (-1), 1) := dk_2 (dk_at dksX3_near_1 6 rfl rfl)
theorem dX3_near_31 : decode cX3_near 31 = .ok (.ireturn, 1) := dk_172 (dk_at dksX3_near_1 7 rfl rfl)
abbrev cX3_nearTo : ByteArray := prog_17_method_110_code
def yX3_nearTo : MethodName := ⟨RX3, "nearTo", "(III)I"⟩
def dkwX3_nearTo_3 : List UInt8 := [167, 255, 206, 21, 6, 54, 4, 132, 5, 1, 167, 255, 183, 21, 4, 172]
abbrev dktX3_nearTo_3 : List UInt8 := dkwX3_nearTo_3 ++ []
def dkwX3_nearTo_2 : List UInt8 := [180, 0, 7, 17, 0, 185, 21, 7, 96, 46, 29, 2, 130, 126, 167, 0, 4, 3, 128, 54, 6, 132, 7, 1]
abbrev dktX3_nearTo_2 : List UInt8 := dkwX3_nearTo_2 ++ dktX3_nearTo_3
def dkwX3_nearTo_1 : List UInt8 := [180, 0, 7, 16, 37, 46, 162, 0, 44, 21, 6, 21, 4, 21, 7, 122, 4, 126, 4, 160, 0, 21, 42]
abbrev dktX3_nearTo_1 : List UInt8 := dkwX3_nearTo_1 ++ dktX3_nearTo_2
def dkwX3_nearTo_0 : List UInt8 := [27, 54, 4, 3, 54, 5, 21, 5, 28, 162, 0, 73, 21, 4, 54, 6, 3, 54, 7, 21, 7, 42]
abbrev dktX3_nearTo_0 : List UInt8 := dkwX3_nearTo_0 ++ dktX3_nearTo_1
theorem dksX3_nearTo_0 : cX3_nearTo.data.toList.drop 0 = dktX3_nearTo_0 := by decide +kernel
theorem dksX3_nearTo_1 : cX3_nearTo.data.toList.drop 22 = dktX3_nearTo_1 := dk_seg dksX3_nearTo_0 22 rfl rfl
theorem dksX3_nearTo_2 : cX3_nearTo.data.toList.drop 45 = dktX3_nearTo_2 := dk_seg dksX3_nearTo_1 23 rfl rfl
theorem dksX3_nearTo_3 : cX3_nearTo.data.toList.drop 69 = dktX3_nearTo_3 := dk_seg dksX3_nearTo_2 24 rfl rfl
theorem dX3_nearTo_0 : decode cX3_nearTo 0 = .ok (.iload_n 1, 1) := dk_27 (dk_at dksX3_nearTo_0 0 rfl rfl)
theorem dX3_nearTo_1 : decode cX3_nearTo 1 = .ok (.istore 4, 2) := dk_54 4 (dk_at dksX3_nearTo_0 1 rfl rfl)
theorem dX3_nearTo_3 : decode cX3_nearTo 3 = .ok (.iconst 0, 1) := dk_3 (dk_at dksX3_nearTo_0 3 rfl rfl)
theorem dX3_nearTo_4 : decode cX3_nearTo 4 = .ok (.istore 5, 2) := dk_54 5 (dk_at dksX3_nearTo_0 4 rfl rfl)
theorem dX3_nearTo_6 : decode cX3_nearTo 6 = .ok (.iload 5, 2) := dk_21 5 (dk_at dksX3_nearTo_0 6 rfl rfl)
theorem dX3_nearTo_8 : decode cX3_nearTo 8 = .ok (.iload_n 2, 1) := dk_28 (dk_at dksX3_nearTo_0 8 rfl rfl)
theorem dX3_nearTo_9 : decode cX3_nearTo 9 = .ok (.if_icmp .ge 73, 3) := dk_162 0 73 (dk_at dksX3_nearTo_0 9 rfl rfl)
theorem dX3_nearTo_12 : decode cX3_nearTo 12 = .ok (.iload 4, 2) := dk_21 4 (dk_at dksX3_nearTo_0 12 rfl rfl)
theorem dX3_nearTo_14 : decode cX3_nearTo 14 = .ok (.istore 6, 2) := dk_54 6 (dk_at dksX3_nearTo_0 14 rfl rfl)
theorem dX3_nearTo_16 : decode cX3_nearTo 16 = .ok (.iconst 0, 1) := dk_3 (dk_at dksX3_nearTo_0 16 rfl rfl)
theorem dX3_nearTo_17 : decode cX3_nearTo 17 = .ok (.istore 7, 2) := dk_54 7 (dk_at dksX3_nearTo_0 17 rfl rfl)
theorem dX3_nearTo_19 : decode cX3_nearTo 19 = .ok (.iload 7, 2) := dk_21 7 (dk_at dksX3_nearTo_0 19 rfl rfl)
theorem dX3_nearTo_21 : decode cX3_nearTo 21 = .ok (.aload_n 0, 1) := dk_42 (dk_at dksX3_nearTo_0 21 rfl rfl)
theorem dX3_nearTo_22 : decode cX3_nearTo 22 = .ok (.getfield 7, 3) := dk_180 0 7 (dk_at dksX3_nearTo_1 0 rfl rfl)
theorem dX3_nearTo_25 : decode cX3_nearTo 25 = .ok (.bipush 37, 2) := dk_16 37 (dk_at dksX3_nearTo_1 3 rfl rfl)
theorem dX3_nearTo_27 : decode cX3_nearTo 27 = .ok (.iaload, 1) := dk_46 (dk_at dksX3_nearTo_1 5 rfl rfl)
theorem dX3_nearTo_28 : decode cX3_nearTo 28 = .ok (.if_icmp .ge 44, 3) := dk_162 0 44 (dk_at dksX3_nearTo_1 6 rfl rfl)
theorem dX3_nearTo_31 : decode cX3_nearTo 31 = .ok (.iload 6, 2) := dk_21 6 (dk_at dksX3_nearTo_1 9 rfl rfl)
theorem dX3_nearTo_33 : decode cX3_nearTo 33 = .ok (.iload 4, 2) := dk_21 4 (dk_at dksX3_nearTo_1 11 rfl rfl)
theorem dX3_nearTo_35 : decode cX3_nearTo 35 = .ok (.iload 7, 2) := dk_21 7 (dk_at dksX3_nearTo_1 13 rfl rfl)
theorem dX3_nearTo_37 : decode cX3_nearTo 37 = .ok (.ishr, 1) := dk_122 (dk_at dksX3_nearTo_1 15 rfl rfl)
theorem dX3_nearTo_38 : decode cX3_nearTo 38 = .ok (.iconst 1, 1) := dk_4 (dk_at dksX3_nearTo_1 16 rfl rfl)
theorem dX3_nearTo_39 : decode cX3_nearTo 39 = .ok (.iand, 1) := dk_126 (dk_at dksX3_nearTo_1 17 rfl rfl)
theorem dX3_nearTo_40 : decode cX3_nearTo 40 = .ok (.iconst 1, 1) := dk_4 (dk_at dksX3_nearTo_1 18 rfl rfl)
theorem dX3_nearTo_41 : decode cX3_nearTo 41 = .ok (.if_icmp .ne 21, 3) := dk_160 0 21 (dk_at dksX3_nearTo_1 19 rfl rfl)
theorem dX3_nearTo_44 : decode cX3_nearTo 44 = .ok (.aload_n 0, 1) := dk_42 (dk_at dksX3_nearTo_1 22 rfl rfl)
theorem dX3_nearTo_45 : decode cX3_nearTo 45 = .ok (.getfield 7, 3) := dk_180 0 7 (dk_at dksX3_nearTo_2 0 rfl rfl)
theorem dX3_nearTo_48 : decode cX3_nearTo 48 = .ok (.sipush 185, 3) := dk_17 0 185 (dk_at dksX3_nearTo_2 3 rfl rfl)
theorem dX3_nearTo_51 : decode cX3_nearTo 51 = .ok (.iload 7, 2) := dk_21 7 (dk_at dksX3_nearTo_2 6 rfl rfl)
theorem dX3_nearTo_53 : decode cX3_nearTo 53 = .ok (.iadd, 1) := dk_96 (dk_at dksX3_nearTo_2 8 rfl rfl)
theorem dX3_nearTo_54 : decode cX3_nearTo 54 = .ok (.iaload, 1) := dk_46 (dk_at dksX3_nearTo_2 9 rfl rfl)
theorem dX3_nearTo_55 : decode cX3_nearTo 55 = .ok (.iload_n 3, 1) := dk_29 (dk_at dksX3_nearTo_2 10 rfl rfl)
theorem dX3_nearTo_56 : decode cX3_nearTo 56 = .ok (.iconst (-1), 1) := dk_2 (dk_at dksX3_nearTo_2 11 rfl rfl)
theorem dX3_nearTo_57 : decode cX3_nearTo 57 = .ok (.ixor, 1) := dk_130 (dk_at dksX3_nearTo_2 12 rfl rfl)
theorem dX3_nearTo_58 : decode cX3_nearTo 58 = .ok (.iand, 1) := dk_126 (dk_at dksX3_nearTo_2 13 rfl rfl)
theorem dX3_nearTo_59 : decode cX3_nearTo 59 = .ok (.goto 4, 3) := dk_167 0 4 (dk_at dksX3_nearTo_2 14 rfl rfl)
theorem dX3_nearTo_62 : decode cX3_nearTo 62 = .ok (.iconst 0, 1) := dk_3 (dk_at dksX3_nearTo_2 17 rfl rfl)
theorem dX3_nearTo_63 : decode cX3_nearTo 63 = .ok (.ior, 1) := dk_128 (dk_at dksX3_nearTo_2 18 rfl rfl)
theorem dX3_nearTo_64 : decode cX3_nearTo 64 = .ok (.istore 6, 2) := dk_54 6 (dk_at dksX3_nearTo_2 19 rfl rfl)
theorem dX3_nearTo_66 : decode cX3_nearTo 66 = .ok (.iinc 7 1, 3) := dk_132 7 1 (dk_at dksX3_nearTo_2 21 rfl rfl)
theorem dX3_nearTo_69 : decode cX3_nearTo 69 = .ok (.goto (-50), 3) := dk_167 255 206 (dk_at dksX3_nearTo_3 0 rfl rfl)
theorem dX3_nearTo_72 : decode cX3_nearTo 72 = .ok (.iload 6, 2) := dk_21 6 (dk_at dksX3_nearTo_3 3 rfl rfl)
theorem dX3_nearTo_74 : decode cX3_nearTo 74 = .ok (.istore 4, 2) := dk_54 4 (dk_at dksX3_nearTo_3 5 rfl rfl)
theorem dX3_nearTo_76 : decode cX3_nearTo 76 = .ok (.iinc 5 1, 3) := dk_132 5 1 (dk_at dksX3_nearTo_3 7 rfl rfl)
theorem dX3_nearTo_79 : decode cX3_nearTo 79 = .ok (.goto (-73), 3) := dk_167 255 183 (dk_at dksX3_nearTo_3 10 rfl rfl)
theorem dX3_nearTo_82 : decode cX3_nearTo 82 = .ok (.iload 4, 2) := dk_21 4 (dk_at dksX3_nearTo_3 13 rfl rfl)
theorem dX3_nearTo_84 : decode cX3_nearTo 84 = .ok (.ireturn, 1) := dk_172 (dk_at dksX3_nearTo_3 15 rfl rfl)
abbrev cX3_cuts : ByteArray := prog_17_method_112_code
def yX3_cuts : MethodName := ⟨RX3, "cuts", "(III)I"⟩
def dkwX3_cuts_7 : List UInt8 := [167, 0, 5, 21, 5, 172]
abbrev dktX3_cuts_7 : List UInt8 := dkwX3_cuts_7 ++ []
def dkwX3_cuts_6 : List UInt8 := [154, 0, 7, 21, 6, 54, 5, 132, 6, 1, 167, 255, 171, 29, 154, 0, 11, 21, 5, 184, 1, 63]
abbrev dktX3_cuts_6 : List UInt8 := dkwX3_cuts_6 ++ dktX3_cuts_7
def dkwX3_cuts_5 : List UInt8 := [16, 12, 21, 6, 42, 180, 0, 7, 16, 8, 46, 128, 21, 4, 2, 130, 126, 182, 1, 158, 28, 122, 4, 126]
abbrev dktX3_cuts_5 : List UInt8 := dkwX3_cuts_5 ++ dktX3_cuts_6
def dkwX3_cuts_4 : List UInt8 := [159, 0, 19, 21, 6, 184, 1, 63, 21, 5, 184, 1, 63, 161, 0, 6, 167, 0, 38, 42, 4, 27, 120]
abbrev dktX3_cuts_4 : List UInt8 := dkwX3_cuts_4 ++ dktX3_cuts_5
def dkwX3_cuts_3 : List UInt8 := [163, 0, 82, 21, 6, 21, 4, 42, 180, 0, 7, 16, 8, 46, 128, 126, 154, 0, 60, 21, 5, 2]
abbrev dktX3_cuts_3 : List UInt8 := dkwX3_cuts_3 ++ dktX3_cuts_4
def dkwX3_cuts_2 : List UInt8 := [2, 172, 4, 27, 120, 4, 28, 120, 128, 54, 4, 2, 54, 5, 3, 54, 6, 21, 6, 42, 182, 1, 149]
abbrev dktX3_cuts_2 : List UInt8 := dkwX3_cuts_2 ++ dktX3_cuts_3
def dkwX3_cuts_1 : List UInt8 := [184, 0, 56, 153, 0, 21, 42, 180, 0, 7, 17, 0, 185, 27, 96, 46, 28, 122, 4, 126, 4, 160, 0, 5]
abbrev dktX3_cuts_1 : List UInt8 := dkwX3_cuts_1 ++ dktX3_cuts_2
def dkwX3_cuts_0 : List UInt8 := [42, 27, 182, 0, 68, 153, 0, 43, 42, 28, 182, 0, 68, 153, 0, 35, 27, 28, 159, 0, 30, 29, 3, 4]
abbrev dktX3_cuts_0 : List UInt8 := dkwX3_cuts_0 ++ dktX3_cuts_1
theorem dksX3_cuts_0 : cX3_cuts.data.toList.drop 0 = dktX3_cuts_0 := by decide +kernel
theorem dksX3_cuts_1 : cX3_cuts.data.toList.drop 24 = dktX3_cuts_1 := dk_seg dksX3_cuts_0 24 rfl rfl
theorem dksX3_cuts_2 : cX3_cuts.data.toList.drop 48 = dktX3_cuts_2 := dk_seg dksX3_cuts_1 24 rfl rfl
theorem dksX3_cuts_3 : cX3_cuts.data.toList.drop 71 = dktX3_cuts_3 := dk_seg dksX3_cuts_2 23 rfl rfl
theorem dksX3_cuts_4 : cX3_cuts.data.toList.drop 93 = dktX3_cuts_4 := dk_seg dksX3_cuts_3 22 rfl rfl
theorem dksX3_cuts_5 : cX3_cuts.data.toList.drop 116 = dktX3_cuts_5 := dk_seg dksX3_cuts_4 23 rfl rfl
theorem dksX3_cuts_6 : cX3_cuts.data.toList.drop 140 = dktX3_cuts_6 := dk_seg dksX3_cuts_5 24 rfl rfl
theorem dksX3_cuts_7 : cX3_cuts.data.toList.drop 162 = dktX3_cuts_7 := dk_seg dksX3_cuts_6 22 rfl rfl
theorem dX3_cuts_0 : decode cX3_cuts 0 = .ok (.aload_n 0, 1) := dk_42 (dk_at dksX3_cuts_0 0 rfl rfl)
theorem dX3_cuts_1 : decode cX3_cuts 1 = .ok (.iload_n 1, 1) := dk_27 (dk_at dksX3_cuts_0 1 rfl rfl)
theorem dX3_cuts_2 : decode cX3_cuts 2 = .ok (.invokevirtual 68, 3) := dk_182 0 68 (dk_at dksX3_cuts_0 2 rfl rfl)
theorem dX3_cuts_5 : decode cX3_cuts 5 = .ok (.ifCond .eq 43, 3) := dk_153 0 43 (dk_at dksX3_cuts_0 5 rfl rfl)
theorem dX3_cuts_8 : decode cX3_cuts 8 = .ok (.aload_n 0, 1) := dk_42 (dk_at dksX3_cuts_0 8 rfl rfl)
theorem dX3_cuts_9 : decode cX3_cuts 9 = .ok (.iload_n 2, 1) := dk_28 (dk_at dksX3_cuts_0 9 rfl rfl)
theorem dX3_cuts_10 : decode cX3_cuts 10 = .ok (.invokevirtual 68, 3) := dk_182 0 68 (dk_at dksX3_cuts_0 10 rfl rfl)
theorem dX3_cuts_13 : decode cX3_cuts 13 = .ok (.ifCond .eq 35, 3) := dk_153 0 35 (dk_at dksX3_cuts_0 13 rfl rfl)
theorem dX3_cuts_16 : decode cX3_cuts 16 = .ok (.iload_n 1, 1) := dk_27 (dk_at dksX3_cuts_0 16 rfl rfl)
theorem dX3_cuts_17 : decode cX3_cuts 17 = .ok (.iload_n 2, 1) := dk_28 (dk_at dksX3_cuts_0 17 rfl rfl)
theorem dX3_cuts_18 : decode cX3_cuts 18 = .ok (.if_icmp .eq 30, 3) := dk_159 0 30 (dk_at dksX3_cuts_0 18 rfl rfl)
theorem dX3_cuts_21 : decode cX3_cuts 21 = .ok (.iload_n 3, 1) := dk_29 (dk_at dksX3_cuts_0 21 rfl rfl)
theorem dX3_cuts_22 : decode cX3_cuts 22 = .ok (.iconst 0, 1) := dk_3 (dk_at dksX3_cuts_0 22 rfl rfl)
theorem dX3_cuts_23 : decode cX3_cuts 23 = .ok (.iconst 1, 1) := dk_4 (dk_at dksX3_cuts_0 23 rfl rfl)
theorem dX3_cuts_24 : decode cX3_cuts 24 = .ok (.invokestatic 56, 3) := dk_184 0 56 (dk_at dksX3_cuts_1 0 rfl rfl)
theorem dX3_cuts_27 : decode cX3_cuts 27 = .ok (.ifCond .eq 21, 3) := dk_153 0 21 (dk_at dksX3_cuts_1 3 rfl rfl)
theorem dX3_cuts_30 : decode cX3_cuts 30 = .ok (.aload_n 0, 1) := dk_42 (dk_at dksX3_cuts_1 6 rfl rfl)
theorem dX3_cuts_31 : decode cX3_cuts 31 = .ok (.getfield 7, 3) := dk_180 0 7 (dk_at dksX3_cuts_1 7 rfl rfl)
theorem dX3_cuts_34 : decode cX3_cuts 34 = .ok (.sipush 185, 3) := dk_17 0 185 (dk_at dksX3_cuts_1 10 rfl rfl)
theorem dX3_cuts_37 : decode cX3_cuts 37 = .ok (.iload_n 1, 1) := dk_27 (dk_at dksX3_cuts_1 13 rfl rfl)
theorem dX3_cuts_38 : decode cX3_cuts 38 = .ok (.iadd, 1) := dk_96 (dk_at dksX3_cuts_1 14 rfl rfl)
theorem dX3_cuts_39 : decode cX3_cuts 39 = .ok (.iaload, 1) := dk_46 (dk_at dksX3_cuts_1 15 rfl rfl)
theorem dX3_cuts_40 : decode cX3_cuts 40 = .ok (.iload_n 2, 1) := dk_28 (dk_at dksX3_cuts_1 16 rfl rfl)
theorem dX3_cuts_41 : decode cX3_cuts 41 = .ok (.ishr, 1) := dk_122 (dk_at dksX3_cuts_1 17 rfl rfl)
theorem dX3_cuts_42 : decode cX3_cuts 42 = .ok (.iconst 1, 1) := dk_4 (dk_at dksX3_cuts_1 18 rfl rfl)
theorem dX3_cuts_43 : decode cX3_cuts 43 = .ok (.iand, 1) := dk_126 (dk_at dksX3_cuts_1 19 rfl rfl)
theorem dX3_cuts_44 : decode cX3_cuts 44 = .ok (.iconst 1, 1) := dk_4 (dk_at dksX3_cuts_1 20 rfl rfl)
theorem dX3_cuts_45 : decode cX3_cuts 45 = .ok (.if_icmp .ne 5, 3) := dk_160 0 5 (dk_at dksX3_cuts_1 21 rfl rfl)
theorem dX3_cuts_48 : decode cX3_cuts 48 = .ok (.iconst (-1), 1) := dk_2 (dk_at dksX3_cuts_2 0 rfl rfl)
theorem dX3_cuts_49 : decode cX3_cuts 49 = .ok (.ireturn, 1) := dk_172 (dk_at dksX3_cuts_2 1 rfl rfl)
theorem dX3_cuts_50 : decode cX3_cuts 50 = .ok (.iconst 1, 1) := dk_4 (dk_at dksX3_cuts_2 2 rfl rfl)
theorem dX3_cuts_51 : decode cX3_cuts 51 = .ok (.iload_n 1, 1) := dk_27 (dk_at dksX3_cuts_2 3 rfl rfl)
theorem dX3_cuts_52 : decode cX3_cuts 52 = .ok (.ishl, 1) := dk_120 (dk_at dksX3_cuts_2 4 rfl rfl)
theorem dX3_cuts_53 : decode cX3_cuts 53 = .ok (.iconst 1, 1) := dk_4 (dk_at dksX3_cuts_2 5 rfl rfl)
theorem dX3_cuts_54 : decode cX3_cuts 54 = .ok (.iload_n 2, 1) := dk_28 (dk_at dksX3_cuts_2 6 rfl rfl)
theorem dX3_cuts_55 : decode cX3_cuts 55 = .ok (.ishl, 1) := dk_120 (dk_at dksX3_cuts_2 7 rfl rfl)
theorem dX3_cuts_56 : decode cX3_cuts 56 = .ok (.ior, 1) := dk_128 (dk_at dksX3_cuts_2 8 rfl rfl)
theorem dX3_cuts_57 : decode cX3_cuts 57 = .ok (.istore 4, 2) := dk_54 4 (dk_at dksX3_cuts_2 9 rfl rfl)
theorem dX3_cuts_59 : decode cX3_cuts 59 = .ok (.iconst (-1), 1) := dk_2 (dk_at dksX3_cuts_2 11 rfl rfl)
theorem dX3_cuts_60 : decode cX3_cuts 60 = .ok (.istore 5, 2) := dk_54 5 (dk_at dksX3_cuts_2 12 rfl rfl)
theorem dX3_cuts_62 : decode cX3_cuts 62 = .ok (.iconst 0, 1) := dk_3 (dk_at dksX3_cuts_2 14 rfl rfl)
theorem dX3_cuts_63 : decode cX3_cuts 63 = .ok (.istore 6, 2) := dk_54 6 (dk_at dksX3_cuts_2 15 rfl rfl)
theorem dX3_cuts_65 : decode cX3_cuts 65 = .ok (.iload 6, 2) := dk_21 6 (dk_at dksX3_cuts_2 17 rfl rfl)
theorem dX3_cuts_67 : decode cX3_cuts 67 = .ok (.aload_n 0, 1) := dk_42 (dk_at dksX3_cuts_2 19 rfl rfl)
theorem dX3_cuts_68 : decode cX3_cuts 68 = .ok (.invokevirtual 405, 3) := dk_182 1 149 (dk_at dksX3_cuts_2 20 rfl rfl)
theorem dX3_cuts_71 : decode cX3_cuts 71 = .ok (.if_icmp .gt 82, 3) := dk_163 0 82 (dk_at dksX3_cuts_3 0 rfl rfl)
theorem dX3_cuts_74 : decode cX3_cuts 74 = .ok (.iload 6, 2) := dk_21 6 (dk_at dksX3_cuts_3 3 rfl rfl)
theorem dX3_cuts_76 : decode cX3_cuts 76 = .ok (.iload 4, 2) := dk_21 4 (dk_at dksX3_cuts_3 5 rfl rfl)
theorem dX3_cuts_78 : decode cX3_cuts 78 = .ok (.aload_n 0, 1) := dk_42 (dk_at dksX3_cuts_3 7 rfl rfl)
theorem dX3_cuts_79 : decode cX3_cuts 79 = .ok (.getfield 7, 3) := dk_180 0 7 (dk_at dksX3_cuts_3 8 rfl rfl)
theorem dX3_cuts_82 : decode cX3_cuts 82 = .ok (.bipush 8, 2) := dk_16 8 (dk_at dksX3_cuts_3 11 rfl rfl)
theorem dX3_cuts_84 : decode cX3_cuts 84 = .ok (.iaload, 1) := dk_46 (dk_at dksX3_cuts_3 13 rfl rfl)
theorem dX3_cuts_85 : decode cX3_cuts 85 = .ok (.ior, 1) := dk_128 (dk_at dksX3_cuts_3 14 rfl rfl)
theorem dX3_cuts_86 : decode cX3_cuts 86 = .ok (.iand, 1) := dk_126 (dk_at dksX3_cuts_3 15 rfl rfl)
theorem dX3_cuts_87 : decode cX3_cuts 87 = .ok (.ifCond .ne 60, 3) := dk_154 0 60 (dk_at dksX3_cuts_3 16 rfl rfl)
theorem dX3_cuts_90 : decode cX3_cuts 90 = .ok (.iload 5, 2) := dk_21 5 (dk_at dksX3_cuts_3 19 rfl rfl)
theorem dX3_cuts_92 : decode cX3_cuts 92 = .ok (.iconst (-1), 1) := dk_2 (dk_at dksX3_cuts_3 21 rfl rfl)
theorem dX3_cuts_93 : decode cX3_cuts 93 = .ok (.if_icmp .eq 19, 3) := dk_159 0 19 (dk_at dksX3_cuts_4 0 rfl rfl)
theorem dX3_cuts_96 : decode cX3_cuts 96 = .ok (.iload 6, 2) := dk_21 6 (dk_at dksX3_cuts_4 3 rfl rfl)
theorem dX3_cuts_98 : decode cX3_cuts 98 = .ok (.invokestatic 319, 3) := dk_184 1 63 (dk_at dksX3_cuts_4 5 rfl rfl)
theorem dX3_cuts_101 : decode cX3_cuts 101 = .ok (.iload 5, 2) := dk_21 5 (dk_at dksX3_cuts_4 8 rfl rfl)
theorem dX3_cuts_103 : decode cX3_cuts 103 = .ok (.invokestatic 319, 3) := dk_184 1 63 (dk_at dksX3_cuts_4 10 rfl rfl)
theorem dX3_cuts_106 : decode cX3_cuts 106 = .ok (.if_icmp .lt 6, 3) := dk_161 0 6 (dk_at dksX3_cuts_4 13 rfl rfl)
theorem dX3_cuts_109 : decode cX3_cuts 109 = .ok (.goto 38, 3) := dk_167 0 38 (dk_at dksX3_cuts_4 16 rfl rfl)
theorem dX3_cuts_112 : decode cX3_cuts 112 = .ok (.aload_n 0, 1) := dk_42 (dk_at dksX3_cuts_4 19 rfl rfl)
theorem dX3_cuts_113 : decode cX3_cuts 113 = .ok (.iconst 1, 1) := dk_4 (dk_at dksX3_cuts_4 20 rfl rfl)
theorem dX3_cuts_114 : decode cX3_cuts 114 = .ok (.iload_n 1, 1) := dk_27 (dk_at dksX3_cuts_4 21 rfl rfl)
theorem dX3_cuts_115 : decode cX3_cuts 115 = .ok (.ishl, 1) := dk_120 (dk_at dksX3_cuts_4 22 rfl rfl)
theorem dX3_cuts_116 : decode cX3_cuts 116 = .ok (.bipush 12, 2) := dk_16 12 (dk_at dksX3_cuts_5 0 rfl rfl)
theorem dX3_cuts_118 : decode cX3_cuts 118 = .ok (.iload 6, 2) := dk_21 6 (dk_at dksX3_cuts_5 2 rfl rfl)
theorem dX3_cuts_120 : decode cX3_cuts 120 = .ok (.aload_n 0, 1) := dk_42 (dk_at dksX3_cuts_5 4 rfl rfl)
theorem dX3_cuts_121 : decode cX3_cuts 121 = .ok (.getfield 7, 3) := dk_180 0 7 (dk_at dksX3_cuts_5 5 rfl rfl)
theorem dX3_cuts_124 : decode cX3_cuts 124 = .ok (.bipush 8, 2) := dk_16 8 (dk_at dksX3_cuts_5 8 rfl rfl)
theorem dX3_cuts_126 : decode cX3_cuts 126 = .ok (.iaload, 1) := dk_46 (dk_at dksX3_cuts_5 10 rfl rfl)
theorem dX3_cuts_127 : decode cX3_cuts 127 = .ok (.ior, 1) := dk_128 (dk_at dksX3_cuts_5 11 rfl rfl)
theorem dX3_cuts_128 : decode cX3_cuts 128 = .ok (.iload 4, 2) := dk_21 4 (dk_at dksX3_cuts_5 12 rfl rfl)
theorem dX3_cuts_130 : decode cX3_cuts 130 = .ok (.iconst (-1), 1) := dk_2 (dk_at dksX3_cuts_5 14 rfl rfl)
theorem dX3_cuts_131 : decode cX3_cuts 131 = .ok (.ixor, 1) := dk_130 (dk_at dksX3_cuts_5 15 rfl rfl)
theorem dX3_cuts_132 : decode cX3_cuts 132 = .ok (.iand, 1) := dk_126 (dk_at dksX3_cuts_5 16 rfl rfl)
theorem dX3_cuts_133 : decode cX3_cuts 133 = .ok (.invokevirtual 414, 3) := dk_182 1 158 (dk_at dksX3_cuts_5 17 rfl rfl)
theorem dX3_cuts_136 : decode cX3_cuts 136 = .ok (.iload_n 2, 1) := dk_28 (dk_at dksX3_cuts_5 20 rfl rfl)
theorem dX3_cuts_137 : decode cX3_cuts 137 = .ok (.ishr, 1) := dk_122 (dk_at dksX3_cuts_5 21 rfl rfl)
theorem dX3_cuts_138 : decode cX3_cuts 138 = .ok (.iconst 1, 1) := dk_4 (dk_at dksX3_cuts_5 22 rfl rfl)
theorem dX3_cuts_139 : decode cX3_cuts 139 = .ok (.iand, 1) := dk_126 (dk_at dksX3_cuts_5 23 rfl rfl)
theorem dX3_cuts_140 : decode cX3_cuts 140 = .ok (.ifCond .ne 7, 3) := dk_154 0 7 (dk_at dksX3_cuts_6 0 rfl rfl)
theorem dX3_cuts_143 : decode cX3_cuts 143 = .ok (.iload 6, 2) := dk_21 6 (dk_at dksX3_cuts_6 3 rfl rfl)
theorem dX3_cuts_145 : decode cX3_cuts 145 = .ok (.istore 5, 2) := dk_54 5 (dk_at dksX3_cuts_6 5 rfl rfl)
theorem dX3_cuts_147 : decode cX3_cuts 147 = .ok (.iinc 6 1, 3) := dk_132 6 1 (dk_at dksX3_cuts_6 7 rfl rfl)
theorem dX3_cuts_150 : decode cX3_cuts 150 = .ok (.goto (-85), 3) := dk_167 255 171 (dk_at dksX3_cuts_6 10 rfl rfl)
theorem dX3_cuts_153 : decode cX3_cuts 153 = .ok (.iload_n 3, 1) := dk_29 (dk_at dksX3_cuts_6 13 rfl rfl)
theorem dX3_cuts_154 : decode cX3_cuts 154 = .ok (.ifCond .ne 11, 3) := dk_154 0 11 (dk_at dksX3_cuts_6 14 rfl rfl)
theorem dX3_cuts_157 : decode cX3_cuts 157 = .ok (.iload 5, 2) := dk_21 5 (dk_at dksX3_cuts_6 17 rfl rfl)
theorem dX3_cuts_159 : decode cX3_cuts 159 = .ok (.invokestatic 319, 3) := dk_184 1 63 (dk_at dksX3_cuts_6 19 rfl rfl)
theorem dX3_cuts_162 : decode cX3_cuts 162 = .ok (.goto 5, 3) := dk_167 0 5 (dk_at dksX3_cuts_7 0 rfl rfl)
theorem dX3_cuts_165 : decode cX3_cuts 165 = .ok (.iload 5, 2) := dk_21 5 (dk_at dksX3_cuts_7 3 rfl rfl)
theorem dX3_cuts_167 : decode cX3_cuts 167 = .ok (.ireturn, 1) := dk_172 (dk_at dksX3_cuts_7 5 rfl rfl)
abbrev cX3_groups : ByteArray := prog_17_method_113_code
def yX3_groups : MethodName := ⟨RX3, "groups", "(I)I"⟩
def dkwX3_groups_4 : List UInt8 := [132, 5, 1, 167, 255, 184, 27, 154, 0, 7, 29, 167, 0, 5, 21, 4, 172]
abbrev dktX3_groups_4 : List UInt8 := dkwX3_groups_4 ++ []
def dkwX3_groups_3 : List UInt8 := [21, 6, 184, 1, 63, 21, 4, 184, 1, 63, 164, 0, 8, 21, 6, 167, 0, 5, 21, 4, 54, 4]
abbrev dktX3_groups_3 : List UInt8 := dkwX3_groups_3 ++ dktX3_groups_4
def dkwX3_groups_2 : List UInt8 := [42, 4, 21, 5, 120, 16, 12, 3, 182, 1, 158, 54, 6, 28, 21, 6, 2, 130, 126, 61, 132, 3, 1]
abbrev dktX3_groups_2 : List UInt8 := dkwX3_groups_2 ++ dktX3_groups_3
def dkwX3_groups_1 : List UInt8 := [21, 5, 42, 180, 0, 7, 16, 37, 46, 162, 0, 66, 28, 21, 5, 122, 4, 126, 154, 0, 6, 167, 0, 48]
abbrev dktX3_groups_1 : List UInt8 := dkwX3_groups_1 ++ dktX3_groups_2
def dkwX3_groups_0 : List UInt8 := [27, 3, 4, 184, 0, 56, 154, 0, 5, 2, 172, 42, 182, 1, 149, 61, 3, 62, 3, 54, 4, 3, 54, 5]
abbrev dktX3_groups_0 : List UInt8 := dkwX3_groups_0 ++ dktX3_groups_1
theorem dksX3_groups_0 : cX3_groups.data.toList.drop 0 = dktX3_groups_0 := by decide +kernel
theorem dksX3_groups_1 : cX3_groups.data.toList.drop 24 = dktX3_groups_1 := dk_seg dksX3_groups_0 24 rfl rfl
theorem dksX3_groups_2 : cX3_groups.data.toList.drop 48 = dktX3_groups_2 := dk_seg dksX3_groups_1 24 rfl rfl
theorem dksX3_groups_3 : cX3_groups.data.toList.drop 71 = dktX3_groups_3 := dk_seg dksX3_groups_2 23 rfl rfl
theorem dksX3_groups_4 : cX3_groups.data.toList.drop 93 = dktX3_groups_4 := dk_seg dksX3_groups_3 22 rfl rfl
theorem dX3_groups_0 : decode cX3_groups 0 = .ok (.iload_n 1, 1) := dk_27 (dk_at dksX3_groups_0 0 rfl rfl)
theorem dX3_groups_1 : decode cX3_groups 1 = .ok (.iconst 0, 1) := dk_3 (dk_at dksX3_groups_0 1 rfl rfl)
theorem dX3_groups_2 : decode cX3_groups 2 = .ok (.iconst 1, 1) := dk_4 (dk_at dksX3_groups_0 2 rfl rfl)
theorem dX3_groups_3 : decode cX3_groups 3 = .ok (.invokestatic 56, 3) := dk_184 0 56 (dk_at dksX3_groups_0 3 rfl rfl)
theorem dX3_groups_6 : decode cX3_groups 6 = .ok (.ifCond .ne 5, 3) := dk_154 0 5 (dk_at dksX3_groups_0 6 rfl rfl)
theorem dX3_groups_9 : decode cX3_groups 9 = .ok (.iconst (-1), 1) := dk_2 (dk_at dksX3_groups_0 9 rfl rfl)
theorem dX3_groups_10 : decode cX3_groups 10 = .ok (.ireturn, 1) := dk_172 (dk_at dksX3_groups_0 10 rfl rfl)
theorem dX3_groups_11 : decode cX3_groups 11 = .ok (.aload_n 0, 1) := dk_42 (dk_at dksX3_groups_0 11 rfl rfl)
theorem dX3_groups_12 : decode cX3_groups 12 = .ok (.invokevirtual 405, 3) := dk_182 1 149 (dk_at dksX3_groups_0 12 rfl rfl)
theorem dX3_groups_15 : decode cX3_groups 15 = .ok (.istore_n 2, 1) := dk_61 (dk_at dksX3_groups_0 15 rfl rfl)
theorem dX3_groups_16 : decode cX3_groups 16 = .ok (.iconst 0, 1) := dk_3 (dk_at dksX3_groups_0 16 rfl rfl)
theorem dX3_groups_17 : decode cX3_groups 17 = .ok (.istore_n 3, 1) := dk_62 (dk_at dksX3_groups_0 17 rfl rfl)
theorem dX3_groups_18 : decode cX3_groups 18 = .ok (.iconst 0, 1) := dk_3 (dk_at dksX3_groups_0 18 rfl rfl)
theorem dX3_groups_19 : decode cX3_groups 19 = .ok (.istore 4, 2) := dk_54 4 (dk_at dksX3_groups_0 19 rfl rfl)
theorem dX3_groups_21 : decode cX3_groups 21 = .ok (.iconst 0, 1) := dk_3 (dk_at dksX3_groups_0 21 rfl rfl)
theorem dX3_groups_22 : decode cX3_groups 22 = .ok (.istore 5, 2) := dk_54 5 (dk_at dksX3_groups_0 22 rfl rfl)
theorem dX3_groups_24 : decode cX3_groups 24 = .ok (.iload 5, 2) := dk_21 5 (dk_at dksX3_groups_1 0 rfl rfl)
theorem dX3_groups_26 : decode cX3_groups 26 = .ok (.aload_n 0, 1) := dk_42 (dk_at dksX3_groups_1 2 rfl rfl)
theorem dX3_groups_27 : decode cX3_groups 27 = .ok (.getfield 7, 3) := dk_180 0 7 (dk_at dksX3_groups_1 3 rfl rfl)
theorem dX3_groups_30 : decode cX3_groups 30 = .ok (.bipush 37, 2) := dk_16 37 (dk_at dksX3_groups_1 6 rfl rfl)
theorem dX3_groups_32 : decode cX3_groups 32 = .ok (.iaload, 1) := dk_46 (dk_at dksX3_groups_1 8 rfl rfl)
theorem dX3_groups_33 : decode cX3_groups 33 = .ok (.if_icmp .ge 66, 3) := dk_162 0 66 (dk_at dksX3_groups_1 9 rfl rfl)
theorem dX3_groups_36 : decode cX3_groups 36 = .ok (.iload_n 2, 1) := dk_28 (dk_at dksX3_groups_1 12 rfl rfl)
theorem dX3_groups_37 : decode cX3_groups 37 = .ok (.iload 5, 2) := dk_21 5 (dk_at dksX3_groups_1 13 rfl rfl)
theorem dX3_groups_39 : decode cX3_groups 39 = .ok (.ishr, 1) := dk_122 (dk_at dksX3_groups_1 15 rfl rfl)
theorem dX3_groups_40 : decode cX3_groups 40 = .ok (.iconst 1, 1) := dk_4 (dk_at dksX3_groups_1 16 rfl rfl)
theorem dX3_groups_41 : decode cX3_groups 41 = .ok (.iand, 1) := dk_126 (dk_at dksX3_groups_1 17 rfl rfl)
theorem dX3_groups_42 : decode cX3_groups 42 = .ok (.ifCond .ne 6, 3) := dk_154 0 6 (dk_at dksX3_groups_1 18 rfl rfl)
theorem dX3_groups_45 : decode cX3_groups 45 = .ok (.goto 48, 3) := dk_167 0 48 (dk_at dksX3_groups_1 21 rfl rfl)
theorem dX3_groups_48 : decode cX3_groups 48 = .ok (.aload_n 0, 1) := dk_42 (dk_at dksX3_groups_2 0 rfl rfl)
theorem dX3_groups_49 : decode cX3_groups 49 = .ok (.iconst 1, 1) := dk_4 (dk_at dksX3_groups_2 1 rfl rfl)
theorem dX3_groups_50 : decode cX3_groups 50 = .ok (.iload 5, 2) := dk_21 5 (dk_at dksX3_groups_2 2 rfl rfl)
theorem dX3_groups_52 : decode cX3_groups 52 = .ok (.ishl, 1) := dk_120 (dk_at dksX3_groups_2 4 rfl rfl)
theorem dX3_groups_53 : decode cX3_groups 53 = .ok (.bipush 12, 2) := dk_16 12 (dk_at dksX3_groups_2 5 rfl rfl)
theorem dX3_groups_55 : decode cX3_groups 55 = .ok (.iconst 0, 1) := dk_3 (dk_at dksX3_groups_2 7 rfl rfl)
theorem dX3_groups_56 : decode cX3_groups 56 = .ok (.invokevirtual 414, 3) := dk_182 1 158 (dk_at dksX3_groups_2 8 rfl rfl)
theorem dX3_groups_59 : decode cX3_groups 59 = .ok (.istore 6, 2) := dk_54 6 (dk_at dksX3_groups_2 11 rfl rfl)
theorem dX3_groups_61 : decode cX3_groups 61 = .ok (.iload_n 2, 1) := dk_28 (dk_at dksX3_groups_2 13 rfl rfl)
theorem dX3_groups_62 : decode cX3_groups 62 = .ok (.iload 6, 2) := dk_21 6 (dk_at dksX3_groups_2 14 rfl rfl)
theorem dX3_groups_64 : decode cX3_groups 64 = .ok (.iconst (-1), 1) := dk_2 (dk_at dksX3_groups_2 16 rfl rfl)
theorem dX3_groups_65 : decode cX3_groups 65 = .ok (.ixor, 1) := dk_130 (dk_at dksX3_groups_2 17 rfl rfl)
theorem dX3_groups_66 : decode cX3_groups 66 = .ok (.iand, 1) := dk_126 (dk_at dksX3_groups_2 18 rfl rfl)
theorem dX3_groups_67 : decode cX3_groups 67 = .ok (.istore_n 2, 1) := dk_61 (dk_at dksX3_groups_2 19 rfl rfl)
theorem dX3_groups_68 : decode cX3_groups 68 = .ok (.iinc 3 1, 3) := dk_132 3 1 (dk_at dksX3_groups_2 20 rfl rfl)
theorem dX3_groups_71 : decode cX3_groups 71 = .ok (.iload 6, 2) := dk_21 6 (dk_at dksX3_groups_3 0 rfl rfl)
theorem dX3_groups_73 : decode cX3_groups 73 = .ok (.invokestatic 319, 3) := dk_184 1 63 (dk_at dksX3_groups_3 2 rfl rfl)
theorem dX3_groups_76 : decode cX3_groups 76 = .ok (.iload 4, 2) := dk_21 4 (dk_at dksX3_groups_3 5 rfl rfl)
theorem dX3_groups_78 : decode cX3_groups 78 = .ok (.invokestatic 319, 3) := dk_184 1 63 (dk_at dksX3_groups_3 7 rfl rfl)
theorem dX3_groups_81 : decode cX3_groups 81 = .ok (.if_icmp .le 8, 3) := dk_164 0 8 (dk_at dksX3_groups_3 10 rfl rfl)
theorem dX3_groups_84 : decode cX3_groups 84 = .ok (.iload 6, 2) := dk_21 6 (dk_at dksX3_groups_3 13 rfl rfl)
theorem dX3_groups_86 : decode cX3_groups 86 = .ok (.goto 5, 3) := dk_167 0 5 (dk_at dksX3_groups_3 15 rfl rfl)
theorem dX3_groups_89 : decode cX3_groups 89 = .ok (.iload 4, 2) := dk_21 4 (dk_at dksX3_groups_3 18 rfl rfl)
theorem dX3_groups_91 : decode cX3_groups 91 = .ok (.istore 4, 2) := dk_54 4 (dk_at dksX3_groups_3 20 rfl rfl)
theorem dX3_groups_93 : decode cX3_groups 93 = .ok (.iinc 5 1, 3) := dk_132 5 1 (dk_at dksX3_groups_4 0 rfl rfl)
theorem dX3_groups_96 : decode cX3_groups 96 = .ok (.goto (-72), 3) := dk_167 255 184 (dk_at dksX3_groups_4 3 rfl rfl)
theorem dX3_groups_99 : decode cX3_groups 99 = .ok (.iload_n 1, 1) := dk_27 (dk_at dksX3_groups_4 6 rfl rfl)
theorem dX3_groups_100 : decode cX3_groups 100 = .ok (.ifCond .ne 7, 3) := dk_154 0 7 (dk_at dksX3_groups_4 7 rfl rfl)
theorem dX3_groups_103 : decode cX3_groups 103 = .ok (.iload_n 3, 1) := dk_29 (dk_at dksX3_groups_4 10 rfl rfl)
theorem dX3_groups_104 : decode cX3_groups 104 = .ok (.goto 5, 3) := dk_167 0 5 (dk_at dksX3_groups_4 11 rfl rfl)
theorem dX3_groups_107 : decode cX3_groups 107 = .ok (.iload 4, 2) := dk_21 4 (dk_at dksX3_groups_4 14 rfl rfl)
theorem dX3_groups_109 : decode cX3_groups 109 = .ok (.ireturn, 1) := dk_172 (dk_at dksX3_groups_4 16 rfl rfl)
abbrev cX3_means : ByteArray := prog_17_method_114_code
def yX3_means : MethodName := ⟨RX3, "means", "(II)Z"⟩
def dkwX3_means_1 : List UInt8 := [180, 0, 7, 17, 0, 213, 27, 96, 28, 79, 4, 172]
abbrev dktX3_means_1 : List UInt8 := dkwX3_means_1 ++ []
def dkwX3_means_0 : List UInt8 := [27, 3, 16, 9, 184, 0, 56, 153, 0, 13, 28, 3, 16, 9, 184, 0, 56, 154, 0, 5, 3, 172, 42]
abbrev dktX3_means_0 : List UInt8 := dkwX3_means_0 ++ dktX3_means_1
theorem dksX3_means_0 : cX3_means.data.toList.drop 0 = dktX3_means_0 := by decide +kernel
theorem dksX3_means_1 : cX3_means.data.toList.drop 23 = dktX3_means_1 := dk_seg dksX3_means_0 23 rfl rfl
theorem dX3_means_0 : decode cX3_means 0 = .ok (.iload_n 1, 1) := dk_27 (dk_at dksX3_means_0 0 rfl rfl)
theorem dX3_means_1 : decode cX3_means 1 = .ok (.iconst 0, 1) := dk_3 (dk_at dksX3_means_0 1 rfl rfl)
theorem dX3_means_2 : decode cX3_means 2 = .ok (.bipush 9, 2) := dk_16 9 (dk_at dksX3_means_0 2 rfl rfl)
theorem dX3_means_4 : decode cX3_means 4 = .ok (.invokestatic 56, 3) := dk_184 0 56 (dk_at dksX3_means_0 4 rfl rfl)
theorem dX3_means_7 : decode cX3_means 7 = .ok (.ifCond .eq 13, 3) := dk_153 0 13 (dk_at dksX3_means_0 7 rfl rfl)
theorem dX3_means_10 : decode cX3_means 10 = .ok (.iload_n 2, 1) := dk_28 (dk_at dksX3_means_0 10 rfl rfl)
theorem dX3_means_11 : decode cX3_means 11 = .ok (.iconst 0, 1) := dk_3 (dk_at dksX3_means_0 11 rfl rfl)
theorem dX3_means_12 : decode cX3_means 12 = .ok (.bipush 9, 2) := dk_16 9 (dk_at dksX3_means_0 12 rfl rfl)
theorem dX3_means_14 : decode cX3_means 14 = .ok (.invokestatic 56, 3) := dk_184 0 56 (dk_at dksX3_means_0 14 rfl rfl)
theorem dX3_means_17 : decode cX3_means 17 = .ok (.ifCond .ne 5, 3) := dk_154 0 5 (dk_at dksX3_means_0 17 rfl rfl)
theorem dX3_means_20 : decode cX3_means 20 = .ok (.iconst 0, 1) := dk_3 (dk_at dksX3_means_0 20 rfl rfl)
theorem dX3_means_21 : decode cX3_means 21 = .ok (.ireturn, 1) := dk_172 (dk_at dksX3_means_0 21 rfl rfl)
theorem dX3_means_22 : decode cX3_means 22 = .ok (.aload_n 0, 1) := dk_42 (dk_at dksX3_means_0 22 rfl rfl)
theorem dX3_means_23 : decode cX3_means 23 = .ok (.getfield 7, 3) := dk_180 0 7 (dk_at dksX3_means_1 0 rfl rfl)
theorem dX3_means_26 : decode cX3_means 26 = .ok (.sipush 213, 3) := dk_17 0 213 (dk_at dksX3_means_1 3 rfl rfl)
theorem dX3_means_29 : decode cX3_means 29 = .ok (.iload_n 1, 1) := dk_27 (dk_at dksX3_means_1 6 rfl rfl)
theorem dX3_means_30 : decode cX3_means 30 = .ok (.iadd, 1) := dk_96 (dk_at dksX3_means_1 7 rfl rfl)
theorem dX3_means_31 : decode cX3_means 31 = .ok (.iload_n 2, 1) := dk_28 (dk_at dksX3_means_1 8 rfl rfl)
theorem dX3_means_32 : decode cX3_means 32 = .ok (.iastore, 1) := dk_79 (dk_at dksX3_means_1 9 rfl rfl)
theorem dX3_means_33 : decode cX3_means 33 = .ok (.iconst 1, 1) := dk_4 (dk_at dksX3_means_1 10 rfl rfl)
theorem dX3_means_34 : decode cX3_means 34 = .ok (.ireturn, 1) := dk_172 (dk_at dksX3_means_1 11 rfl rfl)
abbrev cX3_passed : ByteArray := prog_17_method_117_code
def yX3_passed : MethodName := ⟨RX3, "passed", "(III)I"⟩
def dkwX3_passed_3 : List UInt8 := [21, 4, 167, 0, 13, 21, 4, 42, 27, 21, 4, 182, 1, 164, 100, 172]
abbrev dktX3_passed_3 : List UInt8 := dkwX3_passed_3 ++ []
def dkwX3_passed_2 : List UInt8 := [54, 4, 42, 27, 21, 4, 182, 1, 164, 2, 160, 0, 9, 132, 4, 1, 167, 255, 242, 29, 4, 160, 0, 8]
abbrev dktX3_passed_2 : List UInt8 := dkwX3_passed_2 ++ dktX3_passed_3
def dkwX3_passed_1 : List UInt8 := [3, 17, 39, 15, 184, 0, 56, 154, 0, 5, 2, 172, 29, 154, 0, 10, 42, 27, 28, 182, 1, 161, 172, 4]
abbrev dktX3_passed_1 : List UInt8 := dkwX3_passed_1 ++ dktX3_passed_2
def dkwX3_passed_0 : List UInt8 := [27, 3, 16, 9, 184, 0, 56, 153, 0, 27, 29, 3, 5, 184, 0, 56, 153, 0, 18, 29, 154, 0, 16, 28]
abbrev dktX3_passed_0 : List UInt8 := dkwX3_passed_0 ++ dktX3_passed_1
theorem dksX3_passed_0 : cX3_passed.data.toList.drop 0 = dktX3_passed_0 := by decide +kernel
theorem dksX3_passed_1 : cX3_passed.data.toList.drop 24 = dktX3_passed_1 := dk_seg dksX3_passed_0 24 rfl rfl
theorem dksX3_passed_2 : cX3_passed.data.toList.drop 48 = dktX3_passed_2 := dk_seg dksX3_passed_1 24 rfl rfl
theorem dksX3_passed_3 : cX3_passed.data.toList.drop 72 = dktX3_passed_3 := dk_seg dksX3_passed_2 24 rfl rfl
theorem dX3_passed_0 : decode cX3_passed 0 = .ok (.iload_n 1, 1) := dk_27 (dk_at dksX3_passed_0 0 rfl rfl)
theorem dX3_passed_1 : decode cX3_passed 1 = .ok (.iconst 0, 1) := dk_3 (dk_at dksX3_passed_0 1 rfl rfl)
theorem dX3_passed_2 : decode cX3_passed 2 = .ok (.bipush 9, 2) := dk_16 9 (dk_at dksX3_passed_0 2 rfl rfl)
theorem dX3_passed_4 : decode cX3_passed 4 = .ok (.invokestatic 56, 3) := dk_184 0 56 (dk_at dksX3_passed_0 4 rfl rfl)
theorem dX3_passed_7 : decode cX3_passed 7 = .ok (.ifCond .eq 27, 3) := dk_153 0 27 (dk_at dksX3_passed_0 7 rfl rfl)
theorem dX3_passed_10 : decode cX3_passed 10 = .ok (.iload_n 3, 1) := dk_29 (dk_at dksX3_passed_0 10 rfl rfl)
theorem dX3_passed_11 : decode cX3_passed 11 = .ok (.iconst 0, 1) := dk_3 (dk_at dksX3_passed_0 11 rfl rfl)
theorem dX3_passed_12 : decode cX3_passed 12 = .ok (.iconst 2, 1) := dk_5 (dk_at dksX3_passed_0 12 rfl rfl)
theorem dX3_passed_13 : decode cX3_passed 13 = .ok (.invokestatic 56, 3) := dk_184 0 56 (dk_at dksX3_passed_0 13 rfl rfl)
theorem dX3_passed_16 : decode cX3_passed 16 = .ok (.ifCond .eq 18, 3) := dk_153 0 18 (dk_at dksX3_passed_0 16 rfl rfl)
theorem dX3_passed_19 : decode cX3_passed 19 = .ok (.iload_n 3, 1) := dk_29 (dk_at dksX3_passed_0 19 rfl rfl)
theorem dX3_passed_20 : decode cX3_passed 20 = .ok (.ifCond .ne 16, 3) := dk_154 0 16 (dk_at dksX3_passed_0 20 rfl rfl)
theorem dX3_passed_23 : decode cX3_passed 23 = .ok (.iload_n 2, 1) := dk_28 (dk_at dksX3_passed_0 23 rfl rfl)
theorem dX3_passed_24 : decode cX3_passed 24 = .ok (.iconst 0, 1) := dk_3 (dk_at dksX3_passed_1 0 rfl rfl)
theorem dX3_passed_25 : decode cX3_passed 25 = .ok (.sipush 9999, 3) := dk_17 39 15 (dk_at dksX3_passed_1 1 rfl rfl)
theorem dX3_passed_28 : decode cX3_passed 28 = .ok (.invokestatic 56, 3) := dk_184 0 56 (dk_at dksX3_passed_1 4 rfl rfl)
theorem dX3_passed_31 : decode cX3_passed 31 = .ok (.ifCond .ne 5, 3) := dk_154 0 5 (dk_at dksX3_passed_1 7 rfl rfl)
theorem dX3_passed_34 : decode cX3_passed 34 = .ok (.iconst (-1), 1) := dk_2 (dk_at dksX3_passed_1 10 rfl rfl)
theorem dX3_passed_35 : decode cX3_passed 35 = .ok (.ireturn, 1) := dk_172 (dk_at dksX3_passed_1 11 rfl rfl)
theorem dX3_passed_36 : decode cX3_passed 36 = .ok (.iload_n 3, 1) := dk_29 (dk_at dksX3_passed_1 12 rfl rfl)
theorem dX3_passed_37 : decode cX3_passed 37 = .ok (.ifCond .ne 10, 3) := dk_154 0 10 (dk_at dksX3_passed_1 13 rfl rfl)
theorem dX3_passed_40 : decode cX3_passed 40 = .ok (.aload_n 0, 1) := dk_42 (dk_at dksX3_passed_1 16 rfl rfl)
theorem dX3_passed_41 : decode cX3_passed 41 = .ok (.iload_n 1, 1) := dk_27 (dk_at dksX3_passed_1 17 rfl rfl)
theorem dX3_passed_42 : decode cX3_passed 42 = .ok (.iload_n 2, 1) := dk_28 (dk_at dksX3_passed_1 18 rfl rfl)
theorem dX3_passed_43 : decode cX3_passed 43 = .ok (.invokevirtual 417, 3) := dk_182 1 161 (dk_at dksX3_passed_1 19 rfl rfl)
theorem dX3_passed_46 : decode cX3_passed 46 = .ok (.ireturn, 1) := dk_172 (dk_at dksX3_passed_1 22 rfl rfl)
theorem dX3_passed_47 : decode cX3_passed 47 = .ok (.iconst 1, 1) := dk_4 (dk_at dksX3_passed_1 23 rfl rfl)
theorem dX3_passed_48 : decode cX3_passed 48 = .ok (.istore 4, 2) := dk_54 4 (dk_at dksX3_passed_2 0 rfl rfl)
theorem dX3_passed_50 : decode cX3_passed 50 = .ok (.aload_n 0, 1) := dk_42 (dk_at dksX3_passed_2 2 rfl rfl)
theorem dX3_passed_51 : decode cX3_passed 51 = .ok (.iload_n 1, 1) := dk_27 (dk_at dksX3_passed_2 3 rfl rfl)
theorem dX3_passed_52 : decode cX3_passed 52 = .ok (.iload 4, 2) := dk_21 4 (dk_at dksX3_passed_2 4 rfl rfl)
theorem dX3_passed_54 : decode cX3_passed 54 = .ok (.invokevirtual 420, 3) := dk_182 1 164 (dk_at dksX3_passed_2 6 rfl rfl)
theorem dX3_passed_57 : decode cX3_passed 57 = .ok (.iconst (-1), 1) := dk_2 (dk_at dksX3_passed_2 9 rfl rfl)
theorem dX3_passed_58 : decode cX3_passed 58 = .ok (.if_icmp .ne 9, 3) := dk_160 0 9 (dk_at dksX3_passed_2 10 rfl rfl)
theorem dX3_passed_61 : decode cX3_passed 61 = .ok (.iinc 4 1, 3) := dk_132 4 1 (dk_at dksX3_passed_2 13 rfl rfl)
theorem dX3_passed_64 : decode cX3_passed 64 = .ok (.goto (-14), 3) := dk_167 255 242 (dk_at dksX3_passed_2 16 rfl rfl)
theorem dX3_passed_67 : decode cX3_passed 67 = .ok (.iload_n 3, 1) := dk_29 (dk_at dksX3_passed_2 19 rfl rfl)
theorem dX3_passed_68 : decode cX3_passed 68 = .ok (.iconst 1, 1) := dk_4 (dk_at dksX3_passed_2 20 rfl rfl)
theorem dX3_passed_69 : decode cX3_passed 69 = .ok (.if_icmp .ne 8, 3) := dk_160 0 8 (dk_at dksX3_passed_2 21 rfl rfl)
theorem dX3_passed_72 : decode cX3_passed 72 = .ok (.iload 4, 2) := dk_21 4 (dk_at dksX3_passed_3 0 rfl rfl)
theorem dX3_passed_74 : decode cX3_passed 74 = .ok (.goto 13, 3) := dk_167 0 13 (dk_at dksX3_passed_3 2 rfl rfl)
theorem dX3_passed_77 : decode cX3_passed 77 = .ok (.iload 4, 2) := dk_21 4 (dk_at dksX3_passed_3 5 rfl rfl)
theorem dX3_passed_79 : decode cX3_passed 79 = .ok (.aload_n 0, 1) := dk_42 (dk_at dksX3_passed_3 7 rfl rfl)
theorem dX3_passed_80 : decode cX3_passed 80 = .ok (.iload_n 1, 1) := dk_27 (dk_at dksX3_passed_3 8 rfl rfl)
theorem dX3_passed_81 : decode cX3_passed 81 = .ok (.iload 4, 2) := dk_21 4 (dk_at dksX3_passed_3 9 rfl rfl)
theorem dX3_passed_83 : decode cX3_passed 83 = .ok (.invokevirtual 420, 3) := dk_182 1 164 (dk_at dksX3_passed_3 11 rfl rfl)
theorem dX3_passed_86 : decode cX3_passed 86 = .ok (.isub, 1) := dk_100 (dk_at dksX3_passed_3 14 rfl rfl)
theorem dX3_passed_87 : decode cX3_passed 87 = .ok (.ireturn, 1) := dk_172 (dk_at dksX3_passed_3 15 rfl rfl)
abbrev cX3_passedBy : ByteArray := prog_17_method_115_code
def yX3_passedBy : MethodName := ⟨RX3, "passedBy", "(II)I"⟩
def dkwX3_passedBy_1 : List UInt8 := [132, 4, 1, 167, 255, 236, 29, 172]
abbrev dktX3_passedBy_1 : List UInt8 := dkwX3_passedBy_1 ++ []
def dkwX3_passedBy_0 : List UInt8 := [27, 62, 3, 54, 4, 21, 4, 28, 162, 0, 20, 42, 180, 0, 7, 17, 0, 213, 29, 96, 46, 62]
abbrev dktX3_passedBy_0 : List UInt8 := dkwX3_passedBy_0 ++ dktX3_passedBy_1
theorem dksX3_passedBy_0 : cX3_passedBy.data.toList.drop 0 = dktX3_passedBy_0 := by decide +kernel
theorem dksX3_passedBy_1 : cX3_passedBy.data.toList.drop 22 = dktX3_passedBy_1 := dk_seg dksX3_passedBy_0 22 rfl rfl
theorem dX3_passedBy_0 : decode cX3_passedBy 0 = .ok (.iload_n 1, 1) := dk_27 (dk_at dksX3_passedBy_0 0 rfl rfl)
theorem dX3_passedBy_1 : decode cX3_passedBy 1 = .ok (.istore_n 3, 1) := dk_62 (dk_at dksX3_passedBy_0 1 rfl rfl)
theorem dX3_passedBy_2 : decode cX3_passedBy 2 = .ok (.iconst 0, 1) := dk_3 (dk_at dksX3_passedBy_0 2 rfl rfl)
theorem dX3_passedBy_3 : decode cX3_passedBy 3 = .ok (.istore 4, 2) := dk_54 4 (dk_at dksX3_passedBy_0 3 rfl rfl)
theorem dX3_passedBy_5 : decode cX3_passedBy 5 = .ok (.iload 4, 2) := dk_21 4 (dk_at dksX3_passedBy_0 5 rfl rfl)
theorem dX3_passedBy_7 : decode cX3_passedBy 7 = .ok (.iload_n 2, 1) := dk_28 (dk_at dksX3_passedBy_0 7 rfl rfl)
theorem dX3_passedBy_8 : decode cX3_passedBy 8 = .ok (.if_icmp .ge 20, 3) := dk_162 0 20 (dk_at dksX3_passedBy_0 8 rfl rfl)
theorem dX3_passedBy_11 : decode cX3_passedBy 11 = .ok (.aload_n 0, 1) := dk_42 (dk_at dksX3_passedBy_0 11 rfl rfl)
theorem dX3_passedBy_12 : decode cX3_passedBy 12 = .ok (.getfield 7, 3) := dk_180 0 7 (dk_at dksX3_passedBy_0 12 rfl rfl)
theorem dX3_passedBy_15 : decode cX3_passedBy 15 = .ok (.sipush 213, 3) := dk_17 0 213 (dk_at dksX3_passedBy_0 15 rfl rfl)
theorem dX3_passedBy_18 : decode cX3_passedBy 18 = .ok (.iload_n 3, 1) := dk_29 (dk_at dksX3_passedBy_0 18 rfl rfl)
theorem dX3_passedBy_19 : decode cX3_passedBy 19 = .ok (.iadd, 1) := dk_96 (dk_at dksX3_passedBy_0 19 rfl rfl)
theorem dX3_passedBy_20 : decode cX3_passedBy 20 = .ok (.iaload, 1) := dk_46 (dk_at dksX3_passedBy_0 20 rfl rfl)
theorem dX3_passedBy_21 : decode cX3_passedBy 21 = .ok (.istore_n 3, 1) := dk_62 (dk_at dksX3_passedBy_0 21 rfl rfl)
theorem dX3_passedBy_22 : decode cX3_passedBy 22 = .ok (.iinc 4 1, 3) := dk_132 4 1 (dk_at dksX3_passedBy_1 0 rfl rfl)
theorem dX3_passedBy_25 : decode cX3_passedBy 25 = .ok (.goto (-20), 3) := dk_167 255 236 (dk_at dksX3_passedBy_1 3 rfl rfl)
theorem dX3_passedBy_28 : decode cX3_passedBy 28 = .ok (.iload_n 3, 1) := dk_29 (dk_at dksX3_passedBy_1 6 rfl rfl)
theorem dX3_passedBy_29 : decode cX3_passedBy 29 = .ok (.ireturn, 1) := dk_172 (dk_at dksX3_passedBy_1 7 rfl rfl)
abbrev cX3_wasThere : ByteArray := prog_17_method_116_code
def yX3_wasThere : MethodName := ⟨RX3, "wasThere", "(II)I"⟩
def dkwX3_wasThere_1 : List UInt8 := [132, 3, 1, 167, 255, 231, 2, 172]
abbrev dktX3_wasThere_1 : List UInt8 := dkwX3_wasThere_1 ++ []
def dkwX3_wasThere_0 : List UInt8 := [3, 62, 29, 28, 162, 0, 26, 42, 27, 29, 182, 1, 161, 42, 27, 28, 182, 1, 161, 160, 0, 5, 29, 172]
abbrev dktX3_wasThere_0 : List UInt8 := dkwX3_wasThere_0 ++ dktX3_wasThere_1
theorem dksX3_wasThere_0 : cX3_wasThere.data.toList.drop 0 = dktX3_wasThere_0 := by decide +kernel
theorem dksX3_wasThere_1 : cX3_wasThere.data.toList.drop 24 = dktX3_wasThere_1 := dk_seg dksX3_wasThere_0 24 rfl rfl
theorem dX3_wasThere_0 : decode cX3_wasThere 0 = .ok (.iconst 0, 1) := dk_3 (dk_at dksX3_wasThere_0 0 rfl rfl)
theorem dX3_wasThere_1 : decode cX3_wasThere 1 = .ok (.istore_n 3, 1) := dk_62 (dk_at dksX3_wasThere_0 1 rfl rfl)
theorem dX3_wasThere_2 : decode cX3_wasThere 2 = .ok (.iload_n 3, 1) := dk_29 (dk_at dksX3_wasThere_0 2 rfl rfl)
theorem dX3_wasThere_3 : decode cX3_wasThere 3 = .ok (.iload_n 2, 1) := dk_28 (dk_at dksX3_wasThere_0 3 rfl rfl)
theorem dX3_wasThere_4 : decode cX3_wasThere 4 = .ok (.if_icmp .ge 26, 3) := dk_162 0 26 (dk_at dksX3_wasThere_0 4 rfl rfl)
theorem dX3_wasThere_7 : decode cX3_wasThere 7 = .ok (.aload_n 0, 1) := dk_42 (dk_at dksX3_wasThere_0 7 rfl rfl)
theorem dX3_wasThere_8 : decode cX3_wasThere 8 = .ok (.iload_n 1, 1) := dk_27 (dk_at dksX3_wasThere_0 8 rfl rfl)
theorem dX3_wasThere_9 : decode cX3_wasThere 9 = .ok (.iload_n 3, 1) := dk_29 (dk_at dksX3_wasThere_0 9 rfl rfl)
theorem dX3_wasThere_10 : decode cX3_wasThere 10 = .ok (.invokevirtual 417, 3) := dk_182 1 161 (dk_at dksX3_wasThere_0 10 rfl rfl)
theorem dX3_wasThere_13 : decode cX3_wasThere 13 = .ok (.aload_n 0, 1) := dk_42 (dk_at dksX3_wasThere_0 13 rfl rfl)
theorem dX3_wasThere_14 : decode cX3_wasThere 14 = .ok (.iload_n 1, 1) := dk_27 (dk_at dksX3_wasThere_0 14 rfl rfl)
theorem dX3_wasThere_15 : decode cX3_wasThere 15 = .ok (.iload_n 2, 1) := dk_28 (dk_at dksX3_wasThere_0 15 rfl rfl)
theorem dX3_wasThere_16 : decode cX3_wasThere 16 = .ok (.invokevirtual 417, 3) := dk_182 1 161 (dk_at dksX3_wasThere_0 16 rfl rfl)
theorem dX3_wasThere_19 : decode cX3_wasThere 19 = .ok (.if_icmp .ne 5, 3) := dk_160 0 5 (dk_at dksX3_wasThere_0 19 rfl rfl)
theorem dX3_wasThere_22 : decode cX3_wasThere 22 = .ok (.iload_n 3, 1) := dk_29 (dk_at dksX3_wasThere_0 22 rfl rfl)
theorem dX3_wasThere_23 : decode cX3_wasThere 23 = .ok (.ireturn, 1) := dk_172 (dk_at dksX3_wasThere_0 23 rfl rfl)
theorem dX3_wasThere_24 : decode cX3_wasThere 24 = .ok (.iinc 3 1, 3) := dk_132 3 1 (dk_at dksX3_wasThere_1 0 rfl rfl)
theorem dX3_wasThere_27 : decode cX3_wasThere 27 = .ok (.goto (-25), 3) := dk_167 255 231 (dk_at dksX3_wasThere_1 3 rfl rfl)
theorem dX3_wasThere_30 : decode cX3_wasThere 30 = .ok (.iconst (-1), 1) := dk_2 (dk_at dksX3_wasThere_1 6 rfl rfl)
theorem dX3_wasThere_31 : decode cX3_wasThere 31 = .ok (.ireturn, 1) := dk_172 (dk_at dksX3_wasThere_1 7 rfl rfl)
abbrev cX3_share : ByteArray := prog_17_method_120_code
def yX3_share : MethodName := ⟨RX3, "share", "(II)I"⟩
def dkwX3_share_6 : List UInt8 := [29, 108, 21, 5, 21, 4, 162, 0, 7, 4, 167, 0, 4, 3, 96, 172]
abbrev dktX3_share_6 : List UInt8 := dkwX3_share_6 ++ []
def dkwX3_share_5 : List UInt8 := [162, 0, 7, 4, 167, 0, 4, 3, 96, 54, 5, 132, 6, 1, 167, 255, 178, 27, 42, 28, 182, 1, 167, 104]
abbrev dktX3_share_5 : List UInt8 := dkwX3_share_5 ++ dktX3_share_6
def dkwX3_share_4 : List UInt8 := [182, 1, 167, 104, 29, 112, 100, 54, 7, 21, 5, 21, 7, 157, 0, 14, 21, 7, 154, 0, 13, 21, 6, 28]
abbrev dktX3_share_4 : List UInt8 := dkwX3_share_4 ++ dktX3_share_5
def dkwX3_share_3 : List UInt8 := [21, 6, 182, 1, 167, 104, 29, 108, 100, 54, 4, 27, 42, 21, 6, 182, 1, 167, 104, 29, 112, 27, 42, 28]
abbrev dktX3_share_3 : List UInt8 := dkwX3_share_3 ++ dktX3_share_4
def dkwX3_share_2 : List UInt8 := [54, 4, 3, 54, 5, 3, 54, 6, 21, 6, 42, 180, 0, 7, 16, 37, 46, 162, 0, 72, 21, 4, 27, 42]
abbrev dktX3_share_2 : List UInt8 := dkwX3_share_2 ++ dktX3_share_3
def dkwX3_share_1 : List UInt8 := [16, 7, 46, 154, 0, 5, 2, 172, 42, 28, 182, 1, 54, 154, 0, 5, 3, 172, 42, 182, 1, 170, 62, 27]
abbrev dktX3_share_1 : List UInt8 := dkwX3_share_1 ++ dktX3_share_2
def dkwX3_share_0 : List UInt8 := [27, 3, 17, 39, 15, 184, 0, 56, 153, 0, 21, 42, 28, 182, 0, 68, 153, 0, 13, 42, 180, 0, 7]
abbrev dktX3_share_0 : List UInt8 := dkwX3_share_0 ++ dktX3_share_1
theorem dksX3_share_0 : cX3_share.data.toList.drop 0 = dktX3_share_0 := by decide +kernel
theorem dksX3_share_1 : cX3_share.data.toList.drop 23 = dktX3_share_1 := dk_seg dksX3_share_0 23 rfl rfl
theorem dksX3_share_2 : cX3_share.data.toList.drop 47 = dktX3_share_2 := dk_seg dksX3_share_1 24 rfl rfl
theorem dksX3_share_3 : cX3_share.data.toList.drop 71 = dktX3_share_3 := dk_seg dksX3_share_2 24 rfl rfl
theorem dksX3_share_4 : cX3_share.data.toList.drop 95 = dktX3_share_4 := dk_seg dksX3_share_3 24 rfl rfl
theorem dksX3_share_5 : cX3_share.data.toList.drop 119 = dktX3_share_5 := dk_seg dksX3_share_4 24 rfl rfl
theorem dksX3_share_6 : cX3_share.data.toList.drop 143 = dktX3_share_6 := dk_seg dksX3_share_5 24 rfl rfl
theorem dX3_share_0 : decode cX3_share 0 = .ok (.iload_n 1, 1) := dk_27 (dk_at dksX3_share_0 0 rfl rfl)
theorem dX3_share_1 : decode cX3_share 1 = .ok (.iconst 0, 1) := dk_3 (dk_at dksX3_share_0 1 rfl rfl)
theorem dX3_share_2 : decode cX3_share 2 = .ok (.sipush 9999, 3) := dk_17 39 15 (dk_at dksX3_share_0 2 rfl rfl)
theorem dX3_share_5 : decode cX3_share 5 = .ok (.invokestatic 56, 3) := dk_184 0 56 (dk_at dksX3_share_0 5 rfl rfl)
theorem dX3_share_8 : decode cX3_share 8 = .ok (.ifCond .eq 21, 3) := dk_153 0 21 (dk_at dksX3_share_0 8 rfl rfl)
theorem dX3_share_11 : decode cX3_share 11 = .ok (.aload_n 0, 1) := dk_42 (dk_at dksX3_share_0 11 rfl rfl)
theorem dX3_share_12 : decode cX3_share 12 = .ok (.iload_n 2, 1) := dk_28 (dk_at dksX3_share_0 12 rfl rfl)
theorem dX3_share_13 : decode cX3_share 13 = .ok (.invokevirtual 68, 3) := dk_182 0 68 (dk_at dksX3_share_0 13 rfl rfl)
theorem dX3_share_16 : decode cX3_share 16 = .ok (.ifCond .eq 13, 3) := dk_153 0 13 (dk_at dksX3_share_0 16 rfl rfl)
theorem dX3_share_19 : decode cX3_share 19 = .ok (.aload_n 0, 1) := dk_42 (dk_at dksX3_share_0 19 rfl rfl)
theorem dX3_share_20 : decode cX3_share 20 = .ok (.getfield 7, 3) := dk_180 0 7 (dk_at dksX3_share_0 20 rfl rfl)
theorem dX3_share_23 : decode cX3_share 23 = .ok (.bipush 7, 2) := dk_16 7 (dk_at dksX3_share_1 0 rfl rfl)
theorem dX3_share_25 : decode cX3_share 25 = .ok (.iaload, 1) := dk_46 (dk_at dksX3_share_1 2 rfl rfl)
theorem dX3_share_26 : decode cX3_share 26 = .ok (.ifCond .ne 5, 3) := dk_154 0 5 (dk_at dksX3_share_1 3 rfl rfl)
theorem dX3_share_29 : decode cX3_share 29 = .ok (.iconst (-1), 1) := dk_2 (dk_at dksX3_share_1 6 rfl rfl)
theorem dX3_share_30 : decode cX3_share 30 = .ok (.ireturn, 1) := dk_172 (dk_at dksX3_share_1 7 rfl rfl)
theorem dX3_share_31 : decode cX3_share 31 = .ok (.aload_n 0, 1) := dk_42 (dk_at dksX3_share_1 8 rfl rfl)
theorem dX3_share_32 : decode cX3_share 32 = .ok (.iload_n 2, 1) := dk_28 (dk_at dksX3_share_1 9 rfl rfl)
theorem dX3_share_33 : decode cX3_share 33 = .ok (.invokevirtual 310, 3) := dk_182 1 54 (dk_at dksX3_share_1 10 rfl rfl)
theorem dX3_share_36 : decode cX3_share 36 = .ok (.ifCond .ne 5, 3) := dk_154 0 5 (dk_at dksX3_share_1 13 rfl rfl)
theorem dX3_share_39 : decode cX3_share 39 = .ok (.iconst 0, 1) := dk_3 (dk_at dksX3_share_1 16 rfl rfl)
theorem dX3_share_40 : decode cX3_share 40 = .ok (.ireturn, 1) := dk_172 (dk_at dksX3_share_1 17 rfl rfl)
theorem dX3_share_41 : decode cX3_share 41 = .ok (.aload_n 0, 1) := dk_42 (dk_at dksX3_share_1 18 rfl rfl)
theorem dX3_share_42 : decode cX3_share 42 = .ok (.invokevirtual 426, 3) := dk_182 1 170 (dk_at dksX3_share_1 19 rfl rfl)
theorem dX3_share_45 : decode cX3_share 45 = .ok (.istore_n 3, 1) := dk_62 (dk_at dksX3_share_1 22 rfl rfl)
theorem dX3_share_46 : decode cX3_share 46 = .ok (.iload_n 1, 1) := dk_27 (dk_at dksX3_share_1 23 rfl rfl)
theorem dX3_share_47 : decode cX3_share 47 = .ok (.istore 4, 2) := dk_54 4 (dk_at dksX3_share_2 0 rfl rfl)
theorem dX3_share_49 : decode cX3_share 49 = .ok (.iconst 0, 1) := dk_3 (dk_at dksX3_share_2 2 rfl rfl)
theorem dX3_share_50 : decode cX3_share 50 = .ok (.istore 5, 2) := dk_54 5 (dk_at dksX3_share_2 3 rfl rfl)
theorem dX3_share_52 : decode cX3_share 52 = .ok (.iconst 0, 1) := dk_3 (dk_at dksX3_share_2 5 rfl rfl)
theorem dX3_share_53 : decode cX3_share 53 = .ok (.istore 6, 2) := dk_54 6 (dk_at dksX3_share_2 6 rfl rfl)
theorem dX3_share_55 : decode cX3_share 55 = .ok (.iload 6, 2) := dk_21 6 (dk_at dksX3_share_2 8 rfl rfl)
theorem dX3_share_57 : decode cX3_share 57 = .ok (.aload_n 0, 1) := dk_42 (dk_at dksX3_share_2 10 rfl rfl)
theorem dX3_share_58 : decode cX3_share 58 = .ok (.getfield 7, 3) := dk_180 0 7 (dk_at dksX3_share_2 11 rfl rfl)
theorem dX3_share_61 : decode cX3_share 61 = .ok (.bipush 37, 2) := dk_16 37 (dk_at dksX3_share_2 14 rfl rfl)
theorem dX3_share_63 : decode cX3_share 63 = .ok (.iaload, 1) := dk_46 (dk_at dksX3_share_2 16 rfl rfl)
theorem dX3_share_64 : decode cX3_share 64 = .ok (.if_icmp .ge 72, 3) := dk_162 0 72 (dk_at dksX3_share_2 17 rfl rfl)
theorem dX3_share_67 : decode cX3_share 67 = .ok (.iload 4, 2) := dk_21 4 (dk_at dksX3_share_2 20 rfl rfl)
theorem dX3_share_69 : decode cX3_share 69 = .ok (.iload_n 1, 1) := dk_27 (dk_at dksX3_share_2 22 rfl rfl)
theorem dX3_share_70 : decode cX3_share 70 = .ok (.aload_n 0, 1) := dk_42 (dk_at dksX3_share_2 23 rfl rfl)
theorem dX3_share_71 : decode cX3_share 71 = .ok (.iload 6, 2) := dk_21 6 (dk_at dksX3_share_3 0 rfl rfl)
theorem dX3_share_73 : decode cX3_share 73 = .ok (.invokevirtual 423, 3) := dk_182 1 167 (dk_at dksX3_share_3 2 rfl rfl)
theorem dX3_share_76 : decode cX3_share 76 = .ok (.imul, 1) := dk_104 (dk_at dksX3_share_3 5 rfl rfl)
theorem dX3_share_77 : decode cX3_share 77 = .ok (.iload_n 3, 1) := dk_29 (dk_at dksX3_share_3 6 rfl rfl)
theorem dX3_share_78 : decode cX3_share 78 = .ok (.idiv, 1) := dk_108 (dk_at dksX3_share_3 7 rfl rfl)
theorem dX3_share_79 : decode cX3_share 79 = .ok (.isub, 1) := dk_100 (dk_at dksX3_share_3 8 rfl rfl)
theorem dX3_share_80 : decode cX3_share 80 = .ok (.istore 4, 2) := dk_54 4 (dk_at dksX3_share_3 9 rfl rfl)
theorem dX3_share_82 : decode cX3_share 82 = .ok (.iload_n 1, 1) := dk_27 (dk_at dksX3_share_3 11 rfl rfl)
theorem dX3_share_83 : decode cX3_share 83 = .ok (.aload_n 0, 1) := dk_42 (dk_at dksX3_share_3 12 rfl rfl)
theorem dX3_share_84 : decode cX3_share 84 = .ok (.iload 6, 2) := dk_21 6 (dk_at dksX3_share_3 13 rfl rfl)
theorem dX3_share_86 : decode cX3_share 86 = .ok (.invokevirtual 423, 3) := dk_182 1 167 (dk_at dksX3_share_3 15 rfl rfl)
theorem dX3_share_89 : decode cX3_share 89 = .ok (.imul, 1) := dk_104 (dk_at dksX3_share_3 18 rfl rfl)
theorem dX3_share_90 : decode cX3_share 90 = .ok (.iload_n 3, 1) := dk_29 (dk_at dksX3_share_3 19 rfl rfl)
theorem dX3_share_91 : decode cX3_share 91 = .ok (.irem, 1) := dk_112 (dk_at dksX3_share_3 20 rfl rfl)
theorem dX3_share_92 : decode cX3_share 92 = .ok (.iload_n 1, 1) := dk_27 (dk_at dksX3_share_3 21 rfl rfl)
theorem dX3_share_93 : decode cX3_share 93 = .ok (.aload_n 0, 1) := dk_42 (dk_at dksX3_share_3 22 rfl rfl)
theorem dX3_share_94 : decode cX3_share 94 = .ok (.iload_n 2, 1) := dk_28 (dk_at dksX3_share_3 23 rfl rfl)
theorem dX3_share_95 : decode cX3_share 95 = .ok (.invokevirtual 423, 3) := dk_182 1 167 (dk_at dksX3_share_4 0 rfl rfl)
theorem dX3_share_98 : decode cX3_share 98 = .ok (.imul, 1) := dk_104 (dk_at dksX3_share_4 3 rfl rfl)
theorem dX3_share_99 : decode cX3_share 99 = .ok (.iload_n 3, 1) := dk_29 (dk_at dksX3_share_4 4 rfl rfl)
theorem dX3_share_100 : decode cX3_share 100 = .ok (.irem, 1) := dk_112 (dk_at dksX3_share_4 5 rfl rfl)
theorem dX3_share_101 : decode cX3_share 101 = .ok (.isub, 1) := dk_100 (dk_at dksX3_share_4 6 rfl rfl)
theorem dX3_share_102 : decode cX3_share 102 = .ok (.istore 7, 2) := dk_54 7 (dk_at dksX3_share_4 7 rfl rfl)
theorem dX3_share_104 : decode cX3_share 104 = .ok (.iload 5, 2) := dk_21 5 (dk_at dksX3_share_4 9 rfl rfl)
theorem dX3_share_106 : decode cX3_share 106 = .ok (.iload 7, 2) := dk_21 7 (dk_at dksX3_share_4 11 rfl rfl)
theorem dX3_share_108 : decode cX3_share 108 = .ok (.ifCond .gt 14, 3) := dk_157 0 14 (dk_at dksX3_share_4 13 rfl rfl)
theorem dX3_share_111 : decode cX3_share 111 = .ok (.iload 7, 2) := dk_21 7 (dk_at dksX3_share_4 16 rfl rfl)
theorem dX3_share_113 : decode cX3_share 113 = .ok (.ifCond .ne 13, 3) := dk_154 0 13 (dk_at dksX3_share_4 18 rfl rfl)
theorem dX3_share_116 : decode cX3_share 116 = .ok (.iload 6, 2) := dk_21 6 (dk_at dksX3_share_4 21 rfl rfl)
theorem dX3_share_118 : decode cX3_share 118 = .ok (.iload_n 2, 1) := dk_28 (dk_at dksX3_share_4 23 rfl rfl)
theorem dX3_share_119 : decode cX3_share 119 = .ok (.if_icmp .ge 7, 3) := dk_162 0 7 (dk_at dksX3_share_5 0 rfl rfl)
theorem dX3_share_122 : decode cX3_share 122 = .ok (.iconst 1, 1) := dk_4 (dk_at dksX3_share_5 3 rfl rfl)
theorem dX3_share_123 : decode cX3_share 123 = .ok (.goto 4, 3) := dk_167 0 4 (dk_at dksX3_share_5 4 rfl rfl)
theorem dX3_share_126 : decode cX3_share 126 = .ok (.iconst 0, 1) := dk_3 (dk_at dksX3_share_5 7 rfl rfl)
theorem dX3_share_127 : decode cX3_share 127 = .ok (.iadd, 1) := dk_96 (dk_at dksX3_share_5 8 rfl rfl)
theorem dX3_share_128 : decode cX3_share 128 = .ok (.istore 5, 2) := dk_54 5 (dk_at dksX3_share_5 9 rfl rfl)
theorem dX3_share_130 : decode cX3_share 130 = .ok (.iinc 6 1, 3) := dk_132 6 1 (dk_at dksX3_share_5 11 rfl rfl)
theorem dX3_share_133 : decode cX3_share 133 = .ok (.goto (-78), 3) := dk_167 255 178 (dk_at dksX3_share_5 14 rfl rfl)
theorem dX3_share_136 : decode cX3_share 136 = .ok (.iload_n 1, 1) := dk_27 (dk_at dksX3_share_5 17 rfl rfl)
theorem dX3_share_137 : decode cX3_share 137 = .ok (.aload_n 0, 1) := dk_42 (dk_at dksX3_share_5 18 rfl rfl)
theorem dX3_share_138 : decode cX3_share 138 = .ok (.iload_n 2, 1) := dk_28 (dk_at dksX3_share_5 19 rfl rfl)
theorem dX3_share_139 : decode cX3_share 139 = .ok (.invokevirtual 423, 3) := dk_182 1 167 (dk_at dksX3_share_5 20 rfl rfl)
theorem dX3_share_142 : decode cX3_share 142 = .ok (.imul, 1) := dk_104 (dk_at dksX3_share_5 23 rfl rfl)
theorem dX3_share_143 : decode cX3_share 143 = .ok (.iload_n 3, 1) := dk_29 (dk_at dksX3_share_6 0 rfl rfl)
theorem dX3_share_144 : decode cX3_share 144 = .ok (.idiv, 1) := dk_108 (dk_at dksX3_share_6 1 rfl rfl)
theorem dX3_share_145 : decode cX3_share 145 = .ok (.iload 5, 2) := dk_21 5 (dk_at dksX3_share_6 2 rfl rfl)
theorem dX3_share_147 : decode cX3_share 147 = .ok (.iload 4, 2) := dk_21 4 (dk_at dksX3_share_6 4 rfl rfl)
theorem dX3_share_149 : decode cX3_share 149 = .ok (.if_icmp .ge 7, 3) := dk_162 0 7 (dk_at dksX3_share_6 6 rfl rfl)
theorem dX3_share_152 : decode cX3_share 152 = .ok (.iconst 1, 1) := dk_4 (dk_at dksX3_share_6 9 rfl rfl)
theorem dX3_share_153 : decode cX3_share 153 = .ok (.goto 4, 3) := dk_167 0 4 (dk_at dksX3_share_6 10 rfl rfl)
theorem dX3_share_156 : decode cX3_share 156 = .ok (.iconst 0, 1) := dk_3 (dk_at dksX3_share_6 13 rfl rfl)
theorem dX3_share_157 : decode cX3_share 157 = .ok (.iadd, 1) := dk_96 (dk_at dksX3_share_6 14 rfl rfl)
theorem dX3_share_158 : decode cX3_share 158 = .ok (.ireturn, 1) := dk_172 (dk_at dksX3_share_6 15 rfl rfl)
abbrev cX3_allWeights : ByteArray := prog_17_method_119_code
def yX3_allWeights : MethodName := ⟨RX3, "allWeights", "()I"⟩
def dkwX3_allWeights_1 : List UInt8 := [132, 2, 1, 167, 255, 234, 27, 172]
abbrev dktX3_allWeights_1 : List UInt8 := dkwX3_allWeights_1 ++ []
def dkwX3_allWeights_0 : List UInt8 := [3, 60, 3, 61, 28, 42, 180, 0, 7, 16, 37, 46, 162, 0, 17, 27, 42, 28, 182, 1, 167, 96, 60]
abbrev dktX3_allWeights_0 : List UInt8 := dkwX3_allWeights_0 ++ dktX3_allWeights_1
theorem dksX3_allWeights_0 : cX3_allWeights.data.toList.drop 0 = dktX3_allWeights_0 := by decide +kernel
theorem dksX3_allWeights_1 : cX3_allWeights.data.toList.drop 23 = dktX3_allWeights_1 := dk_seg dksX3_allWeights_0 23 rfl rfl
theorem dX3_allWeights_0 : decode cX3_allWeights 0 = .ok (.iconst 0, 1) := dk_3 (dk_at dksX3_allWeights_0 0 rfl rfl)
theorem dX3_allWeights_1 : decode cX3_allWeights 1 = .ok (.istore_n 1, 1) := dk_60 (dk_at dksX3_allWeights_0 1 rfl rfl)
theorem dX3_allWeights_2 : decode cX3_allWeights 2 = .ok (.iconst 0, 1) := dk_3 (dk_at dksX3_allWeights_0 2 rfl rfl)
theorem dX3_allWeights_3 : decode cX3_allWeights 3 = .ok (.istore_n 2, 1) := dk_61 (dk_at dksX3_allWeights_0 3 rfl rfl)
theorem dX3_allWeights_4 : decode cX3_allWeights 4 = .ok (.iload_n 2, 1) := dk_28 (dk_at dksX3_allWeights_0 4 rfl rfl)
theorem dX3_allWeights_5 : decode cX3_allWeights 5 = .ok (.aload_n 0, 1) := dk_42 (dk_at dksX3_allWeights_0 5 rfl rfl)
theorem dX3_allWeights_6 : decode cX3_allWeights 6 = .ok (.getfield 7, 3) := dk_180 0 7 (dk_at dksX3_allWeights_0 6 rfl rfl)
theorem dX3_allWeights_9 : decode cX3_allWeights 9 = .ok (.bipush 37, 2) := dk_16 37 (dk_at dksX3_allWeights_0 9 rfl rfl)
theorem dX3_allWeights_11 : decode cX3_allWeights 11 = .ok (.iaload, 1) := dk_46 (dk_at dksX3_allWeights_0 11 rfl rfl)
theorem dX3_allWeights_12 : decode cX3_allWeights 12 = .ok (.if_icmp .ge 17, 3) := dk_162 0 17 (dk_at dksX3_allWeights_0 12 rfl rfl)
theorem dX3_allWeights_15 : decode cX3_allWeights 15 = .ok (.iload_n 1, 1) := dk_27 (dk_at dksX3_allWeights_0 15 rfl rfl)
theorem dX3_allWeights_16 : decode cX3_allWeights 16 = .ok (.aload_n 0, 1) := dk_42 (dk_at dksX3_allWeights_0 16 rfl rfl)
theorem dX3_allWeights_17 : decode cX3_allWeights 17 = .ok (.iload_n 2, 1) := dk_28 (dk_at dksX3_allWeights_0 17 rfl rfl)
theorem dX3_allWeights_18 : decode cX3_allWeights 18 = .ok (.invokevirtual 423, 3) := dk_182 1 167 (dk_at dksX3_allWeights_0 18 rfl rfl)
theorem dX3_allWeights_21 : decode cX3_allWeights 21 = .ok (.iadd, 1) := dk_96 (dk_at dksX3_allWeights_0 21 rfl rfl)
theorem dX3_allWeights_22 : decode cX3_allWeights 22 = .ok (.istore_n 1, 1) := dk_60 (dk_at dksX3_allWeights_0 22 rfl rfl)
theorem dX3_allWeights_23 : decode cX3_allWeights 23 = .ok (.iinc 2 1, 3) := dk_132 2 1 (dk_at dksX3_allWeights_1 0 rfl rfl)
theorem dX3_allWeights_26 : decode cX3_allWeights 26 = .ok (.goto (-22), 3) := dk_167 255 234 (dk_at dksX3_allWeights_1 3 rfl rfl)
theorem dX3_allWeights_29 : decode cX3_allWeights 29 = .ok (.iload_n 1, 1) := dk_27 (dk_at dksX3_allWeights_1 6 rfl rfl)
theorem dX3_allWeights_30 : decode cX3_allWeights 30 = .ok (.ireturn, 1) := dk_172 (dk_at dksX3_allWeights_1 7 rfl rfl)
abbrev cX3_weightOf : ByteArray := prog_17_method_118_code
def yX3_weightOf : MethodName := ⟨RX3, "weightOf", "(I)I"⟩
def dkwX3_weightOf_0 : List UInt8 := [42, 27, 182, 1, 54, 153, 0, 17, 42, 180, 0, 7, 16, 57, 27, 96, 46, 4, 96, 167, 0, 4, 3, 172]
abbrev dktX3_weightOf_0 : List UInt8 := dkwX3_weightOf_0 ++ []
theorem dksX3_weightOf_0 : cX3_weightOf.data.toList.drop 0 = dktX3_weightOf_0 := by decide +kernel
theorem dX3_weightOf_0 : decode cX3_weightOf 0 = .ok (.aload_n 0, 1) := dk_42 (dk_at dksX3_weightOf_0 0 rfl rfl)
theorem dX3_weightOf_1 : decode cX3_weightOf 1 = .ok (.iload_n 1, 1) := dk_27 (dk_at dksX3_weightOf_0 1 rfl rfl)
theorem dX3_weightOf_2 : decode cX3_weightOf 2 = .ok (.invokevirtual 310, 3) := dk_182 1 54 (dk_at dksX3_weightOf_0 2 rfl rfl)
theorem dX3_weightOf_5 : decode cX3_weightOf 5 = .ok (.ifCond .eq 17, 3) := dk_153 0 17 (dk_at dksX3_weightOf_0 5 rfl rfl)
theorem dX3_weightOf_8 : decode cX3_weightOf 8 = .ok (.aload_n 0, 1) := dk_42 (dk_at dksX3_weightOf_0 8 rfl rfl)
theorem dX3_weightOf_9 : decode cX3_weightOf 9 = .ok (.getfield 7, 3) := dk_180 0 7 (dk_at dksX3_weightOf_0 9 rfl rfl)
theorem dX3_weightOf_12 : decode cX3_weightOf 12 = .ok (.bipush 57, 2) := dk_16 57 (dk_at dksX3_weightOf_0 12 rfl rfl)
theorem dX3_weightOf_14 : decode cX3_weightOf 14 = .ok (.iload_n 1, 1) := dk_27 (dk_at dksX3_weightOf_0 14 rfl rfl)
theorem dX3_weightOf_15 : decode cX3_weightOf 15 = .ok (.iadd, 1) := dk_96 (dk_at dksX3_weightOf_0 15 rfl rfl)
theorem dX3_weightOf_16 : decode cX3_weightOf 16 = .ok (.iaload, 1) := dk_46 (dk_at dksX3_weightOf_0 16 rfl rfl)
theorem dX3_weightOf_17 : decode cX3_weightOf 17 = .ok (.iconst 1, 1) := dk_4 (dk_at dksX3_weightOf_0 17 rfl rfl)
theorem dX3_weightOf_18 : decode cX3_weightOf 18 = .ok (.iadd, 1) := dk_96 (dk_at dksX3_weightOf_0 18 rfl rfl)
theorem dX3_weightOf_19 : decode cX3_weightOf 19 = .ok (.goto 4, 3) := dk_167 0 4 (dk_at dksX3_weightOf_0 19 rfl rfl)
theorem dX3_weightOf_22 : decode cX3_weightOf 22 = .ok (.iconst 0, 1) := dk_3 (dk_at dksX3_weightOf_0 22 rfl rfl)
theorem dX3_weightOf_23 : decode cX3_weightOf 23 = .ok (.ireturn, 1) := dk_172 (dk_at dksX3_weightOf_0 23 rfl rfl)
abbrev cX3_brides : ByteArray := prog_17_method_122_code
def yX3_brides : MethodName := ⟨RX3, "brides", "()I"⟩
def dkwX3_brides_2 : List UInt8 := [113, 66, 132, 5, 1, 167, 255, 227, 33, 136, 172]
abbrev dktX3_brides_2 : List UInt8 := dkwX3_brides_2 ++ []
def dkwX3_brides_1 : List UInt8 := [21, 5, 27, 28, 184, 1, 30, 162, 0, 25, 33, 27, 28, 184, 1, 34, 21, 5, 100, 133, 105, 20, 1, 176]
abbrev dktX3_brides_1 : List UInt8 := dkwX3_brides_1 ++ dktX3_brides_2
def dkwX3_brides_0 : List UInt8 := [42, 182, 1, 173, 60, 42, 180, 0, 7, 16, 7, 46, 184, 1, 63, 27, 100, 61, 10, 66, 3, 54, 5]
abbrev dktX3_brides_0 : List UInt8 := dkwX3_brides_0 ++ dktX3_brides_1
theorem dksX3_brides_0 : cX3_brides.data.toList.drop 0 = dktX3_brides_0 := by decide +kernel
theorem dksX3_brides_1 : cX3_brides.data.toList.drop 23 = dktX3_brides_1 := dk_seg dksX3_brides_0 23 rfl rfl
theorem dksX3_brides_2 : cX3_brides.data.toList.drop 47 = dktX3_brides_2 := dk_seg dksX3_brides_1 24 rfl rfl
theorem dX3_brides_0 : decode cX3_brides 0 = .ok (.aload_n 0, 1) := dk_42 (dk_at dksX3_brides_0 0 rfl rfl)
theorem dX3_brides_1 : decode cX3_brides 1 = .ok (.invokevirtual 429, 3) := dk_182 1 173 (dk_at dksX3_brides_0 1 rfl rfl)
theorem dX3_brides_4 : decode cX3_brides 4 = .ok (.istore_n 1, 1) := dk_60 (dk_at dksX3_brides_0 4 rfl rfl)
theorem dX3_brides_5 : decode cX3_brides 5 = .ok (.aload_n 0, 1) := dk_42 (dk_at dksX3_brides_0 5 rfl rfl)
theorem dX3_brides_6 : decode cX3_brides 6 = .ok (.getfield 7, 3) := dk_180 0 7 (dk_at dksX3_brides_0 6 rfl rfl)
theorem dX3_brides_9 : decode cX3_brides 9 = .ok (.bipush 7, 2) := dk_16 7 (dk_at dksX3_brides_0 9 rfl rfl)
theorem dX3_brides_11 : decode cX3_brides 11 = .ok (.iaload, 1) := dk_46 (dk_at dksX3_brides_0 11 rfl rfl)
theorem dX3_brides_12 : decode cX3_brides 12 = .ok (.invokestatic 319, 3) := dk_184 1 63 (dk_at dksX3_brides_0 12 rfl rfl)
theorem dX3_brides_15 : decode cX3_brides 15 = .ok (.iload_n 1, 1) := dk_27 (dk_at dksX3_brides_0 15 rfl rfl)
theorem dX3_brides_16 : decode cX3_brides 16 = .ok (.isub, 1) := dk_100 (dk_at dksX3_brides_0 16 rfl rfl)
theorem dX3_brides_17 : decode cX3_brides 17 = .ok (.istore_n 2, 1) := dk_61 (dk_at dksX3_brides_0 17 rfl rfl)
theorem dX3_brides_18 : decode cX3_brides 18 = .ok (.lconst 1, 1) := dk_10 (dk_at dksX3_brides_0 18 rfl rfl)
theorem dX3_brides_19 : decode cX3_brides 19 = .ok (.lstore_n 3, 1) := dk_66 (dk_at dksX3_brides_0 19 rfl rfl)
theorem dX3_brides_20 : decode cX3_brides 20 = .ok (.iconst 0, 1) := dk_3 (dk_at dksX3_brides_0 20 rfl rfl)
theorem dX3_brides_21 : decode cX3_brides 21 = .ok (.istore 5, 2) := dk_54 5 (dk_at dksX3_brides_0 21 rfl rfl)
theorem dX3_brides_23 : decode cX3_brides 23 = .ok (.iload 5, 2) := dk_21 5 (dk_at dksX3_brides_1 0 rfl rfl)
theorem dX3_brides_25 : decode cX3_brides 25 = .ok (.iload_n 1, 1) := dk_27 (dk_at dksX3_brides_1 2 rfl rfl)
theorem dX3_brides_26 : decode cX3_brides 26 = .ok (.iload_n 2, 1) := dk_28 (dk_at dksX3_brides_1 3 rfl rfl)
theorem dX3_brides_27 : decode cX3_brides 27 = .ok (.invokestatic 286, 3) := dk_184 1 30 (dk_at dksX3_brides_1 4 rfl rfl)
theorem dX3_brides_30 : decode cX3_brides 30 = .ok (.if_icmp .ge 25, 3) := dk_162 0 25 (dk_at dksX3_brides_1 7 rfl rfl)
theorem dX3_brides_33 : decode cX3_brides 33 = .ok (.lload_n 3, 1) := dk_33 (dk_at dksX3_brides_1 10 rfl rfl)
theorem dX3_brides_34 : decode cX3_brides 34 = .ok (.iload_n 1, 1) := dk_27 (dk_at dksX3_brides_1 11 rfl rfl)
theorem dX3_brides_35 : decode cX3_brides 35 = .ok (.iload_n 2, 1) := dk_28 (dk_at dksX3_brides_1 12 rfl rfl)
theorem dX3_brides_36 : decode cX3_brides 36 = .ok (.invokestatic 290, 3) := dk_184 1 34 (dk_at dksX3_brides_1 13 rfl rfl)
theorem dX3_brides_39 : decode cX3_brides 39 = .ok (.iload 5, 2) := dk_21 5 (dk_at dksX3_brides_1 16 rfl rfl)
theorem dX3_brides_41 : decode cX3_brides 41 = .ok (.isub, 1) := dk_100 (dk_at dksX3_brides_1 18 rfl rfl)
theorem dX3_brides_42 : decode cX3_brides 42 = .ok (.i2l, 1) := dk_133 (dk_at dksX3_brides_1 19 rfl rfl)
theorem dX3_brides_43 : decode cX3_brides 43 = .ok (.lmul, 1) := dk_105 (dk_at dksX3_brides_1 20 rfl rfl)
theorem dX3_brides_44 : decode cX3_brides 44 = .ok (.ldc2_w 432, 3) := dk_20 1 176 (dk_at dksX3_brides_1 21 rfl rfl)
theorem dX3_brides_47 : decode cX3_brides 47 = .ok (.lrem, 1) := dk_113 (dk_at dksX3_brides_2 0 rfl rfl)
theorem dX3_brides_48 : decode cX3_brides 48 = .ok (.lstore_n 3, 1) := dk_66 (dk_at dksX3_brides_2 1 rfl rfl)
theorem dX3_brides_49 : decode cX3_brides 49 = .ok (.iinc 5 1, 3) := dk_132 5 1 (dk_at dksX3_brides_2 2 rfl rfl)
theorem dX3_brides_52 : decode cX3_brides 52 = .ok (.goto (-29), 3) := dk_167 255 227 (dk_at dksX3_brides_2 5 rfl rfl)
theorem dX3_brides_55 : decode cX3_brides 55 = .ok (.lload_n 3, 1) := dk_33 (dk_at dksX3_brides_2 8 rfl rfl)
theorem dX3_brides_56 : decode cX3_brides 56 = .ok (.l2i, 1) := dk_136 (dk_at dksX3_brides_2 9 rfl rfl)
theorem dX3_brides_57 : decode cX3_brides 57 = .ok (.ireturn, 1) := dk_172 (dk_at dksX3_brides_2 10 rfl rfl)
abbrev cX3_paidOnes : ByteArray := prog_17_method_121_code
def yX3_paidOnes : MethodName := ⟨RX3, "paidOnes", "()I"⟩
def dkwX3_paidOnes_2 : List UInt8 := [167, 255, 214, 27, 172]
abbrev dktX3_paidOnes_2 : List UInt8 := dkwX3_paidOnes_2 ++ []
def dkwX3_paidOnes_1 : List UInt8 := [42, 180, 0, 7, 16, 9, 28, 96, 46, 158, 0, 7, 4, 167, 0, 4, 3, 96, 60, 132, 2, 1]
abbrev dktX3_paidOnes_1 : List UInt8 := dkwX3_paidOnes_1 ++ dktX3_paidOnes_2
def dkwX3_paidOnes_0 : List UInt8 := [3, 60, 3, 61, 28, 42, 180, 0, 7, 16, 37, 46, 162, 0, 37, 27, 42, 28, 182, 1, 54, 153, 0, 19]
abbrev dktX3_paidOnes_0 : List UInt8 := dkwX3_paidOnes_0 ++ dktX3_paidOnes_1
theorem dksX3_paidOnes_0 : cX3_paidOnes.data.toList.drop 0 = dktX3_paidOnes_0 := by decide +kernel
theorem dksX3_paidOnes_1 : cX3_paidOnes.data.toList.drop 24 = dktX3_paidOnes_1 := dk_seg dksX3_paidOnes_0 24 rfl rfl
theorem dksX3_paidOnes_2 : cX3_paidOnes.data.toList.drop 46 = dktX3_paidOnes_2 := dk_seg dksX3_paidOnes_1 22 rfl rfl
theorem dX3_paidOnes_0 : decode cX3_paidOnes 0 = .ok (.iconst 0, 1) := dk_3 (dk_at dksX3_paidOnes_0 0 rfl rfl)
theorem dX3_paidOnes_1 : decode cX3_paidOnes 1 = .ok (.istore_n 1, 1) := dk_60 (dk_at dksX3_paidOnes_0 1 rfl rfl)
theorem dX3_paidOnes_2 : decode cX3_paidOnes 2 = .ok (.iconst 0, 1) := dk_3 (dk_at dksX3_paidOnes_0 2 rfl rfl)
theorem dX3_paidOnes_3 : decode cX3_paidOnes 3 = .ok (.istore_n 2, 1) := dk_61 (dk_at dksX3_paidOnes_0 3 rfl rfl)
theorem dX3_paidOnes_4 : decode cX3_paidOnes 4 = .ok (.iload_n 2, 1) := dk_28 (dk_at dksX3_paidOnes_0 4 rfl rfl)
theorem dX3_paidOnes_5 : decode cX3_paidOnes 5 = .ok (.aload_n 0, 1) := dk_42 (dk_at dksX3_paidOnes_0 5 rfl rfl)
theorem dX3_paidOnes_6 : decode cX3_paidOnes 6 = .ok (.getfield 7, 3) := dk_180 0 7 (dk_at dksX3_paidOnes_0 6 rfl rfl)
theorem dX3_paidOnes_9 : decode cX3_paidOnes 9 = .ok (.bipush 37, 2) := dk_16 37 (dk_at dksX3_paidOnes_0 9 rfl rfl)
theorem dX3_paidOnes_11 : decode cX3_paidOnes 11 = .ok (.iaload, 1) := dk_46 (dk_at dksX3_paidOnes_0 11 rfl rfl)
theorem dX3_paidOnes_12 : decode cX3_paidOnes 12 = .ok (.if_icmp .ge 37, 3) := dk_162 0 37 (dk_at dksX3_paidOnes_0 12 rfl rfl)
theorem dX3_paidOnes_15 : decode cX3_paidOnes 15 = .ok (.iload_n 1, 1) := dk_27 (dk_at dksX3_paidOnes_0 15 rfl rfl)
theorem dX3_paidOnes_16 : decode cX3_paidOnes 16 = .ok (.aload_n 0, 1) := dk_42 (dk_at dksX3_paidOnes_0 16 rfl rfl)
theorem dX3_paidOnes_17 : decode cX3_paidOnes 17 = .ok (.iload_n 2, 1) := dk_28 (dk_at dksX3_paidOnes_0 17 rfl rfl)
theorem dX3_paidOnes_18 : decode cX3_paidOnes 18 = .ok (.invokevirtual 310, 3) := dk_182 1 54 (dk_at dksX3_paidOnes_0 18 rfl rfl)
theorem dX3_paidOnes_21 : decode cX3_paidOnes 21 = .ok (.ifCond .eq 19, 3) := dk_153 0 19 (dk_at dksX3_paidOnes_0 21 rfl rfl)
theorem dX3_paidOnes_24 : decode cX3_paidOnes 24 = .ok (.aload_n 0, 1) := dk_42 (dk_at dksX3_paidOnes_1 0 rfl rfl)
theorem dX3_paidOnes_25 : decode cX3_paidOnes 25 = .ok (.getfield 7, 3) := dk_180 0 7 (dk_at dksX3_paidOnes_1 1 rfl rfl)
theorem dX3_paidOnes_28 : decode cX3_paidOnes 28 = .ok (.bipush 9, 2) := dk_16 9 (dk_at dksX3_paidOnes_1 4 rfl rfl)
theorem dX3_paidOnes_30 : decode cX3_paidOnes 30 = .ok (.iload_n 2, 1) := dk_28 (dk_at dksX3_paidOnes_1 6 rfl rfl)
theorem dX3_paidOnes_31 : decode cX3_paidOnes 31 = .ok (.iadd, 1) := dk_96 (dk_at dksX3_paidOnes_1 7 rfl rfl)
theorem dX3_paidOnes_32 : decode cX3_paidOnes 32 = .ok (.iaload, 1) := dk_46 (dk_at dksX3_paidOnes_1 8 rfl rfl)
theorem dX3_paidOnes_33 : decode cX3_paidOnes 33 = .ok (.ifCond .le 7, 3) := dk_158 0 7 (dk_at dksX3_paidOnes_1 9 rfl rfl)
theorem dX3_paidOnes_36 : decode cX3_paidOnes 36 = .ok (.iconst 1, 1) := dk_4 (dk_at dksX3_paidOnes_1 12 rfl rfl)
theorem dX3_paidOnes_37 : decode cX3_paidOnes 37 = .ok (.goto 4, 3) := dk_167 0 4 (dk_at dksX3_paidOnes_1 13 rfl rfl)
theorem dX3_paidOnes_40 : decode cX3_paidOnes 40 = .ok (.iconst 0, 1) := dk_3 (dk_at dksX3_paidOnes_1 16 rfl rfl)
theorem dX3_paidOnes_41 : decode cX3_paidOnes 41 = .ok (.iadd, 1) := dk_96 (dk_at dksX3_paidOnes_1 17 rfl rfl)
theorem dX3_paidOnes_42 : decode cX3_paidOnes 42 = .ok (.istore_n 1, 1) := dk_60 (dk_at dksX3_paidOnes_1 18 rfl rfl)
theorem dX3_paidOnes_43 : decode cX3_paidOnes 43 = .ok (.iinc 2 1, 3) := dk_132 2 1 (dk_at dksX3_paidOnes_1 19 rfl rfl)
theorem dX3_paidOnes_46 : decode cX3_paidOnes 46 = .ok (.goto (-42), 3) := dk_167 255 214 (dk_at dksX3_paidOnes_2 0 rfl rfl)
theorem dX3_paidOnes_49 : decode cX3_paidOnes 49 = .ok (.iload_n 1, 1) := dk_27 (dk_at dksX3_paidOnes_2 3 rfl rfl)
theorem dX3_paidOnes_50 : decode cX3_paidOnes 50 = .ok (.ireturn, 1) := dk_172 (dk_at dksX3_paidOnes_2 4 rfl rfl)
abbrev cX3_game : ByteArray := prog_17_method_124_code
def yX3_game : MethodName := ⟨RX3, "game", "(I)I"⟩
def dkwX3_game_6 : List UInt8 := [167, 255, 172, 2, 172]
abbrev dktX3_game_6 : List UInt8 := dkwX3_game_6 ++ []
def dkwX3_game_5 : List UInt8 := [160, 0, 14, 27, 154, 0, 7, 29, 167, 0, 5, 21, 5, 172, 132, 5, 1, 167, 255, 203, 132, 3, 1]
abbrev dktX3_game_5 : List UInt8 := dkwX3_game_5 ++ dktX3_game_6
def dkwX3_game_4 : List UInt8 := [159, 0, 36, 28, 42, 180, 0, 53, 21, 4, 46, 130, 42, 180, 0, 53, 21, 4, 21, 5, 100, 46]
abbrev dktX3_game_4 : List UInt8 := dkwX3_game_4 ++ dktX3_game_5
def dkwX3_game_3 : List UInt8 := [16, 89, 29, 96, 46, 54, 4, 4, 54, 5, 21, 5, 7, 21, 4, 184, 1, 30, 163, 0, 48, 21, 5, 5]
abbrev dktX3_game_3 : List UInt8 := dkwX3_game_3 ++ dktX3_game_4
def dkwX3_game_2 : List UInt8 := [132, 3, 1, 167, 255, 225, 3, 62, 29, 42, 180, 0, 7, 16, 38, 46, 162, 0, 79, 42, 180, 0, 7]
abbrev dktX3_game_2 : List UInt8 := dkwX3_game_2 ++ dktX3_game_3
def dkwX3_game_1 : List UInt8 := [16, 38, 46, 162, 0, 26, 28, 42, 180, 0, 53, 42, 180, 0, 7, 16, 89, 29, 96, 46, 46, 130, 61]
abbrev dktX3_game_1 : List UInt8 := dkwX3_game_1 ++ dktX3_game_2
def dkwX3_game_0 : List UInt8 := [27, 3, 4, 184, 0, 56, 154, 0, 5, 2, 172, 42, 182, 1, 178, 3, 61, 3, 62, 29, 42, 180, 0, 7]
abbrev dktX3_game_0 : List UInt8 := dkwX3_game_0 ++ dktX3_game_1
theorem dksX3_game_0 : cX3_game.data.toList.drop 0 = dktX3_game_0 := by decide +kernel
theorem dksX3_game_1 : cX3_game.data.toList.drop 24 = dktX3_game_1 := dk_seg dksX3_game_0 24 rfl rfl
theorem dksX3_game_2 : cX3_game.data.toList.drop 47 = dktX3_game_2 := dk_seg dksX3_game_1 23 rfl rfl
theorem dksX3_game_3 : cX3_game.data.toList.drop 70 = dktX3_game_3 := dk_seg dksX3_game_2 23 rfl rfl
theorem dksX3_game_4 : cX3_game.data.toList.drop 94 = dktX3_game_4 := dk_seg dksX3_game_3 24 rfl rfl
theorem dksX3_game_5 : cX3_game.data.toList.drop 116 = dktX3_game_5 := dk_seg dksX3_game_4 22 rfl rfl
theorem dksX3_game_6 : cX3_game.data.toList.drop 139 = dktX3_game_6 := dk_seg dksX3_game_5 23 rfl rfl
theorem dX3_game_0 : decode cX3_game 0 = .ok (.iload_n 1, 1) := dk_27 (dk_at dksX3_game_0 0 rfl rfl)
theorem dX3_game_1 : decode cX3_game 1 = .ok (.iconst 0, 1) := dk_3 (dk_at dksX3_game_0 1 rfl rfl)
theorem dX3_game_2 : decode cX3_game 2 = .ok (.iconst 1, 1) := dk_4 (dk_at dksX3_game_0 2 rfl rfl)
theorem dX3_game_3 : decode cX3_game 3 = .ok (.invokestatic 56, 3) := dk_184 0 56 (dk_at dksX3_game_0 3 rfl rfl)
theorem dX3_game_6 : decode cX3_game 6 = .ok (.ifCond .ne 5, 3) := dk_154 0 5 (dk_at dksX3_game_0 6 rfl rfl)
theorem dX3_game_9 : decode cX3_game 9 = .ok (.iconst (-1), 1) := dk_2 (dk_at dksX3_game_0 9 rfl rfl)
theorem dX3_game_10 : decode cX3_game 10 = .ok (.ireturn, 1) := dk_172 (dk_at dksX3_game_0 10 rfl rfl)
theorem dX3_game_11 : decode cX3_game 11 = .ok (.aload_n 0, 1) := dk_42 (dk_at dksX3_game_0 11 rfl rfl)
theorem dX3_game_12 : decode cX3_game 12 = .ok (.invokevirtual 434, 3) := dk_182 1 178 (dk_at dksX3_game_0 12 rfl rfl)
theorem dX3_game_15 : decode cX3_game 15 = .ok (.iconst 0, 1) := dk_3 (dk_at dksX3_game_0 15 rfl rfl)
theorem dX3_game_16 : decode cX3_game 16 = .ok (.istore_n 2, 1) := dk_61 (dk_at dksX3_game_0 16 rfl rfl)
theorem dX3_game_17 : decode cX3_game 17 = .ok (.iconst 0, 1) := dk_3 (dk_at dksX3_game_0 17 rfl rfl)
theorem dX3_game_18 : decode cX3_game 18 = .ok (.istore_n 3, 1) := dk_62 (dk_at dksX3_game_0 18 rfl rfl)
theorem dX3_game_19 : decode cX3_game 19 = .ok (.iload_n 3, 1) := dk_29 (dk_at dksX3_game_0 19 rfl rfl)
theorem dX3_game_20 : decode cX3_game 20 = .ok (.aload_n 0, 1) := dk_42 (dk_at dksX3_game_0 20 rfl rfl)
theorem dX3_game_21 : decode cX3_game 21 = .ok (.getfield 7, 3) := dk_180 0 7 (dk_at dksX3_game_0 21 rfl rfl)
theorem dX3_game_24 : decode cX3_game 24 = .ok (.bipush 38, 2) := dk_16 38 (dk_at dksX3_game_1 0 rfl rfl)
theorem dX3_game_26 : decode cX3_game 26 = .ok (.iaload, 1) := dk_46 (dk_at dksX3_game_1 2 rfl rfl)
theorem dX3_game_27 : decode cX3_game 27 = .ok (.if_icmp .ge 26, 3) := dk_162 0 26 (dk_at dksX3_game_1 3 rfl rfl)
theorem dX3_game_30 : decode cX3_game 30 = .ok (.iload_n 2, 1) := dk_28 (dk_at dksX3_game_1 6 rfl rfl)
theorem dX3_game_31 : decode cX3_game 31 = .ok (.aload_n 0, 1) := dk_42 (dk_at dksX3_game_1 7 rfl rfl)
theorem dX3_game_32 : decode cX3_game 32 = .ok (.getfield 53, 3) := dk_180 0 53 (dk_at dksX3_game_1 8 rfl rfl)
theorem dX3_game_35 : decode cX3_game 35 = .ok (.aload_n 0, 1) := dk_42 (dk_at dksX3_game_1 11 rfl rfl)
theorem dX3_game_36 : decode cX3_game 36 = .ok (.getfield 7, 3) := dk_180 0 7 (dk_at dksX3_game_1 12 rfl rfl)
theorem dX3_game_39 : decode cX3_game 39 = .ok (.bipush 89, 2) := dk_16 89 (dk_at dksX3_game_1 15 rfl rfl)
theorem dX3_game_41 : decode cX3_game 41 = .ok (.iload_n 3, 1) := dk_29 (dk_at dksX3_game_1 17 rfl rfl)
theorem dX3_game_42 : decode cX3_game 42 = .ok (.iadd, 1) := dk_96 (dk_at dksX3_game_1 18 rfl rfl)
theorem dX3_game_43 : decode cX3_game 43 = .ok (.iaload, 1) := dk_46 (dk_at dksX3_game_1 19 rfl rfl)
theorem dX3_game_44 : decode cX3_game 44 = .ok (.iaload, 1) := dk_46 (dk_at dksX3_game_1 20 rfl rfl)
theorem dX3_game_45 : decode cX3_game 45 = .ok (.ixor, 1) := dk_130 (dk_at dksX3_game_1 21 rfl rfl)
theorem dX3_game_46 : decode cX3_game 46 = .ok (.istore_n 2, 1) := dk_61 (dk_at dksX3_game_1 22 rfl rfl)
theorem dX3_game_47 : decode cX3_game 47 = .ok (.iinc 3 1, 3) := dk_132 3 1 (dk_at dksX3_game_2 0 rfl rfl)
theorem dX3_game_50 : decode cX3_game 50 = .ok (.goto (-31), 3) := dk_167 255 225 (dk_at dksX3_game_2 3 rfl rfl)
theorem dX3_game_53 : decode cX3_game 53 = .ok (.iconst 0, 1) := dk_3 (dk_at dksX3_game_2 6 rfl rfl)
theorem dX3_game_54 : decode cX3_game 54 = .ok (.istore_n 3, 1) := dk_62 (dk_at dksX3_game_2 7 rfl rfl)
theorem dX3_game_55 : decode cX3_game 55 = .ok (.iload_n 3, 1) := dk_29 (dk_at dksX3_game_2 8 rfl rfl)
theorem dX3_game_56 : decode cX3_game 56 = .ok (.aload_n 0, 1) := dk_42 (dk_at dksX3_game_2 9 rfl rfl)
theorem dX3_game_57 : decode cX3_game 57 = .ok (.getfield 7, 3) := dk_180 0 7 (dk_at dksX3_game_2 10 rfl rfl)
theorem dX3_game_60 : decode cX3_game 60 = .ok (.bipush 38, 2) := dk_16 38 (dk_at dksX3_game_2 13 rfl rfl)
theorem dX3_game_62 : decode cX3_game 62 = .ok (.iaload, 1) := dk_46 (dk_at dksX3_game_2 15 rfl rfl)
theorem dX3_game_63 : decode cX3_game 63 = .ok (.if_icmp .ge 79, 3) := dk_162 0 79 (dk_at dksX3_game_2 16 rfl rfl)
theorem dX3_game_66 : decode cX3_game 66 = .ok (.aload_n 0, 1) := dk_42 (dk_at dksX3_game_2 19 rfl rfl)
theorem dX3_game_67 : decode cX3_game 67 = .ok (.getfield 7, 3) := dk_180 0 7 (dk_at dksX3_game_2 20 rfl rfl)
theorem dX3_game_70 : decode cX3_game 70 = .ok (.bipush 89, 2) := dk_16 89 (dk_at dksX3_game_3 0 rfl rfl)
theorem dX3_game_72 : decode cX3_game 72 = .ok (.iload_n 3, 1) := dk_29 (dk_at dksX3_game_3 2 rfl rfl)
theorem dX3_game_73 : decode cX3_game 73 = .ok (.iadd, 1) := dk_96 (dk_at dksX3_game_3 3 rfl rfl)
theorem dX3_game_74 : decode cX3_game 74 = .ok (.iaload, 1) := dk_46 (dk_at dksX3_game_3 4 rfl rfl)
theorem dX3_game_75 : decode cX3_game 75 = .ok (.istore 4, 2) := dk_54 4 (dk_at dksX3_game_3 5 rfl rfl)
theorem dX3_game_77 : decode cX3_game 77 = .ok (.iconst 1, 1) := dk_4 (dk_at dksX3_game_3 7 rfl rfl)
theorem dX3_game_78 : decode cX3_game 78 = .ok (.istore 5, 2) := dk_54 5 (dk_at dksX3_game_3 8 rfl rfl)
theorem dX3_game_80 : decode cX3_game 80 = .ok (.iload 5, 2) := dk_21 5 (dk_at dksX3_game_3 10 rfl rfl)
theorem dX3_game_82 : decode cX3_game 82 = .ok (.iconst 4, 1) := dk_7 (dk_at dksX3_game_3 12 rfl rfl)
theorem dX3_game_83 : decode cX3_game 83 = .ok (.iload 4, 2) := dk_21 4 (dk_at dksX3_game_3 13 rfl rfl)
theorem dX3_game_85 : decode cX3_game 85 = .ok (.invokestatic 286, 3) := dk_184 1 30 (dk_at dksX3_game_3 15 rfl rfl)
theorem dX3_game_88 : decode cX3_game 88 = .ok (.if_icmp .gt 48, 3) := dk_163 0 48 (dk_at dksX3_game_3 18 rfl rfl)
theorem dX3_game_91 : decode cX3_game 91 = .ok (.iload 5, 2) := dk_21 5 (dk_at dksX3_game_3 21 rfl rfl)
theorem dX3_game_93 : decode cX3_game 93 = .ok (.iconst 2, 1) := dk_5 (dk_at dksX3_game_3 23 rfl rfl)
theorem dX3_game_94 : decode cX3_game 94 = .ok (.if_icmp .eq 36, 3) := dk_159 0 36 (dk_at dksX3_game_4 0 rfl rfl)
theorem dX3_game_97 : decode cX3_game 97 = .ok (.iload_n 2, 1) := dk_28 (dk_at dksX3_game_4 3 rfl rfl)
theorem dX3_game_98 : decode cX3_game 98 = .ok (.aload_n 0, 1) := dk_42 (dk_at dksX3_game_4 4 rfl rfl)
theorem dX3_game_99 : decode cX3_game 99 = .ok (.getfield 53, 3) := dk_180 0 53 (dk_at dksX3_game_4 5 rfl rfl)
theorem dX3_game_102 : decode cX3_game 102 = .ok (.iload 4, 2) := dk_21 4 (dk_at dksX3_game_4 8 rfl rfl)
theorem dX3_game_104 : decode cX3_game 104 = .ok (.iaload, 1) := dk_46 (dk_at dksX3_game_4 10 rfl rfl)
theorem dX3_game_105 : decode cX3_game 105 = .ok (.ixor, 1) := dk_130 (dk_at dksX3_game_4 11 rfl rfl)
theorem dX3_game_106 : decode cX3_game 106 = .ok (.aload_n 0, 1) := dk_42 (dk_at dksX3_game_4 12 rfl rfl)
theorem dX3_game_107 : decode cX3_game 107 = .ok (.getfield 53, 3) := dk_180 0 53 (dk_at dksX3_game_4 13 rfl rfl)
theorem dX3_game_110 : decode cX3_game 110 = .ok (.iload 4, 2) := dk_21 4 (dk_at dksX3_game_4 16 rfl rfl)
theorem dX3_game_112 : decode cX3_game 112 = .ok (.iload 5, 2) := dk_21 5 (dk_at dksX3_game_4 18 rfl rfl)
theorem dX3_game_114 : decode cX3_game 114 = .ok (.isub, 1) := dk_100 (dk_at dksX3_game_4 20 rfl rfl)
theorem dX3_game_115 : decode cX3_game 115 = .ok (.iaload, 1) := dk_46 (dk_at dksX3_game_4 21 rfl rfl)
theorem dX3_game_116 : decode cX3_game 116 = .ok (.if_icmp .ne 14, 3) := dk_160 0 14 (dk_at dksX3_game_5 0 rfl rfl)
theorem dX3_game_119 : decode cX3_game 119 = .ok (.iload_n 1, 1) := dk_27 (dk_at dksX3_game_5 3 rfl rfl)
theorem dX3_game_120 : decode cX3_game 120 = .ok (.ifCond .ne 7, 3) := dk_154 0 7 (dk_at dksX3_game_5 4 rfl rfl)
theorem dX3_game_123 : decode cX3_game 123 = .ok (.iload_n 3, 1) := dk_29 (dk_at dksX3_game_5 7 rfl rfl)
theorem dX3_game_124 : decode cX3_game 124 = .ok (.goto 5, 3) := dk_167 0 5 (dk_at dksX3_game_5 8 rfl rfl)
theorem dX3_game_127 : decode cX3_game 127 = .ok (.iload 5, 2) := dk_21 5 (dk_at dksX3_game_5 11 rfl rfl)
theorem dX3_game_129 : decode cX3_game 129 = .ok (.ireturn, 1) := dk_172 (dk_at dksX3_game_5 13 rfl rfl)
theorem dX3_game_130 : decode cX3_game 130 = .ok (.iinc 5 1, 3) := dk_132 5 1 (dk_at dksX3_game_5 14 rfl rfl)
theorem dX3_game_133 : decode cX3_game 133 = .ok (.goto (-53), 3) := dk_167 255 203 (dk_at dksX3_game_5 17 rfl rfl)
theorem dX3_game_136 : decode cX3_game 136 = .ok (.iinc 3 1, 3) := dk_132 3 1 (dk_at dksX3_game_5 20 rfl rfl)
theorem dX3_game_139 : decode cX3_game 139 = .ok (.goto (-84), 3) := dk_167 255 172 (dk_at dksX3_game_6 0 rfl rfl)
theorem dX3_game_142 : decode cX3_game 142 = .ok (.iconst (-1), 1) := dk_2 (dk_at dksX3_game_6 3 rfl rfl)
theorem dX3_game_143 : decode cX3_game 143 = .ok (.ireturn, 1) := dk_172 (dk_at dksX3_game_6 4 rfl rfl)
abbrev cX3_laysNims : ByteArray := prog_17_method_123_code
def yX3_laysNims : MethodName := ⟨RX3, "laysNims", "()V"⟩
def dkwX3_laysNims_4 : List UInt8 := [180, 0, 53, 27, 92, 46, 4, 96, 79, 167, 255, 232, 132, 1, 1, 167, 255, 150, 177]
abbrev dktX3_laysNims_4 : List UInt8 := dkwX3_laysNims_4 ++ []
def dkwX3_laysNims_3 : List UInt8 := [61, 42, 180, 0, 53, 27, 3, 79, 28, 42, 180, 0, 53, 27, 46, 122, 4, 126, 4, 160, 0, 16, 42]
abbrev dktX3_laysNims_3 : List UInt8 := dkwX3_laysNims_3 ++ dktX3_laysNims_4
def dkwX3_laysNims_2 : List UInt8 := [3, 128, 61, 28, 27, 6, 164, 0, 16, 4, 42, 180, 0, 53, 27, 7, 100, 46, 120, 167, 0, 4, 3, 128]
abbrev dktX3_laysNims_2 : List UInt8 := dkwX3_laysNims_2 ++ dktX3_laysNims_3
def dkwX3_laysNims_1 : List UInt8 := [167, 0, 4, 3, 61, 28, 27, 5, 164, 0, 16, 4, 42, 180, 0, 53, 27, 6, 100, 46, 120, 167, 0, 4]
abbrev dktX3_laysNims_1 : List UInt8 := dkwX3_laysNims_1 ++ dktX3_laysNims_2
def dkwX3_laysNims_0 : List UInt8 := [3, 60, 27, 16, 60, 163, 0, 106, 27, 158, 0, 16, 4, 42, 180, 0, 53, 27, 4, 100, 46, 120]
abbrev dktX3_laysNims_0 : List UInt8 := dkwX3_laysNims_0 ++ dktX3_laysNims_1
theorem dksX3_laysNims_0 : cX3_laysNims.data.toList.drop 0 = dktX3_laysNims_0 := by decide +kernel
theorem dksX3_laysNims_1 : cX3_laysNims.data.toList.drop 22 = dktX3_laysNims_1 := dk_seg dksX3_laysNims_0 22 rfl rfl
theorem dksX3_laysNims_2 : cX3_laysNims.data.toList.drop 46 = dktX3_laysNims_2 := dk_seg dksX3_laysNims_1 24 rfl rfl
theorem dksX3_laysNims_3 : cX3_laysNims.data.toList.drop 70 = dktX3_laysNims_3 := dk_seg dksX3_laysNims_2 24 rfl rfl
theorem dksX3_laysNims_4 : cX3_laysNims.data.toList.drop 93 = dktX3_laysNims_4 := dk_seg dksX3_laysNims_3 23 rfl rfl
theorem dX3_laysNims_0 : decode cX3_laysNims 0 = .ok (.iconst 0, 1) := dk_3 (dk_at dksX3_laysNims_0 0 rfl rfl)
theorem dX3_laysNims_1 : decode cX3_laysNims 1 = .ok (.istore_n 1, 1) := dk_60 (dk_at dksX3_laysNims_0 1 rfl rfl)
theorem dX3_laysNims_2 : decode cX3_laysNims 2 = .ok (.iload_n 1, 1) := dk_27 (dk_at dksX3_laysNims_0 2 rfl rfl)
theorem dX3_laysNims_3 : decode cX3_laysNims 3 = .ok (.bipush 60, 2) := dk_16 60 (dk_at dksX3_laysNims_0 3 rfl rfl)
theorem dX3_laysNims_5 : decode cX3_laysNims 5 = .ok (.if_icmp .gt 106, 3) := dk_163 0 106 (dk_at dksX3_laysNims_0 5 rfl rfl)
theorem dX3_laysNims_8 : decode cX3_laysNims 8 = .ok (.iload_n 1, 1) := dk_27 (dk_at dksX3_laysNims_0 8 rfl rfl)
theorem dX3_laysNims_9 : decode cX3_laysNims 9 = .ok (.ifCond .le 16, 3) := dk_158 0 16 (dk_at dksX3_laysNims_0 9 rfl rfl)
theorem dX3_laysNims_12 : decode cX3_laysNims 12 = .ok (.iconst 1, 1) := dk_4 (dk_at dksX3_laysNims_0 12 rfl rfl)
theorem dX3_laysNims_13 : decode cX3_laysNims 13 = .ok (.aload_n 0, 1) := dk_42 (dk_at dksX3_laysNims_0 13 rfl rfl)
theorem dX3_laysNims_14 : decode cX3_laysNims 14 = .ok (.getfield 53, 3) := dk_180 0 53 (dk_at dksX3_laysNims_0 14 rfl rfl)
theorem dX3_laysNims_17 : decode cX3_laysNims 17 = .ok (.iload_n 1, 1) := dk_27 (dk_at dksX3_laysNims_0 17 rfl rfl)
theorem dX3_laysNims_18 : decode cX3_laysNims 18 = .ok (.iconst 1, 1) := dk_4 (dk_at dksX3_laysNims_0 18 rfl rfl)
theorem dX3_laysNims_19 : decode cX3_laysNims 19 = .ok (.isub, 1) := dk_100 (dk_at dksX3_laysNims_0 19 rfl rfl)
theorem dX3_laysNims_20 : decode cX3_laysNims 20 = .ok (.iaload, 1) := dk_46 (dk_at dksX3_laysNims_0 20 rfl rfl)
theorem dX3_laysNims_21 : decode cX3_laysNims 21 = .ok (.ishl, 1) := dk_120 (dk_at dksX3_laysNims_0 21 rfl rfl)
theorem dX3_laysNims_22 : decode cX3_laysNims 22 = .ok (.goto 4, 3) := dk_167 0 4 (dk_at dksX3_laysNims_1 0 rfl rfl)
theorem dX3_laysNims_25 : decode cX3_laysNims 25 = .ok (.iconst 0, 1) := dk_3 (dk_at dksX3_laysNims_1 3 rfl rfl)
theorem dX3_laysNims_26 : decode cX3_laysNims 26 = .ok (.istore_n 2, 1) := dk_61 (dk_at dksX3_laysNims_1 4 rfl rfl)
theorem dX3_laysNims_27 : decode cX3_laysNims 27 = .ok (.iload_n 2, 1) := dk_28 (dk_at dksX3_laysNims_1 5 rfl rfl)
theorem dX3_laysNims_28 : decode cX3_laysNims 28 = .ok (.iload_n 1, 1) := dk_27 (dk_at dksX3_laysNims_1 6 rfl rfl)
theorem dX3_laysNims_29 : decode cX3_laysNims 29 = .ok (.iconst 2, 1) := dk_5 (dk_at dksX3_laysNims_1 7 rfl rfl)
theorem dX3_laysNims_30 : decode cX3_laysNims 30 = .ok (.if_icmp .le 16, 3) := dk_164 0 16 (dk_at dksX3_laysNims_1 8 rfl rfl)
theorem dX3_laysNims_33 : decode cX3_laysNims 33 = .ok (.iconst 1, 1) := dk_4 (dk_at dksX3_laysNims_1 11 rfl rfl)
theorem dX3_laysNims_34 : decode cX3_laysNims 34 = .ok (.aload_n 0, 1) := dk_42 (dk_at dksX3_laysNims_1 12 rfl rfl)
theorem dX3_laysNims_35 : decode cX3_laysNims 35 = .ok (.getfield 53, 3) := dk_180 0 53 (dk_at dksX3_laysNims_1 13 rfl rfl)
theorem dX3_laysNims_38 : decode cX3_laysNims 38 = .ok (.iload_n 1, 1) := dk_27 (dk_at dksX3_laysNims_1 16 rfl rfl)
theorem dX3_laysNims_39 : decode cX3_laysNims 39 = .ok (.iconst 3, 1) := dk_6 (dk_at dksX3_laysNims_1 17 rfl rfl)
theorem dX3_laysNims_40 : decode cX3_laysNims 40 = .ok (.isub, 1) := dk_100 (dk_at dksX3_laysNims_1 18 rfl rfl)
theorem dX3_laysNims_41 : decode cX3_laysNims 41 = .ok (.iaload, 1) := dk_46 (dk_at dksX3_laysNims_1 19 rfl rfl)
theorem dX3_laysNims_42 : decode cX3_laysNims 42 = .ok (.ishl, 1) := dk_120 (dk_at dksX3_laysNims_1 20 rfl rfl)
theorem dX3_laysNims_43 : decode cX3_laysNims 43 = .ok (.goto 4, 3) := dk_167 0 4 (dk_at dksX3_laysNims_1 21 rfl rfl)
theorem dX3_laysNims_46 : decode cX3_laysNims 46 = .ok (.iconst 0, 1) := dk_3 (dk_at dksX3_laysNims_2 0 rfl rfl)
theorem dX3_laysNims_47 : decode cX3_laysNims 47 = .ok (.ior, 1) := dk_128 (dk_at dksX3_laysNims_2 1 rfl rfl)
theorem dX3_laysNims_48 : decode cX3_laysNims 48 = .ok (.istore_n 2, 1) := dk_61 (dk_at dksX3_laysNims_2 2 rfl rfl)
theorem dX3_laysNims_49 : decode cX3_laysNims 49 = .ok (.iload_n 2, 1) := dk_28 (dk_at dksX3_laysNims_2 3 rfl rfl)
theorem dX3_laysNims_50 : decode cX3_laysNims 50 = .ok (.iload_n 1, 1) := dk_27 (dk_at dksX3_laysNims_2 4 rfl rfl)
theorem dX3_laysNims_51 : decode cX3_laysNims 51 = .ok (.iconst 3, 1) := dk_6 (dk_at dksX3_laysNims_2 5 rfl rfl)
theorem dX3_laysNims_52 : decode cX3_laysNims 52 = .ok (.if_icmp .le 16, 3) := dk_164 0 16 (dk_at dksX3_laysNims_2 6 rfl rfl)
theorem dX3_laysNims_55 : decode cX3_laysNims 55 = .ok (.iconst 1, 1) := dk_4 (dk_at dksX3_laysNims_2 9 rfl rfl)
theorem dX3_laysNims_56 : decode cX3_laysNims 56 = .ok (.aload_n 0, 1) := dk_42 (dk_at dksX3_laysNims_2 10 rfl rfl)
theorem dX3_laysNims_57 : decode cX3_laysNims 57 = .ok (.getfield 53, 3) := dk_180 0 53 (dk_at dksX3_laysNims_2 11 rfl rfl)
theorem dX3_laysNims_60 : decode cX3_laysNims 60 = .ok (.iload_n 1, 1) := dk_27 (dk_at dksX3_laysNims_2 14 rfl rfl)
theorem dX3_laysNims_61 : decode cX3_laysNims 61 = .ok (.iconst 4, 1) := dk_7 (dk_at dksX3_laysNims_2 15 rfl rfl)
theorem dX3_laysNims_62 : decode cX3_laysNims 62 = .ok (.isub, 1) := dk_100 (dk_at dksX3_laysNims_2 16 rfl rfl)
theorem dX3_laysNims_63 : decode cX3_laysNims 63 = .ok (.iaload, 1) := dk_46 (dk_at dksX3_laysNims_2 17 rfl rfl)
theorem dX3_laysNims_64 : decode cX3_laysNims 64 = .ok (.ishl, 1) := dk_120 (dk_at dksX3_laysNims_2 18 rfl rfl)
theorem dX3_laysNims_65 : decode cX3_laysNims 65 = .ok (.goto 4, 3) := dk_167 0 4 (dk_at dksX3_laysNims_2 19 rfl rfl)
theorem dX3_laysNims_68 : decode cX3_laysNims 68 = .ok (.iconst 0, 1) := dk_3 (dk_at dksX3_laysNims_2 22 rfl rfl)
theorem dX3_laysNims_69 : decode cX3_laysNims 69 = .ok (.ior, 1) := dk_128 (dk_at dksX3_laysNims_2 23 rfl rfl)
theorem dX3_laysNims_70 : decode cX3_laysNims 70 = .ok (.istore_n 2, 1) := dk_61 (dk_at dksX3_laysNims_3 0 rfl rfl)
theorem dX3_laysNims_71 : decode cX3_laysNims 71 = .ok (.aload_n 0, 1) := dk_42 (dk_at dksX3_laysNims_3 1 rfl rfl)
theorem dX3_laysNims_72 : decode cX3_laysNims 72 = .ok (.getfield 53, 3) := dk_180 0 53 (dk_at dksX3_laysNims_3 2 rfl rfl)
theorem dX3_laysNims_75 : decode cX3_laysNims 75 = .ok (.iload_n 1, 1) := dk_27 (dk_at dksX3_laysNims_3 5 rfl rfl)
theorem dX3_laysNims_76 : decode cX3_laysNims 76 = .ok (.iconst 0, 1) := dk_3 (dk_at dksX3_laysNims_3 6 rfl rfl)
theorem dX3_laysNims_77 : decode cX3_laysNims 77 = .ok (.iastore, 1) := dk_79 (dk_at dksX3_laysNims_3 7 rfl rfl)
theorem dX3_laysNims_78 : decode cX3_laysNims 78 = .ok (.iload_n 2, 1) := dk_28 (dk_at dksX3_laysNims_3 8 rfl rfl)
theorem dX3_laysNims_79 : decode cX3_laysNims 79 = .ok (.aload_n 0, 1) := dk_42 (dk_at dksX3_laysNims_3 9 rfl rfl)
theorem dX3_laysNims_80 : decode cX3_laysNims 80 = .ok (.getfield 53, 3) := dk_180 0 53 (dk_at dksX3_laysNims_3 10 rfl rfl)
theorem dX3_laysNims_83 : decode cX3_laysNims 83 = .ok (.iload_n 1, 1) := dk_27 (dk_at dksX3_laysNims_3 13 rfl rfl)
theorem dX3_laysNims_84 : decode cX3_laysNims 84 = .ok (.iaload, 1) := dk_46 (dk_at dksX3_laysNims_3 14 rfl rfl)
theorem dX3_laysNims_85 : decode cX3_laysNims 85 = .ok (.ishr, 1) := dk_122 (dk_at dksX3_laysNims_3 15 rfl rfl)
theorem dX3_laysNims_86 : decode cX3_laysNims 86 = .ok (.iconst 1, 1) := dk_4 (dk_at dksX3_laysNims_3 16 rfl rfl)
theorem dX3_laysNims_87 : decode cX3_laysNims 87 = .ok (.iand, 1) := dk_126 (dk_at dksX3_laysNims_3 17 rfl rfl)
theorem dX3_laysNims_88 : decode cX3_laysNims 88 = .ok (.iconst 1, 1) := dk_4 (dk_at dksX3_laysNims_3 18 rfl rfl)
theorem dX3_laysNims_89 : decode cX3_laysNims 89 = .ok (.if_icmp .ne 16, 3) := dk_160 0 16 (dk_at dksX3_laysNims_3 19 rfl rfl)
theorem dX3_laysNims_92 : decode cX3_laysNims 92 = .ok (.aload_n 0, 1) := dk_42 (dk_at dksX3_laysNims_3 22 rfl rfl)
theorem dX3_laysNims_93 : decode cX3_laysNims 93 = .ok (.getfield 53, 3) := dk_180 0 53 (dk_at dksX3_laysNims_4 0 rfl rfl)
theorem dX3_laysNims_96 : decode cX3_laysNims 96 = .ok (.iload_n 1, 1) := dk_27 (dk_at dksX3_laysNims_4 3 rfl rfl)
theorem dX3_laysNims_97 : decode cX3_laysNims 97 = .ok (.dup2, 1) := dk_92 (dk_at dksX3_laysNims_4 4 rfl rfl)
theorem dX3_laysNims_98 : decode cX3_laysNims 98 = .ok (.iaload, 1) := dk_46 (dk_at dksX3_laysNims_4 5 rfl rfl)
theorem dX3_laysNims_99 : decode cX3_laysNims 99 = .ok (.iconst 1, 1) := dk_4 (dk_at dksX3_laysNims_4 6 rfl rfl)
theorem dX3_laysNims_100 : decode cX3_laysNims 100 = .ok (.iadd, 1) := dk_96 (dk_at dksX3_laysNims_4 7 rfl rfl)
theorem dX3_laysNims_101 : decode cX3_laysNims 101 = .ok (.iastore, 1) := dk_79 (dk_at dksX3_laysNims_4 8 rfl rfl)
theorem dX3_laysNims_102 : decode cX3_laysNims 102 = .ok (.goto (-24), 3) := dk_167 255 232 (dk_at dksX3_laysNims_4 9 rfl rfl)
theorem dX3_laysNims_105 : decode cX3_laysNims 105 = .ok (.iinc 1 1, 3) := dk_132 1 1 (dk_at dksX3_laysNims_4 12 rfl rfl)
theorem dX3_laysNims_108 : decode cX3_laysNims 108 = .ok (.goto (-106), 3) := dk_167 255 150 (dk_at dksX3_laysNims_4 15 rfl rfl)
theorem dX3_laysNims_111 : decode cX3_laysNims 111 = .ok (.return_, 1) := dk_177 (dk_at dksX3_laysNims_4 18 rfl rfl)
abbrev cX3_image : ByteArray := prog_17_method_125_code
def yX3_image : MethodName := ⟨RX3, "image", "(Z)Z"⟩
def dkwX3_image_3 : List UInt8 := [181, 1, 181, 4, 172]
abbrev dktX3_image_3 : List UInt8 := dkwX3_image_3 ++ []
def dkwX3_image_2 : List UInt8 := [180, 0, 13, 28, 46, 79, 132, 2, 1, 167, 255, 215, 27, 154, 0, 7, 42, 182, 0, 63, 42, 4]
abbrev dktX3_image_2 : List UInt8 := dkwX3_image_2 ++ dktX3_image_3
def dkwX3_image_1 : List UInt8 := [153, 0, 18, 42, 180, 0, 13, 28, 42, 180, 0, 7, 28, 46, 79, 167, 0, 15, 42, 180, 0, 7, 28, 42]
abbrev dktX3_image_1 : List UInt8 := dkwX3_image_1 ++ dktX3_image_2
def dkwX3_image_0 : List UInt8 := [27, 154, 0, 12, 42, 180, 1, 181, 154, 0, 5, 3, 172, 3, 61, 28, 17, 6, 171, 162, 0, 40, 27]
abbrev dktX3_image_0 : List UInt8 := dkwX3_image_0 ++ dktX3_image_1
theorem dksX3_image_0 : cX3_image.data.toList.drop 0 = dktX3_image_0 := by decide +kernel
theorem dksX3_image_1 : cX3_image.data.toList.drop 23 = dktX3_image_1 := dk_seg dksX3_image_0 23 rfl rfl
theorem dksX3_image_2 : cX3_image.data.toList.drop 47 = dktX3_image_2 := dk_seg dksX3_image_1 24 rfl rfl
theorem dksX3_image_3 : cX3_image.data.toList.drop 69 = dktX3_image_3 := dk_seg dksX3_image_2 22 rfl rfl
theorem dX3_image_0 : decode cX3_image 0 = .ok (.iload_n 1, 1) := dk_27 (dk_at dksX3_image_0 0 rfl rfl)
theorem dX3_image_1 : decode cX3_image 1 = .ok (.ifCond .ne 12, 3) := dk_154 0 12 (dk_at dksX3_image_0 1 rfl rfl)
theorem dX3_image_4 : decode cX3_image 4 = .ok (.aload_n 0, 1) := dk_42 (dk_at dksX3_image_0 4 rfl rfl)
theorem dX3_image_5 : decode cX3_image 5 = .ok (.getfield 437, 3) := dk_180 1 181 (dk_at dksX3_image_0 5 rfl rfl)
theorem dX3_image_8 : decode cX3_image 8 = .ok (.ifCond .ne 5, 3) := dk_154 0 5 (dk_at dksX3_image_0 8 rfl rfl)
theorem dX3_image_11 : decode cX3_image 11 = .ok (.iconst 0, 1) := dk_3 (dk_at dksX3_image_0 11 rfl rfl)
theorem dX3_image_12 : decode cX3_image 12 = .ok (.ireturn, 1) := dk_172 (dk_at dksX3_image_0 12 rfl rfl)
theorem dX3_image_13 : decode cX3_image 13 = .ok (.iconst 0, 1) := dk_3 (dk_at dksX3_image_0 13 rfl rfl)
theorem dX3_image_14 : decode cX3_image 14 = .ok (.istore_n 2, 1) := dk_61 (dk_at dksX3_image_0 14 rfl rfl)
theorem dX3_image_15 : decode cX3_image 15 = .ok (.iload_n 2, 1) := dk_28 (dk_at dksX3_image_0 15 rfl rfl)
theorem dX3_image_16 : decode cX3_image 16 = .ok (.sipush 1707, 3) := dk_17 6 171 (dk_at dksX3_image_0 16 rfl rfl)
theorem dX3_image_19 : decode cX3_image 19 = .ok (.if_icmp .ge 40, 3) := dk_162 0 40 (dk_at dksX3_image_0 19 rfl rfl)
theorem dX3_image_22 : decode cX3_image 22 = .ok (.iload_n 1, 1) := dk_27 (dk_at dksX3_image_0 22 rfl rfl)
theorem dX3_image_23 : decode cX3_image 23 = .ok (.ifCond .eq 18, 3) := dk_153 0 18 (dk_at dksX3_image_1 0 rfl rfl)
theorem dX3_image_26 : decode cX3_image 26 = .ok (.aload_n 0, 1) := dk_42 (dk_at dksX3_image_1 3 rfl rfl)
theorem dX3_image_27 : decode cX3_image 27 = .ok (.getfield 13, 3) := dk_180 0 13 (dk_at dksX3_image_1 4 rfl rfl)
theorem dX3_image_30 : decode cX3_image 30 = .ok (.iload_n 2, 1) := dk_28 (dk_at dksX3_image_1 7 rfl rfl)
theorem dX3_image_31 : decode cX3_image 31 = .ok (.aload_n 0, 1) := dk_42 (dk_at dksX3_image_1 8 rfl rfl)
theorem dX3_image_32 : decode cX3_image 32 = .ok (.getfield 7, 3) := dk_180 0 7 (dk_at dksX3_image_1 9 rfl rfl)
theorem dX3_image_35 : decode cX3_image 35 = .ok (.iload_n 2, 1) := dk_28 (dk_at dksX3_image_1 12 rfl rfl)
theorem dX3_image_36 : decode cX3_image 36 = .ok (.iaload, 1) := dk_46 (dk_at dksX3_image_1 13 rfl rfl)
theorem dX3_image_37 : decode cX3_image 37 = .ok (.iastore, 1) := dk_79 (dk_at dksX3_image_1 14 rfl rfl)
theorem dX3_image_38 : decode cX3_image 38 = .ok (.goto 15, 3) := dk_167 0 15 (dk_at dksX3_image_1 15 rfl rfl)
theorem dX3_image_41 : decode cX3_image 41 = .ok (.aload_n 0, 1) := dk_42 (dk_at dksX3_image_1 18 rfl rfl)
theorem dX3_image_42 : decode cX3_image 42 = .ok (.getfield 7, 3) := dk_180 0 7 (dk_at dksX3_image_1 19 rfl rfl)
theorem dX3_image_45 : decode cX3_image 45 = .ok (.iload_n 2, 1) := dk_28 (dk_at dksX3_image_1 22 rfl rfl)
theorem dX3_image_46 : decode cX3_image 46 = .ok (.aload_n 0, 1) := dk_42 (dk_at dksX3_image_1 23 rfl rfl)
theorem dX3_image_47 : decode cX3_image 47 = .ok (.getfield 13, 3) := dk_180 0 13 (dk_at dksX3_image_2 0 rfl rfl)
theorem dX3_image_50 : decode cX3_image 50 = .ok (.iload_n 2, 1) := dk_28 (dk_at dksX3_image_2 3 rfl rfl)
theorem dX3_image_51 : decode cX3_image 51 = .ok (.iaload, 1) := dk_46 (dk_at dksX3_image_2 4 rfl rfl)
theorem dX3_image_52 : decode cX3_image 52 = .ok (.iastore, 1) := dk_79 (dk_at dksX3_image_2 5 rfl rfl)
theorem dX3_image_53 : decode cX3_image 53 = .ok (.iinc 2 1, 3) := dk_132 2 1 (dk_at dksX3_image_2 6 rfl rfl)
theorem dX3_image_56 : decode cX3_image 56 = .ok (.goto (-41), 3) := dk_167 255 215 (dk_at dksX3_image_2 9 rfl rfl)
theorem dX3_image_59 : decode cX3_image 59 = .ok (.iload_n 1, 1) := dk_27 (dk_at dksX3_image_2 12 rfl rfl)
theorem dX3_image_60 : decode cX3_image 60 = .ok (.ifCond .ne 7, 3) := dk_154 0 7 (dk_at dksX3_image_2 13 rfl rfl)
theorem dX3_image_63 : decode cX3_image 63 = .ok (.aload_n 0, 1) := dk_42 (dk_at dksX3_image_2 16 rfl rfl)
theorem dX3_image_64 : decode cX3_image 64 = .ok (.invokevirtual 63, 3) := dk_182 0 63 (dk_at dksX3_image_2 17 rfl rfl)
theorem dX3_image_67 : decode cX3_image 67 = .ok (.aload_n 0, 1) := dk_42 (dk_at dksX3_image_2 20 rfl rfl)
theorem dX3_image_68 : decode cX3_image 68 = .ok (.iconst 1, 1) := dk_4 (dk_at dksX3_image_2 21 rfl rfl)
theorem dX3_image_69 : decode cX3_image 69 = .ok (.putfield 437, 3) := dk_181 1 181 (dk_at dksX3_image_3 0 rfl rfl)
theorem dX3_image_72 : decode cX3_image 72 = .ok (.iconst 1, 1) := dk_4 (dk_at dksX3_image_3 3 rfl rfl)
theorem dX3_image_73 : decode cX3_image 73 = .ok (.ireturn, 1) := dk_172 (dk_at dksX3_image_3 4 rfl rfl)
abbrev cX3_look : ByteArray := prog_17_method_126_code
def yX3_look : MethodName := ⟨RX3, "look", "(I)I"⟩
def dkwX3_look_7 : List UInt8 := [180, 0, 7, 16, 44, 46, 172, 42, 180, 0, 60, 172, 19, 1, 120, 172]
abbrev dktX3_look_7 : List UInt8 := dkwX3_look_7 ++ []
def dkwX3_look_6 : List UInt8 := [180, 0, 7, 16, 41, 46, 172, 42, 180, 0, 7, 16, 42, 46, 172, 42, 180, 0, 7, 16, 43, 46, 172, 42]
abbrev dktX3_look_6 : List UInt8 := dkwX3_look_6 ++ dktX3_look_7
def dkwX3_look_5 : List UInt8 := [180, 0, 7, 16, 6, 46, 172, 42, 180, 0, 7, 8, 46, 172, 42, 180, 0, 7, 16, 40, 46, 172, 42]
abbrev dktX3_look_5 : List UInt8 := dkwX3_look_5 ++ dktX3_look_6
def dkwX3_look_4 : List UInt8 := [180, 0, 7, 6, 46, 172, 42, 180, 0, 7, 7, 46, 172, 42, 180, 0, 7, 16, 7, 46, 172, 42]
abbrev dktX3_look_4 : List UInt8 := dkwX3_look_4 ++ dktX3_look_5
def dkwX3_look_3 : List UInt8 := [180, 0, 7, 4, 46, 172, 42, 180, 0, 7, 5, 46, 172, 42, 180, 0, 7, 16, 39, 46, 172, 42]
abbrev dktX3_look_3 : List UInt8 := dkwX3_look_3 ++ dktX3_look_4
def dkwX3_look_2 : List UInt8 := [42, 180, 0, 7, 16, 37, 46, 172, 42, 180, 0, 7, 16, 38, 46, 172, 42, 180, 0, 7, 3, 46, 172, 42]
abbrev dktX3_look_2 : List UInt8 := dkwX3_look_2 ++ dktX3_look_3
def dkwX3_look_1 : List UInt8 := [170, 0, 0, 0, 0, 0, 210, 0, 0, 0, 0, 0, 0, 0, 16, 0, 0, 0, 83, 0, 0, 0, 91, 0, 0, 0, 99, 0, 0, 0, 106, 0, 0, 0, 113, 0, 0, 0, 120, 0, 0, 0, 128, 0, 0, 0, 135, 0, 0, 0, 142, 0, 0, 0, 150, 0, 0, 0, 158, 0, 0, 0, 165, 0, 0, 0, 173, 0, 0, 0, 181, 0, 0, 0, 189, 0, 0, 0, 197, 0, 0, 0, 205]
abbrev dktX3_look_1 : List UInt8 := dkwX3_look_1 ++ dktX3_look_2
def dkwX3_look_0 : List UInt8 := [27]
abbrev dktX3_look_0 : List UInt8 := dkwX3_look_0 ++ dktX3_look_1
theorem dksX3_look_0 : cX3_look.data.toList.drop 0 = dktX3_look_0 := by decide +kernel
theorem dksX3_look_1 : cX3_look.data.toList.drop 1 = dktX3_look_1 := dk_seg dksX3_look_0 1 rfl rfl
theorem dksX3_look_2 : cX3_look.data.toList.drop 84 = dktX3_look_2 := dk_seg dksX3_look_1 83 rfl rfl
theorem dksX3_look_3 : cX3_look.data.toList.drop 108 = dktX3_look_3 := dk_seg dksX3_look_2 24 rfl rfl
theorem dksX3_look_4 : cX3_look.data.toList.drop 130 = dktX3_look_4 := dk_seg dksX3_look_3 22 rfl rfl
theorem dksX3_look_5 : cX3_look.data.toList.drop 152 = dktX3_look_5 := dk_seg dksX3_look_4 22 rfl rfl
theorem dksX3_look_6 : cX3_look.data.toList.drop 175 = dktX3_look_6 := dk_seg dksX3_look_5 23 rfl rfl
theorem dksX3_look_7 : cX3_look.data.toList.drop 199 = dktX3_look_7 := dk_seg dksX3_look_6 24 rfl rfl
theorem dX3_look_0 : decode cX3_look 0 = .ok (.iload_n 1, 1) := dk_27 (dk_at dksX3_look_0 0 rfl rfl)
theorem dX3_look_1 : decode cX3_look 1 = .ok (.tableswitch 210 0 16 #[83, 91, 99, 106, 113, 120, 128, 135, 142, 150, 158, 165, 173, 181, 189, 197, 205], 83) := by decide +kernel
theorem dX3_look_84 : decode cX3_look 84 = .ok (.aload_n 0, 1) := dk_42 (dk_at dksX3_look_2 0 rfl rfl)
theorem dX3_look_85 : decode cX3_look 85 = .ok (.getfield 7, 3) := dk_180 0 7 (dk_at dksX3_look_2 1 rfl rfl)
theorem dX3_look_88 : decode cX3_look 88 = .ok (.bipush 37, 2) := dk_16 37 (dk_at dksX3_look_2 4 rfl rfl)
theorem dX3_look_90 : decode cX3_look 90 = .ok (.iaload, 1) := dk_46 (dk_at dksX3_look_2 6 rfl rfl)
theorem dX3_look_91 : decode cX3_look 91 = .ok (.ireturn, 1) := dk_172 (dk_at dksX3_look_2 7 rfl rfl)
theorem dX3_look_92 : decode cX3_look 92 = .ok (.aload_n 0, 1) := dk_42 (dk_at dksX3_look_2 8 rfl rfl)
theorem dX3_look_93 : decode cX3_look 93 = .ok (.getfield 7, 3) := dk_180 0 7 (dk_at dksX3_look_2 9 rfl rfl)
theorem dX3_look_96 : decode cX3_look 96 = .ok (.bipush 38, 2) := dk_16 38 (dk_at dksX3_look_2 12 rfl rfl)
theorem dX3_look_98 : decode cX3_look 98 = .ok (.iaload, 1) := dk_46 (dk_at dksX3_look_2 14 rfl rfl)
theorem dX3_look_99 : decode cX3_look 99 = .ok (.ireturn, 1) := dk_172 (dk_at dksX3_look_2 15 rfl rfl)
theorem dX3_look_100 : decode cX3_look 100 = .ok (.aload_n 0, 1) := dk_42 (dk_at dksX3_look_2 16 rfl rfl)
theorem dX3_look_101 : decode cX3_look 101 = .ok (.getfield 7, 3) := dk_180 0 7 (dk_at dksX3_look_2 17 rfl rfl)
theorem dX3_look_104 : decode cX3_look 104 = .ok (.iconst 0, 1) := dk_3 (dk_at dksX3_look_2 20 rfl rfl)
theorem dX3_look_105 : decode cX3_look 105 = .ok (.iaload, 1) := dk_46 (dk_at dksX3_look_2 21 rfl rfl)
theorem dX3_look_106 : decode cX3_look 106 = .ok (.ireturn, 1) := dk_172 (dk_at dksX3_look_2 22 rfl rfl)
theorem dX3_look_107 : decode cX3_look 107 = .ok (.aload_n 0, 1) := dk_42 (dk_at dksX3_look_2 23 rfl rfl)
theorem dX3_look_108 : decode cX3_look 108 = .ok (.getfield 7, 3) := dk_180 0 7 (dk_at dksX3_look_3 0 rfl rfl)
theorem dX3_look_111 : decode cX3_look 111 = .ok (.iconst 1, 1) := dk_4 (dk_at dksX3_look_3 3 rfl rfl)
theorem dX3_look_112 : decode cX3_look 112 = .ok (.iaload, 1) := dk_46 (dk_at dksX3_look_3 4 rfl rfl)
theorem dX3_look_113 : decode cX3_look 113 = .ok (.ireturn, 1) := dk_172 (dk_at dksX3_look_3 5 rfl rfl)
theorem dX3_look_114 : decode cX3_look 114 = .ok (.aload_n 0, 1) := dk_42 (dk_at dksX3_look_3 6 rfl rfl)
theorem dX3_look_115 : decode cX3_look 115 = .ok (.getfield 7, 3) := dk_180 0 7 (dk_at dksX3_look_3 7 rfl rfl)
theorem dX3_look_118 : decode cX3_look 118 = .ok (.iconst 2, 1) := dk_5 (dk_at dksX3_look_3 10 rfl rfl)
theorem dX3_look_119 : decode cX3_look 119 = .ok (.iaload, 1) := dk_46 (dk_at dksX3_look_3 11 rfl rfl)
theorem dX3_look_120 : decode cX3_look 120 = .ok (.ireturn, 1) := dk_172 (dk_at dksX3_look_3 12 rfl rfl)
theorem dX3_look_121 : decode cX3_look 121 = .ok (.aload_n 0, 1) := dk_42 (dk_at dksX3_look_3 13 rfl rfl)
theorem dX3_look_122 : decode cX3_look 122 = .ok (.getfield 7, 3) := dk_180 0 7 (dk_at dksX3_look_3 14 rfl rfl)
theorem dX3_look_125 : decode cX3_look 125 = .ok (.bipush 39, 2) := dk_16 39 (dk_at dksX3_look_3 17 rfl rfl)
theorem dX3_look_127 : decode cX3_look 127 = .ok (.iaload, 1) := dk_46 (dk_at dksX3_look_3 19 rfl rfl)
theorem dX3_look_128 : decode cX3_look 128 = .ok (.ireturn, 1) := dk_172 (dk_at dksX3_look_3 20 rfl rfl)
theorem dX3_look_129 : decode cX3_look 129 = .ok (.aload_n 0, 1) := dk_42 (dk_at dksX3_look_3 21 rfl rfl)
theorem dX3_look_130 : decode cX3_look 130 = .ok (.getfield 7, 3) := dk_180 0 7 (dk_at dksX3_look_4 0 rfl rfl)
theorem dX3_look_133 : decode cX3_look 133 = .ok (.iconst 3, 1) := dk_6 (dk_at dksX3_look_4 3 rfl rfl)
theorem dX3_look_134 : decode cX3_look 134 = .ok (.iaload, 1) := dk_46 (dk_at dksX3_look_4 4 rfl rfl)
theorem dX3_look_135 : decode cX3_look 135 = .ok (.ireturn, 1) := dk_172 (dk_at dksX3_look_4 5 rfl rfl)
theorem dX3_look_136 : decode cX3_look 136 = .ok (.aload_n 0, 1) := dk_42 (dk_at dksX3_look_4 6 rfl rfl)
theorem dX3_look_137 : decode cX3_look 137 = .ok (.getfield 7, 3) := dk_180 0 7 (dk_at dksX3_look_4 7 rfl rfl)
theorem dX3_look_140 : decode cX3_look 140 = .ok (.iconst 4, 1) := dk_7 (dk_at dksX3_look_4 10 rfl rfl)
theorem dX3_look_141 : decode cX3_look 141 = .ok (.iaload, 1) := dk_46 (dk_at dksX3_look_4 11 rfl rfl)
theorem dX3_look_142 : decode cX3_look 142 = .ok (.ireturn, 1) := dk_172 (dk_at dksX3_look_4 12 rfl rfl)
theorem dX3_look_143 : decode cX3_look 143 = .ok (.aload_n 0, 1) := dk_42 (dk_at dksX3_look_4 13 rfl rfl)
theorem dX3_look_144 : decode cX3_look 144 = .ok (.getfield 7, 3) := dk_180 0 7 (dk_at dksX3_look_4 14 rfl rfl)
theorem dX3_look_147 : decode cX3_look 147 = .ok (.bipush 7, 2) := dk_16 7 (dk_at dksX3_look_4 17 rfl rfl)
theorem dX3_look_149 : decode cX3_look 149 = .ok (.iaload, 1) := dk_46 (dk_at dksX3_look_4 19 rfl rfl)
theorem dX3_look_150 : decode cX3_look 150 = .ok (.ireturn, 1) := dk_172 (dk_at dksX3_look_4 20 rfl rfl)
theorem dX3_look_151 : decode cX3_look 151 = .ok (.aload_n 0, 1) := dk_42 (dk_at dksX3_look_4 21 rfl rfl)
theorem dX3_look_152 : decode cX3_look 152 = .ok (.getfield 7, 3) := dk_180 0 7 (dk_at dksX3_look_5 0 rfl rfl)
theorem dX3_look_155 : decode cX3_look 155 = .ok (.bipush 6, 2) := dk_16 6 (dk_at dksX3_look_5 3 rfl rfl)
theorem dX3_look_157 : decode cX3_look 157 = .ok (.iaload, 1) := dk_46 (dk_at dksX3_look_5 5 rfl rfl)
theorem dX3_look_158 : decode cX3_look 158 = .ok (.ireturn, 1) := dk_172 (dk_at dksX3_look_5 6 rfl rfl)
theorem dX3_look_159 : decode cX3_look 159 = .ok (.aload_n 0, 1) := dk_42 (dk_at dksX3_look_5 7 rfl rfl)
theorem dX3_look_160 : decode cX3_look 160 = .ok (.getfield 7, 3) := dk_180 0 7 (dk_at dksX3_look_5 8 rfl rfl)
theorem dX3_look_163 : decode cX3_look 163 = .ok (.iconst 5, 1) := dk_8 (dk_at dksX3_look_5 11 rfl rfl)
theorem dX3_look_164 : decode cX3_look 164 = .ok (.iaload, 1) := dk_46 (dk_at dksX3_look_5 12 rfl rfl)
theorem dX3_look_165 : decode cX3_look 165 = .ok (.ireturn, 1) := dk_172 (dk_at dksX3_look_5 13 rfl rfl)
theorem dX3_look_166 : decode cX3_look 166 = .ok (.aload_n 0, 1) := dk_42 (dk_at dksX3_look_5 14 rfl rfl)
theorem dX3_look_167 : decode cX3_look 167 = .ok (.getfield 7, 3) := dk_180 0 7 (dk_at dksX3_look_5 15 rfl rfl)
theorem dX3_look_170 : decode cX3_look 170 = .ok (.bipush 40, 2) := dk_16 40 (dk_at dksX3_look_5 18 rfl rfl)
theorem dX3_look_172 : decode cX3_look 172 = .ok (.iaload, 1) := dk_46 (dk_at dksX3_look_5 20 rfl rfl)
theorem dX3_look_173 : decode cX3_look 173 = .ok (.ireturn, 1) := dk_172 (dk_at dksX3_look_5 21 rfl rfl)
theorem dX3_look_174 : decode cX3_look 174 = .ok (.aload_n 0, 1) := dk_42 (dk_at dksX3_look_5 22 rfl rfl)
theorem dX3_look_175 : decode cX3_look 175 = .ok (.getfield 7, 3) := dk_180 0 7 (dk_at dksX3_look_6 0 rfl rfl)
theorem dX3_look_178 : decode cX3_look 178 = .ok (.bipush 41, 2) := dk_16 41 (dk_at dksX3_look_6 3 rfl rfl)
theorem dX3_look_180 : decode cX3_look 180 = .ok (.iaload, 1) := dk_46 (dk_at dksX3_look_6 5 rfl rfl)
theorem dX3_look_181 : decode cX3_look 181 = .ok (.ireturn, 1) := dk_172 (dk_at dksX3_look_6 6 rfl rfl)
theorem dX3_look_182 : decode cX3_look 182 = .ok (.aload_n 0, 1) := dk_42 (dk_at dksX3_look_6 7 rfl rfl)
theorem dX3_look_183 : decode cX3_look 183 = .ok (.getfield 7, 3) := dk_180 0 7 (dk_at dksX3_look_6 8 rfl rfl)
theorem dX3_look_186 : decode cX3_look 186 = .ok (.bipush 42, 2) := dk_16 42 (dk_at dksX3_look_6 11 rfl rfl)
theorem dX3_look_188 : decode cX3_look 188 = .ok (.iaload, 1) := dk_46 (dk_at dksX3_look_6 13 rfl rfl)
theorem dX3_look_189 : decode cX3_look 189 = .ok (.ireturn, 1) := dk_172 (dk_at dksX3_look_6 14 rfl rfl)
theorem dX3_look_190 : decode cX3_look 190 = .ok (.aload_n 0, 1) := dk_42 (dk_at dksX3_look_6 15 rfl rfl)
theorem dX3_look_191 : decode cX3_look 191 = .ok (.getfield 7, 3) := dk_180 0 7 (dk_at dksX3_look_6 16 rfl rfl)
theorem dX3_look_194 : decode cX3_look 194 = .ok (.bipush 43, 2) := dk_16 43 (dk_at dksX3_look_6 19 rfl rfl)
theorem dX3_look_196 : decode cX3_look 196 = .ok (.iaload, 1) := dk_46 (dk_at dksX3_look_6 21 rfl rfl)
theorem dX3_look_197 : decode cX3_look 197 = .ok (.ireturn, 1) := dk_172 (dk_at dksX3_look_6 22 rfl rfl)
theorem dX3_look_198 : decode cX3_look 198 = .ok (.aload_n 0, 1) := dk_42 (dk_at dksX3_look_6 23 rfl rfl)
theorem dX3_look_199 : decode cX3_look 199 = .ok (.getfield 7, 3) := dk_180 0 7 (dk_at dksX3_look_7 0 rfl rfl)
theorem dX3_look_202 : decode cX3_look 202 = .ok (.bipush 44, 2) := dk_16 44 (dk_at dksX3_look_7 3 rfl rfl)
theorem dX3_look_204 : decode cX3_look 204 = .ok (.iaload, 1) := dk_46 (dk_at dksX3_look_7 5 rfl rfl)
theorem dX3_look_205 : decode cX3_look 205 = .ok (.ireturn, 1) := dk_172 (dk_at dksX3_look_7 6 rfl rfl)
theorem dX3_look_206 : decode cX3_look 206 = .ok (.aload_n 0, 1) := dk_42 (dk_at dksX3_look_7 7 rfl rfl)
theorem dX3_look_207 : decode cX3_look 207 = .ok (.getfield 60, 3) := dk_180 0 60 (dk_at dksX3_look_7 8 rfl rfl)
theorem dX3_look_210 : decode cX3_look 210 = .ok (.ireturn, 1) := dk_172 (dk_at dksX3_look_7 11 rfl rfl)
theorem dX3_look_211 : decode cX3_look 211 = .ok (.ldc_w 376, 3) := dk_19 1 120 (dk_at dksX3_look_7 12 rfl rfl)
theorem dX3_look_214 : decode cX3_look 214 = .ok (.ireturn, 1) := dk_172 (dk_at dksX3_look_7 15 rfl rfl)
theorem q137 : (Jvm.Cond.initialized "EncoresModel") ∈ lw_all := lw_g (lw_at lw_m1 4 rfl) rfl
theorem q1291 : (Jvm.Cond.instantiable "EncoresModel" (35 : Nat)) ∈ lw_all := lw_g (lw_at lw_m5 198 rfl) rfl
theorem q1293 : (Jvm.Cond.instanceMethod ({ cls := "EncoresModel", name := "<init>", desc := "()V" } : Jvm.MethodName)) ∈ lw_all := lw_g (lw_at lw_m5 200 rfl) rfl
theorem q1294 : (Jvm.Cond.code ({ cls := "EncoresModel", name := "<init>", desc := "()V" } : Jvm.MethodName) prog_17_method_1_code (2 : Nat) (Option.none : Option Jvm.ClassFile.FieldType)) ∈ lw_all := lw_g (lw_at lw_m5 201 rfl) rfl
theorem q1295 : (Jvm.Cond.methodLink "EncoresModel" (1 : Nat) ({ cls := "java/lang/Object", name := "<init>", desc := "()V" } : Jvm.MethodName)) ∈ lw_all := lw_g (lw_at lw_m5 202 rfl) rfl
theorem q1296 : (Jvm.Cond.fieldLink "EncoresModel" (7 : Nat) "EncoresModel" "w" "[I") ∈ lw_all := lw_g (lw_at lw_m5 203 rfl) rfl
theorem q1297 : (Jvm.Cond.fieldLink "EncoresModel" (13 : Nat) "EncoresModel" "kept" "[I") ∈ lw_all := lw_g (lw_at lw_m5 204 rfl) rfl
theorem q1298 : (Jvm.Cond.fieldLink "EncoresModel" (16 : Nat) "EncoresModel" "back" "[I") ∈ lw_all := lw_g (lw_at lw_m5 205 rfl) rfl
theorem q1299 : (Jvm.Cond.fieldLink "EncoresModel" (19 : Nat) "EncoresModel" "lying" "[I") ∈ lw_all := lw_g (lw_at lw_m5 206 rfl) rfl
theorem q1300 : (Jvm.Cond.fieldLink "EncoresModel" (60 : Nat) "EncoresModel" "backMany" "I") ∈ lw_all := lw_g (lw_at lw_m5 207 rfl) rfl
theorem q1301 : (Jvm.Cond.fieldLink "EncoresModel" (437 : Nat) "EncoresModel" "hasImage" "Z") ∈ lw_all := lw_g (lw_at lw_m5 208 rfl) rfl
theorem q1302 : (Jvm.Cond.fieldLink "EncoresModel" (22 : Nat) "EncoresModel" "freshLine" "[I") ∈ lw_all := lw_g (lw_at lw_m5 209 rfl) rfl
theorem q1303 : (Jvm.Cond.fieldLink "EncoresModel" (25 : Nat) "EncoresModel" "freshStep" "[I") ∈ lw_all := lw_g (lw_at lw_m5 210 rfl) rfl
theorem q1304 : (Jvm.Cond.fieldLink "EncoresModel" (28 : Nat) "EncoresModel" "freshRow" "[I") ∈ lw_all := lw_g (lw_at lw_m5 211 rfl) rfl
theorem q1305 : (Jvm.Cond.fieldLink "EncoresModel" (31 : Nat) "EncoresModel" "tape" "[I") ∈ lw_all := lw_g (lw_at lw_m5 212 rfl) rfl
theorem q1306 : (Jvm.Cond.fieldLink "EncoresModel" (34 : Nat) "EncoresModel" "pile" "[I") ∈ lw_all := lw_g (lw_at lw_m5 213 rfl) rfl
theorem q1307 : (Jvm.Cond.fieldLink "EncoresModel" (37 : Nat) "EncoresModel" "facts" "[I") ∈ lw_all := lw_g (lw_at lw_m5 214 rfl) rfl
theorem q1308 : (Jvm.Cond.fieldLink "EncoresModel" (146 : Nat) "EncoresModel" "reading" "I") ∈ lw_all := lw_g (lw_at lw_m5 215 rfl) rfl
theorem q1309 : (Jvm.Cond.fieldLink "EncoresModel" (224 : Nat) "EncoresModel" "lines" "I") ∈ lw_all := lw_g (lw_at lw_m5 216 rfl) rfl
theorem q1310 : (Jvm.Cond.fieldLink "EncoresModel" (189 : Nat) "EncoresModel" "steps" "I") ∈ lw_all := lw_g (lw_at lw_m5 217 rfl) rfl
theorem q1311 : (Jvm.Cond.fieldLink "EncoresModel" (233 : Nat) "EncoresModel" "rows" "I") ∈ lw_all := lw_g (lw_at lw_m5 218 rfl) rfl
theorem q1312 : (Jvm.Cond.fieldLink "EncoresModel" (78 : Nat) "EncoresModel" "taped" "I") ∈ lw_all := lw_g (lw_at lw_m5 219 rfl) rfl
theorem q1313 : (Jvm.Cond.fieldLink "EncoresModel" (81 : Nat) "EncoresModel" "at" "I") ∈ lw_all := lw_g (lw_at lw_m5 220 rfl) rfl
theorem q1314 : (Jvm.Cond.fieldLink "EncoresModel" (162 : Nat) "EncoresModel" "token" "I") ∈ lw_all := lw_g (lw_at lw_m5 221 rfl) rfl
theorem q1315 : (Jvm.Cond.fieldLink "EncoresModel" (84 : Nat) "EncoresModel" "tokenAt" "I") ∈ lw_all := lw_g (lw_at lw_m5 222 rfl) rfl
theorem q1316 : (Jvm.Cond.fieldLink "EncoresModel" (174 : Nat) "EncoresModel" "value" "I") ∈ lw_all := lw_g (lw_at lw_m5 223 rfl) rfl
theorem q1317 : (Jvm.Cond.fieldLink "EncoresModel" (177 : Nat) "EncoresModel" "wrong" "I") ∈ lw_all := lw_g (lw_at lw_m5 224 rfl) rfl
theorem q1318 : (Jvm.Cond.fieldLink "EncoresModel" (180 : Nat) "EncoresModel" "wrongAt" "I") ∈ lw_all := lw_g (lw_at lw_m5 225 rfl) rfl
theorem q1319 : (Jvm.Cond.fieldLink "EncoresModel" (265 : Nat) "EncoresModel" "faultKind" "I") ∈ lw_all := lw_g (lw_at lw_m5 226 rfl) rfl
theorem q1320 : (Jvm.Cond.fieldLink "EncoresModel" (192 : Nat) "EncoresModel" "depth" "I") ∈ lw_all := lw_g (lw_at lw_m5 227 rfl) rfl
theorem q1321 : (Jvm.Cond.fieldLink "EncoresModel" (40 : Nat) "EncoresModel" "faultPlace" "I") ∈ lw_all := lw_g (lw_at lw_m5 228 rfl) rfl
theorem q1322 : (Jvm.Cond.fieldLink "EncoresModel" (303 : Nat) "EncoresModel" "isTrue" "Z") ∈ lw_all := lw_g (lw_at lw_m5 229 rfl) rfl
theorem q1323 : (Jvm.Cond.fieldLink "EncoresModel" (44 : Nat) "EncoresModel" "drawn" "[I") ∈ lw_all := lw_g (lw_at lw_m5 230 rfl) rfl
theorem q1324 : (Jvm.Cond.fieldLink "EncoresModel" (316 : Nat) "EncoresModel" "clapping" "I") ∈ lw_all := lw_g (lw_at lw_m5 231 rfl) rfl
theorem q1325 : (Jvm.Cond.fieldLink "EncoresModel" (331 : Nat) "EncoresModel" "rounds" "I") ∈ lw_all := lw_g (lw_at lw_m5 232 rfl) rfl
theorem q1326 : (Jvm.Cond.fieldLink "EncoresModel" (347 : Nat) "EncoresModel" "hands" "I") ∈ lw_all := lw_g (lw_at lw_m5 233 rfl) rfl
theorem q1327 : (Jvm.Cond.fieldLink "EncoresModel" (358 : Nat) "EncoresModel" "goesOn" "Z") ∈ lw_all := lw_g (lw_at lw_m5 234 rfl) rfl
theorem q1328 : (Jvm.Cond.fieldLink "EncoresModel" (47 : Nat) "EncoresModel" "leastOf" "[I") ∈ lw_all := lw_g (lw_at lw_m5 235 rfl) rfl
theorem q1329 : (Jvm.Cond.fieldLink "EncoresModel" (50 : Nat) "EncoresModel" "within" "[I") ∈ lw_all := lw_g (lw_at lw_m5 236 rfl) rfl
theorem q1330 : (Jvm.Cond.fieldLink "EncoresModel" (53 : Nat) "EncoresModel" "nims" "[I") ∈ lw_all := lw_g (lw_at lw_m5 237 rfl) rfl
theorem q1331 : (Jvm.Cond.laysFinal "EncoresModel" "EncoresModel" "w" "[I") ∈ lw_all := lw_g (lw_at lw_m5 238 rfl) rfl
theorem q1332 : (Jvm.Cond.soleField "EncoresModel" "w") ∈ lw_all := lw_g (lw_at lw_m5 239 rfl) rfl
theorem q1333 : (Jvm.Cond.laysFinal "EncoresModel" "EncoresModel" "kept" "[I") ∈ lw_all := lw_g (lw_at lw_m6 0 rfl) rfl
theorem q1334 : (Jvm.Cond.soleField "EncoresModel" "kept") ∈ lw_all := lw_g (lw_at lw_m6 1 rfl) rfl
theorem q1335 : (Jvm.Cond.laysFinal "EncoresModel" "EncoresModel" "back" "[I") ∈ lw_all := lw_g (lw_at lw_m6 2 rfl) rfl
theorem q1336 : (Jvm.Cond.soleField "EncoresModel" "back") ∈ lw_all := lw_g (lw_at lw_m6 3 rfl) rfl
theorem q1337 : (Jvm.Cond.laysFinal "EncoresModel" "EncoresModel" "lying" "[I") ∈ lw_all := lw_g (lw_at lw_m6 4 rfl) rfl
theorem q1338 : (Jvm.Cond.soleField "EncoresModel" "lying") ∈ lw_all := lw_g (lw_at lw_m6 5 rfl) rfl
theorem q1339 : (Jvm.Cond.lays "EncoresModel" "EncoresModel" "backMany" "I") ∈ lw_all := lw_g (lw_at lw_m6 6 rfl) rfl
theorem q1340 : (Jvm.Cond.soleField "EncoresModel" "backMany") ∈ lw_all := lw_g (lw_at lw_m6 7 rfl) rfl
theorem q1341 : (Jvm.Cond.lays "EncoresModel" "EncoresModel" "hasImage" "Z") ∈ lw_all := lw_g (lw_at lw_m6 8 rfl) rfl
theorem q1342 : (Jvm.Cond.soleField "EncoresModel" "hasImage") ∈ lw_all := lw_g (lw_at lw_m6 9 rfl) rfl
theorem q1343 : (Jvm.Cond.laysFinal "EncoresModel" "EncoresModel" "freshLine" "[I") ∈ lw_all := lw_g (lw_at lw_m6 10 rfl) rfl
theorem q1344 : (Jvm.Cond.soleField "EncoresModel" "freshLine") ∈ lw_all := lw_g (lw_at lw_m6 11 rfl) rfl
theorem q1345 : (Jvm.Cond.laysFinal "EncoresModel" "EncoresModel" "freshStep" "[I") ∈ lw_all := lw_g (lw_at lw_m6 12 rfl) rfl
theorem q1346 : (Jvm.Cond.soleField "EncoresModel" "freshStep") ∈ lw_all := lw_g (lw_at lw_m6 13 rfl) rfl
theorem q1347 : (Jvm.Cond.laysFinal "EncoresModel" "EncoresModel" "freshRow" "[I") ∈ lw_all := lw_g (lw_at lw_m6 14 rfl) rfl
theorem q1348 : (Jvm.Cond.soleField "EncoresModel" "freshRow") ∈ lw_all := lw_g (lw_at lw_m6 15 rfl) rfl
theorem q1349 : (Jvm.Cond.laysFinal "EncoresModel" "EncoresModel" "tape" "[I") ∈ lw_all := lw_g (lw_at lw_m6 16 rfl) rfl
theorem q1350 : (Jvm.Cond.soleField "EncoresModel" "tape") ∈ lw_all := lw_g (lw_at lw_m6 17 rfl) rfl
theorem q1351 : (Jvm.Cond.laysFinal "EncoresModel" "EncoresModel" "pile" "[I") ∈ lw_all := lw_g (lw_at lw_m6 18 rfl) rfl
theorem q1352 : (Jvm.Cond.soleField "EncoresModel" "pile") ∈ lw_all := lw_g (lw_at lw_m6 19 rfl) rfl
theorem q1353 : (Jvm.Cond.laysFinal "EncoresModel" "EncoresModel" "facts" "[I") ∈ lw_all := lw_g (lw_at lw_m6 20 rfl) rfl
theorem q1354 : (Jvm.Cond.soleField "EncoresModel" "facts") ∈ lw_all := lw_g (lw_at lw_m6 21 rfl) rfl
theorem q1355 : (Jvm.Cond.lays "EncoresModel" "EncoresModel" "reading" "I") ∈ lw_all := lw_g (lw_at lw_m6 22 rfl) rfl
theorem q1356 : (Jvm.Cond.soleField "EncoresModel" "reading") ∈ lw_all := lw_g (lw_at lw_m6 23 rfl) rfl
theorem q1357 : (Jvm.Cond.lays "EncoresModel" "EncoresModel" "lines" "I") ∈ lw_all := lw_g (lw_at lw_m6 24 rfl) rfl
theorem q1358 : (Jvm.Cond.soleField "EncoresModel" "lines") ∈ lw_all := lw_g (lw_at lw_m6 25 rfl) rfl
theorem q1359 : (Jvm.Cond.lays "EncoresModel" "EncoresModel" "steps" "I") ∈ lw_all := lw_g (lw_at lw_m6 26 rfl) rfl
theorem q1360 : (Jvm.Cond.soleField "EncoresModel" "steps") ∈ lw_all := lw_g (lw_at lw_m6 27 rfl) rfl
theorem q1361 : (Jvm.Cond.lays "EncoresModel" "EncoresModel" "rows" "I") ∈ lw_all := lw_g (lw_at lw_m6 28 rfl) rfl
theorem q1362 : (Jvm.Cond.soleField "EncoresModel" "rows") ∈ lw_all := lw_g (lw_at lw_m6 29 rfl) rfl
theorem q1363 : (Jvm.Cond.lays "EncoresModel" "EncoresModel" "taped" "I") ∈ lw_all := lw_g (lw_at lw_m6 30 rfl) rfl
theorem q1364 : (Jvm.Cond.soleField "EncoresModel" "taped") ∈ lw_all := lw_g (lw_at lw_m6 31 rfl) rfl
theorem q1365 : (Jvm.Cond.lays "EncoresModel" "EncoresModel" "at" "I") ∈ lw_all := lw_g (lw_at lw_m6 32 rfl) rfl
theorem q1366 : (Jvm.Cond.soleField "EncoresModel" "at") ∈ lw_all := lw_g (lw_at lw_m6 33 rfl) rfl
theorem q1367 : (Jvm.Cond.lays "EncoresModel" "EncoresModel" "token" "I") ∈ lw_all := lw_g (lw_at lw_m6 34 rfl) rfl
theorem q1368 : (Jvm.Cond.soleField "EncoresModel" "token") ∈ lw_all := lw_g (lw_at lw_m6 35 rfl) rfl
theorem q1369 : (Jvm.Cond.lays "EncoresModel" "EncoresModel" "tokenAt" "I") ∈ lw_all := lw_g (lw_at lw_m6 36 rfl) rfl
theorem q1370 : (Jvm.Cond.soleField "EncoresModel" "tokenAt") ∈ lw_all := lw_g (lw_at lw_m6 37 rfl) rfl
theorem q1371 : (Jvm.Cond.lays "EncoresModel" "EncoresModel" "value" "I") ∈ lw_all := lw_g (lw_at lw_m6 38 rfl) rfl
theorem q1372 : (Jvm.Cond.soleField "EncoresModel" "value") ∈ lw_all := lw_g (lw_at lw_m6 39 rfl) rfl
theorem q1373 : (Jvm.Cond.lays "EncoresModel" "EncoresModel" "wrong" "I") ∈ lw_all := lw_g (lw_at lw_m6 40 rfl) rfl
theorem q1374 : (Jvm.Cond.soleField "EncoresModel" "wrong") ∈ lw_all := lw_g (lw_at lw_m6 41 rfl) rfl
theorem q1375 : (Jvm.Cond.lays "EncoresModel" "EncoresModel" "wrongAt" "I") ∈ lw_all := lw_g (lw_at lw_m6 42 rfl) rfl
theorem q1376 : (Jvm.Cond.soleField "EncoresModel" "wrongAt") ∈ lw_all := lw_g (lw_at lw_m6 43 rfl) rfl
theorem q1377 : (Jvm.Cond.lays "EncoresModel" "EncoresModel" "faultKind" "I") ∈ lw_all := lw_g (lw_at lw_m6 44 rfl) rfl
theorem q1378 : (Jvm.Cond.soleField "EncoresModel" "faultKind") ∈ lw_all := lw_g (lw_at lw_m6 45 rfl) rfl
theorem q1379 : (Jvm.Cond.lays "EncoresModel" "EncoresModel" "depth" "I") ∈ lw_all := lw_g (lw_at lw_m6 46 rfl) rfl
theorem q1380 : (Jvm.Cond.soleField "EncoresModel" "depth") ∈ lw_all := lw_g (lw_at lw_m6 47 rfl) rfl
theorem q1381 : (Jvm.Cond.lays "EncoresModel" "EncoresModel" "faultPlace" "I") ∈ lw_all := lw_g (lw_at lw_m6 48 rfl) rfl
theorem q1382 : (Jvm.Cond.soleField "EncoresModel" "faultPlace") ∈ lw_all := lw_g (lw_at lw_m6 49 rfl) rfl
theorem q1383 : (Jvm.Cond.lays "EncoresModel" "EncoresModel" "isTrue" "Z") ∈ lw_all := lw_g (lw_at lw_m6 50 rfl) rfl
theorem q1384 : (Jvm.Cond.soleField "EncoresModel" "isTrue") ∈ lw_all := lw_g (lw_at lw_m6 51 rfl) rfl
theorem q1385 : (Jvm.Cond.laysFinal "EncoresModel" "EncoresModel" "drawn" "[I") ∈ lw_all := lw_g (lw_at lw_m6 52 rfl) rfl
theorem q1386 : (Jvm.Cond.soleField "EncoresModel" "drawn") ∈ lw_all := lw_g (lw_at lw_m6 53 rfl) rfl
theorem q1387 : (Jvm.Cond.lays "EncoresModel" "EncoresModel" "clapping" "I") ∈ lw_all := lw_g (lw_at lw_m6 54 rfl) rfl
theorem q1388 : (Jvm.Cond.soleField "EncoresModel" "clapping") ∈ lw_all := lw_g (lw_at lw_m6 55 rfl) rfl
theorem q1389 : (Jvm.Cond.lays "EncoresModel" "EncoresModel" "rounds" "I") ∈ lw_all := lw_g (lw_at lw_m6 56 rfl) rfl
theorem q1390 : (Jvm.Cond.soleField "EncoresModel" "rounds") ∈ lw_all := lw_g (lw_at lw_m6 57 rfl) rfl
theorem q1391 : (Jvm.Cond.lays "EncoresModel" "EncoresModel" "hands" "I") ∈ lw_all := lw_g (lw_at lw_m6 58 rfl) rfl
theorem q1392 : (Jvm.Cond.soleField "EncoresModel" "hands") ∈ lw_all := lw_g (lw_at lw_m6 59 rfl) rfl
theorem q1393 : (Jvm.Cond.lays "EncoresModel" "EncoresModel" "goesOn" "Z") ∈ lw_all := lw_g (lw_at lw_m6 60 rfl) rfl
theorem q1394 : (Jvm.Cond.soleField "EncoresModel" "goesOn") ∈ lw_all := lw_g (lw_at lw_m6 61 rfl) rfl
theorem q1395 : (Jvm.Cond.laysFinal "EncoresModel" "EncoresModel" "leastOf" "[I") ∈ lw_all := lw_g (lw_at lw_m6 62 rfl) rfl
theorem q1396 : (Jvm.Cond.soleField "EncoresModel" "leastOf") ∈ lw_all := lw_g (lw_at lw_m6 63 rfl) rfl
theorem q1397 : (Jvm.Cond.laysFinal "EncoresModel" "EncoresModel" "within" "[I") ∈ lw_all := lw_g (lw_at lw_m6 64 rfl) rfl
theorem q1398 : (Jvm.Cond.soleField "EncoresModel" "within") ∈ lw_all := lw_g (lw_at lw_m6 65 rfl) rfl
theorem q1399 : (Jvm.Cond.laysFinal "EncoresModel" "EncoresModel" "nims" "[I") ∈ lw_all := lw_g (lw_at lw_m6 66 rfl) rfl
theorem q1400 : (Jvm.Cond.soleField "EncoresModel" "nims") ∈ lw_all := lw_g (lw_at lw_m6 67 rfl) rfl
theorem q1401 : (Jvm.Cond.superclass "EncoresModel" "java/lang/Object") ∈ lw_all := lw_g (lw_at lw_m6 68 rfl) rfl
theorem q1403 : (Jvm.Cond.instanceMethod ({ cls := "EncoresModel", name := "state", desc := "(I)I" } : Jvm.MethodName)) ∈ lw_all := lw_g (lw_at lw_m6 70 rfl) rfl
theorem q1404 : (Jvm.Cond.selects "EncoresModel" ({ cls := "EncoresModel", name := "state", desc := "(I)I" } : Jvm.MethodName) ({ cls := "EncoresModel", name := "state", desc := "(I)I" } : Jvm.MethodName)) ∈ lw_all := lw_g (lw_at lw_m6 71 rfl) rfl
theorem q1405 : (Jvm.Cond.code ({ cls := "EncoresModel", name := "state", desc := "(I)I" } : Jvm.MethodName) prog_17_method_12_code (3 : Nat) (Option.some Jvm.ClassFile.FieldType.int)) ∈ lw_all := lw_g (lw_at lw_m6 72 rfl) rfl
theorem q1406 : (Jvm.Cond.methodLink "EncoresModel" (63 : Nat) ({ cls := "EncoresModel", name := "forgets", desc := "()V" } : Jvm.MethodName)) ∈ lw_all := lw_g (lw_at lw_m6 73 rfl) rfl
theorem q1407 : (Jvm.Cond.privateMethod ({ cls := "EncoresModel", name := "forgets", desc := "()V" } : Jvm.MethodName)) ∈ lw_tbl := lw_at lw_m6 74 rfl
theorem q1408 : (Jvm.Cond.instanceMethod ({ cls := "EncoresModel", name := "forgets", desc := "()V" } : Jvm.MethodName)) ∈ lw_all := lw_g (lw_at lw_m6 75 rfl) rfl
theorem q1409 : (Jvm.Cond.code ({ cls := "EncoresModel", name := "forgets", desc := "()V" } : Jvm.MethodName) prog_17_method_11_code (1 : Nat) (Option.none : Option Jvm.ClassFile.FieldType)) ∈ lw_all := lw_g (lw_at lw_m6 76 rfl) rfl
theorem q1411 : (Jvm.Cond.instanceMethod ({ cls := "EncoresModel", name := "hearer", desc := "(III)I" } : Jvm.MethodName)) ∈ lw_all := lw_g (lw_at lw_m6 78 rfl) rfl
theorem q1412 : (Jvm.Cond.selects "EncoresModel" ({ cls := "EncoresModel", name := "hearer", desc := "(III)I" } : Jvm.MethodName) ({ cls := "EncoresModel", name := "hearer", desc := "(III)I" } : Jvm.MethodName)) ∈ lw_all := lw_g (lw_at lw_m6 79 rfl) rfl
theorem q1413 : (Jvm.Cond.code ({ cls := "EncoresModel", name := "hearer", desc := "(III)I" } : Jvm.MethodName) prog_17_method_14_code (5 : Nat) (Option.some Jvm.ClassFile.FieldType.int)) ∈ lw_all := lw_g (lw_at lw_m6 80 rfl) rfl
theorem q1414 : (Jvm.Cond.methodLink "EncoresModel" (56 : Nat) ({ cls := "EncoresModel", name := "isIn", desc := "(III)Z" } : Jvm.MethodName)) ∈ lw_all := lw_g (lw_at lw_m6 81 rfl) rfl
theorem q1415 : (Jvm.Cond.static ({ cls := "EncoresModel", name := "isIn", desc := "(III)Z" } : Jvm.MethodName)) ∈ lw_all := lw_g (lw_at lw_m6 82 rfl) rfl
theorem q1416 : (Jvm.Cond.code ({ cls := "EncoresModel", name := "isIn", desc := "(III)Z" } : Jvm.MethodName) prog_17_method_2_code (3 : Nat) (Option.some Jvm.ClassFile.FieldType.boolean)) ∈ lw_all := lw_g (lw_at lw_m6 83 rfl) rfl
theorem q1418 : (Jvm.Cond.instanceMethod ({ cls := "EncoresModel", name := "deed", desc := "(III)I" } : Jvm.MethodName)) ∈ lw_all := lw_g (lw_at lw_m6 85 rfl) rfl
theorem q1419 : (Jvm.Cond.selects "EncoresModel" ({ cls := "EncoresModel", name := "deed", desc := "(III)I" } : Jvm.MethodName) ({ cls := "EncoresModel", name := "deed", desc := "(III)I" } : Jvm.MethodName)) ∈ lw_all := lw_g (lw_at lw_m6 86 rfl) rfl
theorem q1420 : (Jvm.Cond.code ({ cls := "EncoresModel", name := "deed", desc := "(III)I" } : Jvm.MethodName) prog_17_method_15_code (5 : Nat) (Option.some Jvm.ClassFile.FieldType.int)) ∈ lw_all := lw_g (lw_at lw_m6 87 rfl) rfl
theorem q1422 : (Jvm.Cond.instanceMethod ({ cls := "EncoresModel", name := "set", desc := "(III)Z" } : Jvm.MethodName)) ∈ lw_all := lw_g (lw_at lw_m6 89 rfl) rfl
theorem q1423 : (Jvm.Cond.selects "EncoresModel" ({ cls := "EncoresModel", name := "set", desc := "(III)Z" } : Jvm.MethodName) ({ cls := "EncoresModel", name := "set", desc := "(III)Z" } : Jvm.MethodName)) ∈ lw_all := lw_g (lw_at lw_m6 90 rfl) rfl
theorem q1424 : (Jvm.Cond.code ({ cls := "EncoresModel", name := "set", desc := "(III)Z" } : Jvm.MethodName) prog_17_method_17_code (4 : Nat) (Option.some Jvm.ClassFile.FieldType.boolean)) ∈ lw_all := lw_g (lw_at lw_m6 91 rfl) rfl
theorem q1425 : (Jvm.Cond.methodLink "EncoresModel" (75 : Nat) ({ cls := "EncoresModel", name := "canSet", desc := "(III)Z" } : Jvm.MethodName)) ∈ lw_all := lw_g (lw_at lw_m6 92 rfl) rfl
theorem q1426 : (Jvm.Cond.privateMethod ({ cls := "EncoresModel", name := "canSet", desc := "(III)Z" } : Jvm.MethodName)) ∈ lw_tbl := lw_at lw_m6 93 rfl
theorem q1427 : (Jvm.Cond.instanceMethod ({ cls := "EncoresModel", name := "canSet", desc := "(III)Z" } : Jvm.MethodName)) ∈ lw_all := lw_g (lw_at lw_m6 94 rfl) rfl
theorem q1428 : (Jvm.Cond.code ({ cls := "EncoresModel", name := "canSet", desc := "(III)Z" } : Jvm.MethodName) prog_17_method_16_code (4 : Nat) (Option.some Jvm.ClassFile.FieldType.boolean)) ∈ lw_all := lw_g (lw_at lw_m6 95 rfl) rfl
theorem q1429 : (Jvm.Cond.methodLink "EncoresModel" (68 : Nat) ({ cls := "EncoresModel", name := "isHearer", desc := "(I)Z" } : Jvm.MethodName)) ∈ lw_all := lw_g (lw_at lw_m6 96 rfl) rfl
theorem q1430 : (Jvm.Cond.privateMethod ({ cls := "EncoresModel", name := "isHearer", desc := "(I)Z" } : Jvm.MethodName)) ∈ lw_tbl := lw_at lw_m6 97 rfl
theorem q1431 : (Jvm.Cond.instanceMethod ({ cls := "EncoresModel", name := "isHearer", desc := "(I)Z" } : Jvm.MethodName)) ∈ lw_all := lw_g (lw_at lw_m6 98 rfl) rfl
theorem q1432 : (Jvm.Cond.code ({ cls := "EncoresModel", name := "isHearer", desc := "(I)Z" } : Jvm.MethodName) prog_17_method_5_code (2 : Nat) (Option.some Jvm.ClassFile.FieldType.boolean)) ∈ lw_all := lw_g (lw_at lw_m6 99 rfl) rfl
theorem q1433 : (Jvm.Cond.methodLink "EncoresModel" (72 : Nat) ({ cls := "EncoresModel", name := "isDeed", desc := "(I)Z" } : Jvm.MethodName)) ∈ lw_all := lw_g (lw_at lw_m6 100 rfl) rfl
theorem q1434 : (Jvm.Cond.privateMethod ({ cls := "EncoresModel", name := "isDeed", desc := "(I)Z" } : Jvm.MethodName)) ∈ lw_tbl := lw_at lw_m6 101 rfl
theorem q1435 : (Jvm.Cond.instanceMethod ({ cls := "EncoresModel", name := "isDeed", desc := "(I)Z" } : Jvm.MethodName)) ∈ lw_all := lw_g (lw_at lw_m6 102 rfl) rfl
theorem q1436 : (Jvm.Cond.code ({ cls := "EncoresModel", name := "isDeed", desc := "(I)Z" } : Jvm.MethodName) prog_17_method_6_code (2 : Nat) (Option.some Jvm.ClassFile.FieldType.boolean)) ∈ lw_all := lw_g (lw_at lw_m6 103 rfl) rfl
theorem q1438 : (Jvm.Cond.instanceMethod ({ cls := "EncoresModel", name := "feed", desc := "(IIIII)I" } : Jvm.MethodName)) ∈ lw_all := lw_g (lw_at lw_m6 105 rfl) rfl
theorem q1439 : (Jvm.Cond.selects "EncoresModel" ({ cls := "EncoresModel", name := "feed", desc := "(IIIII)I" } : Jvm.MethodName) ({ cls := "EncoresModel", name := "feed", desc := "(IIIII)I" } : Jvm.MethodName)) ∈ lw_all := lw_g (lw_at lw_m6 106 rfl) rfl
theorem q1440 : (Jvm.Cond.code ({ cls := "EncoresModel", name := "feed", desc := "(IIIII)I" } : Jvm.MethodName) prog_17_method_18_code (8 : Nat) (Option.some Jvm.ClassFile.FieldType.int)) ∈ lw_all := lw_g (lw_at lw_m6 107 rfl) rfl
theorem q1442 : (Jvm.Cond.instanceMethod ({ cls := "EncoresModel", name := "end", desc := "(I)Z" } : Jvm.MethodName)) ∈ lw_all := lw_g (lw_at lw_m6 109 rfl) rfl
theorem q1443 : (Jvm.Cond.selects "EncoresModel" ({ cls := "EncoresModel", name := "end", desc := "(I)Z" } : Jvm.MethodName) ({ cls := "EncoresModel", name := "end", desc := "(I)Z" } : Jvm.MethodName)) ∈ lw_all := lw_g (lw_at lw_m6 110 rfl) rfl
theorem q1444 : (Jvm.Cond.code ({ cls := "EncoresModel", name := "end", desc := "(I)Z" } : Jvm.MethodName) prog_17_method_19_code (2 : Nat) (Option.some Jvm.ClassFile.FieldType.boolean)) ∈ lw_all := lw_g (lw_at lw_m6 111 rfl) rfl
theorem q1446 : (Jvm.Cond.instanceMethod ({ cls := "EncoresModel", name := "text", desc := "(I)I" } : Jvm.MethodName)) ∈ lw_all := lw_g (lw_at lw_m6 113 rfl) rfl
theorem q1447 : (Jvm.Cond.selects "EncoresModel" ({ cls := "EncoresModel", name := "text", desc := "(I)I" } : Jvm.MethodName) ({ cls := "EncoresModel", name := "text", desc := "(I)I" } : Jvm.MethodName)) ∈ lw_all := lw_g (lw_at lw_m6 114 rfl) rfl
theorem q1448 : (Jvm.Cond.code ({ cls := "EncoresModel", name := "text", desc := "(I)I" } : Jvm.MethodName) prog_17_method_53_code (3 : Nat) (Option.some Jvm.ClassFile.FieldType.int)) ∈ lw_all := lw_g (lw_at lw_m6 115 rfl) rfl
theorem q1449 : (Jvm.Cond.methodLink "EncoresModel" (186 : Nat) ({ cls := "EncoresModel", name := "next0", desc := "()V" } : Jvm.MethodName)) ∈ lw_all := lw_g (lw_at lw_m6 116 rfl) rfl
theorem q1450 : (Jvm.Cond.privateMethod ({ cls := "EncoresModel", name := "next0", desc := "()V" } : Jvm.MethodName)) ∈ lw_tbl := lw_at lw_m6 117 rfl
theorem q1451 : (Jvm.Cond.instanceMethod ({ cls := "EncoresModel", name := "next0", desc := "()V" } : Jvm.MethodName)) ∈ lw_all := lw_g (lw_at lw_m6 118 rfl) rfl
theorem q1452 : (Jvm.Cond.code ({ cls := "EncoresModel", name := "next0", desc := "()V" } : Jvm.MethodName) prog_17_method_28_code (3 : Nat) (Option.none : Option Jvm.ClassFile.FieldType)) ∈ lw_all := lw_g (lw_at lw_m6 119 rfl) rfl
theorem q1453 : (Jvm.Cond.methodLink "EncoresModel" (158 : Nat) ({ cls := "EncoresModel", name := "see", desc := "(I)I" } : Jvm.MethodName)) ∈ lw_all := lw_g (lw_at lw_m6 120 rfl) rfl
theorem q1454 : (Jvm.Cond.privateMethod ({ cls := "EncoresModel", name := "see", desc := "(I)I" } : Jvm.MethodName)) ∈ lw_tbl := lw_at lw_m6 121 rfl
theorem q1455 : (Jvm.Cond.instanceMethod ({ cls := "EncoresModel", name := "see", desc := "(I)I" } : Jvm.MethodName)) ∈ lw_all := lw_g (lw_at lw_m6 122 rfl) rfl
theorem q1456 : (Jvm.Cond.code ({ cls := "EncoresModel", name := "see", desc := "(I)I" } : Jvm.MethodName) prog_17_method_20_code (2 : Nat) (Option.some Jvm.ClassFile.FieldType.int)) ∈ lw_all := lw_g (lw_at lw_m6 123 rfl) rfl
theorem q1457 : (Jvm.Cond.methodLink "EncoresModel" (165 : Nat) ({ cls := "EncoresModel", name := "isLetter", desc := "(I)Z" } : Jvm.MethodName)) ∈ lw_all := lw_g (lw_at lw_m6 124 rfl) rfl
theorem q1458 : (Jvm.Cond.static ({ cls := "EncoresModel", name := "isLetter", desc := "(I)Z" } : Jvm.MethodName)) ∈ lw_all := lw_g (lw_at lw_m6 125 rfl) rfl
theorem q1459 : (Jvm.Cond.code ({ cls := "EncoresModel", name := "isLetter", desc := "(I)Z" } : Jvm.MethodName) prog_17_method_21_code (1 : Nat) (Option.some Jvm.ClassFile.FieldType.boolean)) ∈ lw_all := lw_g (lw_at lw_m6 126 rfl) rfl
theorem q1460 : (Jvm.Cond.methodLink "EncoresModel" (168 : Nat) ({ cls := "EncoresModel", name := "word", desc := "()I" } : Jvm.MethodName)) ∈ lw_all := lw_g (lw_at lw_m6 127 rfl) rfl
theorem q1461 : (Jvm.Cond.privateMethod ({ cls := "EncoresModel", name := "word", desc := "()I" } : Jvm.MethodName)) ∈ lw_tbl := lw_at lw_m6 128 rfl
theorem q1462 : (Jvm.Cond.instanceMethod ({ cls := "EncoresModel", name := "word", desc := "()I" } : Jvm.MethodName)) ∈ lw_all := lw_g (lw_at lw_m6 129 rfl) rfl
theorem q1463 : (Jvm.Cond.code ({ cls := "EncoresModel", name := "word", desc := "()I" } : Jvm.MethodName) prog_17_method_27_code (1 : Nat) (Option.some Jvm.ClassFile.FieldType.int)) ∈ lw_all := lw_g (lw_at lw_m6 130 rfl) rfl
theorem q1464 : (Jvm.Cond.methodLink "EncoresModel" (149 : Nat) ({ cls := "EncoresModel", name := "lawWord", desc := "()I" } : Jvm.MethodName)) ∈ lw_all := lw_g (lw_at lw_m6 131 rfl) rfl
theorem q1465 : (Jvm.Cond.privateMethod ({ cls := "EncoresModel", name := "lawWord", desc := "()I" } : Jvm.MethodName)) ∈ lw_tbl := lw_at lw_m6 132 rfl
theorem q1466 : (Jvm.Cond.instanceMethod ({ cls := "EncoresModel", name := "lawWord", desc := "()I" } : Jvm.MethodName)) ∈ lw_all := lw_g (lw_at lw_m6 133 rfl) rfl
theorem q1467 : (Jvm.Cond.code ({ cls := "EncoresModel", name := "lawWord", desc := "()I" } : Jvm.MethodName) prog_17_method_25_code (1 : Nat) (Option.some Jvm.ClassFile.FieldType.int)) ∈ lw_all := lw_g (lw_at lw_m6 134 rfl) rfl
theorem q1468 : (Jvm.Cond.stringRef "EncoresModel" (121 : Nat) "when") ∈ lw_tbl := lw_at lw_m6 135 rfl
theorem q1469 : (Jvm.Cond.methodLink "EncoresModel" (99 : Nat) ({ cls := "EncoresModel", name := "is", desc := "(Ljava/lang/String;)Z" } : Jvm.MethodName)) ∈ lw_all := lw_g (lw_at lw_m6 136 rfl) rfl
theorem q1470 : (Jvm.Cond.privateMethod ({ cls := "EncoresModel", name := "is", desc := "(Ljava/lang/String;)Z" } : Jvm.MethodName)) ∈ lw_tbl := lw_at lw_m6 137 rfl
theorem q1471 : (Jvm.Cond.instanceMethod ({ cls := "EncoresModel", name := "is", desc := "(Ljava/lang/String;)Z" } : Jvm.MethodName)) ∈ lw_all := lw_g (lw_at lw_m6 138 rfl) rfl
theorem q1472 : (Jvm.Cond.code ({ cls := "EncoresModel", name := "is", desc := "(Ljava/lang/String;)Z" } : Jvm.MethodName) prog_17_method_23_code (4 : Nat) (Option.some Jvm.ClassFile.FieldType.boolean)) ∈ lw_all := lw_g (lw_at lw_m6 139 rfl) rfl
theorem q1473 : (Jvm.Cond.methodLink "EncoresModel" (87 : Nat) ({ cls := "java/lang/String", name := "length", desc := "()I" } : Jvm.MethodName)) ∈ lw_all := lw_g (lw_at lw_m6 140 rfl) rfl
theorem q1474 : (Jvm.Cond.methodLink "EncoresModel" (93 : Nat) ({ cls := "java/lang/String", name := "charAt", desc := "(I)C" } : Jvm.MethodName)) ∈ lw_all := lw_g (lw_at lw_m6 141 rfl) rfl
theorem q1475 : (Jvm.Cond.stringRef "EncoresModel" (123 : Nat) "or") ∈ lw_tbl := lw_at lw_m6 142 rfl
theorem q1476 : (Jvm.Cond.stringRef "EncoresModel" (125 : Nat) "and") ∈ lw_tbl := lw_at lw_m6 143 rfl
theorem q1477 : (Jvm.Cond.stringRef "EncoresModel" (127 : Nat) "not") ∈ lw_tbl := lw_at lw_m6 144 rfl
theorem q1478 : (Jvm.Cond.stringRef "EncoresModel" (129 : Nat) "loud") ∈ lw_tbl := lw_at lw_m6 145 rfl
theorem q1479 : (Jvm.Cond.stringRef "EncoresModel" (131 : Nat) "clap") ∈ lw_tbl := lw_at lw_m6 146 rfl
theorem q1480 : (Jvm.Cond.stringRef "EncoresModel" (133 : Nat) "wears") ∈ lw_tbl := lw_at lw_m6 147 rfl
theorem q1481 : (Jvm.Cond.methodLink "EncoresModel" (135 : Nat) ({ cls := "EncoresModel", name := "asked", desc := "()I" } : Jvm.MethodName)) ∈ lw_all := lw_g (lw_at lw_m6 148 rfl) rfl
theorem q1482 : (Jvm.Cond.privateMethod ({ cls := "EncoresModel", name := "asked", desc := "()I" } : Jvm.MethodName)) ∈ lw_tbl := lw_at lw_m6 149 rfl
theorem q1483 : (Jvm.Cond.instanceMethod ({ cls := "EncoresModel", name := "asked", desc := "()I" } : Jvm.MethodName)) ∈ lw_all := lw_g (lw_at lw_m6 150 rfl) rfl
theorem q1484 : (Jvm.Cond.code ({ cls := "EncoresModel", name := "asked", desc := "()I" } : Jvm.MethodName) prog_17_method_24_code (1 : Nat) (Option.some Jvm.ClassFile.FieldType.int)) ∈ lw_all := lw_g (lw_at lw_m6 151 rfl) rfl
theorem q1485 : (Jvm.Cond.stringRef "EncoresModel" (97 : Nat) "hearer") ∈ lw_tbl := lw_at lw_m6 152 rfl
theorem q1486 : (Jvm.Cond.stringRef "EncoresModel" (103 : Nat) "hands") ∈ lw_tbl := lw_at lw_m6 153 rfl
theorem q1487 : (Jvm.Cond.stringRef "EncoresModel" (105 : Nat) "likes") ∈ lw_tbl := lw_at lw_m6 154 rfl
theorem q1488 : (Jvm.Cond.stringRef "EncoresModel" (107 : Nat) "manners") ∈ lw_tbl := lw_at lw_m6 155 rfl
theorem q1489 : (Jvm.Cond.stringRef "EncoresModel" (109 : Nat) "paid") ∈ lw_tbl := lw_at lw_m6 156 rfl
theorem q1490 : (Jvm.Cond.stringRef "EncoresModel" (111 : Nat) "worth") ∈ lw_tbl := lw_at lw_m6 157 rfl
theorem q1491 : (Jvm.Cond.stringRef "EncoresModel" (113 : Nat) "wear") ∈ lw_tbl := lw_at lw_m6 158 rfl
theorem q1492 : (Jvm.Cond.stringRef "EncoresModel" (115 : Nat) "agains") ∈ lw_tbl := lw_at lw_m6 159 rfl
theorem q1493 : (Jvm.Cond.stringRef "EncoresModel" (117 : Nat) "beside") ∈ lw_tbl := lw_at lw_m6 160 rfl
theorem q1494 : (Jvm.Cond.stringRef "EncoresModel" (119 : Nat) "late") ∈ lw_tbl := lw_at lw_m6 161 rfl
theorem q1495 : (Jvm.Cond.methodLink "EncoresModel" (152 : Nat) ({ cls := "EncoresModel", name := "statuteWord", desc := "()I" } : Jvm.MethodName)) ∈ lw_all := lw_g (lw_at lw_m6 162 rfl) rfl
theorem q1496 : (Jvm.Cond.privateMethod ({ cls := "EncoresModel", name := "statuteWord", desc := "()I" } : Jvm.MethodName)) ∈ lw_tbl := lw_at lw_m6 163 rfl
theorem q1497 : (Jvm.Cond.instanceMethod ({ cls := "EncoresModel", name := "statuteWord", desc := "()I" } : Jvm.MethodName)) ∈ lw_all := lw_g (lw_at lw_m6 164 rfl) rfl
theorem q1498 : (Jvm.Cond.code ({ cls := "EncoresModel", name := "statuteWord", desc := "()I" } : Jvm.MethodName) prog_17_method_26_code (1 : Nat) (Option.some Jvm.ClassFile.FieldType.int)) ∈ lw_all := lw_g (lw_at lw_m6 165 rfl) rfl
theorem q1499 : (Jvm.Cond.stringRef "EncoresModel" (138 : Nat) "most") ∈ lw_tbl := lw_at lw_m6 166 rfl
theorem q1500 : (Jvm.Cond.stringRef "EncoresModel" (140 : Nat) "double") ∈ lw_tbl := lw_at lw_m6 167 rfl
theorem q1501 : (Jvm.Cond.stringRef "EncoresModel" (142 : Nat) "end") ∈ lw_tbl := lw_at lw_m6 168 rfl
theorem q1502 : (Jvm.Cond.stringRef "EncoresModel" (144 : Nat) "from") ∈ lw_tbl := lw_at lw_m6 169 rfl
theorem q1503 : (Jvm.Cond.stringRef "EncoresModel" (155 : Nat) "at") ∈ lw_tbl := lw_at lw_m6 170 rfl
theorem q1504 : (Jvm.Cond.stringRef "EncoresModel" (156 : Nat) "deed") ∈ lw_tbl := lw_at lw_m6 171 rfl
theorem q1505 : (Jvm.Cond.methodLink "EncoresModel" (171 : Nat) ({ cls := "EncoresModel", name := "isDigit", desc := "(I)Z" } : Jvm.MethodName)) ∈ lw_all := lw_g (lw_at lw_m6 172 rfl) rfl
theorem q1506 : (Jvm.Cond.static ({ cls := "EncoresModel", name := "isDigit", desc := "(I)Z" } : Jvm.MethodName)) ∈ lw_all := lw_g (lw_at lw_m6 173 rfl) rfl
theorem q1507 : (Jvm.Cond.code ({ cls := "EncoresModel", name := "isDigit", desc := "(I)Z" } : Jvm.MethodName) prog_17_method_22_code (1 : Nat) (Option.some Jvm.ClassFile.FieldType.boolean)) ∈ lw_all := lw_g (lw_at lw_m6 174 rfl) rfl
theorem q1508 : (Jvm.Cond.methodLink "EncoresModel" (268 : Nat) ({ cls := "EncoresModel", name := "readsLaw", desc := "()Z" } : Jvm.MethodName)) ∈ lw_all := lw_g (lw_at lw_m6 175 rfl) rfl
theorem q1509 : (Jvm.Cond.privateMethod ({ cls := "EncoresModel", name := "readsLaw", desc := "()Z" } : Jvm.MethodName)) ∈ lw_tbl := lw_at lw_m6 176 rfl
theorem q1510 : (Jvm.Cond.instanceMethod ({ cls := "EncoresModel", name := "readsLaw", desc := "()Z" } : Jvm.MethodName)) ∈ lw_all := lw_g (lw_at lw_m6 177 rfl) rfl
theorem q1511 : (Jvm.Cond.code ({ cls := "EncoresModel", name := "readsLaw", desc := "()Z" } : Jvm.MethodName) prog_17_method_40_code (2 : Nat) (Option.some Jvm.ClassFile.FieldType.boolean)) ∈ lw_all := lw_g (lw_at lw_m6 178 rfl) rfl
theorem q1512 : (Jvm.Cond.methodLink "EncoresModel" (227 : Nat) ({ cls := "EncoresModel", name := "aLine", desc := "()Z" } : Jvm.MethodName)) ∈ lw_all := lw_g (lw_at lw_m6 179 rfl) rfl
theorem q1513 : (Jvm.Cond.privateMethod ({ cls := "EncoresModel", name := "aLine", desc := "()Z" } : Jvm.MethodName)) ∈ lw_tbl := lw_at lw_m6 180 rfl
theorem q1514 : (Jvm.Cond.instanceMethod ({ cls := "EncoresModel", name := "aLine", desc := "()Z" } : Jvm.MethodName)) ∈ lw_all := lw_g (lw_at lw_m6 181 rfl) rfl
theorem q1515 : (Jvm.Cond.code ({ cls := "EncoresModel", name := "aLine", desc := "()Z" } : Jvm.MethodName) prog_17_method_39_code (1 : Nat) (Option.some Jvm.ClassFile.FieldType.boolean)) ∈ lw_all := lw_g (lw_at lw_m6 182 rfl) rfl
theorem q1516 : (Jvm.Cond.methodLink "EncoresModel" (183 : Nat) ({ cls := "EncoresModel", name := "bad", desc := "(I)Z" } : Jvm.MethodName)) ∈ lw_all := lw_g (lw_at lw_m6 183 rfl) rfl
theorem q1517 : (Jvm.Cond.privateMethod ({ cls := "EncoresModel", name := "bad", desc := "(I)Z" } : Jvm.MethodName)) ∈ lw_tbl := lw_at lw_m6 184 rfl
theorem q1518 : (Jvm.Cond.instanceMethod ({ cls := "EncoresModel", name := "bad", desc := "(I)Z" } : Jvm.MethodName)) ∈ lw_all := lw_g (lw_at lw_m6 185 rfl) rfl
theorem q1519 : (Jvm.Cond.code ({ cls := "EncoresModel", name := "bad", desc := "(I)Z" } : Jvm.MethodName) prog_17_method_29_code (2 : Nat) (Option.some Jvm.ClassFile.FieldType.boolean)) ∈ lw_all := lw_g (lw_at lw_m6 186 rfl) rfl
theorem q1520 : (Jvm.Cond.methodLink "EncoresModel" (221 : Nat) ({ cls := "EncoresModel", name := "sumUp", desc := "()Z" } : Jvm.MethodName)) ∈ lw_all := lw_g (lw_at lw_m6 187 rfl) rfl
theorem q1521 : (Jvm.Cond.privateMethod ({ cls := "EncoresModel", name := "sumUp", desc := "()Z" } : Jvm.MethodName)) ∈ lw_tbl := lw_at lw_m6 188 rfl
theorem q1522 : (Jvm.Cond.instanceMethod ({ cls := "EncoresModel", name := "sumUp", desc := "()Z" } : Jvm.MethodName)) ∈ lw_all := lw_g (lw_at lw_m6 189 rfl) rfl
theorem q1523 : (Jvm.Cond.code ({ cls := "EncoresModel", name := "sumUp", desc := "()Z" } : Jvm.MethodName) prog_17_method_33_code (2 : Nat) (Option.some Jvm.ClassFile.FieldType.boolean)) ∈ lw_all := lw_g (lw_at lw_m6 190 rfl) rfl
theorem q1524 : (Jvm.Cond.methodLink "EncoresModel" (195 : Nat) ({ cls := "EncoresModel", name := "product", desc := "()Z" } : Jvm.MethodName)) ∈ lw_all := lw_g (lw_at lw_m6 191 rfl) rfl
theorem q1525 : (Jvm.Cond.privateMethod ({ cls := "EncoresModel", name := "product", desc := "()Z" } : Jvm.MethodName)) ∈ lw_tbl := lw_at lw_m6 192 rfl
theorem q1526 : (Jvm.Cond.instanceMethod ({ cls := "EncoresModel", name := "product", desc := "()Z" } : Jvm.MethodName)) ∈ lw_all := lw_g (lw_at lw_m6 193 rfl) rfl
theorem q1527 : (Jvm.Cond.code ({ cls := "EncoresModel", name := "product", desc := "()Z" } : Jvm.MethodName) prog_17_method_34_code (3 : Nat) (Option.some Jvm.ClassFile.FieldType.boolean)) ∈ lw_all := lw_g (lw_at lw_m6 194 rfl) rfl
theorem q1528 : (Jvm.Cond.methodLink "EncoresModel" (203 : Nat) ({ cls := "EncoresModel", name := "unit", desc := "()Z" } : Jvm.MethodName)) ∈ lw_all := lw_g (lw_at lw_m6 195 rfl) rfl
theorem q1529 : (Jvm.Cond.privateMethod ({ cls := "EncoresModel", name := "unit", desc := "()Z" } : Jvm.MethodName)) ∈ lw_tbl := lw_at lw_m6 196 rfl
theorem q1530 : (Jvm.Cond.instanceMethod ({ cls := "EncoresModel", name := "unit", desc := "()Z" } : Jvm.MethodName)) ∈ lw_all := lw_g (lw_at lw_m6 197 rfl) rfl
theorem q1531 : (Jvm.Cond.code ({ cls := "EncoresModel", name := "unit", desc := "()Z" } : Jvm.MethodName) prog_17_method_35_code (2 : Nat) (Option.some Jvm.ClassFile.FieldType.boolean)) ∈ lw_all := lw_g (lw_at lw_m6 198 rfl) rfl
theorem q1532 : (Jvm.Cond.methodLink "EncoresModel" (199 : Nat) ({ cls := "EncoresModel", name := "lay", desc := "(II)V" } : Jvm.MethodName)) ∈ lw_all := lw_g (lw_at lw_m6 199 rfl) rfl
theorem q1533 : (Jvm.Cond.privateMethod ({ cls := "EncoresModel", name := "lay", desc := "(II)V" } : Jvm.MethodName)) ∈ lw_tbl := lw_at lw_m6 200 rfl
theorem q1534 : (Jvm.Cond.instanceMethod ({ cls := "EncoresModel", name := "lay", desc := "(II)V" } : Jvm.MethodName)) ∈ lw_all := lw_g (lw_at lw_m6 201 rfl) rfl
theorem q1535 : (Jvm.Cond.code ({ cls := "EncoresModel", name := "lay", desc := "(II)V" } : Jvm.MethodName) prog_17_method_31_code (3 : Nat) (Option.none : Option Jvm.ClassFile.FieldType)) ∈ lw_all := lw_g (lw_at lw_m6 202 rfl) rfl
theorem q1536 : (Jvm.Cond.methodLink "EncoresModel" (215 : Nat) ({ cls := "EncoresModel", name := "any", desc := "()Z" } : Jvm.MethodName)) ∈ lw_all := lw_g (lw_at lw_m6 203 rfl) rfl
theorem q1537 : (Jvm.Cond.privateMethod ({ cls := "EncoresModel", name := "any", desc := "()Z" } : Jvm.MethodName)) ∈ lw_tbl := lw_at lw_m6 204 rfl
theorem q1538 : (Jvm.Cond.instanceMethod ({ cls := "EncoresModel", name := "any", desc := "()Z" } : Jvm.MethodName)) ∈ lw_all := lw_g (lw_at lw_m6 205 rfl) rfl
theorem q1539 : (Jvm.Cond.code ({ cls := "EncoresModel", name := "any", desc := "()Z" } : Jvm.MethodName) prog_17_method_36_code (1 : Nat) (Option.some Jvm.ClassFile.FieldType.boolean)) ∈ lw_all := lw_g (lw_at lw_m6 206 rfl) rfl
theorem q1540 : (Jvm.Cond.methodLink "EncoresModel" (206 : Nat) ({ cls := "EncoresModel", name := "every", desc := "()Z" } : Jvm.MethodName)) ∈ lw_all := lw_g (lw_at lw_m6 207 rfl) rfl
theorem q1541 : (Jvm.Cond.privateMethod ({ cls := "EncoresModel", name := "every", desc := "()Z" } : Jvm.MethodName)) ∈ lw_tbl := lw_at lw_m6 208 rfl
theorem q1542 : (Jvm.Cond.instanceMethod ({ cls := "EncoresModel", name := "every", desc := "()Z" } : Jvm.MethodName)) ∈ lw_all := lw_g (lw_at lw_m6 209 rfl) rfl
theorem q1543 : (Jvm.Cond.code ({ cls := "EncoresModel", name := "every", desc := "()Z" } : Jvm.MethodName) prog_17_method_37_code (1 : Nat) (Option.some Jvm.ClassFile.FieldType.boolean)) ∈ lw_all := lw_g (lw_at lw_m6 210 rfl) rfl
theorem q1544 : (Jvm.Cond.methodLink "EncoresModel" (209 : Nat) ({ cls := "EncoresModel", name := "oneTest", desc := "()Z" } : Jvm.MethodName)) ∈ lw_all := lw_g (lw_at lw_m6 211 rfl) rfl
theorem q1545 : (Jvm.Cond.privateMethod ({ cls := "EncoresModel", name := "oneTest", desc := "()Z" } : Jvm.MethodName)) ∈ lw_tbl := lw_at lw_m6 212 rfl
theorem q1546 : (Jvm.Cond.instanceMethod ({ cls := "EncoresModel", name := "oneTest", desc := "()Z" } : Jvm.MethodName)) ∈ lw_all := lw_g (lw_at lw_m6 213 rfl) rfl
theorem q1547 : (Jvm.Cond.code ({ cls := "EncoresModel", name := "oneTest", desc := "()Z" } : Jvm.MethodName) prog_17_method_38_code (2 : Nat) (Option.some Jvm.ClassFile.FieldType.boolean)) ∈ lw_all := lw_g (lw_at lw_m6 214 rfl) rfl
theorem q1548 : (Jvm.Cond.methodLink "EncoresModel" (212 : Nat) ({ cls := "EncoresModel", name := "opens", desc := "()Z" } : Jvm.MethodName)) ∈ lw_all := lw_g (lw_at lw_m6 215 rfl) rfl
theorem q1549 : (Jvm.Cond.privateMethod ({ cls := "EncoresModel", name := "opens", desc := "()Z" } : Jvm.MethodName)) ∈ lw_tbl := lw_at lw_m6 216 rfl
theorem q1550 : (Jvm.Cond.instanceMethod ({ cls := "EncoresModel", name := "opens", desc := "()Z" } : Jvm.MethodName)) ∈ lw_all := lw_g (lw_at lw_m6 217 rfl) rfl
theorem q1551 : (Jvm.Cond.code ({ cls := "EncoresModel", name := "opens", desc := "()Z" } : Jvm.MethodName) prog_17_method_32_code (1 : Nat) (Option.some Jvm.ClassFile.FieldType.boolean)) ∈ lw_all := lw_g (lw_at lw_m6 218 rfl) rfl
theorem q1552 : (Jvm.Cond.methodLink "EncoresModel" (218 : Nat) ({ cls := "EncoresModel", name := "need", desc := "(I)Z" } : Jvm.MethodName)) ∈ lw_all := lw_g (lw_at lw_m6 219 rfl) rfl
theorem q1553 : (Jvm.Cond.privateMethod ({ cls := "EncoresModel", name := "need", desc := "(I)Z" } : Jvm.MethodName)) ∈ lw_tbl := lw_at lw_m6 220 rfl
theorem q1554 : (Jvm.Cond.instanceMethod ({ cls := "EncoresModel", name := "need", desc := "(I)Z" } : Jvm.MethodName)) ∈ lw_all := lw_g (lw_at lw_m6 221 rfl) rfl
theorem q1555 : (Jvm.Cond.code ({ cls := "EncoresModel", name := "need", desc := "(I)Z" } : Jvm.MethodName) prog_17_method_30_code (2 : Nat) (Option.some Jvm.ClassFile.FieldType.boolean)) ∈ lw_all := lw_g (lw_at lw_m6 222 rfl) rfl
theorem q1556 : (Jvm.Cond.methodLink "EncoresModel" (271 : Nat) ({ cls := "EncoresModel", name := "readsRows", desc := "()Z" } : Jvm.MethodName)) ∈ lw_all := lw_g (lw_at lw_m6 223 rfl) rfl
theorem q1557 : (Jvm.Cond.privateMethod ({ cls := "EncoresModel", name := "readsRows", desc := "()Z" } : Jvm.MethodName)) ∈ lw_tbl := lw_at lw_m6 224 rfl
theorem q1558 : (Jvm.Cond.instanceMethod ({ cls := "EncoresModel", name := "readsRows", desc := "()Z" } : Jvm.MethodName)) ∈ lw_all := lw_g (lw_at lw_m6 225 rfl) rfl
theorem q1559 : (Jvm.Cond.code ({ cls := "EncoresModel", name := "readsRows", desc := "()Z" } : Jvm.MethodName) prog_17_method_48_code (2 : Nat) (Option.some Jvm.ClassFile.FieldType.boolean)) ∈ lw_all := lw_g (lw_at lw_m6 226 rfl) rfl
theorem q1560 : (Jvm.Cond.methodLink "EncoresModel" (249 : Nat) ({ cls := "EncoresModel", name := "begins", desc := "()Z" } : Jvm.MethodName)) ∈ lw_all := lw_g (lw_at lw_m6 227 rfl) rfl
theorem q1561 : (Jvm.Cond.privateMethod ({ cls := "EncoresModel", name := "begins", desc := "()Z" } : Jvm.MethodName)) ∈ lw_tbl := lw_at lw_m6 228 rfl
theorem q1562 : (Jvm.Cond.instanceMethod ({ cls := "EncoresModel", name := "begins", desc := "()Z" } : Jvm.MethodName)) ∈ lw_all := lw_g (lw_at lw_m6 229 rfl) rfl
theorem q1563 : (Jvm.Cond.code ({ cls := "EncoresModel", name := "begins", desc := "()Z" } : Jvm.MethodName) prog_17_method_47_code (1 : Nat) (Option.some Jvm.ClassFile.FieldType.boolean)) ∈ lw_all := lw_g (lw_at lw_m6 230 rfl) rfl
theorem q1564 : (Jvm.Cond.methodLink "EncoresModel" (252 : Nat) ({ cls := "EncoresModel", name := "aRow", desc := "()Z" } : Jvm.MethodName)) ∈ lw_all := lw_g (lw_at lw_m6 231 rfl) rfl
theorem q1565 : (Jvm.Cond.privateMethod ({ cls := "EncoresModel", name := "aRow", desc := "()Z" } : Jvm.MethodName)) ∈ lw_tbl := lw_at lw_m6 232 rfl
theorem q1566 : (Jvm.Cond.instanceMethod ({ cls := "EncoresModel", name := "aRow", desc := "()Z" } : Jvm.MethodName)) ∈ lw_all := lw_g (lw_at lw_m6 233 rfl) rfl
theorem q1567 : (Jvm.Cond.code ({ cls := "EncoresModel", name := "aRow", desc := "()Z" } : Jvm.MethodName) prog_17_method_46_code (1 : Nat) (Option.some Jvm.ClassFile.FieldType.boolean)) ∈ lw_all := lw_g (lw_at lw_m6 234 rfl) rfl
theorem q1568 : (Jvm.Cond.methodLink "EncoresModel" (240 : Nat) ({ cls := "EncoresModel", name := "aRule", desc := "()Z" } : Jvm.MethodName)) ∈ lw_all := lw_g (lw_at lw_m6 235 rfl) rfl
theorem q1569 : (Jvm.Cond.privateMethod ({ cls := "EncoresModel", name := "aRule", desc := "()Z" } : Jvm.MethodName)) ∈ lw_tbl := lw_at lw_m6 236 rfl
theorem q1570 : (Jvm.Cond.instanceMethod ({ cls := "EncoresModel", name := "aRule", desc := "()Z" } : Jvm.MethodName)) ∈ lw_all := lw_g (lw_at lw_m6 237 rfl) rfl
theorem q1571 : (Jvm.Cond.code ({ cls := "EncoresModel", name := "aRule", desc := "()Z" } : Jvm.MethodName) prog_17_method_43_code (3 : Nat) (Option.some Jvm.ClassFile.FieldType.boolean)) ∈ lw_all := lw_g (lw_at lw_m6 238 rfl) rfl
theorem q1572 : (Jvm.Cond.methodLink "EncoresModel" (230 : Nat) ({ cls := "EncoresModel", name := "number", desc := "(III)Z" } : Jvm.MethodName)) ∈ lw_all := lw_g (lw_at lw_m6 239 rfl) rfl
theorem q1573 : (Jvm.Cond.privateMethod ({ cls := "EncoresModel", name := "number", desc := "(III)Z" } : Jvm.MethodName)) ∈ lw_tbl := lw_at lw_m7 0 rfl
theorem q1574 : (Jvm.Cond.instanceMethod ({ cls := "EncoresModel", name := "number", desc := "(III)Z" } : Jvm.MethodName)) ∈ lw_all := lw_g (lw_at lw_m7 1 rfl) rfl
theorem q1575 : (Jvm.Cond.code ({ cls := "EncoresModel", name := "number", desc := "(III)Z" } : Jvm.MethodName) prog_17_method_41_code (4 : Nat) (Option.some Jvm.ClassFile.FieldType.boolean)) ∈ lw_all := lw_g (lw_at lw_m7 2 rfl) rfl
theorem q1576 : (Jvm.Cond.methodLink "EncoresModel" (236 : Nat) ({ cls := "EncoresModel", name := "told", desc := "(IIII)Z" } : Jvm.MethodName)) ∈ lw_all := lw_g (lw_at lw_m7 3 rfl) rfl
theorem q1577 : (Jvm.Cond.privateMethod ({ cls := "EncoresModel", name := "told", desc := "(IIII)Z" } : Jvm.MethodName)) ∈ lw_tbl := lw_at lw_m7 4 rfl
theorem q1578 : (Jvm.Cond.instanceMethod ({ cls := "EncoresModel", name := "told", desc := "(IIII)Z" } : Jvm.MethodName)) ∈ lw_all := lw_g (lw_at lw_m7 5 rfl) rfl
theorem q1579 : (Jvm.Cond.code ({ cls := "EncoresModel", name := "told", desc := "(IIII)Z" } : Jvm.MethodName) prog_17_method_42_code (5 : Nat) (Option.some Jvm.ClassFile.FieldType.boolean)) ∈ lw_all := lw_g (lw_at lw_m7 6 rfl) rfl
theorem q1580 : (Jvm.Cond.methodLink "EncoresModel" (243 : Nat) ({ cls := "EncoresModel", name := "aPiece", desc := "()Z" } : Jvm.MethodName)) ∈ lw_all := lw_g (lw_at lw_m7 7 rfl) rfl
theorem q1581 : (Jvm.Cond.privateMethod ({ cls := "EncoresModel", name := "aPiece", desc := "()Z" } : Jvm.MethodName)) ∈ lw_tbl := lw_at lw_m7 8 rfl
theorem q1582 : (Jvm.Cond.instanceMethod ({ cls := "EncoresModel", name := "aPiece", desc := "()Z" } : Jvm.MethodName)) ∈ lw_all := lw_g (lw_at lw_m7 9 rfl) rfl
theorem q1583 : (Jvm.Cond.code ({ cls := "EncoresModel", name := "aPiece", desc := "()Z" } : Jvm.MethodName) prog_17_method_44_code (1 : Nat) (Option.some Jvm.ClassFile.FieldType.boolean)) ∈ lw_all := lw_g (lw_at lw_m7 10 rfl) rfl
theorem q1584 : (Jvm.Cond.methodLink "EncoresModel" (246 : Nat) ({ cls := "EncoresModel", name := "aSeat", desc := "()Z" } : Jvm.MethodName)) ∈ lw_all := lw_g (lw_at lw_m7 11 rfl) rfl
theorem q1585 : (Jvm.Cond.privateMethod ({ cls := "EncoresModel", name := "aSeat", desc := "()Z" } : Jvm.MethodName)) ∈ lw_tbl := lw_at lw_m7 12 rfl
theorem q1586 : (Jvm.Cond.instanceMethod ({ cls := "EncoresModel", name := "aSeat", desc := "()Z" } : Jvm.MethodName)) ∈ lw_all := lw_g (lw_at lw_m7 13 rfl) rfl
theorem q1587 : (Jvm.Cond.code ({ cls := "EncoresModel", name := "aSeat", desc := "()Z" } : Jvm.MethodName) prog_17_method_45_code (2 : Nat) (Option.some Jvm.ClassFile.FieldType.boolean)) ∈ lw_all := lw_g (lw_at lw_m7 14 rfl) rfl
theorem q1588 : (Jvm.Cond.methodLink "EncoresModel" (274 : Nat) ({ cls := "EncoresModel", name := "putsText", desc := "(I)I" } : Jvm.MethodName)) ∈ lw_all := lw_g (lw_at lw_m7 15 rfl) rfl
theorem q1589 : (Jvm.Cond.privateMethod ({ cls := "EncoresModel", name := "putsText", desc := "(I)I" } : Jvm.MethodName)) ∈ lw_tbl := lw_at lw_m7 16 rfl
theorem q1590 : (Jvm.Cond.instanceMethod ({ cls := "EncoresModel", name := "putsText", desc := "(I)I" } : Jvm.MethodName)) ∈ lw_all := lw_g (lw_at lw_m7 17 rfl) rfl
theorem q1591 : (Jvm.Cond.code ({ cls := "EncoresModel", name := "putsText", desc := "(I)I" } : Jvm.MethodName) prog_17_method_52_code (2 : Nat) (Option.some Jvm.ClassFile.FieldType.int)) ∈ lw_all := lw_g (lw_at lw_m7 18 rfl) rfl
theorem q1592 : (Jvm.Cond.methodLink "EncoresModel" (255 : Nat) ({ cls := "EncoresModel", name := "putsLaw", desc := "()I" } : Jvm.MethodName)) ∈ lw_all := lw_g (lw_at lw_m7 19 rfl) rfl
theorem q1593 : (Jvm.Cond.privateMethod ({ cls := "EncoresModel", name := "putsLaw", desc := "()I" } : Jvm.MethodName)) ∈ lw_tbl := lw_at lw_m7 20 rfl
theorem q1594 : (Jvm.Cond.instanceMethod ({ cls := "EncoresModel", name := "putsLaw", desc := "()I" } : Jvm.MethodName)) ∈ lw_all := lw_g (lw_at lw_m7 21 rfl) rfl
theorem q1595 : (Jvm.Cond.code ({ cls := "EncoresModel", name := "putsLaw", desc := "()I" } : Jvm.MethodName) prog_17_method_49_code (2 : Nat) (Option.some Jvm.ClassFile.FieldType.int)) ∈ lw_all := lw_g (lw_at lw_m7 22 rfl) rfl
theorem q1596 : (Jvm.Cond.methodLink "EncoresModel" (258 : Nat) ({ cls := "EncoresModel", name := "puts", desc := "(III)I" } : Jvm.MethodName)) ∈ lw_all := lw_g (lw_at lw_m7 23 rfl) rfl
theorem q1597 : (Jvm.Cond.privateMethod ({ cls := "EncoresModel", name := "puts", desc := "(III)I" } : Jvm.MethodName)) ∈ lw_tbl := lw_at lw_m7 24 rfl
theorem q1598 : (Jvm.Cond.instanceMethod ({ cls := "EncoresModel", name := "puts", desc := "(III)I" } : Jvm.MethodName)) ∈ lw_all := lw_g (lw_at lw_m7 25 rfl) rfl
theorem q1599 : (Jvm.Cond.code ({ cls := "EncoresModel", name := "puts", desc := "(III)I" } : Jvm.MethodName) prog_17_method_50_code (5 : Nat) (Option.some Jvm.ClassFile.FieldType.int)) ∈ lw_all := lw_g (lw_at lw_m7 26 rfl) rfl
theorem q1600 : (Jvm.Cond.methodLink "EncoresModel" (262 : Nat) ({ cls := "EncoresModel", name := "putsGallery", desc := "()I" } : Jvm.MethodName)) ∈ lw_all := lw_g (lw_at lw_m7 27 rfl) rfl
theorem q1601 : (Jvm.Cond.privateMethod ({ cls := "EncoresModel", name := "putsGallery", desc := "()I" } : Jvm.MethodName)) ∈ lw_tbl := lw_at lw_m7 28 rfl
theorem q1602 : (Jvm.Cond.instanceMethod ({ cls := "EncoresModel", name := "putsGallery", desc := "()I" } : Jvm.MethodName)) ∈ lw_all := lw_g (lw_at lw_m7 29 rfl) rfl
theorem q1603 : (Jvm.Cond.code ({ cls := "EncoresModel", name := "putsGallery", desc := "()I" } : Jvm.MethodName) prog_17_method_51_code (2 : Nat) (Option.some Jvm.ClassFile.FieldType.int)) ∈ lw_all := lw_g (lw_at lw_m7 30 rfl) rfl
theorem q1605 : (Jvm.Cond.instanceMethod ({ cls := "EncoresModel", name := "fault", desc := "(I)I" } : Jvm.MethodName)) ∈ lw_all := lw_g (lw_at lw_m7 32 rfl) rfl
theorem q1606 : (Jvm.Cond.selects "EncoresModel" ({ cls := "EncoresModel", name := "fault", desc := "(I)I" } : Jvm.MethodName) ({ cls := "EncoresModel", name := "fault", desc := "(I)I" } : Jvm.MethodName)) ∈ lw_all := lw_g (lw_at lw_m7 33 rfl) rfl
theorem q1607 : (Jvm.Cond.code ({ cls := "EncoresModel", name := "fault", desc := "(I)I" } : Jvm.MethodName) prog_17_method_54_code (2 : Nat) (Option.some Jvm.ClassFile.FieldType.int)) ∈ lw_all := lw_g (lw_at lw_m7 34 rfl) rfl
theorem q1609 : (Jvm.Cond.instanceMethod ({ cls := "EncoresModel", name := "undo", desc := "()Z" } : Jvm.MethodName)) ∈ lw_all := lw_g (lw_at lw_m7 36 rfl) rfl
theorem q1610 : (Jvm.Cond.selects "EncoresModel" ({ cls := "EncoresModel", name := "undo", desc := "()Z" } : Jvm.MethodName) ({ cls := "EncoresModel", name := "undo", desc := "()Z" } : Jvm.MethodName)) ∈ lw_all := lw_g (lw_at lw_m7 37 rfl) rfl
theorem q1611 : (Jvm.Cond.code ({ cls := "EncoresModel", name := "undo", desc := "()Z" } : Jvm.MethodName) prog_17_method_69_code (2 : Nat) (Option.some Jvm.ClassFile.FieldType.boolean)) ∈ lw_all := lw_g (lw_at lw_m7 38 rfl) rfl
theorem q1613 : (Jvm.Cond.instanceMethod ({ cls := "EncoresModel", name := "perform", desc := "(I)I" } : Jvm.MethodName)) ∈ lw_all := lw_g (lw_at lw_m7 40 rfl) rfl
theorem q1614 : (Jvm.Cond.selects "EncoresModel" ({ cls := "EncoresModel", name := "perform", desc := "(I)I" } : Jvm.MethodName) ({ cls := "EncoresModel", name := "perform", desc := "(I)I" } : Jvm.MethodName)) ∈ lw_all := lw_g (lw_at lw_m7 41 rfl) rfl
theorem q1615 : (Jvm.Cond.code ({ cls := "EncoresModel", name := "perform", desc := "(I)I" } : Jvm.MethodName) prog_17_method_76_code (2 : Nat) (Option.some Jvm.ClassFile.FieldType.int)) ∈ lw_all := lw_g (lw_at lw_m7 42 rfl) rfl
theorem q1616 : (Jvm.Cond.methodLink "EncoresModel" (367 : Nat) ({ cls := "EncoresModel", name := "keeps", desc := "()V" } : Jvm.MethodName)) ∈ lw_all := lw_g (lw_at lw_m7 43 rfl) rfl
theorem q1617 : (Jvm.Cond.privateMethod ({ cls := "EncoresModel", name := "keeps", desc := "()V" } : Jvm.MethodName)) ∈ lw_tbl := lw_at lw_m7 44 rfl
theorem q1618 : (Jvm.Cond.instanceMethod ({ cls := "EncoresModel", name := "keeps", desc := "()V" } : Jvm.MethodName)) ∈ lw_all := lw_g (lw_at lw_m7 45 rfl) rfl
theorem q1619 : (Jvm.Cond.code ({ cls := "EncoresModel", name := "keeps", desc := "()V" } : Jvm.MethodName) prog_17_method_68_code (2 : Nat) (Option.none : Option Jvm.ClassFile.FieldType)) ∈ lw_all := lw_g (lw_at lw_m7 46 rfl) rfl
theorem q1620 : (Jvm.Cond.methodLink "EncoresModel" (370 : Nat) ({ cls := "EncoresModel", name := "does", desc := "(I)I" } : Jvm.MethodName)) ∈ lw_all := lw_g (lw_at lw_m7 47 rfl) rfl
theorem q1621 : (Jvm.Cond.privateMethod ({ cls := "EncoresModel", name := "does", desc := "(I)I" } : Jvm.MethodName)) ∈ lw_tbl := lw_at lw_m7 48 rfl
theorem q1622 : (Jvm.Cond.instanceMethod ({ cls := "EncoresModel", name := "does", desc := "(I)I" } : Jvm.MethodName)) ∈ lw_all := lw_g (lw_at lw_m7 49 rfl) rfl
theorem q1623 : (Jvm.Cond.code ({ cls := "EncoresModel", name := "does", desc := "(I)I" } : Jvm.MethodName) prog_17_method_75_code (3 : Nat) (Option.some Jvm.ClassFile.FieldType.int)) ∈ lw_all := lw_g (lw_at lw_m7 50 rfl) rfl
theorem q1624 : (Jvm.Cond.methodLink "EncoresModel" (361 : Nat) ({ cls := "EncoresModel", name := "begins0", desc := "(I)V" } : Jvm.MethodName)) ∈ lw_all := lw_g (lw_at lw_m7 51 rfl) rfl
theorem q1625 : (Jvm.Cond.privateMethod ({ cls := "EncoresModel", name := "begins0", desc := "(I)V" } : Jvm.MethodName)) ∈ lw_tbl := lw_at lw_m7 52 rfl
theorem q1626 : (Jvm.Cond.instanceMethod ({ cls := "EncoresModel", name := "begins0", desc := "(I)V" } : Jvm.MethodName)) ∈ lw_all := lw_g (lw_at lw_m7 53 rfl) rfl
theorem q1627 : (Jvm.Cond.code ({ cls := "EncoresModel", name := "begins0", desc := "(I)V" } : Jvm.MethodName) prog_17_method_71_code (3 : Nat) (Option.none : Option Jvm.ClassFile.FieldType)) ∈ lw_all := lw_g (lw_at lw_m7 54 rfl) rfl
theorem q1628 : (Jvm.Cond.methodLink "EncoresModel" (307 : Nat) ({ cls := "EncoresModel", name := "wearsOf", desc := "(I)I" } : Jvm.MethodName)) ∈ lw_all := lw_g (lw_at lw_m7 55 rfl) rfl
theorem q1629 : (Jvm.Cond.privateMethod ({ cls := "EncoresModel", name := "wearsOf", desc := "(I)I" } : Jvm.MethodName)) ∈ lw_tbl := lw_at lw_m7 56 rfl
theorem q1630 : (Jvm.Cond.instanceMethod ({ cls := "EncoresModel", name := "wearsOf", desc := "(I)I" } : Jvm.MethodName)) ∈ lw_all := lw_g (lw_at lw_m7 57 rfl) rfl
theorem q1631 : (Jvm.Cond.code ({ cls := "EncoresModel", name := "wearsOf", desc := "(I)I" } : Jvm.MethodName) prog_17_method_61_code (2 : Nat) (Option.some Jvm.ClassFile.FieldType.int)) ∈ lw_all := lw_g (lw_at lw_m7 58 rfl) rfl
theorem q1632 : (Jvm.Cond.methodLink "EncoresModel" (293 : Nat) ({ cls := "EncoresModel", name := "laysDeed", desc := "(I)V" } : Jvm.MethodName)) ∈ lw_all := lw_g (lw_at lw_m7 59 rfl) rfl
theorem q1633 : (Jvm.Cond.privateMethod ({ cls := "EncoresModel", name := "laysDeed", desc := "(I)V" } : Jvm.MethodName)) ∈ lw_tbl := lw_at lw_m7 60 rfl
theorem q1634 : (Jvm.Cond.instanceMethod ({ cls := "EncoresModel", name := "laysDeed", desc := "(I)V" } : Jvm.MethodName)) ∈ lw_all := lw_g (lw_at lw_m7 61 rfl) rfl
theorem q1635 : (Jvm.Cond.code ({ cls := "EncoresModel", name := "laysDeed", desc := "(I)V" } : Jvm.MethodName) prog_17_method_59_code (3 : Nat) (Option.none : Option Jvm.ClassFile.FieldType)) ∈ lw_all := lw_g (lw_at lw_m7 62 rfl) rfl
theorem q1636 : (Jvm.Cond.methodLink "EncoresModel" (297 : Nat) ({ cls := "EncoresModel", name := "says", desc := "(III)I" } : Jvm.MethodName)) ∈ lw_all := lw_g (lw_at lw_m7 63 rfl) rfl
theorem q1637 : (Jvm.Cond.privateMethod ({ cls := "EncoresModel", name := "says", desc := "(III)I" } : Jvm.MethodName)) ∈ lw_tbl := lw_at lw_m7 64 rfl
theorem q1638 : (Jvm.Cond.instanceMethod ({ cls := "EncoresModel", name := "says", desc := "(III)I" } : Jvm.MethodName)) ∈ lw_all := lw_g (lw_at lw_m7 65 rfl) rfl
theorem q1639 : (Jvm.Cond.code ({ cls := "EncoresModel", name := "says", desc := "(III)I" } : Jvm.MethodName) prog_17_method_58_code (5 : Nat) (Option.some Jvm.ClassFile.FieldType.int)) ∈ lw_all := lw_g (lw_at lw_m7 66 rfl) rfl
theorem q1640 : (Jvm.Cond.methodLink "EncoresModel" (283 : Nat) ({ cls := "EncoresModel", name := "isSo", desc := "(I)Z" } : Jvm.MethodName)) ∈ lw_all := lw_g (lw_at lw_m7 67 rfl) rfl
theorem q1641 : (Jvm.Cond.privateMethod ({ cls := "EncoresModel", name := "isSo", desc := "(I)Z" } : Jvm.MethodName)) ∈ lw_tbl := lw_at lw_m7 68 rfl
theorem q1642 : (Jvm.Cond.instanceMethod ({ cls := "EncoresModel", name := "isSo", desc := "(I)Z" } : Jvm.MethodName)) ∈ lw_all := lw_g (lw_at lw_m7 69 rfl) rfl
theorem q1643 : (Jvm.Cond.code ({ cls := "EncoresModel", name := "isSo", desc := "(I)Z" } : Jvm.MethodName) prog_17_method_57_code (2 : Nat) (Option.some Jvm.ClassFile.FieldType.boolean)) ∈ lw_all := lw_g (lw_at lw_m7 70 rfl) rfl
theorem q1644 : (Jvm.Cond.methodLink "EncoresModel" (280 : Nat) ({ cls := "EncoresModel", name := "comesTo", desc := "(III)I" } : Jvm.MethodName)) ∈ lw_all := lw_g (lw_at lw_m7 71 rfl) rfl
theorem q1645 : (Jvm.Cond.privateMethod ({ cls := "EncoresModel", name := "comesTo", desc := "(III)I" } : Jvm.MethodName)) ∈ lw_tbl := lw_at lw_m7 72 rfl
theorem q1646 : (Jvm.Cond.instanceMethod ({ cls := "EncoresModel", name := "comesTo", desc := "(III)I" } : Jvm.MethodName)) ∈ lw_all := lw_g (lw_at lw_m7 73 rfl) rfl
theorem q1647 : (Jvm.Cond.code ({ cls := "EncoresModel", name := "comesTo", desc := "(III)I" } : Jvm.MethodName) prog_17_method_56_code (8 : Nat) (Option.some Jvm.ClassFile.FieldType.int)) ∈ lw_all := lw_g (lw_at lw_m7 74 rfl) rfl
theorem q1648 : (Jvm.Cond.methodLink "EncoresModel" (277 : Nat) ({ cls := "EncoresModel", name := "both", desc := "(III)I" } : Jvm.MethodName)) ∈ lw_all := lw_g (lw_at lw_m7 75 rfl) rfl
theorem q1649 : (Jvm.Cond.static ({ cls := "EncoresModel", name := "both", desc := "(III)I" } : Jvm.MethodName)) ∈ lw_all := lw_g (lw_at lw_m7 76 rfl) rfl
theorem q1650 : (Jvm.Cond.code ({ cls := "EncoresModel", name := "both", desc := "(III)I" } : Jvm.MethodName) prog_17_method_55_code (3 : Nat) (Option.some Jvm.ClassFile.FieldType.int)) ∈ lw_all := lw_g (lw_at lw_m7 77 rfl) rfl
theorem q1651 : (Jvm.Cond.methodLink "EncoresModel" (286 : Nat) ({ cls := "EncoresModel", name := "lesser", desc := "(II)I" } : Jvm.MethodName)) ∈ lw_all := lw_g (lw_at lw_m7 78 rfl) rfl
theorem q1652 : (Jvm.Cond.static ({ cls := "EncoresModel", name := "lesser", desc := "(II)I" } : Jvm.MethodName)) ∈ lw_all := lw_g (lw_at lw_m7 79 rfl) rfl
theorem q1653 : (Jvm.Cond.code ({ cls := "EncoresModel", name := "lesser", desc := "(II)I" } : Jvm.MethodName) prog_17_method_3_code (2 : Nat) (Option.some Jvm.ClassFile.FieldType.int)) ∈ lw_all := lw_g (lw_at lw_m7 80 rfl) rfl
theorem q1654 : (Jvm.Cond.methodLink "EncoresModel" (290 : Nat) ({ cls := "EncoresModel", name := "greater", desc := "(II)I" } : Jvm.MethodName)) ∈ lw_all := lw_g (lw_at lw_m7 81 rfl) rfl
theorem q1655 : (Jvm.Cond.static ({ cls := "EncoresModel", name := "greater", desc := "(II)I" } : Jvm.MethodName)) ∈ lw_all := lw_g (lw_at lw_m7 82 rfl) rfl
theorem q1656 : (Jvm.Cond.code ({ cls := "EncoresModel", name := "greater", desc := "(II)I" } : Jvm.MethodName) prog_17_method_4_code (2 : Nat) (Option.some Jvm.ClassFile.FieldType.int)) ∈ lw_all := lw_g (lw_at lw_m7 83 rfl) rfl
theorem q1657 : (Jvm.Cond.methodLink "EncoresModel" (364 : Nat) ({ cls := "EncoresModel", name := "claps", desc := "(I)V" } : Jvm.MethodName)) ∈ lw_all := lw_g (lw_at lw_m7 84 rfl) rfl
theorem q1658 : (Jvm.Cond.privateMethod ({ cls := "EncoresModel", name := "claps", desc := "(I)V" } : Jvm.MethodName)) ∈ lw_tbl := lw_at lw_m7 85 rfl
theorem q1659 : (Jvm.Cond.instanceMethod ({ cls := "EncoresModel", name := "claps", desc := "(I)V" } : Jvm.MethodName)) ∈ lw_all := lw_g (lw_at lw_m7 86 rfl) rfl
theorem q1660 : (Jvm.Cond.code ({ cls := "EncoresModel", name := "claps", desc := "(I)V" } : Jvm.MethodName) prog_17_method_74_code (3 : Nat) (Option.none : Option Jvm.ClassFile.FieldType)) ∈ lw_all := lw_g (lw_at lw_m7 87 rfl) rfl
theorem q1661 : (Jvm.Cond.methodLink "EncoresModel" (310 : Nat) ({ cls := "EncoresModel", name := "isThere", desc := "(I)Z" } : Jvm.MethodName)) ∈ lw_all := lw_g (lw_at lw_m7 88 rfl) rfl
theorem q1662 : (Jvm.Cond.privateMethod ({ cls := "EncoresModel", name := "isThere", desc := "(I)Z" } : Jvm.MethodName)) ∈ lw_tbl := lw_at lw_m7 89 rfl
theorem q1663 : (Jvm.Cond.instanceMethod ({ cls := "EncoresModel", name := "isThere", desc := "(I)Z" } : Jvm.MethodName)) ∈ lw_all := lw_g (lw_at lw_m7 90 rfl) rfl
theorem q1664 : (Jvm.Cond.code ({ cls := "EncoresModel", name := "isThere", desc := "(I)Z" } : Jvm.MethodName) prog_17_method_7_code (2 : Nat) (Option.some Jvm.ClassFile.FieldType.boolean)) ∈ lw_all := lw_g (lw_at lw_m7 91 rfl) rfl
theorem q1665 : (Jvm.Cond.methodLink "EncoresModel" (328 : Nat) ({ cls := "EncoresModel", name := "draw", desc := "(I)I" } : Jvm.MethodName)) ∈ lw_all := lw_g (lw_at lw_m7 92 rfl) rfl
theorem q1666 : (Jvm.Cond.privateMethod ({ cls := "EncoresModel", name := "draw", desc := "(I)I" } : Jvm.MethodName)) ∈ lw_tbl := lw_at lw_m7 93 rfl
theorem q1667 : (Jvm.Cond.instanceMethod ({ cls := "EncoresModel", name := "draw", desc := "(I)I" } : Jvm.MethodName)) ∈ lw_all := lw_g (lw_at lw_m7 94 rfl) rfl
theorem q1668 : (Jvm.Cond.code ({ cls := "EncoresModel", name := "draw", desc := "(I)I" } : Jvm.MethodName) prog_17_method_13_code (2 : Nat) (Option.some Jvm.ClassFile.FieldType.int)) ∈ lw_all := lw_g (lw_at lw_m7 95 rfl) rfl
theorem q1669 : (Jvm.Cond.constant "EncoresModel" (66 : Nat) (1664525 : Int32)) ∈ lw_all := lw_g (lw_at lw_m7 96 rfl) rfl
theorem q1670 : (Jvm.Cond.constant "EncoresModel" (67 : Nat) (1013904223 : Int32)) ∈ lw_all := lw_g (lw_at lw_m7 97 rfl) rfl
theorem q1671 : (Jvm.Cond.methodLink "EncoresModel" (334 : Nat) ({ cls := "EncoresModel", name := "aRound", desc := "(I)Z" } : Jvm.MethodName)) ∈ lw_all := lw_g (lw_at lw_m7 98 rfl) rfl
theorem q1672 : (Jvm.Cond.privateMethod ({ cls := "EncoresModel", name := "aRound", desc := "(I)Z" } : Jvm.MethodName)) ∈ lw_tbl := lw_at lw_m7 99 rfl
theorem q1673 : (Jvm.Cond.instanceMethod ({ cls := "EncoresModel", name := "aRound", desc := "(I)Z" } : Jvm.MethodName)) ∈ lw_all := lw_g (lw_at lw_m7 100 rfl) rfl
theorem q1674 : (Jvm.Cond.code ({ cls := "EncoresModel", name := "aRound", desc := "(I)Z" } : Jvm.MethodName) prog_17_method_72_code (4 : Nat) (Option.some Jvm.ClassFile.FieldType.boolean)) ∈ lw_all := lw_g (lw_at lw_m7 101 rfl) rfl
theorem q1675 : (Jvm.Cond.methodLink "EncoresModel" (313 : Nat) ({ cls := "EncoresModel", name := "isGloved", desc := "(I)Z" } : Jvm.MethodName)) ∈ lw_all := lw_g (lw_at lw_m7 102 rfl) rfl
theorem q1676 : (Jvm.Cond.privateMethod ({ cls := "EncoresModel", name := "isGloved", desc := "(I)Z" } : Jvm.MethodName)) ∈ lw_tbl := lw_at lw_m7 103 rfl
theorem q1677 : (Jvm.Cond.instanceMethod ({ cls := "EncoresModel", name := "isGloved", desc := "(I)Z" } : Jvm.MethodName)) ∈ lw_all := lw_g (lw_at lw_m7 104 rfl) rfl
theorem q1678 : (Jvm.Cond.code ({ cls := "EncoresModel", name := "isGloved", desc := "(I)Z" } : Jvm.MethodName) prog_17_method_8_code (2 : Nat) (Option.some Jvm.ClassFile.FieldType.boolean)) ∈ lw_all := lw_g (lw_at lw_m7 105 rfl) rfl
theorem q1679 : (Jvm.Cond.methodLink "EncoresModel" (319 : Nat) ({ cls := "EncoresModel", name := "count", desc := "(I)I" } : Jvm.MethodName)) ∈ lw_all := lw_g (lw_at lw_m7 106 rfl) rfl
theorem q1680 : (Jvm.Cond.static ({ cls := "EncoresModel", name := "count", desc := "(I)I" } : Jvm.MethodName)) ∈ lw_all := lw_g (lw_at lw_m7 107 rfl) rfl
theorem q1681 : (Jvm.Cond.code ({ cls := "EncoresModel", name := "count", desc := "(I)I" } : Jvm.MethodName) prog_17_method_10_code (3 : Nat) (Option.some Jvm.ClassFile.FieldType.int)) ∈ lw_all := lw_g (lw_at lw_m7 108 rfl) rfl
theorem q1682 : (Jvm.Cond.methodLink "EncoresModel" (322 : Nat) ({ cls := "EncoresModel", name := "clapOf", desc := "(III)I" } : Jvm.MethodName)) ∈ lw_all := lw_g (lw_at lw_m7 109 rfl) rfl
theorem q1683 : (Jvm.Cond.privateMethod ({ cls := "EncoresModel", name := "clapOf", desc := "(III)I" } : Jvm.MethodName)) ∈ lw_tbl := lw_at lw_m7 110 rfl
theorem q1684 : (Jvm.Cond.instanceMethod ({ cls := "EncoresModel", name := "clapOf", desc := "(III)I" } : Jvm.MethodName)) ∈ lw_all := lw_g (lw_at lw_m7 111 rfl) rfl
theorem q1685 : (Jvm.Cond.code ({ cls := "EncoresModel", name := "clapOf", desc := "(III)I" } : Jvm.MethodName) prog_17_method_62_code (4 : Nat) (Option.some Jvm.ClassFile.FieldType.int)) ∈ lw_all := lw_g (lw_at lw_m7 112 rfl) rfl
theorem q1686 : (Jvm.Cond.methodLink "EncoresModel" (337 : Nat) ({ cls := "EncoresModel", name := "notes", desc := "(III)V" } : Jvm.MethodName)) ∈ lw_all := lw_g (lw_at lw_m7 113 rfl) rfl
theorem q1687 : (Jvm.Cond.privateMethod ({ cls := "EncoresModel", name := "notes", desc := "(III)V" } : Jvm.MethodName)) ∈ lw_tbl := lw_at lw_m7 114 rfl
theorem q1688 : (Jvm.Cond.instanceMethod ({ cls := "EncoresModel", name := "notes", desc := "(III)V" } : Jvm.MethodName)) ∈ lw_all := lw_g (lw_at lw_m7 115 rfl) rfl
theorem q1689 : (Jvm.Cond.code ({ cls := "EncoresModel", name := "notes", desc := "(III)V" } : Jvm.MethodName) prog_17_method_70_code (5 : Nat) (Option.none : Option Jvm.ClassFile.FieldType)) ∈ lw_all := lw_g (lw_at lw_m7 116 rfl) rfl
theorem q1690 : (Jvm.Cond.methodLink "EncoresModel" (341 : Nat) ({ cls := "EncoresModel", name := "loudOf", desc := "(I)I" } : Jvm.MethodName)) ∈ lw_all := lw_g (lw_at lw_m7 117 rfl) rfl
theorem q1691 : (Jvm.Cond.privateMethod ({ cls := "EncoresModel", name := "loudOf", desc := "(I)I" } : Jvm.MethodName)) ∈ lw_tbl := lw_at lw_m7 118 rfl
theorem q1692 : (Jvm.Cond.instanceMethod ({ cls := "EncoresModel", name := "loudOf", desc := "(I)I" } : Jvm.MethodName)) ∈ lw_all := lw_g (lw_at lw_m7 119 rfl) rfl
theorem q1693 : (Jvm.Cond.code ({ cls := "EncoresModel", name := "loudOf", desc := "(I)I" } : Jvm.MethodName) prog_17_method_60_code (2 : Nat) (Option.some Jvm.ClassFile.FieldType.int)) ∈ lw_all := lw_g (lw_at lw_m7 120 rfl) rfl
theorem q1694 : (Jvm.Cond.methodLink "EncoresModel" (344 : Nat) ({ cls := "EncoresModel", name := "handsClapping", desc := "()I" } : Jvm.MethodName)) ∈ lw_all := lw_g (lw_at lw_m7 121 rfl) rfl
theorem q1695 : (Jvm.Cond.privateMethod ({ cls := "EncoresModel", name := "handsClapping", desc := "()I" } : Jvm.MethodName)) ∈ lw_tbl := lw_at lw_m7 122 rfl
theorem q1696 : (Jvm.Cond.instanceMethod ({ cls := "EncoresModel", name := "handsClapping", desc := "()I" } : Jvm.MethodName)) ∈ lw_all := lw_g (lw_at lw_m7 123 rfl) rfl
theorem q1697 : (Jvm.Cond.code ({ cls := "EncoresModel", name := "handsClapping", desc := "()I" } : Jvm.MethodName) prog_17_method_73_code (3 : Nat) (Option.some Jvm.ClassFile.FieldType.int)) ∈ lw_all := lw_g (lw_at lw_m7 124 rfl) rfl
theorem q1698 : (Jvm.Cond.methodLink "EncoresModel" (325 : Nat) ({ cls := "EncoresModel", name := "countsAs", desc := "(I)I" } : Jvm.MethodName)) ∈ lw_all := lw_g (lw_at lw_m7 125 rfl) rfl
theorem q1699 : (Jvm.Cond.privateMethod ({ cls := "EncoresModel", name := "countsAs", desc := "(I)I" } : Jvm.MethodName)) ∈ lw_tbl := lw_at lw_m7 126 rfl
theorem q1700 : (Jvm.Cond.instanceMethod ({ cls := "EncoresModel", name := "countsAs", desc := "(I)I" } : Jvm.MethodName)) ∈ lw_all := lw_g (lw_at lw_m7 127 rfl) rfl
theorem q1701 : (Jvm.Cond.code ({ cls := "EncoresModel", name := "countsAs", desc := "(I)I" } : Jvm.MethodName) prog_17_method_67_code (3 : Nat) (Option.some Jvm.ClassFile.FieldType.int)) ∈ lw_all := lw_g (lw_at lw_m7 128 rfl) rfl
theorem q1702 : (Jvm.Cond.methodLink "EncoresModel" (349 : Nat) ({ cls := "EncoresModel", name := "handsAsked", desc := "()I" } : Jvm.MethodName)) ∈ lw_all := lw_g (lw_at lw_m7 129 rfl) rfl
theorem q1703 : (Jvm.Cond.privateMethod ({ cls := "EncoresModel", name := "handsAsked", desc := "()I" } : Jvm.MethodName)) ∈ lw_tbl := lw_at lw_m7 130 rfl
theorem q1704 : (Jvm.Cond.instanceMethod ({ cls := "EncoresModel", name := "handsAsked", desc := "()I" } : Jvm.MethodName)) ∈ lw_all := lw_g (lw_at lw_m7 131 rfl) rfl
theorem q1705 : (Jvm.Cond.code ({ cls := "EncoresModel", name := "handsAsked", desc := "()I" } : Jvm.MethodName) prog_17_method_63_code (4 : Nat) (Option.some Jvm.ClassFile.FieldType.int)) ∈ lw_all := lw_g (lw_at lw_m7 132 rfl) rfl
theorem q1706 : (Jvm.Cond.methodLink "EncoresModel" (352 : Nat) ({ cls := "EncoresModel", name := "mostAgains", desc := "()I" } : Jvm.MethodName)) ∈ lw_all := lw_g (lw_at lw_m7 133 rfl) rfl
theorem q1707 : (Jvm.Cond.privateMethod ({ cls := "EncoresModel", name := "mostAgains", desc := "()I" } : Jvm.MethodName)) ∈ lw_tbl := lw_at lw_m7 134 rfl
theorem q1708 : (Jvm.Cond.instanceMethod ({ cls := "EncoresModel", name := "mostAgains", desc := "()I" } : Jvm.MethodName)) ∈ lw_all := lw_g (lw_at lw_m7 135 rfl) rfl
theorem q1709 : (Jvm.Cond.code ({ cls := "EncoresModel", name := "mostAgains", desc := "()I" } : Jvm.MethodName) prog_17_method_65_code (1 : Nat) (Option.some Jvm.ClassFile.FieldType.int)) ∈ lw_all := lw_g (lw_at lw_m7 136 rfl) rfl
theorem q1710 : (Jvm.Cond.methodLink "EncoresModel" (300 : Nat) ({ cls := "EncoresModel", name := "lastRule", desc := "(II)I" } : Jvm.MethodName)) ∈ lw_all := lw_g (lw_at lw_m7 137 rfl) rfl
theorem q1711 : (Jvm.Cond.privateMethod ({ cls := "EncoresModel", name := "lastRule", desc := "(II)I" } : Jvm.MethodName)) ∈ lw_tbl := lw_at lw_m7 138 rfl
theorem q1712 : (Jvm.Cond.instanceMethod ({ cls := "EncoresModel", name := "lastRule", desc := "(II)I" } : Jvm.MethodName)) ∈ lw_all := lw_g (lw_at lw_m7 139 rfl) rfl
theorem q1713 : (Jvm.Cond.code ({ cls := "EncoresModel", name := "lastRule", desc := "(II)I" } : Jvm.MethodName) prog_17_method_64_code (5 : Nat) (Option.some Jvm.ClassFile.FieldType.int)) ∈ lw_all := lw_g (lw_at lw_m7 140 rfl) rfl
theorem q1714 : (Jvm.Cond.methodLink "EncoresModel" (355 : Nat) ({ cls := "EncoresModel", name := "endsAt", desc := "()I" } : Jvm.MethodName)) ∈ lw_all := lw_g (lw_at lw_m7 141 rfl) rfl
theorem q1715 : (Jvm.Cond.privateMethod ({ cls := "EncoresModel", name := "endsAt", desc := "()I" } : Jvm.MethodName)) ∈ lw_tbl := lw_at lw_m7 142 rfl
theorem q1716 : (Jvm.Cond.instanceMethod ({ cls := "EncoresModel", name := "endsAt", desc := "()I" } : Jvm.MethodName)) ∈ lw_all := lw_g (lw_at lw_m7 143 rfl) rfl
theorem q1717 : (Jvm.Cond.code ({ cls := "EncoresModel", name := "endsAt", desc := "()I" } : Jvm.MethodName) prog_17_method_66_code (1 : Nat) (Option.some Jvm.ClassFile.FieldType.int)) ∈ lw_all := lw_g (lw_at lw_m7 144 rfl) rfl
theorem q1719 : (Jvm.Cond.instanceMethod ({ cls := "EncoresModel", name := "pay", desc := "(II)Z" } : Jvm.MethodName)) ∈ lw_all := lw_g (lw_at lw_m7 146 rfl) rfl
theorem q1720 : (Jvm.Cond.selects "EncoresModel" ({ cls := "EncoresModel", name := "pay", desc := "(II)Z" } : Jvm.MethodName) ({ cls := "EncoresModel", name := "pay", desc := "(II)Z" } : Jvm.MethodName)) ∈ lw_all := lw_g (lw_at lw_m7 147 rfl) rfl
theorem q1721 : (Jvm.Cond.code ({ cls := "EncoresModel", name := "pay", desc := "(II)Z" } : Jvm.MethodName) prog_17_method_77_code (3 : Nat) (Option.some Jvm.ClassFile.FieldType.boolean)) ∈ lw_all := lw_g (lw_at lw_m7 148 rfl) rfl
theorem q1723 : (Jvm.Cond.instanceMethod ({ cls := "EncoresModel", name := "glove", desc := "(IZ)Z" } : Jvm.MethodName)) ∈ lw_all := lw_g (lw_at lw_m7 150 rfl) rfl
theorem q1724 : (Jvm.Cond.selects "EncoresModel" ({ cls := "EncoresModel", name := "glove", desc := "(IZ)Z" } : Jvm.MethodName) ({ cls := "EncoresModel", name := "glove", desc := "(IZ)Z" } : Jvm.MethodName)) ∈ lw_all := lw_g (lw_at lw_m7 151 rfl) rfl
theorem q1725 : (Jvm.Cond.code ({ cls := "EncoresModel", name := "glove", desc := "(IZ)Z" } : Jvm.MethodName) prog_17_method_78_code (3 : Nat) (Option.some Jvm.ClassFile.FieldType.boolean)) ∈ lw_all := lw_g (lw_at lw_m7 152 rfl) rfl
theorem q1727 : (Jvm.Cond.instanceMethod ({ cls := "EncoresModel", name := "let", desc := "(IZ)Z" } : Jvm.MethodName)) ∈ lw_all := lw_g (lw_at lw_m7 154 rfl) rfl
theorem q1728 : (Jvm.Cond.selects "EncoresModel" ({ cls := "EncoresModel", name := "let", desc := "(IZ)Z" } : Jvm.MethodName) ({ cls := "EncoresModel", name := "let", desc := "(IZ)Z" } : Jvm.MethodName)) ∈ lw_all := lw_g (lw_at lw_m7 155 rfl) rfl
theorem q1729 : (Jvm.Cond.code ({ cls := "EncoresModel", name := "let", desc := "(IZ)Z" } : Jvm.MethodName) prog_17_method_79_code (3 : Nat) (Option.some Jvm.ClassFile.FieldType.boolean)) ∈ lw_all := lw_g (lw_at lw_m7 156 rfl) rfl
theorem q1731 : (Jvm.Cond.instanceMethod ({ cls := "EncoresModel", name := "evenings", desc := "(I)I" } : Jvm.MethodName)) ∈ lw_all := lw_g (lw_at lw_m7 158 rfl) rfl
theorem q1732 : (Jvm.Cond.selects "EncoresModel" ({ cls := "EncoresModel", name := "evenings", desc := "(I)I" } : Jvm.MethodName) ({ cls := "EncoresModel", name := "evenings", desc := "(I)I" } : Jvm.MethodName)) ∈ lw_all := lw_g (lw_at lw_m7 159 rfl) rfl
theorem q1733 : (Jvm.Cond.code ({ cls := "EncoresModel", name := "evenings", desc := "(I)I" } : Jvm.MethodName) prog_17_method_81_code (4 : Nat) (Option.some Jvm.ClassFile.FieldType.int)) ∈ lw_all := lw_g (lw_at lw_m7 160 rfl) rfl
theorem q1734 : (Jvm.Cond.methodLink "EncoresModel" (373 : Nat) ({ cls := "EncoresModel", name := "anEvening", desc := "()I" } : Jvm.MethodName)) ∈ lw_all := lw_g (lw_at lw_m7 161 rfl) rfl
theorem q1735 : (Jvm.Cond.privateMethod ({ cls := "EncoresModel", name := "anEvening", desc := "()I" } : Jvm.MethodName)) ∈ lw_tbl := lw_at lw_m7 162 rfl
theorem q1736 : (Jvm.Cond.instanceMethod ({ cls := "EncoresModel", name := "anEvening", desc := "()I" } : Jvm.MethodName)) ∈ lw_all := lw_g (lw_at lw_m7 163 rfl) rfl
theorem q1737 : (Jvm.Cond.code ({ cls := "EncoresModel", name := "anEvening", desc := "()I" } : Jvm.MethodName) prog_17_method_80_code (3 : Nat) (Option.some Jvm.ClassFile.FieldType.int)) ∈ lw_all := lw_g (lw_at lw_m7 164 rfl) rfl
theorem q1739 : (Jvm.Cond.instanceMethod ({ cls := "EncoresModel", name := "of", desc := "(II)I" } : Jvm.MethodName)) ∈ lw_all := lw_g (lw_at lw_m7 166 rfl) rfl
theorem q1740 : (Jvm.Cond.selects "EncoresModel" ({ cls := "EncoresModel", name := "of", desc := "(II)I" } : Jvm.MethodName) ({ cls := "EncoresModel", name := "of", desc := "(II)I" } : Jvm.MethodName)) ∈ lw_all := lw_g (lw_at lw_m7 167 rfl) rfl
theorem q1741 : (Jvm.Cond.code ({ cls := "EncoresModel", name := "of", desc := "(II)I" } : Jvm.MethodName) prog_17_method_82_code (3 : Nat) (Option.some Jvm.ClassFile.FieldType.int)) ∈ lw_all := lw_g (lw_at lw_m7 168 rfl) rfl
theorem q1743 : (Jvm.Cond.instanceMethod ({ cls := "EncoresModel", name := "deedOf", desc := "(II)I" } : Jvm.MethodName)) ∈ lw_all := lw_g (lw_at lw_m7 170 rfl) rfl
theorem q1744 : (Jvm.Cond.selects "EncoresModel" ({ cls := "EncoresModel", name := "deedOf", desc := "(II)I" } : Jvm.MethodName) ({ cls := "EncoresModel", name := "deedOf", desc := "(II)I" } : Jvm.MethodName)) ∈ lw_all := lw_g (lw_at lw_m7 171 rfl) rfl
theorem q1745 : (Jvm.Cond.code ({ cls := "EncoresModel", name := "deedOf", desc := "(II)I" } : Jvm.MethodName) prog_17_method_83_code (3 : Nat) (Option.some Jvm.ClassFile.FieldType.int)) ∈ lw_all := lw_g (lw_at lw_m7 172 rfl) rfl
theorem q1747 : (Jvm.Cond.instanceMethod ({ cls := "EncoresModel", name := "statute", desc := "(I)I" } : Jvm.MethodName)) ∈ lw_all := lw_g (lw_at lw_m7 174 rfl) rfl
theorem q1748 : (Jvm.Cond.selects "EncoresModel" ({ cls := "EncoresModel", name := "statute", desc := "(I)I" } : Jvm.MethodName) ({ cls := "EncoresModel", name := "statute", desc := "(I)I" } : Jvm.MethodName)) ∈ lw_all := lw_g (lw_at lw_m7 175 rfl) rfl
theorem q1749 : (Jvm.Cond.code ({ cls := "EncoresModel", name := "statute", desc := "(I)I" } : Jvm.MethodName) prog_17_method_84_code (2 : Nat) (Option.some Jvm.ClassFile.FieldType.int)) ∈ lw_all := lw_g (lw_at lw_m7 176 rfl) rfl
theorem q1751 : (Jvm.Cond.instanceMethod ({ cls := "EncoresModel", name := "book", desc := "(II)I" } : Jvm.MethodName)) ∈ lw_all := lw_g (lw_at lw_m7 178 rfl) rfl
theorem q1752 : (Jvm.Cond.selects "EncoresModel" ({ cls := "EncoresModel", name := "book", desc := "(II)I" } : Jvm.MethodName) ({ cls := "EncoresModel", name := "book", desc := "(II)I" } : Jvm.MethodName)) ∈ lw_all := lw_g (lw_at lw_m7 179 rfl) rfl
theorem q1753 : (Jvm.Cond.code ({ cls := "EncoresModel", name := "book", desc := "(II)I" } : Jvm.MethodName) prog_17_method_85_code (3 : Nat) (Option.some Jvm.ClassFile.FieldType.int)) ∈ lw_all := lw_g (lw_at lw_m7 180 rfl) rfl
theorem q1755 : (Jvm.Cond.instanceMethod ({ cls := "EncoresModel", name := "goes", desc := "(I)I" } : Jvm.MethodName)) ∈ lw_all := lw_g (lw_at lw_m7 182 rfl) rfl
theorem q1756 : (Jvm.Cond.selects "EncoresModel" ({ cls := "EncoresModel", name := "goes", desc := "(I)I" } : Jvm.MethodName) ({ cls := "EncoresModel", name := "goes", desc := "(I)I" } : Jvm.MethodName)) ∈ lw_all := lw_g (lw_at lw_m7 183 rfl) rfl
theorem q1757 : (Jvm.Cond.code ({ cls := "EncoresModel", name := "goes", desc := "(I)I" } : Jvm.MethodName) prog_17_method_88_code (3 : Nat) (Option.some Jvm.ClassFile.FieldType.int)) ∈ lw_all := lw_g (lw_at lw_m7 184 rfl) rfl
theorem q1758 : (Jvm.Cond.constant "EncoresModel" (376 : Nat) (-100000 : Int32)) ∈ lw_all := lw_g (lw_at lw_m7 185 rfl) rfl
theorem q1759 : (Jvm.Cond.methodLink "EncoresModel" (377 : Nat) ({ cls := "EncoresModel", name := "lays", desc := "()V" } : Jvm.MethodName)) ∈ lw_all := lw_g (lw_at lw_m7 186 rfl) rfl
theorem q1760 : (Jvm.Cond.privateMethod ({ cls := "EncoresModel", name := "lays", desc := "()V" } : Jvm.MethodName)) ∈ lw_tbl := lw_at lw_m7 187 rfl
theorem q1761 : (Jvm.Cond.instanceMethod ({ cls := "EncoresModel", name := "lays", desc := "()V" } : Jvm.MethodName)) ∈ lw_all := lw_g (lw_at lw_m7 188 rfl) rfl
theorem q1762 : (Jvm.Cond.code ({ cls := "EncoresModel", name := "lays", desc := "()V" } : Jvm.MethodName) prog_17_method_86_code (2 : Nat) (Option.none : Option Jvm.ClassFile.FieldType)) ∈ lw_all := lw_g (lw_at lw_m7 189 rfl) rfl
theorem q1763 : (Jvm.Cond.methodLink "EncoresModel" (380 : Nat) ({ cls := "EncoresModel", name := "putsBack", desc := "()V" } : Jvm.MethodName)) ∈ lw_all := lw_g (lw_at lw_m7 190 rfl) rfl
theorem q1764 : (Jvm.Cond.privateMethod ({ cls := "EncoresModel", name := "putsBack", desc := "()V" } : Jvm.MethodName)) ∈ lw_tbl := lw_at lw_m7 191 rfl
theorem q1765 : (Jvm.Cond.instanceMethod ({ cls := "EncoresModel", name := "putsBack", desc := "()V" } : Jvm.MethodName)) ∈ lw_all := lw_g (lw_at lw_m7 192 rfl) rfl
theorem q1766 : (Jvm.Cond.code ({ cls := "EncoresModel", name := "putsBack", desc := "()V" } : Jvm.MethodName) prog_17_method_87_code (2 : Nat) (Option.none : Option Jvm.ClassFile.FieldType)) ∈ lw_all := lw_g (lw_at lw_m7 193 rfl) rfl
theorem q1768 : (Jvm.Cond.instanceMethod ({ cls := "EncoresModel", name := "settles", desc := "(II)I" } : Jvm.MethodName)) ∈ lw_all := lw_g (lw_at lw_m7 195 rfl) rfl
theorem q1769 : (Jvm.Cond.selects "EncoresModel" ({ cls := "EncoresModel", name := "settles", desc := "(II)I" } : Jvm.MethodName) ({ cls := "EncoresModel", name := "settles", desc := "(II)I" } : Jvm.MethodName)) ∈ lw_all := lw_g (lw_at lw_m7 196 rfl) rfl
theorem q1770 : (Jvm.Cond.code ({ cls := "EncoresModel", name := "settles", desc := "(II)I" } : Jvm.MethodName) prog_17_method_89_code (3 : Nat) (Option.some Jvm.ClassFile.FieldType.int)) ∈ lw_all := lw_g (lw_at lw_m7 197 rfl) rfl
theorem q1772 : (Jvm.Cond.instanceMethod ({ cls := "EncoresModel", name := "makes", desc := "(III)I" } : Jvm.MethodName)) ∈ lw_all := lw_g (lw_at lw_m7 199 rfl) rfl
theorem q1773 : (Jvm.Cond.selects "EncoresModel" ({ cls := "EncoresModel", name := "makes", desc := "(III)I" } : Jvm.MethodName) ({ cls := "EncoresModel", name := "makes", desc := "(III)I" } : Jvm.MethodName)) ∈ lw_all := lw_g (lw_at lw_m7 200 rfl) rfl
theorem q1774 : (Jvm.Cond.code ({ cls := "EncoresModel", name := "makes", desc := "(III)I" } : Jvm.MethodName) prog_17_method_91_code (6 : Nat) (Option.some Jvm.ClassFile.FieldType.int)) ∈ lw_all := lw_g (lw_at lw_m7 201 rfl) rfl
theorem q1775 : (Jvm.Cond.methodLink "EncoresModel" (383 : Nat) ({ cls := "EncoresModel", name := "doneWithout", desc := "(II)I" } : Jvm.MethodName)) ∈ lw_all := lw_g (lw_at lw_m7 202 rfl) rfl
theorem q1776 : (Jvm.Cond.privateMethod ({ cls := "EncoresModel", name := "doneWithout", desc := "(II)I" } : Jvm.MethodName)) ∈ lw_tbl := lw_at lw_m7 203 rfl
theorem q1777 : (Jvm.Cond.instanceMethod ({ cls := "EncoresModel", name := "doneWithout", desc := "(II)I" } : Jvm.MethodName)) ∈ lw_all := lw_g (lw_at lw_m7 204 rfl) rfl
theorem q1778 : (Jvm.Cond.code ({ cls := "EncoresModel", name := "doneWithout", desc := "(II)I" } : Jvm.MethodName) prog_17_method_90_code (4 : Nat) (Option.some Jvm.ClassFile.FieldType.int)) ∈ lw_all := lw_g (lw_at lw_m7 205 rfl) rfl
theorem q1780 : (Jvm.Cond.instanceMethod ({ cls := "EncoresModel", name := "brakes", desc := "(II)I" } : Jvm.MethodName)) ∈ lw_all := lw_g (lw_at lw_m7 207 rfl) rfl
theorem q1781 : (Jvm.Cond.selects "EncoresModel" ({ cls := "EncoresModel", name := "brakes", desc := "(II)I" } : Jvm.MethodName) ({ cls := "EncoresModel", name := "brakes", desc := "(II)I" } : Jvm.MethodName)) ∈ lw_all := lw_g (lw_at lw_m7 208 rfl) rfl
theorem q1782 : (Jvm.Cond.code ({ cls := "EncoresModel", name := "brakes", desc := "(II)I" } : Jvm.MethodName) prog_17_method_93_code (6 : Nat) (Option.some Jvm.ClassFile.FieldType.int)) ∈ lw_all := lw_g (lw_at lw_m7 209 rfl) rfl
theorem q1783 : (Jvm.Cond.methodLink "EncoresModel" (386 : Nat) ({ cls := "EncoresModel", name := "doneWithGloves", desc := "(II)I" } : Jvm.MethodName)) ∈ lw_all := lw_g (lw_at lw_m7 210 rfl) rfl
theorem q1784 : (Jvm.Cond.privateMethod ({ cls := "EncoresModel", name := "doneWithGloves", desc := "(II)I" } : Jvm.MethodName)) ∈ lw_tbl := lw_at lw_m7 211 rfl
theorem q1785 : (Jvm.Cond.instanceMethod ({ cls := "EncoresModel", name := "doneWithGloves", desc := "(II)I" } : Jvm.MethodName)) ∈ lw_all := lw_g (lw_at lw_m7 212 rfl) rfl
theorem q1786 : (Jvm.Cond.code ({ cls := "EncoresModel", name := "doneWithGloves", desc := "(II)I" } : Jvm.MethodName) prog_17_method_92_code (4 : Nat) (Option.some Jvm.ClassFile.FieldType.int)) ∈ lw_all := lw_g (lw_at lw_m7 213 rfl) rfl
theorem q1788 : (Jvm.Cond.instanceMethod ({ cls := "EncoresModel", name := "eager", desc := "(II)I" } : Jvm.MethodName)) ∈ lw_all := lw_g (lw_at lw_m7 215 rfl) rfl
theorem q1789 : (Jvm.Cond.selects "EncoresModel" ({ cls := "EncoresModel", name := "eager", desc := "(II)I" } : Jvm.MethodName) ({ cls := "EncoresModel", name := "eager", desc := "(II)I" } : Jvm.MethodName)) ∈ lw_all := lw_g (lw_at lw_m7 216 rfl) rfl
theorem q1790 : (Jvm.Cond.code ({ cls := "EncoresModel", name := "eager", desc := "(II)I" } : Jvm.MethodName) prog_17_method_94_code (5 : Nat) (Option.some Jvm.ClassFile.FieldType.int)) ∈ lw_all := lw_g (lw_at lw_m7 217 rfl) rfl
theorem q1792 : (Jvm.Cond.instanceMethod ({ cls := "EncoresModel", name := "price", desc := "(II)I" } : Jvm.MethodName)) ∈ lw_all := lw_g (lw_at lw_m7 219 rfl) rfl
theorem q1793 : (Jvm.Cond.selects "EncoresModel" ({ cls := "EncoresModel", name := "price", desc := "(II)I" } : Jvm.MethodName) ({ cls := "EncoresModel", name := "price", desc := "(II)I" } : Jvm.MethodName)) ∈ lw_all := lw_g (lw_at lw_m7 220 rfl) rfl
theorem q1794 : (Jvm.Cond.code ({ cls := "EncoresModel", name := "price", desc := "(II)I" } : Jvm.MethodName) prog_17_method_95_code (6 : Nat) (Option.some Jvm.ClassFile.FieldType.int)) ∈ lw_all := lw_g (lw_at lw_m7 221 rfl) rfl
theorem q1796 : (Jvm.Cond.instanceMethod ({ cls := "EncoresModel", name := "gain", desc := "(I)I" } : Jvm.MethodName)) ∈ lw_all := lw_g (lw_at lw_m7 223 rfl) rfl
theorem q1797 : (Jvm.Cond.selects "EncoresModel" ({ cls := "EncoresModel", name := "gain", desc := "(I)I" } : Jvm.MethodName) ({ cls := "EncoresModel", name := "gain", desc := "(I)I" } : Jvm.MethodName)) ∈ lw_all := lw_g (lw_at lw_m7 224 rfl) rfl
theorem q1798 : (Jvm.Cond.code ({ cls := "EncoresModel", name := "gain", desc := "(I)I" } : Jvm.MethodName) prog_17_method_96_code (5 : Nat) (Option.some Jvm.ClassFile.FieldType.int)) ∈ lw_all := lw_g (lw_at lw_m7 225 rfl) rfl
theorem q1799 : (Jvm.Cond.methodLink "EncoresModel" (389 : Nat) ({ cls := "EncoresModel", name := "settles", desc := "(II)I" } : Jvm.MethodName)) ∈ lw_all := lw_g (lw_at lw_m7 226 rfl) rfl
theorem q1801 : (Jvm.Cond.instanceMethod ({ cls := "EncoresModel", name := "tires", desc := "(I)I" } : Jvm.MethodName)) ∈ lw_all := lw_g (lw_at lw_m7 228 rfl) rfl
theorem q1802 : (Jvm.Cond.selects "EncoresModel" ({ cls := "EncoresModel", name := "tires", desc := "(I)I" } : Jvm.MethodName) ({ cls := "EncoresModel", name := "tires", desc := "(I)I" } : Jvm.MethodName)) ∈ lw_all := lw_g (lw_at lw_m7 229 rfl) rfl
theorem q1803 : (Jvm.Cond.code ({ cls := "EncoresModel", name := "tires", desc := "(I)I" } : Jvm.MethodName) prog_17_method_97_code (3 : Nat) (Option.some Jvm.ClassFile.FieldType.int)) ∈ lw_all := lw_g (lw_at lw_m7 230 rfl) rfl
theorem q1805 : (Jvm.Cond.instanceMethod ({ cls := "EncoresModel", name := "fills", desc := "(II)I" } : Jvm.MethodName)) ∈ lw_all := lw_g (lw_at lw_m7 232 rfl) rfl
theorem q1806 : (Jvm.Cond.selects "EncoresModel" ({ cls := "EncoresModel", name := "fills", desc := "(II)I" } : Jvm.MethodName) ({ cls := "EncoresModel", name := "fills", desc := "(II)I" } : Jvm.MethodName)) ∈ lw_all := lw_g (lw_at lw_m7 233 rfl) rfl
theorem q1807 : (Jvm.Cond.code ({ cls := "EncoresModel", name := "fills", desc := "(II)I" } : Jvm.MethodName) prog_17_method_100_code (5 : Nat) (Option.some Jvm.ClassFile.FieldType.int)) ∈ lw_all := lw_g (lw_at lw_m7 234 rfl) rfl
theorem q1808 : (Jvm.Cond.methodLink "EncoresModel" (392 : Nat) ({ cls := "EncoresModel", name := "longOf", desc := "(I)I" } : Jvm.MethodName)) ∈ lw_all := lw_g (lw_at lw_m7 235 rfl) rfl
theorem q1809 : (Jvm.Cond.privateMethod ({ cls := "EncoresModel", name := "longOf", desc := "(I)I" } : Jvm.MethodName)) ∈ lw_tbl := lw_at lw_m7 236 rfl
theorem q1810 : (Jvm.Cond.instanceMethod ({ cls := "EncoresModel", name := "longOf", desc := "(I)I" } : Jvm.MethodName)) ∈ lw_all := lw_g (lw_at lw_m7 237 rfl) rfl
theorem q1811 : (Jvm.Cond.code ({ cls := "EncoresModel", name := "longOf", desc := "(I)I" } : Jvm.MethodName) prog_17_method_98_code (4 : Nat) (Option.some Jvm.ClassFile.FieldType.int)) ∈ lw_all := lw_g (lw_at lw_m7 238 rfl) rfl
theorem q1812 : (Jvm.Cond.methodLink "EncoresModel" (395 : Nat) ({ cls := "EncoresModel", name := "worthOf", desc := "(I)I" } : Jvm.MethodName)) ∈ lw_all := lw_g (lw_at lw_m7 239 rfl) rfl
theorem q1813 : (Jvm.Cond.privateMethod ({ cls := "EncoresModel", name := "worthOf", desc := "(I)I" } : Jvm.MethodName)) ∈ lw_tbl := lw_at lw_m8 0 rfl
theorem q1814 : (Jvm.Cond.instanceMethod ({ cls := "EncoresModel", name := "worthOf", desc := "(I)I" } : Jvm.MethodName)) ∈ lw_all := lw_g (lw_at lw_m8 1 rfl) rfl
theorem q1815 : (Jvm.Cond.code ({ cls := "EncoresModel", name := "worthOf", desc := "(I)I" } : Jvm.MethodName) prog_17_method_99_code (4 : Nat) (Option.some Jvm.ClassFile.FieldType.int)) ∈ lw_all := lw_g (lw_at lw_m8 2 rfl) rfl
theorem q1817 : (Jvm.Cond.instanceMethod ({ cls := "EncoresModel", name := "bargain", desc := "(I)I" } : Jvm.MethodName)) ∈ lw_all := lw_g (lw_at lw_m8 4 rfl) rfl
theorem q1818 : (Jvm.Cond.selects "EncoresModel" ({ cls := "EncoresModel", name := "bargain", desc := "(I)I" } : Jvm.MethodName) ({ cls := "EncoresModel", name := "bargain", desc := "(I)I" } : Jvm.MethodName)) ∈ lw_all := lw_g (lw_at lw_m8 5 rfl) rfl
theorem q1819 : (Jvm.Cond.code ({ cls := "EncoresModel", name := "bargain", desc := "(I)I" } : Jvm.MethodName) prog_17_method_101_code (4 : Nat) (Option.some Jvm.ClassFile.FieldType.int)) ∈ lw_all := lw_g (lw_at lw_m8 6 rfl) rfl
theorem q1821 : (Jvm.Cond.instanceMethod ({ cls := "EncoresModel", name := "calm", desc := "(I)I" } : Jvm.MethodName)) ∈ lw_all := lw_g (lw_at lw_m8 8 rfl) rfl
theorem q1822 : (Jvm.Cond.selects "EncoresModel" ({ cls := "EncoresModel", name := "calm", desc := "(I)I" } : Jvm.MethodName) ({ cls := "EncoresModel", name := "calm", desc := "(I)I" } : Jvm.MethodName)) ∈ lw_all := lw_g (lw_at lw_m8 9 rfl) rfl
theorem q1823 : (Jvm.Cond.code ({ cls := "EncoresModel", name := "calm", desc := "(I)I" } : Jvm.MethodName) prog_17_method_102_code (5 : Nat) (Option.some Jvm.ClassFile.FieldType.int)) ∈ lw_all := lw_g (lw_at lw_m8 10 rfl) rfl
theorem q1825 : (Jvm.Cond.instanceMethod ({ cls := "EncoresModel", name := "lines", desc := "(II)I" } : Jvm.MethodName)) ∈ lw_all := lw_g (lw_at lw_m8 12 rfl) rfl
theorem q1826 : (Jvm.Cond.selects "EncoresModel" ({ cls := "EncoresModel", name := "lines", desc := "(II)I" } : Jvm.MethodName) ({ cls := "EncoresModel", name := "lines", desc := "(II)I" } : Jvm.MethodName)) ∈ lw_all := lw_g (lw_at lw_m8 13 rfl) rfl
theorem q1827 : (Jvm.Cond.code ({ cls := "EncoresModel", name := "lines", desc := "(II)I" } : Jvm.MethodName) prog_17_method_105_code (4 : Nat) (Option.some Jvm.ClassFile.FieldType.int)) ∈ lw_all := lw_g (lw_at lw_m8 14 rfl) rfl
theorem q1828 : (Jvm.Cond.methodLink "EncoresModel" (399 : Nat) ({ cls := "EncoresModel", name := "laysLines", desc := "()V" } : Jvm.MethodName)) ∈ lw_all := lw_g (lw_at lw_m8 15 rfl) rfl
theorem q1829 : (Jvm.Cond.privateMethod ({ cls := "EncoresModel", name := "laysLines", desc := "()V" } : Jvm.MethodName)) ∈ lw_tbl := lw_at lw_m8 16 rfl
theorem q1830 : (Jvm.Cond.instanceMethod ({ cls := "EncoresModel", name := "laysLines", desc := "()V" } : Jvm.MethodName)) ∈ lw_all := lw_g (lw_at lw_m8 17 rfl) rfl
theorem q1831 : (Jvm.Cond.code ({ cls := "EncoresModel", name := "laysLines", desc := "()V" } : Jvm.MethodName) prog_17_method_103_code (3 : Nat) (Option.none : Option Jvm.ClassFile.FieldType)) ∈ lw_all := lw_g (lw_at lw_m8 18 rfl) rfl
theorem q1832 : (Jvm.Cond.constant "EncoresModel" (398 : Nat) (100000000 : Int32)) ∈ lw_all := lw_g (lw_at lw_m8 19 rfl) rfl
theorem q1833 : (Jvm.Cond.methodLink "EncoresModel" (402 : Nat) ({ cls := "EncoresModel", name := "leastWith", desc := "(II)I" } : Jvm.MethodName)) ∈ lw_all := lw_g (lw_at lw_m8 20 rfl) rfl
theorem q1834 : (Jvm.Cond.privateMethod ({ cls := "EncoresModel", name := "leastWith", desc := "(II)I" } : Jvm.MethodName)) ∈ lw_tbl := lw_at lw_m8 21 rfl
theorem q1835 : (Jvm.Cond.instanceMethod ({ cls := "EncoresModel", name := "leastWith", desc := "(II)I" } : Jvm.MethodName)) ∈ lw_all := lw_g (lw_at lw_m8 22 rfl) rfl
theorem q1836 : (Jvm.Cond.code ({ cls := "EncoresModel", name := "leastWith", desc := "(II)I" } : Jvm.MethodName) prog_17_method_104_code (3 : Nat) (Option.some Jvm.ClassFile.FieldType.int)) ∈ lw_all := lw_g (lw_at lw_m8 23 rfl) rfl
theorem q1838 : (Jvm.Cond.instanceMethod ({ cls := "EncoresModel", name := "claque", desc := "(II)I" } : Jvm.MethodName)) ∈ lw_all := lw_g (lw_at lw_m8 25 rfl) rfl
theorem q1839 : (Jvm.Cond.selects "EncoresModel" ({ cls := "EncoresModel", name := "claque", desc := "(II)I" } : Jvm.MethodName) ({ cls := "EncoresModel", name := "claque", desc := "(II)I" } : Jvm.MethodName)) ∈ lw_all := lw_g (lw_at lw_m8 26 rfl) rfl
theorem q1840 : (Jvm.Cond.code ({ cls := "EncoresModel", name := "claque", desc := "(II)I" } : Jvm.MethodName) prog_17_method_106_code (3 : Nat) (Option.some Jvm.ClassFile.FieldType.int)) ∈ lw_all := lw_g (lw_at lw_m8 27 rfl) rfl
theorem q1841 : (Jvm.Cond.methodLink "EncoresModel" (405 : Nat) ({ cls := "EncoresModel", name := "allHearers", desc := "()I" } : Jvm.MethodName)) ∈ lw_all := lw_g (lw_at lw_m8 28 rfl) rfl
theorem q1842 : (Jvm.Cond.privateMethod ({ cls := "EncoresModel", name := "allHearers", desc := "()I" } : Jvm.MethodName)) ∈ lw_tbl := lw_at lw_m8 29 rfl
theorem q1843 : (Jvm.Cond.instanceMethod ({ cls := "EncoresModel", name := "allHearers", desc := "()I" } : Jvm.MethodName)) ∈ lw_all := lw_g (lw_at lw_m8 30 rfl) rfl
theorem q1844 : (Jvm.Cond.code ({ cls := "EncoresModel", name := "allHearers", desc := "()I" } : Jvm.MethodName) prog_17_method_9_code (1 : Nat) (Option.some Jvm.ClassFile.FieldType.int)) ∈ lw_all := lw_g (lw_at lw_m8 31 rfl) rfl
theorem q1846 : (Jvm.Cond.instanceMethod ({ cls := "EncoresModel", name := "fits", desc := "(I)I" } : Jvm.MethodName)) ∈ lw_all := lw_g (lw_at lw_m8 33 rfl) rfl
theorem q1847 : (Jvm.Cond.selects "EncoresModel" ({ cls := "EncoresModel", name := "fits", desc := "(I)I" } : Jvm.MethodName) ({ cls := "EncoresModel", name := "fits", desc := "(I)I" } : Jvm.MethodName)) ∈ lw_all := lw_g (lw_at lw_m8 34 rfl) rfl
theorem q1848 : (Jvm.Cond.code ({ cls := "EncoresModel", name := "fits", desc := "(I)I" } : Jvm.MethodName) prog_17_method_109_code (7 : Nat) (Option.some Jvm.ClassFile.FieldType.int)) ∈ lw_all := lw_g (lw_at lw_m8 35 rfl) rfl
theorem q1849 : (Jvm.Cond.methodLink "EncoresModel" (408 : Nat) ({ cls := "EncoresModel", name := "couldBe", desc := "(I)Z" } : Jvm.MethodName)) ∈ lw_all := lw_g (lw_at lw_m8 36 rfl) rfl
theorem q1850 : (Jvm.Cond.privateMethod ({ cls := "EncoresModel", name := "couldBe", desc := "(I)Z" } : Jvm.MethodName)) ∈ lw_tbl := lw_at lw_m8 37 rfl
theorem q1851 : (Jvm.Cond.instanceMethod ({ cls := "EncoresModel", name := "couldBe", desc := "(I)Z" } : Jvm.MethodName)) ∈ lw_all := lw_g (lw_at lw_m8 38 rfl) rfl
theorem q1852 : (Jvm.Cond.code ({ cls := "EncoresModel", name := "couldBe", desc := "(I)Z" } : Jvm.MethodName) prog_17_method_107_code (3 : Nat) (Option.some Jvm.ClassFile.FieldType.boolean)) ∈ lw_all := lw_g (lw_at lw_m8 39 rfl) rfl
theorem q1853 : (Jvm.Cond.methodLink "EncoresModel" (411 : Nat) ({ cls := "EncoresModel", name := "bestAsked", desc := "(I)I" } : Jvm.MethodName)) ∈ lw_all := lw_g (lw_at lw_m8 40 rfl) rfl
theorem q1854 : (Jvm.Cond.privateMethod ({ cls := "EncoresModel", name := "bestAsked", desc := "(I)I" } : Jvm.MethodName)) ∈ lw_tbl := lw_at lw_m8 41 rfl
theorem q1855 : (Jvm.Cond.instanceMethod ({ cls := "EncoresModel", name := "bestAsked", desc := "(I)I" } : Jvm.MethodName)) ∈ lw_all := lw_g (lw_at lw_m8 42 rfl) rfl
theorem q1856 : (Jvm.Cond.code ({ cls := "EncoresModel", name := "bestAsked", desc := "(I)I" } : Jvm.MethodName) prog_17_method_108_code (4 : Nat) (Option.some Jvm.ClassFile.FieldType.int)) ∈ lw_all := lw_g (lw_at lw_m8 43 rfl) rfl
theorem q1858 : (Jvm.Cond.instanceMethod ({ cls := "EncoresModel", name := "near", desc := "(II)I" } : Jvm.MethodName)) ∈ lw_all := lw_g (lw_at lw_m8 45 rfl) rfl
theorem q1859 : (Jvm.Cond.selects "EncoresModel" ({ cls := "EncoresModel", name := "near", desc := "(II)I" } : Jvm.MethodName) ({ cls := "EncoresModel", name := "near", desc := "(II)I" } : Jvm.MethodName)) ∈ lw_all := lw_g (lw_at lw_m8 46 rfl) rfl
theorem q1860 : (Jvm.Cond.code ({ cls := "EncoresModel", name := "near", desc := "(II)I" } : Jvm.MethodName) prog_17_method_111_code (3 : Nat) (Option.some Jvm.ClassFile.FieldType.int)) ∈ lw_all := lw_g (lw_at lw_m8 47 rfl) rfl
theorem q1861 : (Jvm.Cond.methodLink "EncoresModel" (414 : Nat) ({ cls := "EncoresModel", name := "nearTo", desc := "(III)I" } : Jvm.MethodName)) ∈ lw_all := lw_g (lw_at lw_m8 48 rfl) rfl
theorem q1862 : (Jvm.Cond.privateMethod ({ cls := "EncoresModel", name := "nearTo", desc := "(III)I" } : Jvm.MethodName)) ∈ lw_tbl := lw_at lw_m8 49 rfl
theorem q1863 : (Jvm.Cond.instanceMethod ({ cls := "EncoresModel", name := "nearTo", desc := "(III)I" } : Jvm.MethodName)) ∈ lw_all := lw_g (lw_at lw_m8 50 rfl) rfl
theorem q1864 : (Jvm.Cond.code ({ cls := "EncoresModel", name := "nearTo", desc := "(III)I" } : Jvm.MethodName) prog_17_method_110_code (8 : Nat) (Option.some Jvm.ClassFile.FieldType.int)) ∈ lw_all := lw_g (lw_at lw_m8 51 rfl) rfl
theorem q1866 : (Jvm.Cond.instanceMethod ({ cls := "EncoresModel", name := "cuts", desc := "(III)I" } : Jvm.MethodName)) ∈ lw_all := lw_g (lw_at lw_m8 53 rfl) rfl
theorem q1867 : (Jvm.Cond.selects "EncoresModel" ({ cls := "EncoresModel", name := "cuts", desc := "(III)I" } : Jvm.MethodName) ({ cls := "EncoresModel", name := "cuts", desc := "(III)I" } : Jvm.MethodName)) ∈ lw_all := lw_g (lw_at lw_m8 54 rfl) rfl
theorem q1868 : (Jvm.Cond.code ({ cls := "EncoresModel", name := "cuts", desc := "(III)I" } : Jvm.MethodName) prog_17_method_112_code (7 : Nat) (Option.some Jvm.ClassFile.FieldType.int)) ∈ lw_all := lw_g (lw_at lw_m8 55 rfl) rfl
theorem q1870 : (Jvm.Cond.instanceMethod ({ cls := "EncoresModel", name := "groups", desc := "(I)I" } : Jvm.MethodName)) ∈ lw_all := lw_g (lw_at lw_m8 57 rfl) rfl
theorem q1871 : (Jvm.Cond.selects "EncoresModel" ({ cls := "EncoresModel", name := "groups", desc := "(I)I" } : Jvm.MethodName) ({ cls := "EncoresModel", name := "groups", desc := "(I)I" } : Jvm.MethodName)) ∈ lw_all := lw_g (lw_at lw_m8 58 rfl) rfl
theorem q1872 : (Jvm.Cond.code ({ cls := "EncoresModel", name := "groups", desc := "(I)I" } : Jvm.MethodName) prog_17_method_113_code (7 : Nat) (Option.some Jvm.ClassFile.FieldType.int)) ∈ lw_all := lw_g (lw_at lw_m8 59 rfl) rfl
theorem q1874 : (Jvm.Cond.instanceMethod ({ cls := "EncoresModel", name := "means", desc := "(II)Z" } : Jvm.MethodName)) ∈ lw_all := lw_g (lw_at lw_m8 61 rfl) rfl
theorem q1875 : (Jvm.Cond.selects "EncoresModel" ({ cls := "EncoresModel", name := "means", desc := "(II)Z" } : Jvm.MethodName) ({ cls := "EncoresModel", name := "means", desc := "(II)Z" } : Jvm.MethodName)) ∈ lw_all := lw_g (lw_at lw_m8 62 rfl) rfl
theorem q1876 : (Jvm.Cond.code ({ cls := "EncoresModel", name := "means", desc := "(II)Z" } : Jvm.MethodName) prog_17_method_114_code (3 : Nat) (Option.some Jvm.ClassFile.FieldType.boolean)) ∈ lw_all := lw_g (lw_at lw_m8 63 rfl) rfl
theorem q1878 : (Jvm.Cond.instanceMethod ({ cls := "EncoresModel", name := "passed", desc := "(III)I" } : Jvm.MethodName)) ∈ lw_all := lw_g (lw_at lw_m8 65 rfl) rfl
theorem q1879 : (Jvm.Cond.selects "EncoresModel" ({ cls := "EncoresModel", name := "passed", desc := "(III)I" } : Jvm.MethodName) ({ cls := "EncoresModel", name := "passed", desc := "(III)I" } : Jvm.MethodName)) ∈ lw_all := lw_g (lw_at lw_m8 66 rfl) rfl
theorem q1880 : (Jvm.Cond.code ({ cls := "EncoresModel", name := "passed", desc := "(III)I" } : Jvm.MethodName) prog_17_method_117_code (5 : Nat) (Option.some Jvm.ClassFile.FieldType.int)) ∈ lw_all := lw_g (lw_at lw_m8 67 rfl) rfl
theorem q1881 : (Jvm.Cond.methodLink "EncoresModel" (417 : Nat) ({ cls := "EncoresModel", name := "passedBy", desc := "(II)I" } : Jvm.MethodName)) ∈ lw_all := lw_g (lw_at lw_m8 68 rfl) rfl
theorem q1882 : (Jvm.Cond.privateMethod ({ cls := "EncoresModel", name := "passedBy", desc := "(II)I" } : Jvm.MethodName)) ∈ lw_tbl := lw_at lw_m8 69 rfl
theorem q1883 : (Jvm.Cond.instanceMethod ({ cls := "EncoresModel", name := "passedBy", desc := "(II)I" } : Jvm.MethodName)) ∈ lw_all := lw_g (lw_at lw_m8 70 rfl) rfl
theorem q1884 : (Jvm.Cond.code ({ cls := "EncoresModel", name := "passedBy", desc := "(II)I" } : Jvm.MethodName) prog_17_method_115_code (5 : Nat) (Option.some Jvm.ClassFile.FieldType.int)) ∈ lw_all := lw_g (lw_at lw_m8 71 rfl) rfl
theorem q1885 : (Jvm.Cond.methodLink "EncoresModel" (420 : Nat) ({ cls := "EncoresModel", name := "wasThere", desc := "(II)I" } : Jvm.MethodName)) ∈ lw_all := lw_g (lw_at lw_m8 72 rfl) rfl
theorem q1886 : (Jvm.Cond.privateMethod ({ cls := "EncoresModel", name := "wasThere", desc := "(II)I" } : Jvm.MethodName)) ∈ lw_tbl := lw_at lw_m8 73 rfl
theorem q1887 : (Jvm.Cond.instanceMethod ({ cls := "EncoresModel", name := "wasThere", desc := "(II)I" } : Jvm.MethodName)) ∈ lw_all := lw_g (lw_at lw_m8 74 rfl) rfl
theorem q1888 : (Jvm.Cond.code ({ cls := "EncoresModel", name := "wasThere", desc := "(II)I" } : Jvm.MethodName) prog_17_method_116_code (4 : Nat) (Option.some Jvm.ClassFile.FieldType.int)) ∈ lw_all := lw_g (lw_at lw_m8 75 rfl) rfl
theorem q1890 : (Jvm.Cond.instanceMethod ({ cls := "EncoresModel", name := "share", desc := "(II)I" } : Jvm.MethodName)) ∈ lw_all := lw_g (lw_at lw_m8 77 rfl) rfl
theorem q1891 : (Jvm.Cond.selects "EncoresModel" ({ cls := "EncoresModel", name := "share", desc := "(II)I" } : Jvm.MethodName) ({ cls := "EncoresModel", name := "share", desc := "(II)I" } : Jvm.MethodName)) ∈ lw_all := lw_g (lw_at lw_m8 78 rfl) rfl
theorem q1892 : (Jvm.Cond.code ({ cls := "EncoresModel", name := "share", desc := "(II)I" } : Jvm.MethodName) prog_17_method_120_code (8 : Nat) (Option.some Jvm.ClassFile.FieldType.int)) ∈ lw_all := lw_g (lw_at lw_m8 79 rfl) rfl
theorem q1893 : (Jvm.Cond.methodLink "EncoresModel" (426 : Nat) ({ cls := "EncoresModel", name := "allWeights", desc := "()I" } : Jvm.MethodName)) ∈ lw_all := lw_g (lw_at lw_m8 80 rfl) rfl
theorem q1894 : (Jvm.Cond.privateMethod ({ cls := "EncoresModel", name := "allWeights", desc := "()I" } : Jvm.MethodName)) ∈ lw_tbl := lw_at lw_m8 81 rfl
theorem q1895 : (Jvm.Cond.instanceMethod ({ cls := "EncoresModel", name := "allWeights", desc := "()I" } : Jvm.MethodName)) ∈ lw_all := lw_g (lw_at lw_m8 82 rfl) rfl
theorem q1896 : (Jvm.Cond.code ({ cls := "EncoresModel", name := "allWeights", desc := "()I" } : Jvm.MethodName) prog_17_method_119_code (3 : Nat) (Option.some Jvm.ClassFile.FieldType.int)) ∈ lw_all := lw_g (lw_at lw_m8 83 rfl) rfl
theorem q1897 : (Jvm.Cond.methodLink "EncoresModel" (423 : Nat) ({ cls := "EncoresModel", name := "weightOf", desc := "(I)I" } : Jvm.MethodName)) ∈ lw_all := lw_g (lw_at lw_m8 84 rfl) rfl
theorem q1898 : (Jvm.Cond.privateMethod ({ cls := "EncoresModel", name := "weightOf", desc := "(I)I" } : Jvm.MethodName)) ∈ lw_tbl := lw_at lw_m8 85 rfl
theorem q1899 : (Jvm.Cond.instanceMethod ({ cls := "EncoresModel", name := "weightOf", desc := "(I)I" } : Jvm.MethodName)) ∈ lw_all := lw_g (lw_at lw_m8 86 rfl) rfl
theorem q1900 : (Jvm.Cond.code ({ cls := "EncoresModel", name := "weightOf", desc := "(I)I" } : Jvm.MethodName) prog_17_method_118_code (2 : Nat) (Option.some Jvm.ClassFile.FieldType.int)) ∈ lw_all := lw_g (lw_at lw_m8 87 rfl) rfl
theorem q1902 : (Jvm.Cond.instanceMethod ({ cls := "EncoresModel", name := "brides", desc := "()I" } : Jvm.MethodName)) ∈ lw_all := lw_g (lw_at lw_m8 89 rfl) rfl
theorem q1903 : (Jvm.Cond.selects "EncoresModel" ({ cls := "EncoresModel", name := "brides", desc := "()I" } : Jvm.MethodName) ({ cls := "EncoresModel", name := "brides", desc := "()I" } : Jvm.MethodName)) ∈ lw_all := lw_g (lw_at lw_m8 90 rfl) rfl
theorem q1904 : (Jvm.Cond.code ({ cls := "EncoresModel", name := "brides", desc := "()I" } : Jvm.MethodName) prog_17_method_122_code (6 : Nat) (Option.some Jvm.ClassFile.FieldType.int)) ∈ lw_all := lw_g (lw_at lw_m8 91 rfl) rfl
theorem q1905 : (Jvm.Cond.methodLink "EncoresModel" (429 : Nat) ({ cls := "EncoresModel", name := "paidOnes", desc := "()I" } : Jvm.MethodName)) ∈ lw_all := lw_g (lw_at lw_m8 92 rfl) rfl
theorem q1906 : (Jvm.Cond.privateMethod ({ cls := "EncoresModel", name := "paidOnes", desc := "()I" } : Jvm.MethodName)) ∈ lw_tbl := lw_at lw_m8 93 rfl
theorem q1907 : (Jvm.Cond.instanceMethod ({ cls := "EncoresModel", name := "paidOnes", desc := "()I" } : Jvm.MethodName)) ∈ lw_all := lw_g (lw_at lw_m8 94 rfl) rfl
theorem q1908 : (Jvm.Cond.code ({ cls := "EncoresModel", name := "paidOnes", desc := "()I" } : Jvm.MethodName) prog_17_method_121_code (3 : Nat) (Option.some Jvm.ClassFile.FieldType.int)) ∈ lw_all := lw_g (lw_at lw_m8 95 rfl) rfl
theorem q1909 : (Jvm.Cond.constantLong "EncoresModel" (432 : Nat) (1000000007 : Int64)) ∈ lw_all := lw_g (lw_at lw_m8 96 rfl) rfl
theorem q1911 : (Jvm.Cond.instanceMethod ({ cls := "EncoresModel", name := "game", desc := "(I)I" } : Jvm.MethodName)) ∈ lw_all := lw_g (lw_at lw_m8 98 rfl) rfl
theorem q1912 : (Jvm.Cond.selects "EncoresModel" ({ cls := "EncoresModel", name := "game", desc := "(I)I" } : Jvm.MethodName) ({ cls := "EncoresModel", name := "game", desc := "(I)I" } : Jvm.MethodName)) ∈ lw_all := lw_g (lw_at lw_m8 99 rfl) rfl
theorem q1913 : (Jvm.Cond.code ({ cls := "EncoresModel", name := "game", desc := "(I)I" } : Jvm.MethodName) prog_17_method_124_code (6 : Nat) (Option.some Jvm.ClassFile.FieldType.int)) ∈ lw_all := lw_g (lw_at lw_m8 100 rfl) rfl
theorem q1914 : (Jvm.Cond.methodLink "EncoresModel" (434 : Nat) ({ cls := "EncoresModel", name := "laysNims", desc := "()V" } : Jvm.MethodName)) ∈ lw_all := lw_g (lw_at lw_m8 101 rfl) rfl
theorem q1915 : (Jvm.Cond.privateMethod ({ cls := "EncoresModel", name := "laysNims", desc := "()V" } : Jvm.MethodName)) ∈ lw_tbl := lw_at lw_m8 102 rfl
theorem q1916 : (Jvm.Cond.instanceMethod ({ cls := "EncoresModel", name := "laysNims", desc := "()V" } : Jvm.MethodName)) ∈ lw_all := lw_g (lw_at lw_m8 103 rfl) rfl
theorem q1917 : (Jvm.Cond.code ({ cls := "EncoresModel", name := "laysNims", desc := "()V" } : Jvm.MethodName) prog_17_method_123_code (3 : Nat) (Option.none : Option Jvm.ClassFile.FieldType)) ∈ lw_all := lw_g (lw_at lw_m8 104 rfl) rfl
theorem q1919 : (Jvm.Cond.instanceMethod ({ cls := "EncoresModel", name := "image", desc := "(Z)Z" } : Jvm.MethodName)) ∈ lw_all := lw_g (lw_at lw_m8 106 rfl) rfl
theorem q1920 : (Jvm.Cond.selects "EncoresModel" ({ cls := "EncoresModel", name := "image", desc := "(Z)Z" } : Jvm.MethodName) ({ cls := "EncoresModel", name := "image", desc := "(Z)Z" } : Jvm.MethodName)) ∈ lw_all := lw_g (lw_at lw_m8 107 rfl) rfl
theorem q1921 : (Jvm.Cond.code ({ cls := "EncoresModel", name := "image", desc := "(Z)Z" } : Jvm.MethodName) prog_17_method_125_code (3 : Nat) (Option.some Jvm.ClassFile.FieldType.boolean)) ∈ lw_all := lw_g (lw_at lw_m8 108 rfl) rfl
theorem q1923 : (Jvm.Cond.instanceMethod ({ cls := "EncoresModel", name := "look", desc := "(I)I" } : Jvm.MethodName)) ∈ lw_all := lw_g (lw_at lw_m8 110 rfl) rfl
theorem q1924 : (Jvm.Cond.selects "EncoresModel" ({ cls := "EncoresModel", name := "look", desc := "(I)I" } : Jvm.MethodName) ({ cls := "EncoresModel", name := "look", desc := "(I)I" } : Jvm.MethodName)) ∈ lw_all := lw_g (lw_at lw_m8 111 rfl) rfl
theorem q1925 : (Jvm.Cond.code ({ cls := "EncoresModel", name := "look", desc := "(I)I" } : Jvm.MethodName) prog_17_method_126_code (2 : Nat) (Option.some Jvm.ClassFile.FieldType.int)) ∈ lw_all := lw_g (lw_at lw_m8 112 rfl) rfl
theorem in_X3 : ∀ w ∈ wsX30, w ∈ lw_all := lw_in wsX30 [1331, 1333, 1335, 1337, 1339, 1341, 1343, 1345, 1347, 1349, 1351, 1353, 1355, 1357, 1359, 1361, 1363, 1365, 1367, 1369, 1371, 1373, 1375, 1377, 1379, 1381, 1383, 1385, 1387, 1389, 1391, 1393, 1395, 1397, 1399] (by decide +kernel) (by decide +kernel)
